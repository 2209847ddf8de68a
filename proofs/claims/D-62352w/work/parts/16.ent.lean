/-! entries, memtables -/
/-- an entry: row, column, time, cell, value, sequence, batch -/
abbrev z_E7 : Type := Int32 × Int32 × Int32 × Int32 × Int32 × Int32 × Int32
abbrev eR (e : z_E7) : Int32 := e.1
abbrev eC (e : z_E7) : Int32 := e.2.1
abbrev eT (e : z_E7) : Int32 := e.2.2.1
abbrev eL (e : z_E7) : Int32 := e.2.2.2.1
abbrev eV (e : z_E7) : Int32 := e.2.2.2.2.1
abbrev eS (e : z_E7) : Int32 := e.2.2.2.2.2.1
abbrev eB (e : z_E7) : Int32 := e.2.2.2.2.2.2
abbrev z_ef (e : z_E7) : List Value := [.int (eR e), .int (eC e), .int (eT e), .int (eL e), .int (eV e), .int (eS e), .int (eB e)]
def z_cmp (a b : Int32) : Int32 := if a < b then -1 else if a = b then 0 else 1
def z_ag (e f : z_E7) : Int32 := if eR e = eR f then (if eC e = eC f then (if eT e = eT f then z_cmp (eS f) (eS e) else if eT e = -1 then -1 else if eT f = -1 then 1 else z_cmp (eT f) (eT e)) else z_cmp (eC e) (eC f)) else z_cmp (eR e) (eR f)
/-- the entries of a list are there -/
def z_ens (h : z_H) (en : Nat → z_E7) (es : List Nat) : Prop := ∀ a ∈ es, h a = some (z_ob 5 (z_ef (en a)))
section ENT
variable {G : z_G} {A : Nat → Prop} {h : z_H}
theorem z_ens_nl {h' : z_H} {en : Nat → z_E7} {es : List Nat} (hn : z_nl G h h') (he : z_ens h en es) : z_ens h' en es := fun a ha => hn _ _ (he a ha) (z_isl_ob (by decide))
theorem z_ens_ob {en : Nat → z_E7} {es : List Nat} (he : z_ens h en es) : ∀ y ∈ es, z_isob h y := fun y hy => ⟨5, _, he y hy, Or.inl (by decide)⟩
theorem c_compare {a b : Int32} : z_C G A m_Int_compare 0 0 [.int a, .int b] h (z_pu (some (.int (z_cmp a b))) h) := by
  refine z_C.of (by decide +kernel) rfl (Nat.le_of_ble_eq_true rfl) ?_
  intro x X
  refine z_iload_n (pc' := 1) X d_Int_compare_0 rfl rfl ?_
  refine z_iload_n (pc' := 2) X d_Int_compare_1 rfl rfl ?_
  refine z_icmp_ge (tgt := 9) (pc' := 5) X d_Int_compare_2 (by decide) rfl (fun c_2 => ?_) (fun c_2 => ?_)
  · refine z_iload_n (pc' := 10) X d_Int_compare_9 rfl rfl ?_
    refine z_iload_n (pc' := 11) X d_Int_compare_10 rfl rfl ?_
    have n1 : ¬ a < b := Int32.not_lt.mpr c_2
    refine z_icmp_ne (tgt := 18) (pc' := 14) X d_Int_compare_11 (by decide) rfl (fun c_11 => ?_) (fun c_11 => ?_)
    · refine z_iconst (pc' := 19) (v := 1) X d_Int_compare_18 (by decide) rfl ?_
      exact z_iret X rfl d_Int_compare_19 (⟨by unfold z_cmp; rw [if_neg n1, if_neg c_11], rfl, rfl, rfl⟩)
    · refine z_iconst (pc' := 15) (v := 0) X d_Int_compare_14 (by decide) rfl ?_
      refine z_goto (pc' := 19) X d_Int_compare_15 (by decide) ?_
      exact z_iret X rfl d_Int_compare_19 (⟨by unfold z_cmp; rw [if_neg n1, if_pos c_11], rfl, rfl, rfl⟩)
  · refine z_iconst (pc' := 6) (v := (-1)) X d_Int_compare_5 (by decide) rfl ?_
    refine z_goto (pc' := 19) X d_Int_compare_6 (by decide) ?_
    exact z_iret X rfl d_Int_compare_19 (⟨by unfold z_cmp; rw [if_pos (Int32.not_le.mp c_2)], rfl, rfl, rfl⟩)
theorem c_against {a b : Nat} {e f : z_E7} (h1 : h a = some (z_ob 5 (z_ef e))) (h2 : h b = some (z_ob 5 (z_ef f))) : z_C G A m_En_against 0 0 [.ref a, .ref b] h (z_pu (some (.int (z_ag e f))) h) := by
  refine z_C.of (by decide +kernel) rfl (Nat.le_of_ble_eq_true rfl) ?_
  intro x X
  refine z_aload_n (pc' := 1) X d_En_against_0 rfl rfl ?_
  refine z_get (pc' := 4) X 0 f_En_9 d_En_against_1 (by assumption) rfl rfl ?_
  refine z_aload_n (pc' := 5) X d_En_against_4 rfl rfl ?_
  refine z_get (pc' := 8) X 0 f_En_9 d_En_against_5 (by assumption) rfl rfl ?_
  refine z_icmp_eq (tgt := 23) (pc' := 11) X d_En_against_8 (by decide) rfl (fun c_8 => ?_) (fun c_8 => ?_)
  · refine z_aload_n (pc' := 24) X d_En_against_23 rfl rfl ?_
    refine z_get (pc' := 27) X 1 f_En_15 d_En_against_24 (by assumption) rfl rfl ?_
    refine z_aload_n (pc' := 28) X d_En_against_27 rfl rfl ?_
    refine z_get (pc' := 31) X 1 f_En_15 d_En_against_28 (by assumption) rfl rfl ?_
    refine z_icmp_eq (tgt := 46) (pc' := 34) X d_En_against_31 (by decide) rfl (fun c_31 => ?_) (fun c_31 => ?_)
    · refine z_aload_n (pc' := 47) X d_En_against_46 rfl rfl ?_
      refine z_get (pc' := 50) X 2 f_En_18 d_En_against_47 (by assumption) rfl rfl ?_
      refine z_aload_n (pc' := 51) X d_En_against_50 rfl rfl ?_
      refine z_get (pc' := 54) X 2 f_En_18 d_En_against_51 (by assumption) rfl rfl ?_
      refine z_icmp_eq (tgt := 93) (pc' := 57) X d_En_against_54 (by decide) rfl (fun c_54 => ?_) (fun c_54 => ?_)
      · refine z_aload_n (pc' := 94) X d_En_against_93 rfl rfl ?_
        refine z_get (pc' := 97) X 5 f_En_34 d_En_against_94 (by assumption) rfl rfl ?_
        refine z_aload_n (pc' := 98) X d_En_against_97 rfl rfl ?_
        refine z_get (pc' := 101) X 5 f_En_34 d_En_against_98 (by assumption) rfl rfl ?_
        refine z_callS X (c_compare) k_En_28 d_En_against_101 rfl rfl rfl (by decide) (Nat.le_of_ble_eq_true rfl) ⟨by omega, by omega⟩ (z_kp ?_)
        exact z_iret X rfl d_En_against_104 (⟨by unfold z_ag; rw [if_pos c_8, if_pos c_31, if_pos c_54], rfl, rfl, rfl⟩)
      · refine z_aload_n (pc' := 58) X d_En_against_57 rfl rfl ?_
        refine z_get (pc' := 61) X 2 f_En_18 d_En_against_58 (by assumption) rfl rfl ?_
        refine z_iconst (pc' := 62) (v := (-1)) X d_En_against_61 (by decide) rfl ?_
        refine z_icmp_ne (tgt := 69) (pc' := 65) X d_En_against_62 (by decide) rfl (fun c_62 => ?_) (fun c_62 => ?_)
        · refine z_aload_n (pc' := 70) X d_En_against_69 rfl rfl ?_
          refine z_get (pc' := 73) X 2 f_En_18 d_En_against_70 (by assumption) rfl rfl ?_
          refine z_iconst (pc' := 74) (v := (-1)) X d_En_against_73 (by decide) rfl ?_
          refine z_icmp_ne (tgt := 81) (pc' := 77) X d_En_against_74 (by decide) rfl (fun c_74 => ?_) (fun c_74 => ?_)
          · refine z_aload_n (pc' := 82) X d_En_against_81 rfl rfl ?_
            refine z_get (pc' := 85) X 2 f_En_18 d_En_against_82 (by assumption) rfl rfl ?_
            refine z_aload_n (pc' := 86) X d_En_against_85 rfl rfl ?_
            refine z_get (pc' := 89) X 2 f_En_18 d_En_against_86 (by assumption) rfl rfl ?_
            refine z_callS X (c_compare) k_En_28 d_En_against_89 rfl rfl rfl (by decide) (Nat.le_of_ble_eq_true rfl) ⟨by omega, by omega⟩ (z_kp ?_)
            exact z_iret X rfl d_En_against_92 (⟨by unfold z_ag; rw [if_pos c_8, if_pos c_31, if_neg c_54, if_neg c_62, if_neg c_74], rfl, rfl, rfl⟩)
          · refine z_iconst (pc' := 78) (v := 1) X d_En_against_77 (by decide) rfl ?_
            refine z_goto (pc' := 92) X d_En_against_78 (by decide) ?_
            exact z_iret X rfl d_En_against_92 (⟨by unfold z_ag; rw [if_pos c_8, if_pos c_31, if_neg c_54, if_neg c_62, if_pos c_74], rfl, rfl, rfl⟩)
        · refine z_iconst (pc' := 66) (v := (-1)) X d_En_against_65 (by decide) rfl ?_
          refine z_goto (pc' := 92) X d_En_against_66 (by decide) ?_
          exact z_iret X rfl d_En_against_92 (⟨by unfold z_ag; rw [if_pos c_8, if_pos c_31, if_neg c_54, if_pos c_62], rfl, rfl, rfl⟩)
    · refine z_aload_n (pc' := 35) X d_En_against_34 rfl rfl ?_
      refine z_get (pc' := 38) X 1 f_En_15 d_En_against_35 (by assumption) rfl rfl ?_
      refine z_aload_n (pc' := 39) X d_En_against_38 rfl rfl ?_
      refine z_get (pc' := 42) X 1 f_En_15 d_En_against_39 (by assumption) rfl rfl ?_
      refine z_callS X (c_compare) k_En_28 d_En_against_42 rfl rfl rfl (by decide) (Nat.le_of_ble_eq_true rfl) ⟨by omega, by omega⟩ (z_kp ?_)
      exact z_iret X rfl d_En_against_45 (⟨by unfold z_ag; rw [if_pos c_8, if_neg c_31], rfl, rfl, rfl⟩)
  · refine z_aload_n (pc' := 12) X d_En_against_11 rfl rfl ?_
    refine z_get (pc' := 15) X 0 f_En_9 d_En_against_12 (by assumption) rfl rfl ?_
    refine z_aload_n (pc' := 16) X d_En_against_15 rfl rfl ?_
    refine z_get (pc' := 19) X 0 f_En_9 d_En_against_16 (by assumption) rfl rfl ?_
    refine z_callS X (c_compare) k_En_28 d_En_against_19 rfl rfl rfl (by decide) (Nat.le_of_ble_eq_true rfl) ⟨by omega, by omega⟩ (z_kp ?_)
    exact z_iret X rfl d_En_against_22 (⟨by unfold z_ag; rw [if_neg c_8], rfl, rfl, rfl⟩)
theorem c_packed {a : Nat} {e : z_E7} (h1 : h a = some (z_ob 5 (z_ef e))) : z_C G A m_En_packed 0 0 [.ref a] h (z_pu (some (.long ((eV e).toInt64 &&& 4294967295))) h) := by
  refine z_C.of (by decide +kernel) rfl (Nat.le_of_ble_eq_true rfl) ?_
  intro x X
  refine z_aload_n (pc' := 1) X d_En_packed_0 rfl rfl ?_
  refine z_get (pc' := 4) X 4 f_En_25 d_En_packed_1 (by assumption) rfl rfl ?_
  refine z_i2l (pc' := 5) X d_En_packed_4 rfl ?_
  refine z_ldc2 (pc' := 8) X d_En_packed_5 lc_En_37 rfl ?_
  refine z_land (pc' := 9) X d_En_packed_8 rfl ?_
  exact z_lret X rfl d_En_packed_9 (⟨rfl, rfl, rfl, rfl⟩)
theorem c_En_init {a : Nat} {r c t l v s b : Int32} {f0 f1 f2 f3 f4 : Value} (hl : l = 0 ∨ l = 1) (h1 : h a = some (z_ob 5 [f0, f1, f2, f3, f4, .int s, .int b])) : z_C G A m_En_init 0 0 [.ref a, .int r, .int c, .int t, .int l, .int v] h (z_ph none (z_up h a (z_ob 5 (z_ef (r, c, t, l, v, s, b)))) 0 0) := by
  refine z_C.of (by decide +kernel) rfl (Nat.le_of_ble_eq_true rfl) ?_
  intro x X
  refine z_aload_n (pc' := 1) X d_En_init_0 rfl rfl ?_
  refine z_obj (pc' := 4) X l_En_3 oi_1 oi_2 d_En_init_1 rfl (by decide) (Nat.le_of_ble_eq_true rfl) rfl ?_
  refine z_aload_n (pc' := 5) X d_En_init_4 rfl rfl ?_
  refine z_iload_n (pc' := 6) X d_En_init_5 rfl rfl ?_
  refine z_put (pc' := 9) X 0 f_En_9 g_En_9 d_En_init_6 (by assumption) rfl rfl rfl rfl rfl ?_
  have g1 := z_up_s h a (z_ob 5 [.int r, f1, f2, f3, f4, .int s, .int b])
  refine z_aload_n (pc' := 10) X d_En_init_9 rfl rfl ?_
  refine z_iload_n (pc' := 11) X d_En_init_10 rfl rfl ?_
  refine z_put (pc' := 14) X 1 f_En_15 g_En_15 d_En_init_11 (by assumption) rfl rfl rfl rfl rfl ?_
  refine z_hp (z_uu _ _ _ _) ?_
  have g2 := z_up_s h a (z_ob 5 [.int r, .int c, f2, f3, f4, .int s, .int b])
  refine z_aload_n (pc' := 15) X d_En_init_14 rfl rfl ?_
  refine z_iload_n (pc' := 16) X d_En_init_15 rfl rfl ?_
  refine z_put (pc' := 19) X 2 f_En_18 g_En_18 d_En_init_16 (by assumption) rfl rfl rfl rfl rfl ?_
  refine z_hp (z_uu _ _ _ _) ?_
  have g3 := z_up_s h a (z_ob 5 [.int r, .int c, .int t, f3, f4, .int s, .int b])
  refine z_aload_n (pc' := 20) X d_En_init_19 rfl rfl ?_
  refine z_iload (pc' := 22) X d_En_init_20 rfl rfl ?_
  refine z_put (pc' := 25) X 3 f_En_21 g_En_21 d_En_init_22 (by assumption) rfl rfl (by rcases hl with rfl | rfl <;> rfl) (by rcases hl with rfl | rfl <;> rfl) rfl ?_
  refine z_hp (z_uu _ _ _ _) ?_
  have g4 := z_up_s h a (z_ob 5 [.int r, .int c, .int t, .int l, f4, .int s, .int b])
  refine z_aload_n (pc' := 26) X d_En_init_25 rfl rfl ?_
  refine z_iload (pc' := 28) X d_En_init_26 rfl rfl ?_
  refine z_put (pc' := 31) X 4 f_En_25 g_En_25 d_En_init_28 (by assumption) rfl rfl rfl rfl rfl ?_
  refine z_hp (z_uu _ _ _ _) ?_
  exact z_vret X rfl d_En_init_31 (⟨rfl, rfl, rfl, rfl⟩)
theorem c_Mt_init {m : Nat} {v : Value} (h1 : h m = some (z_ob 3 [v])) : z_C G A m_Mt_init 1 3 [.ref m] h (fun v h' k n => v = none ∧ k = 1 ∧ n = 3 ∧ ∃ al, h al = none ∧ al ≠ z_d0 G ∧ h' = z_up (z_up h al (z_ob 6 [.int 0, .ref (z_d0 G), .int 0])) m (z_ob 3 [.ref al])) := by
  refine z_C.of (by decide +kernel) rfl (Nat.le_of_ble_eq_true rfl) ?_
  intro x X
  refine z_aload_n (pc' := 1) X d_Mt_init_0 rfl rfl ?_
  refine z_obj (pc' := 4) X l_Mt_1 oi_1 oi_2 d_Mt_init_1 rfl (by decide) (Nat.le_of_ble_eq_true rfl) rfl ?_
  refine z_aload_n (pc' := 5) X d_Mt_init_4 rfl rfl ?_
  refine z_new (pc' := 8) X nw_Mt_7 d_Mt_init_5 ⟨by omega, by omega⟩ rfl (fun a_5 n_5 e_5 => ?_)
  refine z_dup (pc' := 9) X d_Mt_init_8 rfl rfl ?_
  refine z_callI X (c_AL_init_0 (z_up_s _ _ _)) k_Mt_9 d_Mt_init_9 rfl rfl rfl (by decide) (Nat.le_of_ble_eq_true rfl) ⟨by omega, by omega⟩ (z_kh ?_)
  refine z_hp (z_uu _ _ _ _) ?_
  have hm : z_up h a_5 (z_ob 6 [.int 0, .ref (z_d0 G), .int 0]) m = some (z_ob 3 [v]) := by rw [z_up_n _ _ (z_nb n_5 h1)]; exact h1
  refine z_put (pc' := 15) X 0 f_Mt_10 g_Mt_10 d_Mt_init_12 (by assumption) rfl rfl rfl rfl rfl ?_
  exact z_vret X rfl d_Mt_init_15 (⟨rfl, by omega, by omega, a_5, n_5, e_5, rfl⟩)
theorem c_Mt_size {La : z_LA} {m al d cap : Nat} {es : List Nat} (hp : z_pool G h La) (h1 : h m = some (z_ob 3 [.ref al])) (h2 : La al = some (d, es, cap)) : z_C G A m_Mt_size 0 0 [.ref m] h (z_pu (some (.int (nI es.length))) h) := by
  obtain ⟨fs, g1⟩ := P_ob hp h2
  refine z_C.of (by decide +kernel) rfl (Nat.le_of_ble_eq_true rfl) ?_
  intro x X
  refine z_aload_n (pc' := 1) X d_Mt_size_0 rfl rfl ?_
  refine z_get (pc' := 4) X 0 f_Mt_10 d_Mt_size_1 (by assumption) rfl rfl ?_
  refine z_callV X (P_size hp h2) k_Mt_16 d_Mt_size_4 (by assumption) (show classes[6]? = some _ from rfl) rfl rfl rfl (by decide) (Nat.le_of_ble_eq_true rfl) ⟨by omega, by omega⟩ (z_kp ?_)
  exact z_iret X rfl d_Mt_size_7 (⟨rfl, rfl, rfl, rfl⟩)
theorem c_Mt_at {La : z_LA} {en : Nat → z_E7} {m al d cap i b : Nat} {es : List Nat} (hp : z_pool G h La) (h1 : h m = some (z_ob 3 [.ref al])) (h2 : La al = some (d, es, cap)) (he : z_ens h en es) (hi : es[i]? = some b) : z_C G A m_Mt_at 0 0 [.ref m, .int (nI i)] h (z_pu (some (.ref b)) h) := by
  obtain ⟨fs, g1⟩ := P_ob hp h2
  have g2 := he b (List.mem_of_getElem? hi)
  refine z_C.of (by decide +kernel) rfl (Nat.le_of_ble_eq_true rfl) ?_
  intro x X
  refine z_aload_n (pc' := 1) X d_Mt_at_0 rfl rfl ?_
  refine z_get (pc' := 4) X 0 f_Mt_10 d_Mt_at_1 (by assumption) rfl rfl ?_
  refine z_iload_n (pc' := 5) X d_Mt_at_4 rfl rfl ?_
  refine z_callV X (P_get hp h2 hi) k_Mt_20 d_Mt_at_5 (by assumption) (show classes[6]? = some _ from rfl) rfl rfl rfl (by decide) (Nat.le_of_ble_eq_true rfl) ⟨by omega, by omega⟩ (z_kp ?_)
  refine z_cast (pc' := 11) X cl_Mt_24 ca_Entry d_Mt_at_8 (by assumption) rfl rfl ?_
  exact z_aret X rfl (Or.inl ⟨_, rfl⟩) (by first | exact Or.inr ⟨_, rfl⟩ | exact Or.inl rfl) d_Mt_at_11 (⟨rfl, rfl, rfl, rfl⟩)
theorem c_Mt_insert {La : z_LA} {en : Nat → z_E7} {m al d cap y : Nat} {es : List Nat} (hp : z_pool G h La) (h1 : h m = some (z_ob 3 [.ref al])) (h2 : La al = some (d, es, cap)) (he : z_ens h en es) (hy : h y = some (z_ob 5 (z_ef (en y)))) (hc : cap < 2 ^ 18)
    (hmo : ∀ i j a b : Nat, i ≤ j → es[i]? = some a → es[j]? = some b → z_ag (en b) (en y) < 0 → z_ag (en a) (en y) < 0) : z_C G A m_Mt_insert 1 (2 * cap + 10) [.ref m, .ref y] h (fun v h' k n => v = none ∧ ∃ (p d' cap' : Nat), p ≤ es.length ∧ (∀ i a : Nat, i < p → es[i]? = some a → z_ag (en a) (en y) < 0) ∧ (∀ i a : Nat, p ≤ i → es[i]? = some a → ¬ z_ag (en a) (en y) < 0) ∧ z_pool G h' (z_lu La al (d', es.take p ++ y :: es.drop p, cap')) ∧ z_nl G h h' ∧ z_gw cap es.length cap' k n) := by
  obtain ⟨fs, g1⟩ := P_ob hp h2
  have hlt := P_lt hp h2
  refine z_C.of (by decide +kernel) rfl (Nat.le_of_ble_eq_true rfl) ?_
  intro x X
  have loop : ∀ (w lo hi : Nat) (o4 : Option Value), hi - lo ≤ w → lo ≤ hi → hi ≤ es.length → (∀ i a : Nat, i < lo → es[i]? = some a → z_ag (en a) (en y) < 0) → (∀ i a : Nat, hi ≤ i → es[i]? = some a → ¬ z_ag (en a) (en y) < 0) → z_V G A x h 0 0 10 [some (.ref m), some (.ref y), some (.int (nI lo)), some (.int (nI hi)), o4] [] := by
    intro w
    induction w with
    | zero =>
      intro lo hi o4 e1 e2 e3 e4 e5
      have e : lo = hi := by omega
      subst e
      refine z_iload_n (pc' := 11) X d_Mt_insert_10 rfl rfl ?_
      refine z_iload_n (pc' := 12) X d_Mt_insert_11 rfl rfl ?_
      refine z_icmp_ge (tgt := 55) (pc' := 15) X d_Mt_insert_12 (by decide) rfl (fun c_12 => ?_) (fun c_12 => ?_)
      · refine z_aload_n (pc' := 56) X d_Mt_insert_55 rfl rfl ?_
        refine z_get (pc' := 59) X 0 f_Mt_10 d_Mt_insert_56 (by assumption) rfl rfl ?_
        refine z_iload_n (pc' := 60) X d_Mt_insert_59 rfl rfl ?_
        refine z_aload_n (pc' := 61) X d_Mt_insert_60 rfl rfl ?_
        refine z_callV X (P_addAt hp h2 e3 ⟨5, _, hy, Or.inl (by decide)⟩ hc) k_Mt_30 d_Mt_insert_61 (by assumption) (show classes[6]? = some _ from rfl) rfl rfl rfl (by decide) (Nat.le_of_ble_eq_true rfl) ⟨by omega, by omega⟩ (fun v_61 h_61 k_61 n_61 p_61 => ?_)
        obtain ⟨rfl, d', cap', q1, q2, q3⟩ := p_61
        exact z_vret X rfl d_Mt_insert_64 (⟨rfl, lo, d', cap', e3, e4, e5, q1, q2, by rw [Nat.zero_add, Nat.zero_add]; exact q3⟩)
      · exact absurd (nI_le (Nat.le_refl _) (by omega)) c_12
    | succ w ih =>
      intro lo hi o4 e1 e2 e3 e4 e5
      by_cases e6 : lo = hi
      · exact ih lo hi o4 (by omega) e2 e3 e4 e5
      refine z_iload_n (pc' := 11) X d_Mt_insert_10 rfl rfl ?_
      refine z_iload_n (pc' := 12) X d_Mt_insert_11 rfl rfl ?_
      refine z_icmp_ge (tgt := 55) (pc' := 15) X d_Mt_insert_12 (by decide) rfl (fun c_12 => ?_) (fun c_12 => ?_)
      · exact absurd c_12 (nI_ge (by omega) (by omega))
      · refine z_iload_n (pc' := 16) X d_Mt_insert_15 rfl rfl ?_
        refine z_iload_n (pc' := 17) X d_Mt_insert_16 rfl rfl ?_
        refine z_iadd (pc' := 18) X d_Mt_insert_17 rfl ?_
        refine z_top (b := .int (nI (lo + hi))) (by rw [nI_add]) ?_
        refine z_iconst (pc' := 19) (v := 2) X d_Mt_insert_18 (by decide) rfl ?_
        refine z_idiv (pc' := 20) X d_Mt_insert_19 (by decide) rfl ?_
        refine z_top (b := .int (nI ((lo + hi) / 2))) (by rw [show (2 : Int32) = nI 2 from rfl, pk_div (by omega) (by omega) (by omega)]) ?_
        generalize hmd : (lo + hi) / 2 = md
        have hml : md < es.length := by omega
        obtain ⟨b, hb⟩ : ∃ b, es[md]? = some b := ⟨_, List.getElem?_eq_getElem hml⟩
        have hbo := he b (List.mem_of_getElem? hb)
        refine z_istore (pc' := 22) X d_Mt_insert_20 rfl rfl rfl ?_
        refine z_aload_n (pc' := 23) X d_Mt_insert_22 rfl rfl ?_
        refine z_get (pc' := 26) X 0 f_Mt_10 d_Mt_insert_23 (by assumption) rfl rfl ?_
        refine z_iload (pc' := 28) X d_Mt_insert_26 rfl rfl ?_
        refine z_callV X (P_get hp h2 hb) k_Mt_20 d_Mt_insert_28 (by assumption) (show classes[6]? = some _ from rfl) rfl rfl rfl (by decide) (Nat.le_of_ble_eq_true rfl) ⟨by omega, by omega⟩ (z_kp ?_)
        refine z_cast (pc' := 34) X cl_Mt_24 ca_Entry d_Mt_insert_31 (by assumption) rfl rfl ?_
        refine z_aload_n (pc' := 35) X d_Mt_insert_34 rfl rfl ?_
        refine z_callV X (c_against hbo hy) k_Mt_26 d_Mt_insert_35 (by assumption) (show classes[5]? = some _ from rfl) rfl rfl rfl (by decide) (Nat.le_of_ble_eq_true rfl) ⟨by omega, by omega⟩ (z_kp ?_)
        refine z_if_ge (tgt := 49) (pc' := 41) X d_Mt_insert_38 (by decide) rfl (fun c_38 => ?_) (fun c_38 => ?_)
        · refine z_iload (pc' := 51) X d_Mt_insert_49 rfl rfl ?_
          refine z_istore_n (pc' := 52) X d_Mt_insert_51 rfl rfl rfl ?_
          refine z_goto (pc' := 10) X d_Mt_insert_52 (by decide) ?_
          exact ih lo md _ (by omega) (by omega) (by omega) e4 (fun i a hi' ha hn => Int32.not_lt.mpr c_38 (hmo md i b a hi' hb ha hn))
        · refine z_iload (pc' := 43) X d_Mt_insert_41 rfl rfl ?_
          refine z_iconst (pc' := 44) (v := 1) X d_Mt_insert_43 (by decide) rfl ?_
          refine z_iadd (pc' := 45) X d_Mt_insert_44 rfl ?_
          refine z_top (b := .int (nI (md + 1))) (by rw [nI_1]) ?_
          refine z_istore_n (pc' := 46) X d_Mt_insert_45 rfl rfl rfl ?_
          refine z_goto (pc' := 52) X d_Mt_insert_46 (by decide) ?_
          refine z_goto (pc' := 10) X d_Mt_insert_52 (by decide) ?_
          exact ih (md + 1) hi _ (by omega) (by omega) e3 (fun i a hi' ha => hmo i md a b (by omega) ha hb (Int32.not_le.mp c_38)) e5
  refine z_iconst (pc' := 1) (v := 0) X d_Mt_insert_0 (by decide) rfl ?_
  refine z_istore_n (pc' := 2) X d_Mt_insert_1 rfl rfl rfl ?_
  refine z_aload_n (pc' := 3) X d_Mt_insert_2 rfl rfl ?_
  refine z_get (pc' := 6) X 0 f_Mt_10 d_Mt_insert_3 (by assumption) rfl rfl ?_
  refine z_callV X (P_size hp h2) k_Mt_16 d_Mt_insert_6 (by assumption) (show classes[6]? = some _ from rfl) rfl rfl rfl (by decide) (Nat.le_of_ble_eq_true rfl) ⟨by omega, by omega⟩ (z_kp ?_)
  refine z_istore_n (pc' := 10) X d_Mt_insert_9 rfl rfl rfl ?_
  exact loop es.length 0 es.length none (by omega) (by omega) (by omega) (fun i a hi => absurd hi (Nat.not_lt_zero i)) (fun i a hi ha => absurd (List.getElem?_eq_some_iff.mp ha).1 (by omega))
end ENT
