/-! tables: looks, making one -/
theorem lg_cmp0 (x y : Int64) : lg_cmp x y = 0 ↔ x = y := by
  unfold lg_cmp
  by_cases h1 : x > y
  · rw [if_pos h1]
    constructor
    · intro h; exact absurd h (by decide)
    · intro h; subst h; exact absurd h1 (Int64.lt_irrefl)
  · rw [if_neg h1]
    by_cases h2 : x = y
    · simp [h2]
    · simp [h2]
theorem z_fo_mo (en : Nat → z_E7) (es : List Nat) {r s : Int32} (hrs : r ≤ s) : z_fo en es r ≤ z_fo en es s := by
  unfold z_fo
  refine List.countP_mono_left (fun a _ ha => ?_)
  simp at ha ⊢
  exact Int32.lt_of_lt_of_le ha hrs
theorem z_fo_le (en : Nat → z_E7) (es : List Nat) (r : Int32) : z_fo en es r ≤ es.length := List.countP_le_length
theorem z_r1 {r : Int32} (h0 : 0 ≤ r) (h1 : r < 64) : r ≤ r + 1 := by
  rw [Int32.le_iff_toInt_le] at *
  rw [Int32.lt_iff_toInt_lt] at h1
  have e : (r + 1).toInt = r.toInt + 1 := by
    rw [Int32.toInt_add]
    have h3 : (1 : Int32).toInt = 1 := rfl
    have h4 : (0 : Int32).toInt = 0 := rfl
    have h5 : (64 : Int32).toInt = 64 := rfl
    rw [h3]
    rw [h4] at h0
    rw [h5] at h1
    exact Int.bmod_eq_of_le (by omega) (by omega)
  omega
section TAB2
variable {G : z_G} {A : Nat → Prop} {h : z_H}
theorem c_looks {La : z_LA} {en : Nat → z_E7} {s : Nat} {es : List Nat} {r : Int32} (hp : z_pool G h La) (ht : z_tab G h en s es) (he : z_ens h en es) (hso : z_rs en es) (hl : es.length < 2 ^ 20) (h0 : 0 ≤ r) (h1 : r < 64) : z_C G A m_Ta_looks 0 0 [.ref s, .int r] h (z_pu (some (.int (nI (z_lks en es r)))) h) := by
  obtain ⟨arr, f, s1, s2, s3⟩ := ht
  have hs : z_src G h La s es := Or.inr ⟨arr, _, _, f, s1, s2, s3⟩
  have q1 := z_fo_mo en es (z_r1 h0 h1)
  have q2 := z_fo_le en es (r + 1)
  refine z_C.of (by decide +kernel) rfl (Nat.le_of_ble_eq_true rfl) ?_
  intro x X
  refine z_aload_n (pc' := 1) X d_Ta_looks_0 rfl rfl ?_
  refine z_get (pc' := 4) X 1 f_Ta_27 d_Ta_looks_1 (by assumption) rfl rfl ?_
  refine z_iload_n (pc' := 5) X d_Ta_looks_4 rfl rfl ?_
  refine z_callS X (c_Ta_bits) k_Ta_35 d_Ta_looks_5 rfl rfl rfl (by decide) (Nat.le_of_ble_eq_true rfl) ⟨by omega, by omega⟩ (z_kp ?_)
  refine z_land (pc' := 9) X d_Ta_looks_8 rfl ?_
  refine z_iload_n (pc' := 10) X d_Ta_looks_9 rfl rfl ?_
  refine z_callS X (c_Ta_bits) k_Ta_35 d_Ta_looks_10 rfl rfl rfl (by decide) (Nat.le_of_ble_eq_true rfl) ⟨by omega, by omega⟩ (z_kp ?_)
  refine z_lcmp (pc' := 14) X d_Ta_looks_13 rfl ?_
  refine z_if_eq (tgt := 19) (pc' := 17) X d_Ta_looks_14 (by decide) rfl (fun c_14 => ?_) (fun c_14 => ?_)
  · have hb := (lg_cmp0 _ _).mp c_14
    refine z_aload_n (pc' := 20) X d_Ta_looks_19 rfl rfl ?_
    refine z_iload_n (pc' := 21) X d_Ta_looks_20 rfl rfl ?_
    refine z_callS X (c_firstOf hp hs he hso hl) k_Ta_46 d_Ta_looks_21 rfl rfl rfl (by decide) (Nat.le_of_ble_eq_true rfl) ⟨by omega, by omega⟩ (z_kp ?_)
    refine z_istore_n (pc' := 25) X d_Ta_looks_24 rfl rfl rfl ?_
    refine z_aload_n (pc' := 26) X d_Ta_looks_25 rfl rfl ?_
    refine z_iload_n (pc' := 27) X d_Ta_looks_26 rfl rfl ?_
    refine z_iconst (pc' := 28) (v := 1) X d_Ta_looks_27 (by decide) rfl ?_
    refine z_iadd (pc' := 29) X d_Ta_looks_28 rfl ?_
    refine z_callS X (c_firstOf hp hs he hso hl) k_Ta_46 d_Ta_looks_29 rfl rfl rfl (by decide) (Nat.le_of_ble_eq_true rfl) ⟨by omega, by omega⟩ (z_kp ?_)
    refine z_istore_n (pc' := 33) X d_Ta_looks_32 rfl rfl rfl ?_
    refine z_iload_n (pc' := 34) X d_Ta_looks_33 rfl rfl ?_
    refine z_iload_n (pc' := 35) X d_Ta_looks_34 rfl rfl ?_
    refine z_icmp_ne (tgt := 42) (pc' := 38) X d_Ta_looks_35 (by decide) rfl (fun c_35 => ?_) (fun c_35 => ?_)
    · have hne : ¬ z_fo en es r = z_fo en es (r + 1) := fun e => c_35 (by rw [e])
      have hz : z_lks en es r = (z_fo en es (r + 1) - 1) / 4 - z_fo en es r / 4 + 1 := by
        unfold z_lks
        rw [if_pos hb, if_neg hne]
      refine z_iload_n (pc' := 43) X d_Ta_looks_42 rfl rfl ?_
      refine z_iconst (pc' := 44) (v := 1) X d_Ta_looks_43 (by decide) rfl ?_
      refine z_isub (pc' := 45) X d_Ta_looks_44 rfl ?_
      refine z_top (b := .int (nI (z_fo en es (r + 1) - 1))) (by rw [← pk_sub (a := z_fo en es (r + 1)) (b := 1) (by omega)]; rfl) ?_
      refine z_iconst (pc' := 46) (v := 4) X d_Ta_looks_45 (by decide) rfl ?_
      refine z_idiv (pc' := 47) X d_Ta_looks_46 (by decide) rfl ?_
      refine z_top (b := .int (nI ((z_fo en es (r + 1) - 1) / 4))) (by rw [show (4 : Int32) = nI 4 from rfl, pk_div (by omega) (by omega) (by omega)]) ?_
      refine z_iload_n (pc' := 48) X d_Ta_looks_47 rfl rfl ?_
      refine z_iconst (pc' := 49) (v := 4) X d_Ta_looks_48 (by decide) rfl ?_
      refine z_idiv (pc' := 50) X d_Ta_looks_49 (by decide) rfl ?_
      refine z_top (b := .int (nI (z_fo en es r / 4))) (by rw [show (4 : Int32) = nI 4 from rfl, pk_div (by omega) (by omega) (by omega)]) ?_
      refine z_isub (pc' := 51) X d_Ta_looks_50 rfl ?_
      refine z_iconst (pc' := 52) (v := 1) X d_Ta_looks_51 (by decide) rfl ?_
      refine z_iadd (pc' := 53) X d_Ta_looks_52 rfl ?_
      refine z_top (b := .int (nI (z_lks en es r))) (by rw [hz, pk_sub (by omega), nI_1]) ?_
      exact z_iret X rfl d_Ta_looks_53 (⟨rfl, rfl, rfl, rfl⟩)
    · have he' : z_fo en es r = z_fo en es (r + 1) := (nI_eq (by omega) (by omega)).mp c_35
      refine z_iconst (pc' := 39) (v := 1) X d_Ta_looks_38 (by decide) rfl ?_
      refine z_goto (pc' := 53) X d_Ta_looks_39 (by decide) ?_
      exact z_iret X rfl d_Ta_looks_53 (⟨by unfold z_lks; rw [if_pos hb, if_pos he']; rfl, rfl, rfl, rfl⟩)
  · have hb : ¬ z_flt en es &&& z_bit r = z_bit r := fun e => c_14 ((lg_cmp0 _ _).mpr e)
    refine z_iconst (pc' := 18) (v := 0) X d_Ta_looks_17 (by decide) rfl ?_
    exact z_iret X rfl d_Ta_looks_18 (⟨by unfold z_lks; rw [if_neg hb]; rfl, rfl, rfl, rfl⟩)
theorem c_Ta_init {La : z_LA} {en : Nat → z_E7} {a al d cap : Nat} {es : List Nat} (hp : z_pool G h La) (h1 : h a = some (z_ob 4 [.null, .long 0, .int 0])) (h2 : La al = some (d, es, cap)) (he : z_ens h en es) : z_C G A m_Ta_init 1 es.length [.ref a, .ref al] h (fun v h' k n => v = none ∧ k = 1 ∧ n = es.length ∧ z_tab G h' en a es ∧ z_fr h h' [a]) := by
  have hl := P_lt hp h2
  obtain ⟨fs, g1⟩ := P_ob hp h2
  have hala : al ≠ a := fun e => by rw [e, h1] at g1; cases g1
  refine z_C.of (by decide +kernel) rfl (Nat.le_of_ble_eq_true rfl) ?_
  intro x X
  have hcn := z_cne X
  have loop : ∀ (arr : Nat), h arr = none → ∀ (m i : Nat) (hh : z_H) (f : Nat → Option Nat) (o3 : Option Value), m + i = es.length → hh a = some (z_ob 4 [.ref arr, .long (z_flt en (es.take i)), .int (nI (z_era en (es.take i)))]) → hh arr = some (z_ra (z_cE G) es.length f) → (∀ j, j < i → f j = es[j]?) → z_fr h hh [a] → z_V G A x hh 1 es.length 17 [some (.ref a), some (.ref al), some (.int (nI i)), o3] [] := by
    intro arr harr m
    induction m with
    | zero =>
      intro i hh f o3 hi q1 q2 q3 q4
      have hi : i = es.length := by omega
      subst hi
      refine z_iload_n (pc' := 18) X d_Ta_init_17 rfl rfl ?_
      refine z_aload_n (pc' := 19) X d_Ta_init_18 rfl rfl ?_
      refine z_get (pc' := 22) X 0 f_Ta_17 d_Ta_init_19 (by assumption) rfl rfl ?_
      refine z_alen (pc' := 23) X 2 d_Ta_init_22 q2 rfl rfl ?_
      refine z_icmp_ge (tgt := 85) (pc' := 26) X d_Ta_init_23 (by decide) rfl (fun c_23 => ?_) (fun c_23 => ?_)
      · rw [List.take_length] at q1
        exact z_vret X rfl d_Ta_init_85 (⟨rfl, rfl, rfl, ⟨arr, f, q1, q2, q3⟩, q4⟩)
      · exact absurd (nI_le (Nat.le_refl _) (by omega)) c_23
    | succ m ih =>
      intro i hh f o3 hi q1 q2 q3 q4
      have hil : i < es.length := by omega
      obtain ⟨b, hb⟩ : ∃ b, es[i]? = some b := ⟨_, List.getElem?_eq_getElem hil⟩
      have htk : es.take (i + 1) = es.take i ++ [b] := by rw [List.take_add_one, hb]; rfl
      have hp1 : z_pool G hh La := z_pool_S hp q4 (fun c hc e hce => by
        rw [List.mem_singleton.mp hc] at hce ⊢
        rw [h1] at hce
        cases hce
        exact ⟨z_isl_ob (by decide), fun _ => ⟨4, _, q1, Or.inl (by decide)⟩⟩)
      have hbm := he b (List.mem_of_getElem? hb)
      have hba : b ≠ a := fun e => by rw [e, h1] at hbm; cases hbm
      have hbo : hh b = some (z_ob 5 (z_ef (en b))) := q4 _ _ hbm (by simpa using hba)
      obtain ⟨fs1, g1'⟩ := P_ob hp1 h2
      have harra : arr ≠ a := fun e => by rw [e, q1] at q2; cases q2
      have hbarr : b ≠ arr := fun e => by rw [e, harr] at hbm; cases hbm
      refine z_iload_n (pc' := 18) X d_Ta_init_17 rfl rfl ?_
      refine z_aload_n (pc' := 19) X d_Ta_init_18 rfl rfl ?_
      refine z_get (pc' := 22) X 0 f_Ta_17 d_Ta_init_19 (by assumption) rfl rfl ?_
      refine z_alen (pc' := 23) X 2 d_Ta_init_22 q2 rfl rfl ?_
      refine z_icmp_ge (tgt := 85) (pc' := 26) X d_Ta_init_23 (by decide) rfl (fun c_23 => ?_) (fun c_23 => ?_)
      · exact absurd c_23 (nI_ge hil (by omega))
      · refine z_aload_n (pc' := 27) X d_Ta_init_26 rfl rfl ?_
        refine z_iload_n (pc' := 28) X d_Ta_init_27 rfl rfl ?_
        refine z_callV X (P_get hp1 h2 hb) k_Ta_23 d_Ta_init_28 (by assumption) (show classes[6]? = some _ from rfl) rfl rfl rfl (by decide) (Nat.le_of_ble_eq_true rfl) ⟨by omega, by omega⟩ (z_kp ?_)
        refine z_cast (pc' := 34) X cl_Ta_15 ca_Entry d_Ta_init_31 (by assumption) rfl rfl ?_
        refine z_astore_n (pc' := 35) X d_Ta_init_34 rfl rfl rfl ?_
        refine z_aload_n (pc' := 36) X d_Ta_init_35 rfl rfl ?_
        refine z_get (pc' := 39) X 0 f_Ta_17 d_Ta_init_36 (by assumption) rfl rfl ?_
        refine z_iload_n (pc' := 40) X d_Ta_init_39 rfl rfl ?_
        refine z_aload_n (pc' := 41) X d_Ta_init_40 rfl rfl ?_
        refine z_aastore (pc' := 42) X 2 d_Ta_init_41 q2 rfl hbo rfl ca_Entry hil (by omega) rfl rfl ?_
        have r1 : z_up hh arr (z_ra (z_cE G) es.length (va_up f i (some b))) a = some (z_ob 4 [.ref arr, .long (z_flt en (es.take i)), .int (nI (z_era en (es.take i)))]) := by rw [z_up_n _ _ (Ne.symm harra)]; exact q1
        have r2 : z_up hh arr (z_ra (z_cE G) es.length (va_up f i (some b))) b = some (z_ob 5 (z_ef (en b))) := by rw [z_up_n _ _ hbarr]; exact hbo
        have r3 := z_up_s hh arr (z_ra (z_cE G) es.length (va_up f i (some b)))
        have r4 : z_fr h (z_up hh arr (z_ra (z_cE G) es.length (va_up f i (some b)))) [a] := z_fr_new q4 harr
        generalize z_up hh arr (z_ra (z_cE G) es.length (va_up f i (some b))) = h3 at r1 r2 r3 r4 ⊢
        refine z_aload_n (pc' := 43) X d_Ta_init_42 rfl rfl ?_
        refine z_dup (pc' := 44) X d_Ta_init_43 rfl rfl ?_
        refine z_get (pc' := 47) X 1 f_Ta_27 d_Ta_init_44 (by assumption) rfl rfl ?_
        refine z_aload_n (pc' := 48) X d_Ta_init_47 rfl rfl ?_
        refine z_get (pc' := 51) X 0 f_Ta_31 d_Ta_init_48 (by assumption) rfl rfl ?_
        refine z_callS X (c_Ta_bits) k_Ta_35 d_Ta_init_51 rfl rfl rfl (by decide) (Nat.le_of_ble_eq_true rfl) ⟨by omega, by omega⟩ (z_kp ?_)
        refine z_lor (pc' := 55) X d_Ta_init_54 rfl ?_
        refine z_top (b := .long (z_flt en (es.take (i + 1)))) (by rw [htk, z_flt_app]) ?_
        refine z_put (pc' := 58) X 1 f_Ta_27 (g_Ta_27 _) d_Ta_init_55 (by assumption) rfl rfl rfl rfl rfl ?_
        have t1 := z_up_s h3 a (z_ob 4 [.ref arr, .long (z_flt en (es.take (i + 1))), .int (nI (z_era en (es.take i)))])
        have t2 : z_up h3 a (z_ob 4 [.ref arr, .long (z_flt en (es.take (i + 1))), .int (nI (z_era en (es.take i)))]) b = some (z_ob 5 (z_ef (en b))) := by rw [z_up_n _ _ hba]; exact r2
        have fin : z_V G A x (z_up h3 a (z_ob 4 [.ref arr, .long (z_flt en (es.take (i + 1))), .int (nI (z_era en (es.take (i + 1))))])) 1 es.length 79 [some (.ref a), some (.ref al), some (.int (nI i)), some (.ref b)] [] := by
          refine z_iinc (pc' := 82) (w := nI (i + 1)) X d_Ta_init_79 rfl (z_i1 _) rfl rfl rfl ?_
          refine z_goto (pc' := 17) X d_Ta_init_82 (by decide) ?_
          refine ih (i + 1) _ _ _ (by omega) (z_up_s _ _ _) (by rw [z_up_n _ _ harra]; exact r3) (fun j hj => ?_) (z_fr_up r4 (by simp))
          by_cases hji : j = i
          · subst hji
            rw [va_up_self, hb]
          · rw [va_up_ne _ _ hji]
            exact q3 j (by omega)
        refine z_aload_n (pc' := 59) X d_Ta_init_58 rfl rfl ?_
        refine z_dup (pc' := 60) X d_Ta_init_59 rfl rfl ?_
        refine z_get (pc' := 63) X 2 f_Ta_39 d_Ta_init_60 (by assumption) rfl rfl ?_
        refine z_aload_n (pc' := 64) X d_Ta_init_63 rfl rfl ?_
        refine z_get (pc' := 67) X 3 f_Ta_42 d_Ta_init_64 (by assumption) rfl rfl ?_
        refine z_if_eq (tgt := 74) (pc' := 70) X d_Ta_init_67 (by decide) rfl (fun c_67 => ?_) (fun c_67 => ?_)
        · refine z_iconst (pc' := 75) (v := 1) X d_Ta_init_74 (by decide) rfl ?_
          refine z_iadd (pc' := 76) X d_Ta_init_75 rfl ?_
          refine z_top (b := .int (nI (z_era en (es.take (i + 1))))) (by rw [htk, z_era_app, if_pos c_67, nI_1]) ?_
          refine z_put (pc' := 79) X 2 f_Ta_39 (g_Ta_39 _) d_Ta_init_76 (by assumption) rfl rfl rfl rfl rfl ?_
          exact z_hp (z_uu _ _ _ _) fin
        · refine z_iconst (pc' := 71) (v := 0) X d_Ta_init_70 (by decide) rfl ?_
          refine z_goto (pc' := 75) X d_Ta_init_71 (by decide) ?_
          refine z_iadd (pc' := 76) X d_Ta_init_75 rfl ?_
          refine z_top (b := .int (nI (z_era en (es.take (i + 1))))) (by rw [htk, z_era_app, if_neg c_67, ← nI_add]; rfl) ?_
          refine z_put (pc' := 79) X 2 f_Ta_39 (g_Ta_39 _) d_Ta_init_76 (by assumption) rfl rfl rfl rfl rfl ?_
          exact z_hp (z_uu _ _ _ _) fin
  refine z_aload_n (pc' := 1) X d_Ta_init_0 rfl rfl ?_
  refine z_obj (pc' := 4) X l_Ta_3 oi_1 oi_2 d_Ta_init_1 rfl (by decide) (Nat.le_of_ble_eq_true rfl) rfl ?_
  refine z_aload_n (pc' := 5) X d_Ta_init_4 rfl rfl ?_
  refine z_aload_n (pc' := 6) X d_Ta_init_5 rfl rfl ?_
  refine z_callV X (P_size hp h2) k_Ta_9 d_Ta_init_6 (by assumption) (show classes[6]? = some _ from rfl) rfl rfl rfl (by decide) (Nat.le_of_ble_eq_true rfl) ⟨by omega, by omega⟩ (z_kp ?_)
  refine z_anew (pc' := 12) (C := "TabletCells$Entry") 2 X cl_Ta_15 (fun U hK => hK.2.2.2.1) rfl d_Ta_init_9 hl ⟨by omega, by omega⟩ rfl (fun arr n1 n2 => ?_)
  have r1 : z_up h arr (z_ra (z_cE G) es.length (fun _ => none)) a = some (z_ob 4 [.null, .long 0, .int 0]) := by rw [z_up_n _ _ (z_nb n1 h1)]; exact h1
  refine z_put (pc' := 15) X 0 f_Ta_17 g_Ta_17 d_Ta_init_12 (by assumption) rfl rfl rfl rfl rfl ?_
  refine z_iconst (pc' := 16) (v := 0) X d_Ta_init_15 (by decide) rfl ?_
  refine z_istore_n (pc' := 17) X d_Ta_init_16 rfl rfl rfl ?_
  refine z_wid (k2 := 1) (n2 := es.length) (by omega) (by omega) (loop arr n1 es.length 0 _ (fun _ => none) none (by omega) ?_ ?_ (fun j hj => absurd hj (Nat.not_lt_zero j)) (z_fr_up (z_fr_new (z_fr_rf _ _) n1) (by simp)))
  · exact z_up_s _ _ _
  · rw [z_up_n _ _ (z_nb' n1 h1)]
    exact z_up_s _ _ _
end TAB2
