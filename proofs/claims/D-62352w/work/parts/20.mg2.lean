/-! the merger: the next entry -/
def z_hd (cs : Nat → List Nat) (ss : List Nat) (ps : Nat → Nat) (k : Nat) : Option Nat := match ss[k]? with
  | none => none
  | some s => (cs s)[ps k]?
def z_bst (en : Nat → z_E7) (cs : Nat → List Nat) (ss : List Nat) (ps : Nat → Nat) (nd : Int32) : Nat → Option (Nat × Nat)
  | 0 => none
  | k + 1 => match z_hd cs ss ps k with
    | none => z_bst en cs ss ps nd k
    | some a => if eR (en a) < nd then (match z_bst en cs ss ps nd k with
        | none => some (a, k)
        | some c => if z_ag (en a) (en c.1) < 0 then some (a, k) else some c) else z_bst en cs ss ps nd k
def z_bv (b : Option (Nat × Nat)) : Value := match b with
  | none => .null
  | some c => .ref c.1
def z_bk (b : Option (Nat × Nat)) : Nat := match b with
  | none => 0
  | some c => c.2
theorem z_bst_some {en : Nat → z_E7} {cs : Nat → List Nat} {ss : List Nat} {ps : Nat → Nat} {nd : Int32} : ∀ (K : Nat) (c : Nat × Nat), z_bst en cs ss ps nd K = some c → c.2 < K ∧ z_hd cs ss ps c.2 = some c.1 ∧ eR (en c.1) < nd
  | 0, c, h => by cases h
  | K + 1, c, h => by
    unfold z_bst at h
    cases hh : z_hd cs ss ps K with
    | none =>
      rw [hh] at h
      have := z_bst_some K c h
      exact ⟨by omega, this.2⟩
    | some a =>
      rw [hh] at h
      simp only at h
      by_cases hr : eR (en a) < nd
      · rw [if_pos hr] at h
        cases hb : z_bst en cs ss ps nd K with
        | none =>
          rw [hb] at h
          cases h
          exact ⟨by omega, hh, hr⟩
        | some c' =>
          rw [hb] at h
          simp only at h
          by_cases hz : z_ag (en a) (en c'.1) < 0
          · rw [if_pos hz] at h
            cases h
            exact ⟨by omega, hh, hr⟩
          · rw [if_neg hz] at h
            cases h
            have := z_bst_some K c hb
            exact ⟨by omega, this.2⟩
      · rw [if_neg hr] at h
        have := z_bst_some K c h
        exact ⟨by omega, this.2⟩
section MG2
variable {G : z_G} {A : Nat → Prop} {h : z_H}
theorem c_next {La : z_LA} {en : Nat → z_E7} {cs : Nat → List Nat} {ps : Nat → Nat} {g srcs at' out ds cap : Nat} {ss : List Nat} {q : z_Q5} {f : Nat → Int32} {nd : Int32} (hp : z_pool G h La) (h1 : h g = some (z_ob 1 (z_mgf srcs at' out q))) (h2 : La srcs = some (ds, ss, cap)) (h3 : h at' = some (z_ia G 300 f)) (hlen : ss.length ≤ 300) (hps : ∀ k, k < ss.length → f k = nI (ps k) ∧ ps k < 2 ^ 20) (hsr : ∀ s ∈ ss, z_src G h La s (cs s) ∧ z_ens h en (cs s) ∧ (cs s).length < 2 ^ 20) : z_C G A m_Mg_next 0 0 [.ref g, .int nd] h (fun v h' k n => v = some (z_bv (z_bst en cs ss ps nd ss.length)) ∧ k = 0 ∧ n = 0 ∧ h' = (match z_bst en cs ss ps nd ss.length with
    | none => h
    | some c => z_up h at' (z_ia G 300 (upd f c.2 (nI (ps c.2 + 1)))))) := by
  obtain ⟨f1, g1⟩ := P_ob hp h2
  refine z_C.of (by decide +kernel) rfl (Nat.le_of_ble_eq_true rfl) ?_
  intro x X
  have size : ∀ (s : Nat) (L : List (Option Value)) (st : List Value), s ∈ ss → L.length = 7 → (st.map fun v => v.category).sum ≤ 8 → z_V G A x h 0 0 47 L (.int (nI (cs s).length) :: st) → z_V G A x h 0 0 42 L (.ref s :: st) := by
    intro s L st hm hll hst kk
    rcases (hsr s hm).1 with ⟨al, d, cap, s1, s2⟩ | ⟨arr, w, c, f, s1, s2, s3⟩
    · exact z_callF X (c_Mt_size hp s1 s2) k_Mg_32_Mt d_Mg_next_42 s1 (show classes[3]? = some _ from rfl) rfl rfl hll (by decide) hst ⟨by omega, by omega⟩ (z_kp kk)
    · exact z_callF X (c_Ta_size s1 s2) k_Mg_32_Ta d_Mg_next_42 s1 (show classes[4]? = some _ from rfl) rfl rfl hll (by decide) hst ⟨by omega, by omega⟩ (z_kp kk)
  have atr : ∀ (s i b : Nat) (L : List (Option Value)) (st : List Value), s ∈ ss → (cs s)[i]? = some b → L.length = 7 → (st.map fun v => v.category).sum ≤ 8 → z_V G A x h 0 0 64 L (.ref b :: st) → z_V G A x h 0 0 59 L (.int (nI i) :: .ref s :: st) := by
    intro s i b L st hm hi hll hst kk
    have hil : i < (cs s).length := (List.getElem?_eq_some_iff.mp hi).1
    have hl := (hsr s hm).2.2
    rcases (hsr s hm).1 with ⟨al, d, cap, s1, s2⟩ | ⟨arr, w, c, f, s1, s2, s3⟩
    · exact z_callF X (c_Mt_at hp s1 s2 (hsr s hm).2.1 hi) k_Mg_47_Mt d_Mg_next_59 s1 (show classes[3]? = some _ from rfl) rfl rfl hll (by decide) hst ⟨by omega, by omega⟩ (z_kp kk)
    · exact z_callF X (c_Ta_at s1 s2 hil (by omega) ((s3 i hil).trans hi)) k_Mg_47_Ta d_Mg_next_59 s1 (show classes[4]? = some _ from rfl) rfl rfl hll (by decide) hst ⟨by omega, by omega⟩ (z_kp kk)
  have cast : ∀ (s : Nat) (L : List (Option Value)) (st : List Value), s ∈ ss → z_V G A x h 0 0 31 L (.ref s :: st) → z_V G A x h 0 0 28 L (.ref s :: st) := by
    intro s L st hm kk
    rcases (hsr s hm).1 with ⟨al, d, cap, s1, s2⟩ | ⟨arr, w, c, f, s1, s2, s3⟩
    · exact z_cast X cl_Mg_33 cs_Memtable d_Mg_next_28 s1 rfl rfl kk
    · exact z_cast X cl_Mg_33 cs_Table d_Mg_next_28 s1 rfl rfl kk
  have loop : ∀ (m k : Nat) (o5 o6 : Option Value), m + k = ss.length → z_V G A x h 0 0 7 [some (.ref g), some (.int nd), some (z_bv (z_bst en cs ss ps nd k)), some (.int (nI (z_bk (z_bst en cs ss ps nd k)))), some (.int (nI k)), o5, o6] [] := by
    intro m
    induction m with
    | zero =>
      intro k o5 o6 hk
      have hk : k = ss.length := by omega
      subst hk
      refine z_iload (pc' := 9) X d_Mg_next_7 rfl rfl ?_
      refine z_aload_n (pc' := 10) X d_Mg_next_9 rfl rfl ?_
      refine z_get (pc' := 13) X 0 f_Mg_12 d_Mg_next_10 (by assumption) rfl rfl ?_
      refine z_callV X (P_size hp h2) k_Mg_42 d_Mg_next_13 (by assumption) (show classes[6]? = some _ from rfl) rfl rfl rfl (by decide) (Nat.le_of_ble_eq_true rfl) ⟨by omega, by omega⟩ (z_kp ?_)
      refine z_icmp_ge (tgt := 109) (pc' := 19) X d_Mg_next_16 (by decide) rfl (fun c_16 => ?_) (fun c_16 => ?_)
      · cases hb : z_bst en cs ss ps nd ss.length with
        | none =>
          rw [hb] at X
          refine z_aload_nN (pc' := 110) X d_Mg_next_109 rfl rfl ?_
          refine z_ifnullN (pc' := 123) X d_Mg_next_110 (by decide) ?_
          refine z_aload_nN (pc' := 124) X d_Mg_next_123 rfl rfl ?_
          refine z_aret X rfl (Or.inl ⟨_, rfl⟩) (Or.inl rfl) d_Mg_next_124 ⟨rfl, rfl, rfl, rfl⟩
        | some c =>
          rw [hb] at X
          have hc := z_bst_some _ _ hb
          refine z_aload_n (pc' := 110) X d_Mg_next_109 rfl rfl ?_
          refine z_ifnullR (pc' := 113) X d_Mg_next_110 rfl ?_
          refine z_aload_n (pc' := 114) X d_Mg_next_113 rfl rfl ?_
          refine z_get (pc' := 117) X 1 f_Mg_18 d_Mg_next_114 (by assumption) rfl rfl ?_
          refine z_iload_n (pc' := 118) X d_Mg_next_117 rfl rfl ?_
          refine z_dup2 (pc' := 119) X d_Mg_next_118 rfl rfl rfl ?_
          refine z_iaload (pc' := 120) (i := c.2) X d_Mg_next_119 h3 (by omega) (by omega) rfl ?_
          refine z_iconst (pc' := 121) (v := 1) X d_Mg_next_120 (by decide) rfl ?_
          refine z_iadd (pc' := 122) X d_Mg_next_121 rfl ?_
          refine z_top (b := .int (nI (ps c.2 + 1))) (by rw [(hps c.2 hc.1).1, nI_1]) ?_
          refine z_iastore (pc' := 123) (i := c.2) X d_Mg_next_122 h3 (by omega) (by omega) rfl rfl ?_
          refine z_aload_n (pc' := 124) X d_Mg_next_123 rfl rfl ?_
          refine z_aret X rfl (Or.inl ⟨_, rfl⟩) (Or.inr ⟨_, rfl⟩) d_Mg_next_124 ⟨rfl, rfl, rfl, rfl⟩
      · exact absurd (nI_le (Nat.le_refl _) (by omega)) c_16
    | succ m ih =>
      intro k o5 o6 hk
      have hkl : k < ss.length := by omega
      obtain ⟨s, hs⟩ : ∃ s, ss[k]? = some s := ⟨_, List.getElem?_eq_getElem hkl⟩
      have hsm := List.mem_of_getElem? hs
      have hhd : z_hd cs ss ps k = (cs s)[ps k]? := by unfold z_hd; rw [hs]
      have hsl := (hsr s hsm).2.2
      obtain ⟨hfk, hpk⟩ := hps k hkl
      have tail : ∀ (b : Option (Nat × Nat)) (o6 : Option Value), z_bst en cs ss ps nd (k + 1) = b → z_V G A x h 0 0 103 [some (.ref g), some (.int nd), some (z_bv b), some (.int (nI (z_bk b))), some (.int (nI k)), some (.ref s), o6] [] := by
        intro b o6 hb
        subst hb
        refine z_iinc (pc' := 106) (w := nI (k + 1)) X d_Mg_next_103 rfl (z_i1 _) rfl rfl rfl ?_
        refine z_goto (pc' := 7) X d_Mg_next_106 (by decide) ?_
        exact ih (k + 1) _ _ (by omega)
      refine z_iload (pc' := 9) X d_Mg_next_7 rfl rfl ?_
      refine z_aload_n (pc' := 10) X d_Mg_next_9 rfl rfl ?_
      refine z_get (pc' := 13) X 0 f_Mg_12 d_Mg_next_10 (by assumption) rfl rfl ?_
      refine z_callV X (P_size hp h2) k_Mg_42 d_Mg_next_13 (by assumption) (show classes[6]? = some _ from rfl) rfl rfl rfl (by decide) (Nat.le_of_ble_eq_true rfl) ⟨by omega, by omega⟩ (z_kp ?_)
      refine z_icmp_ge (tgt := 109) (pc' := 19) X d_Mg_next_16 (by decide) rfl (fun c_16 => ?_) (fun c_16 => ?_)
      · exact absurd c_16 (nI_ge hkl (by omega))
      · refine z_aload_n (pc' := 20) X d_Mg_next_19 rfl rfl ?_
        refine z_get (pc' := 23) X 0 f_Mg_12 d_Mg_next_20 (by assumption) rfl rfl ?_
        refine z_iload (pc' := 25) X d_Mg_next_23 rfl rfl ?_
        refine z_callV X (P_get hp h2 hs) k_Mg_43 d_Mg_next_25 (by assumption) (show classes[6]? = some _ from rfl) rfl rfl rfl (by decide) (Nat.le_of_ble_eq_true rfl) ⟨by omega, by omega⟩ (z_kp ?_)
        refine cast s _ _ hsm ?_
        refine z_astore (pc' := 33) X d_Mg_next_31 rfl rfl rfl ?_
        refine z_aload_n (pc' := 34) X d_Mg_next_33 rfl rfl ?_
        refine z_get (pc' := 37) X 1 f_Mg_18 d_Mg_next_34 (by assumption) rfl rfl ?_
        refine z_iload (pc' := 39) X d_Mg_next_37 rfl rfl ?_
        refine z_iaload (pc' := 40) (i := k) X d_Mg_next_39 h3 (by omega) (by omega) rfl ?_
        refine z_top (b := .int (nI (ps k))) (by rw [hfk]) ?_
        refine z_aload (pc' := 42) X d_Mg_next_40 rfl rfl ?_
        refine size s _ _ hsm rfl (Nat.le_of_ble_eq_true rfl) ?_
        refine z_icmp_ge (tgt := 67) (pc' := 50) X d_Mg_next_47 (by decide) rfl (fun c_47 => ?_) (fun c_47 => ?_)
        · have hge : (cs s).length ≤ ps k := (nI_leI (by omega) (by omega)).mp c_47
          have hnone : z_hd cs ss ps k = none := by rw [hhd]; exact List.getElem?_eq_none hge
          refine z_anull (pc' := 68) X d_Mg_next_67 rfl ?_
          refine z_astoreN (pc' := 70) X d_Mg_next_68 rfl rfl rfl ?_
          refine z_aloadN (pc' := 72) X d_Mg_next_70 rfl rfl ?_
          refine z_ifnullN (pc' := 103) X d_Mg_next_72 (by decide) ?_
          exact tail _ _ (by show z_bst en cs ss ps nd (k + 1) = z_bst en cs ss ps nd k; rw [z_bst, hnone])
        · have hlt : ps k < (cs s).length := by
            rcases Nat.lt_or_ge (ps k) (cs s).length with q | q
            · exact q
            · exact absurd (nI_le q (by omega)) c_47
          obtain ⟨a, ha⟩ : ∃ a, (cs s)[ps k]? = some a := ⟨_, List.getElem?_eq_getElem hlt⟩
          have hsome : z_hd cs ss ps k = some a := by rw [hhd]; exact ha
          have hao := (hsr s hsm).2.1 a (List.mem_of_getElem? ha)
          refine z_aload (pc' := 52) X d_Mg_next_50 rfl rfl ?_
          refine z_aload_n (pc' := 53) X d_Mg_next_52 rfl rfl ?_
          refine z_get (pc' := 56) X 1 f_Mg_18 d_Mg_next_53 (by assumption) rfl rfl ?_
          refine z_iload (pc' := 58) X d_Mg_next_56 rfl rfl ?_
          refine z_iaload (pc' := 59) (i := k) X d_Mg_next_58 h3 (by omega) (by omega) rfl ?_
          refine z_top (b := .int (nI (ps k))) (by rw [hfk]) ?_
          refine atr s (ps k) a _ _ hsm ha rfl (Nat.le_of_ble_eq_true rfl) ?_
          refine z_goto (pc' := 68) X d_Mg_next_64 (by decide) ?_
          refine z_astore (pc' := 70) X d_Mg_next_68 rfl rfl rfl ?_
          refine z_aload (pc' := 72) X d_Mg_next_70 rfl rfl ?_
          refine z_ifnullR (pc' := 75) X d_Mg_next_72 rfl ?_
          refine z_aload (pc' := 77) X d_Mg_next_75 rfl rfl ?_
          refine z_get (pc' := 80) X 0 f_Mg_50 d_Mg_next_77 (by assumption) rfl rfl ?_
          refine z_iload_n (pc' := 81) X d_Mg_next_80 rfl rfl ?_
          refine z_icmp_ge (tgt := 103) (pc' := 84) X d_Mg_next_81 (by decide) rfl (fun c_81 => ?_) (fun c_81 => ?_)
          · exact tail _ _ (by rw [z_bst, hsome]; simp only [if_neg (Int32.not_lt.mpr c_81)])
          · have hr : eR (en a) < nd := Int32.not_le.mp c_81
            cases hb : z_bst en cs ss ps nd k with
            | none =>
              refine z_aload_nN (pc' := 85) X d_Mg_next_84 rfl rfl ?_
              refine z_ifnullN (pc' := 97) X d_Mg_next_85 (by decide) ?_
              refine z_aload (pc' := 99) X d_Mg_next_97 rfl rfl ?_
              refine z_astore_n (pc' := 100) X d_Mg_next_99 rfl rfl rfl ?_
              refine z_iload (pc' := 102) X d_Mg_next_100 rfl rfl ?_
              refine z_istore_n (pc' := 103) X d_Mg_next_102 rfl rfl rfl ?_
              exact tail (some (a, k)) _ (by rw [z_bst, hsome]; simp only [if_pos hr, hb])
            | some c =>
              have hc := z_bst_some _ _ hb
              have hco : h c.1 = some (z_ob 5 (z_ef (en c.1))) := by
                have h5 := hc.2.1
                unfold z_hd at h5
                cases h6 : ss[c.2]? with
                | none => rw [h6] at h5; cases h5
                | some s' =>
                  rw [h6] at h5
                  exact (hsr s' (List.mem_of_getElem? h6)).2.1 c.1 (List.mem_of_getElem? h5)
              refine z_aload_n (pc' := 85) X d_Mg_next_84 rfl rfl ?_
              refine z_ifnullR (pc' := 88) X d_Mg_next_85 rfl ?_
              refine z_aload (pc' := 90) X d_Mg_next_88 rfl rfl ?_
              refine z_aload_n (pc' := 91) X d_Mg_next_90 rfl rfl ?_
              refine z_callV X (c_against hao hco) k_Mg_53 d_Mg_next_91 (by assumption) (show classes[5]? = some _ from rfl) rfl rfl rfl (by decide) (Nat.le_of_ble_eq_true rfl) ⟨by omega, by omega⟩ (z_kp ?_)
              refine z_if_ge (tgt := 103) (pc' := 97) X d_Mg_next_94 (by decide) rfl (fun c_94 => ?_) (fun c_94 => ?_)
              · exact tail (some c) _ (by rw [z_bst, hsome]; simp only [if_pos hr, hb, if_neg (Int32.not_lt.mpr c_94)])
              · refine z_aload (pc' := 99) X d_Mg_next_97 rfl rfl ?_
                refine z_astore_n (pc' := 100) X d_Mg_next_99 rfl rfl rfl ?_
                refine z_iload (pc' := 102) X d_Mg_next_100 rfl rfl ?_
                refine z_istore_n (pc' := 103) X d_Mg_next_102 rfl rfl rfl ?_
                exact tail (some (a, k)) _ (by rw [z_bst, hsome]; simp only [if_pos hr, hb, if_pos (Int32.not_le.mp c_94)])
  refine z_anull (pc' := 1) X d_Mg_next_0 rfl ?_
  refine z_astore_nN (pc' := 2) X d_Mg_next_1 rfl rfl rfl ?_
  refine z_iconst (pc' := 3) (v := 0) X d_Mg_next_2 (by decide) rfl ?_
  refine z_istore_n (pc' := 4) X d_Mg_next_3 rfl rfl rfl ?_
  refine z_iconst (pc' := 5) (v := 0) X d_Mg_next_4 (by decide) rfl ?_
  refine z_istore (pc' := 7) X d_Mg_next_5 rfl rfl rfl ?_
  exact loop ss.length 0 none none (by omega)
end MG2
