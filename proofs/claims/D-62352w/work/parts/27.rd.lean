/-! reading: what stands, whether the expectation is met, surplus, looks -/
def z_WV (en : Nat → z_E7) (sc tt : Nat → List Nat) (tb : Nat → z_TB) (T : List Nat) : Prop := ∀ t ∈ T, (∀ a ∈ sc (bM (tb t)), z_va (en a)) ∧ ∀ s ∈ tt t, ∀ a ∈ sc s, z_va (en a)
/-- what stands in a row -/
def z_row (en : Nat → z_E7) (sc tt : Nat → List Nat) (tb : Nat → z_TB) (T : List Nat) (row : Int32) : List Nat := z_mo en sc (z_ne sc (bM (tb (z_tof tb T row)) :: tt (z_tof tb T row))) row (row + 1) (-1, 0, 0, 0, 0)
theorem z_run_mem {en : Nat → z_E7} {cs : Nat → List Nat} {ss : List Nat} {nd : Int32} : ∀ (n : Nat) (ps : Nat → Nat) (q : z_Q5) (a : Nat), a ∈ z_run en cs ss nd n ps q → ∃ s ∈ ss, a ∈ cs s
  | 0, _, _, a, h => absurd h List.not_mem_nil
  | n + 1, ps, q, a, h => by
    unfold z_run at h
    cases hb : z_bst en cs ss ps nd ss.length with
    | none => rw [hb] at h; exact absurd h List.not_mem_nil
    | some c =>
      rw [hb] at h
      rcases List.mem_append.mp h with h | h
      · split at h
        · rw [List.mem_singleton.mp h]
          have hc := (z_bst_some _ _ hb).2.1
          unfold z_hd at hc
          cases hs : ss[c.2]? with
          | none => rw [hs] at hc; cases hc
          | some s =>
            rw [hs] at hc
            exact ⟨s, List.mem_of_getElem? hs, List.mem_of_getElem? hc⟩
        · exact absurd h List.not_mem_nil
      · exact z_run_mem n _ _ a h
theorem z_run_q {en : Nat → z_E7} {cs : Nat → List Nat} {ss : List Nat} {nd : Int32} (hv : ∀ s ∈ ss, ∀ a ∈ cs s, eR (en a) ≠ -1) (n : Nat) (ps : Nat → Nat) (q q' : Int32 × Int32 × Int32 × Int32) : z_run en cs ss nd n ps (-1, q) = z_run en cs ss nd n ps (-1, q') := by
  cases n with
  | zero => rfl
  | succ n =>
    unfold z_run
    cases hb : z_bst en cs ss ps nd ss.length with
    | none => rfl
    | some c =>
      have hc := (z_bst_some _ _ hb).2.1
      have hr : eR (en c.1) ≠ -1 := by
        unfold z_hd at hc
        cases hs : ss[c.2]? with
        | none => rw [hs] at hc; cases hc
        | some s =>
          rw [hs] at hc
          exact hv s (List.mem_of_getElem? hs) _ (List.mem_of_getElem? hc)
      have e : ∀ q, z_en5 (-1, q) (en c.1) = z_en5 (-1, 0, 0, 0, 0) (en c.1) := fun q => by
        unfold z_en5
        simp only [if_neg hr]
      have e2 : ∀ q, z_st5 (-1, q) (en c.1) = z_st5 (-1, 0, 0, 0, 0) (en c.1) := fun q => by
        unfold z_st5
        rw [e q]
      simp only
      rw [e2 q, e2 q']
theorem z_va_r {e : z_E7} (hv : z_va e) : eR e ≠ -1 := fun q => by
  have h1 := hv.1
  rw [q] at h1
  exact absurd h1 (by decide)
def z_met (en : Nat → z_E7) (ag : Nat → Int32) (v : z_VS) (L : List Nat) : Bool := match L.find? (fun a => decide (eC (en a) = vEC v) && z_yg ag (vCk v) (en a)) with
  | some a => decide (¬ vSo v = 0) && decide (eV (en a) = vEV v)
  | none => decide (vSo v = 0)
def z_liv (en : Nat → z_E7) (ag : Nat → Int32) (ck c : Int32) (L : List Nat) : List Nat := L.filter (fun a => decide (eC (en a) = c) && z_yg ag ck (en a))
def z_sur (en : Nat → z_E7) (nu ag : Nat → Int32) (ck : Int32) (e : z_E7) (L : List Nat) : Option Nat := if nu (z_cx e) = 0 then none else if nu (z_cx e) < nI (z_liv en ag ck (eC e) L).length then (z_liv en ag ck (eC e) L).getLast? else none
def z_ov (r : Option Nat) : Value := match r with
  | none => .null
  | some a => .ref a
def z_lok (en : Nat → z_E7) (sc : Nat → List Nat) (l : List Nat) (row : Int32) : Nat := (l.map (fun s => z_lks en (sc s) row)).sum
section RD
variable {G : z_G} {A : Nat → Prop} {h : z_H} {o : Nat} {K : z_KA} {v : z_VS} {La : z_LA} {en : Nat → z_E7} {sc tt : Nat → List Nat} {tb : Nat → z_TB} {T B R : List Nat} {nu ag wa : Nat → Int32}
theorem z_mo_ok {t : Nat} {ss : List Nat} {fm nd : Int32} {q : z_Q5} (hi : z_I1 G h en sc tt tb t) (hv : (∀ a ∈ sc (bM (tb t)), z_va (en a)) ∧ ∀ s ∈ tt t, ∀ a ∈ sc s, z_va (en a)) (hs : ∀ s ∈ ss, s = bM (tb t) ∨ s ∈ tt t) : ∀ a ∈ z_mo en sc ss fm nd q, h a = some (z_ob 5 (z_ef (en a))) ∧ z_va (en a) := by
  intro a ha
  obtain ⟨s, h1, h2⟩ := z_run_mem _ _ _ a ha
  obtain ⟨i1, i2, i3, i4⟩ := hi
  rcases hs s h1 with rfl | h3
  · exact ⟨i3 a h2, hv.1 a h2⟩
  · exact ⟨(i4 s h3).2 a h2, hv.2 s h3 a h2⟩
theorem z_row_ok {row : Int32} (hI : z_I G h o K v La en sc tt tb T B R nu ag wa) (hv : z_WV en sc tt tb T) (hT : T ≠ []) : ∀ a ∈ z_row en sc tt tb T row, h a = some (z_ob 5 (z_ef (en a))) ∧ z_va (en a) := by
  have htm := z_tof_mem tb T row hT
  exact z_mo_ok (hI.2.2.2.1 _ htm) (hv _ htm) (fun s hs => List.mem_cons.mp (List.mem_filter.mp hs).1)
theorem c_std {row : Int32} (hI : z_I G h o K v La en sc tt tb T B R nu ag wa) (hT : T ≠ []) (hw : z_WS en sc tt tb T) (hv : z_WV en sc tt tb T) : z_C G A m_TC_standing 2100 10100 [.ref o, .int row] h (fun val h' k n => val = some (.ref (kOu K)) ∧ ∃ (La2 : z_LA) (d c : Nat), z_I G h' o K v La2 en sc tt tb T B R nu ag wa ∧ La2 (kOu K) = some (d, z_row en sc tt tb T row, c) ∧ z_ff G K h h' ∧ (∀ b, b ≠ kSr K → b ≠ kOu K → La2 b = La b) ∧ z_cu (z_Phi La (z_lst K tb T)) (z_Phi La2 (z_lst K tb T)) k n) := by
  have htm := z_tof_mem tb T row hT
  refine (c_standing hI hT hw).mono (fun _ val h' k n _ hp => ?_)
  obtain ⟨e1, La2, d, c, q, e2, e3, e4, e5, e6⟩ := hp
  refine ⟨e1, La2, d, c, e2, ?_, e4, e5, e6⟩
  rw [e3]
  unfold z_row z_mo
  rw [z_run_q (fun s hs a ha => ?_) _ _ q.2 (0, 0, 0, 0)]
  rcases List.mem_cons.mp (List.mem_filter.mp hs).1 with rfl | hs
  · exact z_va_r ((hv _ htm).1 a ha)
  · exact z_va_r ((hv _ htm).2 s hs a ha)
theorem c_isMet (hI : z_I G h o K v La en sc tt tb T B R nu ag wa) (hT : T ≠ []) (hw : z_WS en sc tt tb T) (hv : z_WV en sc tt tb T) : z_C G A m_TC_isMet 2100 10100 [.ref o] h (fun val h' k n => val = some (.int (bI (decide (vEx v = 0) || z_met en ag v (z_row en sc tt tb T (vER v))))) ∧ ∃ (La2 : z_LA), z_I G h' o K v La2 en sc tt tb T B R nu ag wa ∧ z_ff G K h h' ∧ z_cu (z_Phi La (z_lst K tb T)) (z_Phi La2 (z_lst K tb T)) k n) := by
  have j1 := hI.2.1.1
  refine z_C.of (by decide +kernel) rfl (Nat.le_of_ble_eq_true rfl) ?_
  intro x X
  refine z_aload_n (pc' := 1) X d_TC_isMet_0 rfl rfl ?_
  refine z_get (pc' := 4) X 4 f_TC_139 d_TC_isMet_1 (by assumption) rfl rfl ?_
  refine z_if_ne (tgt := 9) (pc' := 7) X d_TC_isMet_4 (by decide) rfl (fun c_4 => ?_) (fun c_4 => ?_)
  · refine z_aload_n (pc' := 10) X d_TC_isMet_9 rfl rfl ?_
    refine z_aload_n (pc' := 11) X d_TC_isMet_10 rfl rfl ?_
    refine z_get (pc' := 14) X 6 f_TC_142 d_TC_isMet_11 (by assumption) rfl rfl ?_
    refine z_callV X (c_std hI hT hw hv) k_TC_154 d_TC_isMet_14 (by assumption) (show classes[0]? = some _ from rfl) rfl rfl rfl (by decide) (Nat.le_of_ble_eq_true rfl) ⟨by omega, by omega⟩ (fun v_14 h_14 k_14 n_14 p_14 => ?_)
    obtain ⟨rfl, La2, d, c, r1, r2, r3, r4, r5⟩ := p_14
    have hok := z_row_ok (row := vER v) r1 hv hT
    have k1 := r1.2.1.1
    have k5 := r1.2.1.2.2.2.2.1
    obtain ⟨fs, g1⟩ := P_ob r1.1 r2
    have hlt := P_lt r1.1 r2
    obtain ⟨L, hL⟩ : ∃ L, z_row en sc tt tb T (vER v) = L := ⟨_, rfl⟩
    rw [hL] at r2 hok hlt
    have hfin : ∀ b : Bool, z_met en ag v L = b → some (Value.int (bI b)) = some (Value.int (bI (decide (vEx v = 0) || z_met en ag v (z_row en sc tt tb T (vER v))))) := fun b hb => by rw [hL, hb]; simp [c_4]
    have r51 := r5.2.1
    have r52 := r5.2.2
    have loop : ∀ (m i : Nat) (o3 : Option Value), m + i = L.length → z_met en ag v L = z_met en ag v (L.drop i) → z_V G A x h_14 (0 + k_14) (0 + n_14) 20 [some (.ref o), some (.ref (kOu K)), some (.int (nI i)), o3] [] := by
      intro m
      induction m with
      | zero =>
        intro i o3 hi hz
        have hi : i = L.length := by omega
        subst hi
        rw [List.drop_length] at hz
        refine z_iload_n (pc' := 21) X d_TC_isMet_20 rfl rfl ?_
        refine z_aload_n (pc' := 22) X d_TC_isMet_21 rfl rfl ?_
        refine z_callV X (P_size r1.1 r2) k_TC_79 d_TC_isMet_22 (by assumption) (show classes[6]? = some _ from rfl) rfl rfl rfl (by decide) (Nat.le_of_ble_eq_true rfl) ⟨by omega, by omega⟩ (z_kp ?_)
        refine z_icmp_ge (tgt := 86) (pc' := 28) X d_TC_isMet_25 (by decide) rfl (fun c_25 => ?_) (fun c_25 => ?_)
        · refine z_aload_n (pc' := 87) X d_TC_isMet_86 rfl rfl ?_
          refine z_get (pc' := 90) X 5 f_TC_148 d_TC_isMet_87 (by assumption) rfl rfl ?_
          refine z_if_ne (tgt := 97) (pc' := 93) X d_TC_isMet_90 (by decide) rfl (fun c_90 => ?_) (fun c_90 => ?_)
          · refine z_iconst (pc' := 98) (v := 0) X d_TC_isMet_97 (by decide) rfl ?_
            refine z_zret X rfl (Or.inl rfl) d_TC_isMet_98 ⟨hfin false (by rw [hz]; unfold z_met; simp [c_90]), La2, r1, r3, by rw [Nat.zero_add, Nat.zero_add]; exact r5⟩
          · refine z_iconst (pc' := 94) (v := 1) X d_TC_isMet_93 (by decide) rfl ?_
            refine z_goto (pc' := 98) X d_TC_isMet_94 (by decide) ?_
            refine z_zret X rfl (Or.inr rfl) d_TC_isMet_98 ⟨hfin true (by rw [hz]; unfold z_met; simp [c_90]), La2, r1, r3, by rw [Nat.zero_add, Nat.zero_add]; exact r5⟩
        · exact absurd (nI_le (Nat.le_refl _) (by omega)) c_25
      | succ m ih =>
        intro i o3 hi hz
        have hil : i < L.length := by omega
        have hg := List.getElem?_eq_getElem hil
        obtain ⟨hao, hav⟩ := hok _ (List.getElem_mem hil)
        have hdr : L.drop i = L[i] :: L.drop (i + 1) := List.drop_eq_getElem_cons hil
        have skip : (decide (eC (en L[i]) = vEC v) && z_yg ag (vCk v) (en L[i])) = false → z_met en ag v L = z_met en ag v (L.drop (i + 1)) := by
          intro hf
          rw [hz, hdr]
          unfold z_met
          rw [List.find?_cons_of_neg (by rw [hf]; decide)]
        refine z_iload_n (pc' := 21) X d_TC_isMet_20 rfl rfl ?_
        refine z_aload_n (pc' := 22) X d_TC_isMet_21 rfl rfl ?_
        refine z_callV X (P_size r1.1 r2) k_TC_79 d_TC_isMet_22 (by assumption) (show classes[6]? = some _ from rfl) rfl rfl rfl (by decide) (Nat.le_of_ble_eq_true rfl) ⟨by omega, by omega⟩ (z_kp ?_)
        refine z_icmp_ge (tgt := 86) (pc' := 28) X d_TC_isMet_25 (by decide) rfl (fun c_25 => ?_) (fun c_25 => ?_)
        · exact absurd c_25 (nI_ge hil (by omega))
        · refine z_aload_n (pc' := 29) X d_TC_isMet_28 rfl rfl ?_
          refine z_iload_n (pc' := 30) X d_TC_isMet_29 rfl rfl ?_
          refine z_callV X (P_get r1.1 r2 hg) k_TC_80 d_TC_isMet_30 (by assumption) (show classes[6]? = some _ from rfl) rfl rfl rfl (by decide) (Nat.le_of_ble_eq_true rfl) ⟨by omega, by omega⟩ (z_kp ?_)
          refine z_cast (pc' := 36) X cl_TC_12 ca_Entry d_TC_isMet_33 (by assumption) rfl rfl ?_
          refine z_astore_n (pc' := 37) X d_TC_isMet_36 rfl rfl rfl ?_
          refine z_aload_n (pc' := 38) X d_TC_isMet_37 rfl rfl ?_
          refine z_get (pc' := 41) X 1 f_TC_87 d_TC_isMet_38 (by assumption) rfl rfl ?_
          refine z_aload_n (pc' := 42) X d_TC_isMet_41 rfl rfl ?_
          refine z_get (pc' := 45) X 7 f_TC_145 d_TC_isMet_42 (by assumption) rfl rfl ?_
          refine z_icmp_ne (tgt := 80) (pc' := 48) X d_TC_isMet_45 (by decide) rfl (fun c_45 => ?_) (fun c_45 => ?_)
          · refine z_iinc (pc' := 83) (w := nI (i + 1)) X d_TC_isMet_80 rfl (z_i1 _) rfl rfl rfl ?_
            refine z_goto (pc' := 20) X d_TC_isMet_83 (by decide) ?_
            exact ih (i + 1) _ (by omega) (skip (by simp [c_45]))
          · refine z_aload_n (pc' := 49) X d_TC_isMet_48 rfl rfl ?_
            refine z_aload_n (pc' := 50) X d_TC_isMet_49 rfl rfl ?_
            refine z_callV X (c_young k1 k5 hao hav) k_TC_158 d_TC_isMet_50 (by assumption) (show classes[0]? = some _ from rfl) rfl rfl rfl (by decide) (Nat.le_of_ble_eq_true rfl) ⟨by omega, by omega⟩ (z_kp ?_)
            cases hy : z_yg ag (vCk v) (en L[i]) with
            | false =>
              refine z_if_eq (tgt := 80) (pc' := 56) X d_TC_isMet_53 (by decide) rfl (fun _ => ?_) (fun q => absurd rfl q)
              refine z_iinc (pc' := 83) (w := nI (i + 1)) X d_TC_isMet_80 rfl (z_i1 _) rfl rfl rfl ?_
              refine z_goto (pc' := 20) X d_TC_isMet_83 (by decide) ?_
              exact ih (i + 1) _ (by omega) (skip (by rw [hy]; simp))
            | true =>
              refine z_if_eq (tgt := 80) (pc' := 56) X d_TC_isMet_53 (by decide) rfl (fun q => absurd q (by decide)) (fun _ => ?_)
              have hmt : z_met en ag v L = (decide (¬ vSo v = 0) && decide (eV (en L[i]) = vEV v)) := by
                rw [hz, hdr]
                unfold z_met
                rw [List.find?_cons_of_pos (by rw [hy]; simp [c_45])]
              refine z_aload_n (pc' := 57) X d_TC_isMet_56 rfl rfl ?_
              refine z_get (pc' := 60) X 5 f_TC_148 d_TC_isMet_57 (by assumption) rfl rfl ?_
              refine z_if_eq (tgt := 78) (pc' := 63) X d_TC_isMet_60 (by decide) rfl (fun c_60 => ?_) (fun c_60 => ?_)
              · refine z_iconst (pc' := 79) (v := 0) X d_TC_isMet_78 (by decide) rfl ?_
                refine z_zret X rfl (Or.inl rfl) d_TC_isMet_79 ⟨hfin false (by rw [hmt]; simp [c_60]), La2, r1, r3, by rw [Nat.zero_add, Nat.zero_add]; exact r5⟩
              · refine z_aload_n (pc' := 64) X d_TC_isMet_63 rfl rfl ?_
                refine z_get (pc' := 67) X 4 f_TC_161 d_TC_isMet_64 (by assumption) rfl rfl ?_
                refine z_aload_n (pc' := 68) X d_TC_isMet_67 rfl rfl ?_
                refine z_get (pc' := 71) X 8 f_TC_151 d_TC_isMet_68 (by assumption) rfl rfl ?_
                refine z_icmp_ne (tgt := 78) (pc' := 74) X d_TC_isMet_71 (by decide) rfl (fun c_71 => ?_) (fun c_71 => ?_)
                · refine z_iconst (pc' := 79) (v := 0) X d_TC_isMet_78 (by decide) rfl ?_
                  refine z_zret X rfl (Or.inl rfl) d_TC_isMet_79 ⟨hfin false (by rw [hmt]; simp [c_71]), La2, r1, r3, by rw [Nat.zero_add, Nat.zero_add]; exact r5⟩
                · refine z_iconst (pc' := 75) (v := 1) X d_TC_isMet_74 (by decide) rfl ?_
                  refine z_goto (pc' := 79) X d_TC_isMet_75 (by decide) ?_
                  refine z_zret X rfl (Or.inr rfl) d_TC_isMet_79 ⟨hfin true (by rw [hmt]; simp [c_60, c_71]), La2, r1, r3, by rw [Nat.zero_add, Nat.zero_add]; exact r5⟩
    refine z_astore_n (pc' := 18) X d_TC_isMet_17 rfl rfl rfl ?_
    refine z_iconst (pc' := 19) (v := 0) X d_TC_isMet_18 (by decide) rfl ?_
    refine z_istore_n (pc' := 20) X d_TC_isMet_19 rfl rfl rfl ?_
    exact loop L.length 0 none (by omega) (by rw [List.drop_zero])
  · refine z_iconst (pc' := 8) (v := 1) X d_TC_isMet_7 (by decide) rfl ?_
    refine z_zret X rfl (Or.inr rfl) d_TC_isMet_8 ⟨by simp [c_4, bI], La, hI, z_ff_rf, ⟨by omega, by omega⟩, by omega, by omega⟩
theorem c_surplus {a : Nat} {e : z_E7} (hI : z_I G h o K v La en sc tt tb T B R nu ag wa) (hT : T ≠ []) (hw : z_WS en sc tt tb T) (hv : z_WV en sc tt tb T) (ha : h a = some (z_ob 5 (z_ef e))) (hc0 : 0 ≤ (eC e).toInt) (hc8 : (eC e).toInt < 8) : z_C G A m_TC_surplus 2100 10100 [.ref o, .ref a] h (fun val h' k n => val = some (z_ov (z_sur en nu ag (vCk v) e (z_row en sc tt tb T (eR e)))) ∧ ∃ (La2 : z_LA), z_I G h' o K v La2 en sc tt tb T B R nu ag wa ∧ z_ff G K h h' ∧ (∀ b, b ≠ kSr K → b ≠ kOu K → La2 b = La b) ∧ z_cu (z_Phi La (z_lst K tb T)) (z_Phi La2 (z_lst K tb T)) k n) := by
  have j1 := hI.2.1.1
  have j4 := hI.2.1.2.2.2.1
  have hcne : ¬ eC e = -1 := fun q => by rw [q] at hc0; exact absurd hc0 (by decide)
  have hcx : z_cx e = (eC e).toInt.toNat / 4 := by unfold z_cx; rw [if_neg hcne]
  refine z_C.of (by decide +kernel) rfl (Nat.le_of_ble_eq_true rfl) ?_
  intro x X
  refine z_aload_n (pc' := 1) X d_TC_surplus_0 rfl rfl ?_
  refine z_get (pc' := 4) X 0 f_TC_23 d_TC_surplus_1 (by assumption) rfl rfl ?_
  refine z_aload_n (pc' := 5) X d_TC_surplus_4 rfl rfl ?_
  refine z_get (pc' := 8) X 1 f_TC_87 d_TC_surplus_5 (by assumption) rfl rfl ?_
  refine z_iconst (pc' := 9) (v := 4) X d_TC_surplus_8 (by decide) rfl ?_
  refine z_idiv (pc' := 10) X d_TC_surplus_9 (by decide) rfl ?_
  refine z_top (b := .int (nI (z_cx e))) (by rw [hcx, z_ofnat hc0, show (4 : Int32) = nI 4 from rfl, pk_div (by omega) (by omega) (by omega), ← z_ofnat hc0]) ?_
  refine z_iaload (pc' := 11) X d_TC_surplus_10 j4 (by omega) (by omega) rfl ?_
  refine z_istore_n (pc' := 12) X d_TC_surplus_11 rfl rfl rfl ?_
  refine z_iload_n (pc' := 13) X d_TC_surplus_12 rfl rfl ?_
  refine z_if_ne (tgt := 18) (pc' := 16) X d_TC_surplus_13 (by decide) rfl (fun c_13 => ?_) (fun c_13 => ?_)
  · refine z_aload_n (pc' := 19) X d_TC_surplus_18 rfl rfl ?_
    refine z_aload_n (pc' := 20) X d_TC_surplus_19 rfl rfl ?_
    refine z_get (pc' := 23) X 0 f_TC_11 d_TC_surplus_20 (by assumption) rfl rfl ?_
    refine z_callV X (c_std hI hT hw hv) k_TC_154 d_TC_surplus_23 (by assumption) (show classes[0]? = some _ from rfl) rfl rfl rfl (by decide) (Nat.le_of_ble_eq_true rfl) ⟨by omega, by omega⟩ (fun v_23 h_23 k_23 n_23 p_23 => ?_)
    obtain ⟨rfl, La2, d, c, r1, r2, r3, r4, r5⟩ := p_23
    have hok := z_row_ok (row := eR e) r1 hv hT
    have k1 := r1.2.1.1
    have k5 := r1.2.1.2.2.2.2.1
    have hao := r3 _ _ ha (Or.inl ⟨5, _, rfl, by decide, by decide⟩)
    obtain ⟨fs, g1⟩ := P_ob r1.1 r2
    have hlt := P_lt r1.1 r2
    obtain ⟨L, hL⟩ : ∃ L, z_row en sc tt tb T (eR e) = L := ⟨_, rfl⟩
    rw [hL] at r2 hok hlt
    have hfin : ∀ y, z_sur en nu ag (vCk v) e L = y → some (z_ov y) = some (z_ov (z_sur en nu ag (vCk v) e (z_row en sc tt tb T (eR e)))) := fun y hy => by rw [hL, hy]
    have r51 := r5.2.1
    have r52 := r5.2.2
    have loop : ∀ (m i : Nat) (o7 : Option Value), m + i = L.length → z_V G A x h_23 (0 + k_23) (0 + n_23) 36 [some (.ref o), some (.ref a), some (.int (nu (z_cx e))), some (.ref (kOu K)), some (z_ov (z_liv en ag (vCk v) (eC e) (L.take i)).getLast?), some (.int (nI (z_liv en ag (vCk v) (eC e) (L.take i)).length)), some (.int (nI i)), o7] [] := by
      intro m
      induction m with
      | zero =>
        intro i o7 hi
        have hi : i = L.length := by omega
        subst hi
        rw [List.take_length]
        refine z_iload (pc' := 38) X d_TC_surplus_36 rfl rfl ?_
        refine z_aload_n (pc' := 39) X d_TC_surplus_38 rfl rfl ?_
        refine z_callV X (P_size r1.1 r2) k_TC_79 d_TC_surplus_39 (by assumption) (show classes[6]? = some _ from rfl) rfl rfl rfl (by decide) (Nat.le_of_ble_eq_true rfl) ⟨by omega, by omega⟩ (z_kp ?_)
        refine z_icmp_ge (tgt := 90) (pc' := 45) X d_TC_surplus_42 (by decide) rfl (fun c_42 => ?_) (fun c_42 => ?_)
        · refine z_iload (pc' := 92) X d_TC_surplus_90 rfl rfl ?_
          refine z_iload_n (pc' := 93) X d_TC_surplus_92 rfl rfl ?_
          refine z_icmp_le (tgt := 101) (pc' := 96) X d_TC_surplus_93 (by decide) rfl (fun c_93 => ?_) (fun c_93 => ?_)
          · refine z_anull (pc' := 102) X d_TC_surplus_101 rfl ?_
            refine z_aret X rfl (Or.inl ⟨_, rfl⟩) (Or.inl rfl) d_TC_surplus_102 ⟨hfin none (by unfold z_sur; rw [if_neg c_13, if_neg (Int32.not_lt.mpr c_93)]), La2, r1, r3, r4, by rw [Nat.zero_add, Nat.zero_add]; exact r5⟩
          · have hs : z_sur en nu ag (vCk v) e L = (z_liv en ag (vCk v) (eC e) L).getLast? := by
              unfold z_sur
              rw [if_neg c_13, if_pos (Int32.not_le.mp c_93)]
            cases hgl : (z_liv en ag (vCk v) (eC e) L).getLast? with
            | none =>
              refine z_aloadN (pc' := 98) X d_TC_surplus_96 rfl rfl ?_
              refine z_goto (pc' := 102) X d_TC_surplus_98 (by decide) ?_
              refine z_aret X rfl (Or.inl ⟨_, rfl⟩) (Or.inl rfl) d_TC_surplus_102 ⟨hfin none (hs.trans hgl), La2, r1, r3, r4, by rw [Nat.zero_add, Nat.zero_add]; exact r5⟩
            | some y =>
              refine z_aload (pc' := 98) X d_TC_surplus_96 rfl rfl ?_
              refine z_goto (pc' := 102) X d_TC_surplus_98 (by decide) ?_
              refine z_aret X rfl (Or.inl ⟨_, rfl⟩) (Or.inr ⟨_, rfl⟩) d_TC_surplus_102 ⟨hfin (some y) (hs.trans hgl), La2, r1, r3, r4, by rw [Nat.zero_add, Nat.zero_add]; exact r5⟩
        · exact absurd (nI_le (Nat.le_refl _) (by omega)) c_42
      | succ m ih =>
        intro i o7 hi
        have hil : i < L.length := by omega
        have hg := List.getElem?_eq_getElem hil
        obtain ⟨hbo, hbv⟩ := hok _ (List.getElem_mem hil)
        have htk : L.take (i + 1) = L.take i ++ [L[i]] := by rw [List.take_add_one, hg]; rfl
        have skip : (decide (eC (en L[i]) = eC e) && z_yg ag (vCk v) (en L[i])) = false → z_liv en ag (vCk v) (eC e) (L.take (i + 1)) = z_liv en ag (vCk v) (eC e) (L.take i) := by
          intro hf
          rw [htk]
          unfold z_liv
          rw [List.filter_append, List.filter_cons_of_neg (by rw [hf]; decide), List.filter_nil, List.append_nil]
        refine z_iload (pc' := 38) X d_TC_surplus_36 rfl rfl ?_
        refine z_aload_n (pc' := 39) X d_TC_surplus_38 rfl rfl ?_
        refine z_callV X (P_size r1.1 r2) k_TC_79 d_TC_surplus_39 (by assumption) (show classes[6]? = some _ from rfl) rfl rfl rfl (by decide) (Nat.le_of_ble_eq_true rfl) ⟨by omega, by omega⟩ (z_kp ?_)
        refine z_icmp_ge (tgt := 90) (pc' := 45) X d_TC_surplus_42 (by decide) rfl (fun c_42 => ?_) (fun c_42 => ?_)
        · exact absurd c_42 (nI_ge hil (by omega))
        · refine z_aload_n (pc' := 46) X d_TC_surplus_45 rfl rfl ?_
          refine z_iload (pc' := 48) X d_TC_surplus_46 rfl rfl ?_
          refine z_callV X (P_get r1.1 r2 hg) k_TC_80 d_TC_surplus_48 (by assumption) (show classes[6]? = some _ from rfl) rfl rfl rfl (by decide) (Nat.le_of_ble_eq_true rfl) ⟨by omega, by omega⟩ (z_kp ?_)
          refine z_cast (pc' := 54) X cl_TC_12 ca_Entry d_TC_surplus_51 (by assumption) rfl rfl ?_
          refine z_astore (pc' := 56) X d_TC_surplus_54 rfl rfl rfl ?_
          refine z_aload (pc' := 58) X d_TC_surplus_56 rfl rfl ?_
          refine z_get (pc' := 61) X 1 f_TC_87 d_TC_surplus_58 (by assumption) rfl rfl ?_
          refine z_aload_n (pc' := 62) X d_TC_surplus_61 rfl rfl ?_
          refine z_get (pc' := 65) X 1 f_TC_87 d_TC_surplus_62 (by assumption) rfl rfl ?_
          refine z_icmp_ne (tgt := 84) (pc' := 68) X d_TC_surplus_65 (by decide) rfl (fun c_65 => ?_) (fun c_65 => ?_)
          · refine z_iinc (pc' := 87) (w := nI (i + 1)) X d_TC_surplus_84 rfl (z_i1 _) rfl rfl rfl ?_
            refine z_goto (pc' := 36) X d_TC_surplus_87 (by decide) ?_
            rw [← skip (by simp [c_65])]
            exact ih (i + 1) _ (by omega)
          · refine z_aload_n (pc' := 69) X d_TC_surplus_68 rfl rfl ?_
            refine z_aload (pc' := 71) X d_TC_surplus_69 rfl rfl ?_
            refine z_callV X (c_young k1 k5 hbo hbv) k_TC_158 d_TC_surplus_71 (by assumption) (show classes[0]? = some _ from rfl) rfl rfl rfl (by decide) (Nat.le_of_ble_eq_true rfl) ⟨by omega, by omega⟩ (z_kp ?_)
            cases hy : z_yg ag (vCk v) (en L[i]) with
            | false =>
              refine z_if_eq (tgt := 84) (pc' := 77) X d_TC_surplus_74 (by decide) rfl (fun _ => ?_) (fun q => absurd rfl q)
              refine z_iinc (pc' := 87) (w := nI (i + 1)) X d_TC_surplus_84 rfl (z_i1 _) rfl rfl rfl ?_
              refine z_goto (pc' := 36) X d_TC_surplus_87 (by decide) ?_
              rw [← skip (by rw [hy]; simp)]
              exact ih (i + 1) _ (by omega)
            | true =>
              refine z_if_eq (tgt := 84) (pc' := 77) X d_TC_surplus_74 (by decide) rfl (fun q => absurd q (by decide)) (fun _ => ?_)
              have ht : z_liv en ag (vCk v) (eC e) (L.take (i + 1)) = z_liv en ag (vCk v) (eC e) (L.take i) ++ [L[i]] := by
                rw [htk]
                unfold z_liv
                rw [List.filter_append, List.filter_cons_of_pos (by rw [hy]; simp [c_65]), List.filter_nil]
              have hlen : (z_liv en ag (vCk v) (eC e) (L.take (i + 1))).length = (z_liv en ag (vCk v) (eC e) (L.take i)).length + 1 := by rw [ht, List.length_append]; rfl
              have hlast : z_ov (z_liv en ag (vCk v) (eC e) (L.take (i + 1))).getLast? = .ref L[i] := by rw [ht, List.getLast?_append]; rfl
              have h2 := ih (i + 1) (some (.ref L[i])) (by omega)
              rw [hlast, hlen] at h2
              refine z_aload (pc' := 79) X d_TC_surplus_77 rfl rfl ?_
              refine z_astore (pc' := 81) X d_TC_surplus_79 rfl rfl rfl ?_
              refine z_iinc (pc' := 84) (w := nI ((z_liv en ag (vCk v) (eC e) (L.take i)).length + 1)) X d_TC_surplus_81 rfl (z_i1 _) rfl rfl rfl ?_
              refine z_iinc (pc' := 87) (w := nI (i + 1)) X d_TC_surplus_84 rfl (z_i1 _) rfl rfl rfl ?_
              refine z_goto (pc' := 36) X d_TC_surplus_87 (by decide) ?_
              exact h2
    refine z_astore_n (pc' := 27) X d_TC_surplus_26 rfl rfl rfl ?_
    refine z_anull (pc' := 28) X d_TC_surplus_27 rfl ?_
    refine z_astoreN (pc' := 30) X d_TC_surplus_28 rfl rfl rfl ?_
    refine z_iconst (pc' := 31) (v := 0) X d_TC_surplus_30 (by decide) rfl ?_
    refine z_istore (pc' := 33) X d_TC_surplus_31 rfl rfl rfl ?_
    refine z_iconst (pc' := 34) (v := 0) X d_TC_surplus_33 (by decide) rfl ?_
    refine z_istore (pc' := 36) X d_TC_surplus_34 rfl rfl rfl ?_
    exact loop L.length 0 none (by omega)
  · refine z_anull (pc' := 17) X d_TC_surplus_16 rfl ?_
    refine z_aret X rfl (Or.inl ⟨_, rfl⟩) (Or.inl rfl) d_TC_surplus_17 ⟨by unfold z_sur; rw [if_pos c_13]; rfl, La, hI, z_ff_rf, fun _ _ _ => rfl, ⟨by omega, by omega⟩, by omega, by omega⟩
theorem c_look {row : Int32} (hI : z_I G h o K v La en sc tt tb T B R nu ag wa) (hT : T ≠ []) (hw : z_WS en sc tt tb T) (h0 : 0 ≤ row) (h1 : row < 64) : z_C G A m_TC_look 0 0 [.ref o, .int row] h (fun val h' k n => val = none ∧ k = 0 ∧ n = 0 ∧ z_I G h' o K (vEx v, vSo v, vER v, vEC v, vEV v, vBs v, vLg v, vSq v, vCk v, vLk v + nI (z_lok en sc (tt (z_tof tb T row)) row), vTo v) La en sc tt tb T B R nu ag wa ∧ z_ff G K h h') := by
  obtain ⟨⟨d1, c1, l1, m1⟩, -, -, -, -, -, l7, l8⟩ := hI.2.2.1
  have htm := z_tof_mem tb T row hT
  have j1 := hI.2.1.1
  refine z_C.of (by decide +kernel) rfl (Nat.le_of_ble_eq_true rfl) ?_
  intro x X
  refine z_aload_n (pc' := 1) X d_TC_look_0 rfl rfl ?_
  refine z_iload_n (pc' := 2) X d_TC_look_1 rfl rfl ?_
  refine z_callV X (c_tabletOf hI.1 j1 l1 hT (fun t ht => (hI.2.2.2.1 t ht).1)) k_TC_100 d_TC_look_2 (by assumption) (show classes[0]? = some _ from rfl) rfl rfl rfl (by decide) (Nat.le_of_ble_eq_true rfl) ⟨by omega, by omega⟩ (z_kp ?_)
  generalize htd : z_tof tb T row = t at htm X
  obtain ⟨-, ⟨db, cb, lb, mb⟩⟩ := l7 t htm
  obtain ⟨w1, w2, w3, w4⟩ := z_WS_t hw htm
  have loop : ∀ (m i : Nat) (hh : z_H), m + i = (tt t).length → z_I G hh o K (vEx v, vSo v, vER v, vEC v, vEV v, vBs v, vLg v, vSq v, vCk v, vLk v + nI (z_lok en sc ((tt t).take i) row), vTo v) La en sc tt tb T B R nu ag wa → z_ff G K h hh → z_V G A x hh 0 0 8 [some (.ref o), some (.int row), some (.ref t), some (.int (nI i))] [] := by
    intro m
    induction m with
    | zero =>
      intro i hh hi hI' hff
      have hi : i = (tt t).length := by omega
      subst hi
      rw [List.take_length] at hI'
      have u1 := (hI'.2.2.2.1 t htm).1
      obtain ⟨fs, g1⟩ := P_ob hI'.1 lb
      refine z_iload_n (pc' := 9) X d_TC_look_8 rfl rfl ?_
      refine z_aload_n (pc' := 10) X d_TC_look_9 rfl rfl ?_
      refine z_get (pc' := 13) X 3 f_TC_114 d_TC_look_10 (by assumption) rfl rfl ?_
      refine z_callV X (P_size hI'.1 lb) k_TC_79 d_TC_look_13 (by assumption) (show classes[6]? = some _ from rfl) rfl rfl rfl (by decide) (Nat.le_of_ble_eq_true rfl) ⟨by omega, by omega⟩ (z_kp ?_)
      refine z_icmp_ge (tgt := 49) (pc' := 19) X d_TC_look_16 (by decide) rfl (fun c_16 => ?_) (fun c_16 => ?_)
      · exact z_vret X rfl d_TC_look_49 (⟨rfl, rfl, rfl, hI', hff⟩)
      · exact absurd (nI_le (Nat.le_refl _) (by omega)) c_16
    | succ m ih =>
      intro i hh hi hI' hff
      have hil : i < (tt t).length := by omega
      have hg := List.getElem?_eq_getElem hil
      obtain ⟨u1, u2, u3, u4⟩ := hI'.2.2.2.1 t htm
      obtain ⟨u5, u6⟩ := u4 _ (List.getElem_mem hil)
      have u50 := u5
      obtain ⟨arr, f, s1, s2, s3⟩ := u5
      have hwt := ((hw.1 t htm).2 _ (List.getElem_mem hil)).1
      have hln := w4 _ (List.getElem_mem hil)
      have ho := hI'.2.1.1
      obtain ⟨fs, g1⟩ := P_ob hI'.1 lb
      refine z_iload_n (pc' := 9) X d_TC_look_8 rfl rfl ?_
      refine z_aload_n (pc' := 10) X d_TC_look_9 rfl rfl ?_
      refine z_get (pc' := 13) X 3 f_TC_114 d_TC_look_10 (by assumption) rfl rfl ?_
      refine z_callV X (P_size hI'.1 lb) k_TC_79 d_TC_look_13 (by assumption) (show classes[6]? = some _ from rfl) rfl rfl rfl (by decide) (Nat.le_of_ble_eq_true rfl) ⟨by omega, by omega⟩ (z_kp ?_)
      refine z_icmp_ge (tgt := 49) (pc' := 19) X d_TC_look_16 (by decide) rfl (fun c_16 => ?_) (fun c_16 => ?_)
      · exact absurd c_16 (nI_ge hil (by omega))
      · refine z_aload_n (pc' := 20) X d_TC_look_19 rfl rfl ?_
        refine z_dup (pc' := 21) X d_TC_look_20 rfl rfl ?_
        refine z_get (pc' := 24) X 17 f_TC_211 d_TC_look_21 (by assumption) rfl rfl ?_
        refine z_aload_n (pc' := 25) X d_TC_look_24 rfl rfl ?_
        refine z_get (pc' := 28) X 3 f_TC_114 d_TC_look_25 (by assumption) rfl rfl ?_
        refine z_iload_n (pc' := 29) X d_TC_look_28 rfl rfl ?_
        refine z_callV X (P_get hI'.1 lb hg) k_TC_80 d_TC_look_29 (by assumption) (show classes[6]? = some _ from rfl) rfl rfl rfl (by decide) (Nat.le_of_ble_eq_true rfl) ⟨by omega, by omega⟩ (z_kp ?_)
        refine z_cast (pc' := 35) X cl_TC_214 ca_Table d_TC_look_32 (by assumption) rfl rfl ?_
        refine z_iload_n (pc' := 36) X d_TC_look_35 rfl rfl ?_
        refine z_callV X (c_looks hI'.1 u50 u6 hwt (by omega) h0 h1) k_TC_216 d_TC_look_36 (by assumption) (show classes[4]? = some _ from rfl) rfl rfl rfl (by decide) (Nat.le_of_ble_eq_true rfl) ⟨by omega, by omega⟩ (z_kp ?_)
        refine z_iadd (pc' := 40) X d_TC_look_39 rfl ?_
        refine z_top (b := .int (vLk v + nI (z_lok en sc ((tt t).take (i + 1)) row))) ?_ ?_
        · unfold z_lok
          rw [z_sumtk hg, ← nI_add, ← Int32.add_assoc]
        refine z_put (pc' := 43) X 17 f_TC_211 (g_TC_211 _) d_TC_look_40 (by assumption) rfl rfl rfl rfl rfl ?_
        refine z_iinc (pc' := 46) (w := nI (i + 1)) X d_TC_look_43 rfl (z_i1 _) rfl rfl rfl ?_
        refine z_goto (pc' := 8) X d_TC_look_46 (by decide) ?_
        have hv := z_I_v hI' (vEx v, vSo v, vER v, vEC v, vEV v, vBs v, vLg v, vSq v, vCk v, vLk v + nI (z_lok en sc ((tt t).take (i + 1)) row), vTo v)
        exact ih (i + 1) _ (by omega) hv.1 (z_ff_tr hff hv.2)
  refine z_astore_n (pc' := 6) X d_TC_look_5 rfl rfl rfl ?_
  refine z_iconst (pc' := 7) (v := 0) X d_TC_look_6 (by decide) rfl ?_
  refine z_istore_n (pc' := 8) X d_TC_look_7 rfl rfl rfl ?_
  refine loop (tt t).length 0 h (by omega) ?_ z_ff_rf
  have e : vLk v + nI (z_lok en sc ((tt t).take 0) row) = vLk v := by
    show vLk v + nI 0 = vLk v
    rw [nI_0]
    exact Int32.add_zero _
  rw [e]
  exact hI
end RD
