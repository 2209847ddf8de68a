/-! apply -/
/-- the entries of a batch are entered, one by one, each followed by the erasure of the surplus -/
def z_AP (nu ag : Nat → Int32) (ck : Int32) (tt : Nat → List Nat) (tb : Nat → z_TB) (T BR : List Nat) (m b : Nat) : List Nat → z_S4 → z_S4 → Prop
  | [], S, S' => S' = S
  | a :: l, S, S' => ∃ S1, z_ET m b a S S1 ∧ (((eL (S1.1 a) = 0 ∨ z_sur S1.1 nu ag ck (S1.1 a) (z_row S1.1 S1.2.1 tt tb T (eR (S1.1 a))) = none) ∧ z_AP nu ag ck tt tb T BR m b l S1 S') ∨ (¬ eL (S1.1 a) = 0 ∧ ∃ x c S2, z_sur S1.1 nu ag ck (S1.1 a) (z_row S1.1 S1.2.1 tt tb T (eR (S1.1 a))) = some x ∧ c ∉ z_all S1.2.1 tt tb T ∧ c ∉ BR ∧ z_ET m b c (z_eu S1.1 c (eR (S1.1 x), eC (S1.1 x), eT (S1.1 x), 0, 0, 0, 0), S1.2) S2 ∧ z_AP nu ag ck tt tb T BR m b l S2 S'))
section APP
variable {G : z_G} {A : Nat → Prop} {h : z_H} {o : Nat} {K : z_KA} {v : z_VS} {La : z_LA} {en : Nat → z_E7} {sc tt : Nat → List Nat} {tb : Nat → z_TB} {T B R : List Nat} {nu ag wa : Nat → Int32}
theorem z_Phi_maxI (hI : z_I G h o K v La en sc tt tb T B R nu ag wa) (hT : T.length ≤ 8) : z_Phi La (z_lst K tb T) ≤ 61000 := by
  have := z_Phi_max (z_J_of hI).2.2.1
  omega
theorem z_sur_mem {ck : Int32} {e : z_E7} {L : List Nat} {x : Nat} (h : z_sur en nu ag ck e L = some x) : x ∈ L := by
  unfold z_sur at h
  split at h
  · cases h
  · split at h
    · have := List.mem_of_getLast? h
      unfold z_liv at this
      exact (List.mem_filter.mp this).1
    · cases h
theorem z_row_all {row : Int32} {a : Nat} (hT : T ≠ []) (ha : a ∈ z_row en sc tt tb T row) : a ∈ z_all sc tt tb T := by
  have htm := z_tof_mem tb T row hT
  obtain ⟨s, h1, h2⟩ := z_run_mem _ _ _ a ha
  rcases List.mem_cons.mp (List.mem_filter.mp h1).1 with rfl | h3
  · exact z_all_mem.mpr ⟨_, htm, Or.inl h2⟩
  · exact z_all_mem.mpr ⟨_, htm, Or.inr ⟨s, h3, h2⟩⟩
abbrev z_vT (v : z_VS) (d : Int32) : z_VS := (vEx v, vSo v, vER v, vEC v, vEV v, vBs v, vLg v, vSq v, vCk v, vLk v, d)
theorem c_apply0 (hI : z_I G h o K v La en sc tt tb T B R nu ag wa) (hB : B = []) : z_C G A m_TC_apply 75000 320000 [.ref o] h (z_pu (some (.int (-1))) h) := by
  obtain ⟨-, ⟨d2, c2, l2, m2⟩, -⟩ := hI.2.2.1
  have ho := hI.2.1.1
  obtain ⟨fs, g1⟩ := P_ob hI.1 l2
  subst hB
  refine z_C.of (by decide +kernel) rfl (Nat.le_of_ble_eq_true rfl) ?_
  intro x X
  refine z_aload_n (pc' := 1) X d_TC_apply_0 rfl rfl ?_
  refine z_get (pc' := 4) X 3 f_TC_42 d_TC_apply_1 (by assumption) rfl rfl ?_
  refine z_callV X (P_isEmpty hI.1 l2) k_TC_121 d_TC_apply_4 (by assumption) (show classes[6]? = some _ from rfl) rfl rfl rfl (by decide) (Nat.le_of_ble_eq_true rfl) ⟨by omega, by omega⟩ (z_kp ?_)
  refine z_if_eq (tgt := 12) (pc' := 10) X d_TC_apply_7 (by decide) rfl (fun q => absurd q (by decide)) (fun _ => ?_)
  refine z_iconst (pc' := 11) (v := (-1)) X d_TC_apply_10 (by decide) rfl ?_
  exact z_iret X rfl d_TC_apply_11 (⟨rfl, rfl, rfl, rfl⟩)
theorem c_applyF (hI : z_I G h o K v La en sc tt tb T B R nu ag wa) (hB : B ≠ []) (hf : 240 ≤ z_tot sc tt tb T) (hf2 : z_tot sc tt tb T < 2 ^ 20) : z_C G A m_TC_apply 75000 320000 [.ref o] h (z_pu (some (.int (-2))) h) := by
  obtain ⟨-, ⟨d2, c2, l2, m2⟩, -⟩ := hI.2.2.1
  have ho := hI.2.1.1
  obtain ⟨fs, g1⟩ := P_ob hI.1 l2
  have hbl : ¬ B.length = 0 := fun e => hB (List.length_eq_zero_iff.mp e)
  refine z_C.of (by decide +kernel) rfl (Nat.le_of_ble_eq_true rfl) ?_
  intro x X
  refine z_aload_n (pc' := 1) X d_TC_apply_0 rfl rfl ?_
  refine z_get (pc' := 4) X 3 f_TC_42 d_TC_apply_1 (by assumption) rfl rfl ?_
  refine z_callV X (P_isEmpty hI.1 l2) k_TC_121 d_TC_apply_4 (by assumption) (show classes[6]? = some _ from rfl) rfl rfl rfl (by decide) (Nat.le_of_ble_eq_true rfl) ⟨by omega, by omega⟩ (z_kp ?_)
  rw [if_neg hbl]
  refine z_if_eq (tgt := 12) (pc' := 10) X d_TC_apply_7 (by decide) rfl (fun _ => ?_) (fun q => absurd rfl q)
  refine z_aload_n (pc' := 13) X d_TC_apply_12 rfl rfl ?_
  refine z_callV X (c_entries hI) k_TC_180 d_TC_apply_13 (by assumption) (show classes[0]? = some _ from rfl) rfl rfl rfl (by decide) (Nat.le_of_ble_eq_true rfl) ⟨by omega, by omega⟩ (z_kp ?_)
  refine z_sipush (pc' := 19) (v := 240) X d_TC_apply_16 (by decide) rfl ?_
  refine z_icmp_lt (tgt := 25) (pc' := 22) X d_TC_apply_19 (by decide) rfl (fun c_19 => ?_) (fun c_19 => ?_)
  · exact absurd c_19 (Int32.not_lt.mpr (nI_le (a := 240) hf (by omega)))
  · refine z_bipush (pc' := 24) (v := (-2)) X d_TC_apply_22 (by decide) rfl ?_
    exact z_iret X rfl d_TC_apply_24 (⟨rfl, rfl, rfl, rfl⟩)
theorem c_applyT (hI : z_I G h o K v La en sc tt tb T B R nu ag wa) (hB : B ≠ []) (hf : z_tot sc tt tb T < 240) (hT : T ≠ []) (hw : z_WS en sc tt tb T) (hv : z_WV en sc tt tb T) (hto : ¬ vTo v = 0) : z_C G A m_TC_apply 75000 320000 [.ref o] h (fun val h' k n => val = some (.int (-3)) ∧ (∃ La', z_I G h' o K (0, (z_vT v 0).2) La' en sc tt tb T [] R nu ag wa ∧ z_ct (z_Phi La (z_lst K tb T)) (z_Phi La' (z_lst K tb T)) k n 0 0) ∧ z_fx G K h h' ∧ k ≤ 75000 ∧ n ≤ 320000) := by
  obtain ⟨-, ⟨d2, c2, l2, m2⟩, -⟩ := hI.2.2.1
  have ho := hI.2.1.1
  obtain ⟨fs, g1⟩ := P_ob hI.1 l2
  have hbl : ¬ B.length = 0 := fun e => hB (List.length_eq_zero_iff.mp e)
  refine z_C.of (by decide +kernel) rfl (Nat.le_of_ble_eq_true rfl) ?_
  intro x X
  refine z_aload_n (pc' := 1) X d_TC_apply_0 rfl rfl ?_
  refine z_get (pc' := 4) X 3 f_TC_42 d_TC_apply_1 (by assumption) rfl rfl ?_
  refine z_callV X (P_isEmpty hI.1 l2) k_TC_121 d_TC_apply_4 (by assumption) (show classes[6]? = some _ from rfl) rfl rfl rfl (by decide) (Nat.le_of_ble_eq_true rfl) ⟨by omega, by omega⟩ (z_kp ?_)
  rw [if_neg hbl]
  refine z_if_eq (tgt := 12) (pc' := 10) X d_TC_apply_7 (by decide) rfl (fun _ => ?_) (fun q => absurd rfl q)
  refine z_aload_n (pc' := 13) X d_TC_apply_12 rfl rfl ?_
  refine z_callV X (c_entries hI) k_TC_180 d_TC_apply_13 (by assumption) (show classes[0]? = some _ from rfl) rfl rfl rfl (by decide) (Nat.le_of_ble_eq_true rfl) ⟨by omega, by omega⟩ (z_kp ?_)
  refine z_sipush (pc' := 19) (v := 240) X d_TC_apply_16 (by decide) rfl ?_
  refine z_icmp_lt (tgt := 25) (pc' := 22) X d_TC_apply_19 (by decide) rfl (fun c_19 => ?_) (fun c_19 => ?_)
  · refine z_aload_n (pc' := 26) X d_TC_apply_25 rfl rfl ?_
    refine z_callV X (c_isMet hI hT hw hv) k_TC_183 d_TC_apply_26 (by assumption) (show classes[0]? = some _ from rfl) rfl rfl rfl (by decide) (Nat.le_of_ble_eq_true rfl) ⟨by omega, by omega⟩ (fun v_26 h_26 k_26 n_26 p_26 => ?_)
    obtain ⟨rfl, La2, r1, r2, r3⟩ := p_26
    have r31 := r3.1.1
    have r32 := r3.1.2
    have r33 := r3.2.1
    have r34 := r3.2.2
    have ho2 := r1.2.1.1
    obtain ⟨hI2, hff2⟩ := z_I_v r1 (z_vT v 0)
    have ho3 := hI2.2.1.1
    refine z_istore_n (pc' := 30) X d_TC_apply_29 rfl rfl rfl ?_
    refine z_aload_n (pc' := 31) X d_TC_apply_30 rfl rfl ?_
    refine z_get (pc' := 34) X 18 f_TC_186 d_TC_apply_31 (by assumption) rfl rfl ?_
    refine z_if_eq (tgt := 49) (pc' := 37) X d_TC_apply_34 (by decide) rfl (fun c_34 => ?_) (fun c_34 => ?_)
    · exact absurd c_34 hto
    · refine z_aload_n (pc' := 38) X d_TC_apply_37 rfl rfl ?_
      refine z_iconst (pc' := 39) (v := 0) X d_TC_apply_38 (by decide) rfl ?_
      refine z_put (pc' := 42) X 18 f_TC_186 (g_TC_186 _) d_TC_apply_39 (by assumption) rfl rfl rfl rfl rfl ?_
      refine z_aload_n (pc' := 43) X d_TC_apply_42 rfl rfl ?_
      refine z_callV X (c_crash hI2) k_TC_189 d_TC_apply_43 (by assumption) (show classes[0]? = some _ from rfl) rfl rfl rfl (by decide) (Nat.le_of_ble_eq_true rfl) ⟨by omega, by omega⟩ (fun v_43 h_43 k_43 n_43 p_43 => ?_)
      obtain ⟨rfl, rfl, rfl, ⟨La', s1, s2⟩, s3⟩ := p_43
      refine z_bipush (pc' := 48) (v := (-3)) X d_TC_apply_46 (by decide) rfl ?_
      exact z_iret X rfl d_TC_apply_48 (⟨rfl, ⟨La', s1, ⟨by omega, by omega⟩⟩, z_fx_tr (z_ff_fx r2) (z_fx_tr (z_ff_fx hff2) (z_ff_fx s3)), by omega, by omega⟩)
  · exact absurd (nI_lt (b := 240) hf (by omega)) c_19
theorem c_applyU (hI : z_I G h o K v La en sc tt tb T B R nu ag wa) (hB : B ≠ []) (hf : z_tot sc tt tb T < 240) (hT : T ≠ []) (hw : z_WS en sc tt tb T) (hv : z_WV en sc tt tb T) (hto : vTo v = 0) (hm : (decide (vEx v = 0) || z_met en ag v (z_row en sc tt tb T (vER v))) = false) : z_C G A m_TC_apply 75000 320000 [.ref o] h (fun val h' k n => val = some (.int 0) ∧ (∃ La', z_I G h' o K (0, v.2) La' en sc tt tb T [] R nu ag wa ∧ z_ct (z_Phi La (z_lst K tb T)) (z_Phi La' (z_lst K tb T)) k n 0 0) ∧ z_fx G K h h' ∧ k ≤ 75000 ∧ n ≤ 320000) := by
  obtain ⟨-, ⟨d2, c2, l2, m2⟩, -⟩ := hI.2.2.1
  have ho := hI.2.1.1
  obtain ⟨fs, g1⟩ := P_ob hI.1 l2
  have hbl : ¬ B.length = 0 := fun e => hB (List.length_eq_zero_iff.mp e)
  refine z_C.of (by decide +kernel) rfl (Nat.le_of_ble_eq_true rfl) ?_
  intro x X
  refine z_aload_n (pc' := 1) X d_TC_apply_0 rfl rfl ?_
  refine z_get (pc' := 4) X 3 f_TC_42 d_TC_apply_1 (by assumption) rfl rfl ?_
  refine z_callV X (P_isEmpty hI.1 l2) k_TC_121 d_TC_apply_4 (by assumption) (show classes[6]? = some _ from rfl) rfl rfl rfl (by decide) (Nat.le_of_ble_eq_true rfl) ⟨by omega, by omega⟩ (z_kp ?_)
  rw [if_neg hbl]
  refine z_if_eq (tgt := 12) (pc' := 10) X d_TC_apply_7 (by decide) rfl (fun _ => ?_) (fun q => absurd rfl q)
  refine z_aload_n (pc' := 13) X d_TC_apply_12 rfl rfl ?_
  refine z_callV X (c_entries hI) k_TC_180 d_TC_apply_13 (by assumption) (show classes[0]? = some _ from rfl) rfl rfl rfl (by decide) (Nat.le_of_ble_eq_true rfl) ⟨by omega, by omega⟩ (z_kp ?_)
  refine z_sipush (pc' := 19) (v := 240) X d_TC_apply_16 (by decide) rfl ?_
  refine z_icmp_lt (tgt := 25) (pc' := 22) X d_TC_apply_19 (by decide) rfl (fun c_19 => ?_) (fun c_19 => ?_)
  · refine z_aload_n (pc' := 26) X d_TC_apply_25 rfl rfl ?_
    refine z_callV X (c_isMet hI hT hw hv) k_TC_183 d_TC_apply_26 (by assumption) (show classes[0]? = some _ from rfl) rfl rfl rfl (by decide) (Nat.le_of_ble_eq_true rfl) ⟨by omega, by omega⟩ (fun v_26 h_26 k_26 n_26 p_26 => ?_)
    obtain ⟨rfl, La2, r1, r2, r3⟩ := p_26
    have r31 := r3.1.1
    have r32 := r3.1.2
    have r33 := r3.2.1
    have r34 := r3.2.2
    have ho2 := r1.2.1.1
    rw [hm]
    refine z_istore_n (pc' := 30) X d_TC_apply_29 rfl rfl rfl ?_
    refine z_aload_n (pc' := 31) X d_TC_apply_30 rfl rfl ?_
    refine z_get (pc' := 34) X 18 f_TC_186 d_TC_apply_31 (by assumption) rfl rfl ?_
    refine z_if_eq (tgt := 49) (pc' := 37) X d_TC_apply_34 (by decide) rfl (fun c_34 => ?_) (fun c_34 => ?_)
    · refine z_aload_n (pc' := 50) X d_TC_apply_49 rfl rfl ?_
      refine z_get (pc' := 53) X 15 f_TC_164 d_TC_apply_50 (by assumption) rfl rfl ?_
      refine z_istore_n (pc' := 54) X d_TC_apply_53 rfl rfl rfl ?_
      refine z_iload_n (pc' := 55) X d_TC_apply_54 rfl rfl ?_
      refine z_if_eq (tgt := 211) (pc' := 58) X d_TC_apply_55 (by decide) rfl (fun _ => ?_) (fun q => absurd rfl q)
      refine z_aload_n (pc' := 212) X d_TC_apply_211 rfl rfl ?_
      refine z_callV X (c_crash r1) k_TC_189 d_TC_apply_212 (by assumption) (show classes[0]? = some _ from rfl) rfl rfl rfl (by decide) (Nat.le_of_ble_eq_true rfl) ⟨by omega, by omega⟩ (fun v_212 h_212 k_212 n_212 p_212 => ?_)
      obtain ⟨rfl, rfl, rfl, ⟨La', s1, s2⟩, s3⟩ := p_212
      have ho3 := s1.2.1.1
      refine z_aload_n (pc' := 216) X d_TC_apply_215 rfl rfl ?_
      refine z_get (pc' := 219) X 15 f_TC_164 d_TC_apply_216 (by assumption) rfl rfl ?_
      refine z_iload_n (pc' := 220) X d_TC_apply_219 rfl rfl ?_
      refine z_isub (pc' := 221) X d_TC_apply_220 rfl ?_
      exact z_iret X rfl d_TC_apply_221 (⟨by rw [show vSq (0, v.2) - vSq v = 0 from Int32.sub_self _], ⟨La', s1, ⟨by omega, by omega⟩⟩, z_fx_tr (z_ff_fx r2) (z_ff_fx s3), by omega, by omega⟩)
    · exact absurd hto c_34
  · exact absurd (nI_lt (b := 240) hf (by omega)) c_19
end APP
