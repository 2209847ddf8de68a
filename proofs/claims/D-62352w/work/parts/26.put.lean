/-! put, erase, expect -/
def z_gp (r c t : Int32) : Bool := z_ir r && z_ic c && decide (¬ t < 0) && decide (t < 10000)
def z_ge (r c t : Int32) : Bool := z_ir r && (if c = -1 then decide (t = -1) else z_ic c && decide (-1 ≤ t) && decide (t < 10000))
section PUT
variable {G : z_G} {A : Nat → Prop} {h : z_H} {o : Nat} {K : z_KA} {v : z_VS} {La : z_LA} {en : Nat → z_E7} {sc tt : Nat → List Nat} {tb : Nat → z_TB} {T B R : List Nat} {nu ag wa : Nat → Int32}
/-- behind put or erase: ok, and then a new entry e at the batch's end -/
def z_PB (G : z_G) (h : z_H) (o : Nat) (K : z_KA) (v : z_VS) (La : z_LA) (en : Nat → z_E7) (sc tt : Nat → List Nat) (tb : Nat → z_TB) (T B R : List Nat) (nu ag wa : Nat → Int32) (ok : Bool) (e7 : z_E7) : z_T := fun val h' k n => ∃ (en' : Nat → z_E7) (La' : z_LA) (B' : List Nat), val = some (.int (bI ok)) ∧ z_I G h' o K v La' en' sc tt tb T B' R nu ag wa ∧ z_Phi La' (z_lst K tb T) = z_Phi La (z_lst K tb T) ∧ (∀ b e, h b = some e → en' b = en b) ∧ (ok = false → B' = B) ∧ (ok = true → ∃ a, h a = none ∧ B' = B ++ [a] ∧ en' a = e7) ∧ z_ff G K h h' ∧ k ≤ 1 ∧ n ≤ 7
theorem z_ex_eu {a : Nat} {e7 : z_E7} {r : Int32} (hB : z_ens h en B) (ha : h a = none) : z_ex (z_eu en a e7) B r = z_ex en B r := by
  cases B with
  | nil => rfl
  | cons b B =>
    have hne : b ≠ a := z_mne (z_ens_none hB ha) List.mem_cons_self
    unfold z_ex
    rw [show (b :: B).getD 0 0 = b from rfl, z_eu_n _ _ hne]
theorem c_put {r c t w : Int32} (hI : z_I G h o K v La en sc tt tb T B R nu ag wa) : z_C G A m_TC_put 2 2017 [.ref o, .int r, .int c, .int t, .int w] h (z_PB G h o K v La en sc tt tb T B R nu ag wa (z_gp r c t && z_ex en B r) (r, c, t, 1, w, 0, 0)) := by
  have hB := hI.2.2.2.2.1
  refine z_C.of (by decide +kernel) rfl (Nat.le_of_ble_eq_true rfl) ?_
  intro x X
  have no : z_gp r c t = false → z_V G A x h 0 0 49 [some (.ref o), some (.int r), some (.int c), some (.int t), some (.int w)] [] := by
    intro hz
    refine z_iconst (pc' := 50) (v := 0) X d_TC_put_49 (by decide) rfl ?_
    refine z_zret X rfl (Or.inl rfl) d_TC_put_50 ⟨en, La, B, by rw [hz]; rfl, hI, rfl, fun _ _ _ => rfl, fun _ => rfl, (fun q => by rw [hz] at q; cases q), z_ff_rf, by omega, by omega⟩
  refine z_iload_n (pc' := 1) X d_TC_put_0 rfl rfl ?_
  refine z_callS X (c_isRow) k_TC_125 d_TC_put_1 rfl rfl rfl (by decide) (Nat.le_of_ble_eq_true rfl) ⟨by omega, by omega⟩ (z_kp ?_)
  cases hr : z_ir r with
  | false =>
    refine z_if_eq (tgt := 49) (pc' := 7) X d_TC_put_4 (by decide) rfl (fun _ => ?_) (fun q => absurd rfl q)
    exact no (by unfold z_gp; rw [hr]; rfl)
  | true =>
    refine z_if_eq (tgt := 49) (pc' := 7) X d_TC_put_4 (by decide) rfl (fun q => absurd q (by decide)) (fun _ => ?_)
    refine z_iload_n (pc' := 8) X d_TC_put_7 rfl rfl ?_
    refine z_callS X (c_isColumn) k_TC_129 d_TC_put_8 rfl rfl rfl (by decide) (Nat.le_of_ble_eq_true rfl) ⟨by omega, by omega⟩ (z_kp ?_)
    cases hc : z_ic c with
    | false =>
      refine z_if_eq (tgt := 49) (pc' := 14) X d_TC_put_11 (by decide) rfl (fun _ => ?_) (fun q => absurd rfl q)
      exact no (by unfold z_gp; rw [hr, hc]; rfl)
    | true =>
      refine z_if_eq (tgt := 49) (pc' := 14) X d_TC_put_11 (by decide) rfl (fun q => absurd q (by decide)) (fun _ => ?_)
      refine z_iload_n (pc' := 15) X d_TC_put_14 rfl rfl ?_
      refine z_if_lt (tgt := 49) (pc' := 18) X d_TC_put_15 (by decide) rfl (fun c_15 => ?_) (fun c_15 => ?_)
      · exact no (by unfold z_gp; rw [hr, hc]; simp [c_15])
      · refine z_iload_n (pc' := 19) X d_TC_put_18 rfl rfl ?_
        refine z_sipush (pc' := 22) (v := 10000) X d_TC_put_19 (by decide) rfl ?_
        refine z_icmp_ge (tgt := 49) (pc' := 25) X d_TC_put_22 (by decide) rfl (fun c_22 => ?_) (fun c_22 => ?_)
        · exact no (by unfold z_gp; rw [hr, hc]; simp [Int32.not_lt.mpr c_22])
        · have hz : z_gp r c t = true := by unfold z_gp; rw [hr, hc]; simp [Int32.not_lt.mp c_15, Int32.not_le.mp c_22]
          refine z_aload_n (pc' := 26) X d_TC_put_25 rfl rfl ?_
          refine z_new (pc' := 29) X nw_TC_12 d_TC_put_26 ⟨by omega, by omega⟩ rfl (fun a_26 n_26 e_26 => ?_)
          refine z_dup (pc' := 30) X d_TC_put_29 rfl rfl ?_
          refine z_iload_n (pc' := 31) X d_TC_put_30 rfl rfl ?_
          refine z_iload_n (pc' := 32) X d_TC_put_31 rfl rfl ?_
          refine z_iload_n (pc' := 33) X d_TC_put_32 rfl rfl ?_
          refine z_iconst (pc' := 34) (v := 1) X d_TC_put_33 (by decide) rfl ?_
          refine z_iload (pc' := 36) X d_TC_put_34 rfl rfl ?_
          refine z_callI X (c_En_init (Or.inr rfl) (z_up_s _ _ _)) k_TC_132 d_TC_put_36 rfl rfl rfl (by decide) (Nat.le_of_ble_eq_true rfl) ⟨by omega, by omega⟩ (z_kh ?_)
          refine z_hp (z_uu _ _ _ _) ?_
          obtain ⟨hI1, hff1⟩ := z_I_en (e := z_ob 5 (z_ef (r, c, t, 1, w, 0, 0))) (e7 := (r, c, t, 1, w, 0, 0)) hI n_26
          have hs := z_eu_s en a_26 (r, c, t, 1, w, 0, 0)
          have hex := z_ex_eu (r := r) (e7 := (r, c, t, 1, w, 0, 0)) hB n_26
          have ho := hI1.2.1.1
          refine z_callV X (c_extend (a := a_26) hI1 (by rw [hs]; exact z_up_s _ _ _)) k_TC_135 d_TC_put_39 (by assumption) (show classes[0]? = some _ from rfl) rfl rfl rfl (by decide) (Nat.le_of_ble_eq_true rfl) ⟨by omega, by omega⟩ (fun v_39 h_39 k_39 n_39 p_39 => ?_)
          obtain ⟨rfl, rfl, rfl, ⟨La', r1, r2⟩, r3⟩ := p_39
          rw [hs] at r1
          have hex' : z_ex (z_eu en a_26 (r, c, t, 1, w, 0, 0)) B (eR (r, c, t, 1, w, 0, 0)) = z_ex en B r := hex
          rw [hex'] at r1
          rw [hs, hex']
          have hen : ∀ b e, h b = some e → z_eu en a_26 (r, c, t, 1, w, 0, 0) b = en b := fun b e hb => z_eu_n _ _ (z_nb n_26 hb)
          cases hx : z_ex en B r with
          | false =>
            rw [hx] at r1
            refine z_if_eq (tgt := 49) (pc' := 45) X d_TC_put_42 (by decide) rfl (fun _ => ?_) (fun q => absurd rfl q)
            refine z_iconst (pc' := 50) (v := 0) X d_TC_put_49 (by decide) rfl ?_
            refine z_zret X rfl (Or.inl rfl) d_TC_put_50 ⟨_, La', B, by rw [hz, hx]; rfl, r1, r2, hen, fun _ => rfl, (fun q => by rw [hx, Bool.and_false] at q; cases q), z_ff_tr hff1 r3, by omega, by omega⟩
          | true =>
            rw [hx] at r1
            refine z_if_eq (tgt := 49) (pc' := 45) X d_TC_put_42 (by decide) rfl (fun q => absurd q (by decide)) (fun _ => ?_)
            refine z_iconst (pc' := 46) (v := 1) X d_TC_put_45 (by decide) rfl ?_
            refine z_goto (pc' := 50) X d_TC_put_46 (by decide) ?_
            refine z_zret X rfl (Or.inr rfl) d_TC_put_50 ⟨_, La', B ++ [a_26], by rw [hz, hx]; rfl, r1, r2, hen, (fun q => by rw [hz, hx] at q; cases q), fun _ => ⟨a_26, n_26, rfl, hs⟩, z_ff_tr hff1 r3, by omega, by omega⟩
theorem c_erase {r c t : Int32} (hI : z_I G h o K v La en sc tt tb T B R nu ag wa) : z_C G A m_TC_erase 2 2017 [.ref o, .int r, .int c, .int t] h (z_PB G h o K v La en sc tt tb T B R nu ag wa (z_ge r c t && z_ex en B r) (r, c, t, 0, 0, 0, 0)) := by
  have hB := hI.2.2.2.2.1
  refine z_C.of (by decide +kernel) rfl (Nat.le_of_ble_eq_true rfl) ?_
  intro x X
  have no : z_ge r c t = false → z_V G A x h 0 0 43 [some (.ref o), some (.int r), some (.int c), some (.int t), none] [] := by
    intro hz
    refine z_iconst (pc' := 44) (v := 0) X d_TC_erase_43 (by decide) rfl ?_
    refine z_istore (pc' := 46) X d_TC_erase_44 rfl rfl rfl ?_
    refine z_iload (pc' := 48) X d_TC_erase_46 rfl rfl ?_
    refine z_if_eq (tgt := 74) (pc' := 51) X d_TC_erase_48 (by decide) rfl (fun _ => ?_) (fun q => absurd rfl q)
    refine z_iconst (pc' := 75) (v := 0) X d_TC_erase_74 (by decide) rfl ?_
    refine z_zret X rfl (Or.inl rfl) d_TC_erase_75 ⟨en, La, B, by rw [hz]; rfl, hI, rfl, fun _ _ _ => rfl, fun _ => rfl, (fun q => by rw [hz] at q; cases q), z_ff_rf, by omega, by omega⟩
  have yes : z_ge r c t = true → z_V G A x h 0 0 39 [some (.ref o), some (.int r), some (.int c), some (.int t), none] [] := by
    intro hz
    refine z_iconst (pc' := 40) (v := 1) X d_TC_erase_39 (by decide) rfl ?_
    refine z_goto (pc' := 44) X d_TC_erase_40 (by decide) ?_
    refine z_istore (pc' := 46) X d_TC_erase_44 rfl rfl rfl ?_
    refine z_iload (pc' := 48) X d_TC_erase_46 rfl rfl ?_
    refine z_if_eq (tgt := 74) (pc' := 51) X d_TC_erase_48 (by decide) rfl (fun q => absurd q (by decide)) (fun _ => ?_)
    refine z_aload_n (pc' := 52) X d_TC_erase_51 rfl rfl ?_
    refine z_new (pc' := 55) X nw_TC_12 d_TC_erase_52 ⟨by omega, by omega⟩ rfl (fun a_52 n_52 e_52 => ?_)
    refine z_dup (pc' := 56) X d_TC_erase_55 rfl rfl ?_
    refine z_iload_n (pc' := 57) X d_TC_erase_56 rfl rfl ?_
    refine z_iload_n (pc' := 58) X d_TC_erase_57 rfl rfl ?_
    refine z_iload_n (pc' := 59) X d_TC_erase_58 rfl rfl ?_
    refine z_iconst (pc' := 60) (v := 0) X d_TC_erase_59 (by decide) rfl ?_
    refine z_iconst (pc' := 61) (v := 0) X d_TC_erase_60 (by decide) rfl ?_
    refine z_callI X (c_En_init (Or.inl rfl) (z_up_s _ _ _)) k_TC_132 d_TC_erase_61 rfl rfl rfl (by decide) (Nat.le_of_ble_eq_true rfl) ⟨by omega, by omega⟩ (z_kh ?_)
    refine z_hp (z_uu _ _ _ _) ?_
    obtain ⟨hI1, hff1⟩ := z_I_en (e := z_ob 5 (z_ef (r, c, t, 0, 0, 0, 0))) (e7 := (r, c, t, 0, 0, 0, 0)) hI n_52
    have hs := z_eu_s en a_52 (r, c, t, 0, 0, 0, 0)
    have hex := z_ex_eu (r := r) (e7 := (r, c, t, 0, 0, 0, 0)) hB n_52
    have ho := hI1.2.1.1
    refine z_callV X (c_extend (a := a_52) hI1 (by rw [hs]; exact z_up_s _ _ _)) k_TC_135 d_TC_erase_64 (by assumption) (show classes[0]? = some _ from rfl) rfl rfl rfl (by decide) (Nat.le_of_ble_eq_true rfl) ⟨by omega, by omega⟩ (fun v_64 h_64 k_64 n_64 p_64 => ?_)
    obtain ⟨rfl, rfl, rfl, ⟨La', r1, r2⟩, r3⟩ := p_64
    rw [hs] at r1
    have hex' : z_ex (z_eu en a_52 (r, c, t, 0, 0, 0, 0)) B (eR (r, c, t, 0, 0, 0, 0)) = z_ex en B r := hex
    rw [hex'] at r1
    rw [hs, hex']
    have hen : ∀ b e, h b = some e → z_eu en a_52 (r, c, t, 0, 0, 0, 0) b = en b := fun b e hb => z_eu_n _ _ (z_nb n_52 hb)
    cases hx : z_ex en B r with
    | false =>
      rw [hx] at r1
      refine z_if_eq (tgt := 74) (pc' := 70) X d_TC_erase_67 (by decide) rfl (fun _ => ?_) (fun q => absurd rfl q)
      refine z_iconst (pc' := 75) (v := 0) X d_TC_erase_74 (by decide) rfl ?_
      refine z_zret X rfl (Or.inl rfl) d_TC_erase_75 ⟨_, La', B, by rw [hz, hx]; rfl, r1, r2, hen, fun _ => rfl, (fun q => by rw [hx, Bool.and_false] at q; cases q), z_ff_tr hff1 r3, by omega, by omega⟩
    | true =>
      rw [hx] at r1
      refine z_if_eq (tgt := 74) (pc' := 70) X d_TC_erase_67 (by decide) rfl (fun q => absurd q (by decide)) (fun _ => ?_)
      refine z_iconst (pc' := 71) (v := 1) X d_TC_erase_70 (by decide) rfl ?_
      refine z_goto (pc' := 75) X d_TC_erase_71 (by decide) ?_
      refine z_zret X rfl (Or.inr rfl) d_TC_erase_75 ⟨_, La', B ++ [a_52], by rw [hz, hx]; rfl, r1, r2, hen, (fun q => by rw [hz, hx] at q; cases q), fun _ => ⟨a_52, n_52, rfl, hs⟩, z_ff_tr hff1 r3, by omega, by omega⟩
  refine z_iload_n (pc' := 1) X d_TC_erase_0 rfl rfl ?_
  refine z_callS X (c_isRow) k_TC_125 d_TC_erase_1 rfl rfl rfl (by decide) (Nat.le_of_ble_eq_true rfl) ⟨by omega, by omega⟩ (z_kp ?_)
  cases hr : z_ir r with
  | false =>
    refine z_if_eq (tgt := 43) (pc' := 7) X d_TC_erase_4 (by decide) rfl (fun _ => ?_) (fun q => absurd rfl q)
    exact no (by unfold z_ge; rw [hr]; rfl)
  | true =>
    refine z_if_eq (tgt := 43) (pc' := 7) X d_TC_erase_4 (by decide) rfl (fun q => absurd q (by decide)) (fun _ => ?_)
    refine z_iload_n (pc' := 8) X d_TC_erase_7 rfl rfl ?_
    refine z_iconst (pc' := 9) (v := (-1)) X d_TC_erase_8 (by decide) rfl ?_
    refine z_icmp_ne (tgt := 20) (pc' := 12) X d_TC_erase_9 (by decide) rfl (fun c_9 => ?_) (fun c_9 => ?_)
    · refine z_iload_n (pc' := 21) X d_TC_erase_20 rfl rfl ?_
      refine z_callS X (c_isColumn) k_TC_129 d_TC_erase_21 rfl rfl rfl (by decide) (Nat.le_of_ble_eq_true rfl) ⟨by omega, by omega⟩ (z_kp ?_)
      cases hc : z_ic c with
      | false =>
        refine z_if_eq (tgt := 43) (pc' := 27) X d_TC_erase_24 (by decide) rfl (fun _ => ?_) (fun q => absurd rfl q)
        exact no (by unfold z_ge; rw [hr, hc, if_neg c_9]; rfl)
      | true =>
        refine z_if_eq (tgt := 43) (pc' := 27) X d_TC_erase_24 (by decide) rfl (fun q => absurd q (by decide)) (fun _ => ?_)
        refine z_iload_n (pc' := 28) X d_TC_erase_27 rfl rfl ?_
        refine z_iconst (pc' := 29) (v := (-1)) X d_TC_erase_28 (by decide) rfl ?_
        refine z_icmp_lt (tgt := 43) (pc' := 32) X d_TC_erase_29 (by decide) rfl (fun c_29 => ?_) (fun c_29 => ?_)
        · exact no (by unfold z_ge; rw [hr, hc, if_neg c_9]; simp [Int32.not_le.mpr c_29])
        · refine z_iload_n (pc' := 33) X d_TC_erase_32 rfl rfl ?_
          refine z_sipush (pc' := 36) (v := 10000) X d_TC_erase_33 (by decide) rfl ?_
          refine z_icmp_ge (tgt := 43) (pc' := 39) X d_TC_erase_36 (by decide) rfl (fun c_36 => ?_) (fun c_36 => ?_)
          · exact no (by unfold z_ge; rw [hr, hc, if_neg c_9]; simp [Int32.not_lt.mpr c_36])
          · exact yes (by unfold z_ge; rw [hr, hc, if_neg c_9]; simp [Int32.not_lt.mp c_29, Int32.not_le.mp c_36])
    · refine z_iload_n (pc' := 13) X d_TC_erase_12 rfl rfl ?_
      refine z_iconst (pc' := 14) (v := (-1)) X d_TC_erase_13 (by decide) rfl ?_
      refine z_icmp_ne (tgt := 43) (pc' := 17) X d_TC_erase_14 (by decide) rfl (fun c_14 => ?_) (fun c_14 => ?_)
      · exact no (by unfold z_ge; rw [hr, if_pos c_9]; simp [c_14])
      · refine z_goto (pc' := 39) X d_TC_erase_17 (by decide) ?_
        exact yes (by unfold z_ge; rw [hr, if_pos c_9]; simp [c_14])
theorem c_expect {r c s w : Int32} (hs : s = 0 ∨ s = 1) (hI : z_I G h o K v La en sc tt tb T B R nu ag wa) : z_C G A m_TC_expect 0 0 [.ref o, .int r, .int c, .int s, .int w] h (fun val h' k n => val = some (.int (bI (z_ir r && z_ic c))) ∧ k = 0 ∧ n = 0 ∧ z_I G h' o K (if z_ir r && z_ic c then (1, s, r, c, w, v.2.2.2.2.2) else v) La en sc tt tb T B R nu ag wa ∧ z_ff G K h h') := by
  have j1 := hI.2.1.1
  refine z_C.of (by decide +kernel) rfl (Nat.le_of_ble_eq_true rfl) ?_
  intro x X
  have no : (z_ir r && z_ic c) = false → z_V G A x h 0 0 14 [some (.ref o), some (.int r), some (.int c), some (.int s), some (.int w)] [] := by
    intro hz
    refine z_iconst (pc' := 15) (v := 0) X d_TC_expect_14 (by decide) rfl ?_
    refine z_zret X rfl (Or.inl rfl) d_TC_expect_15 ⟨by rw [hz]; rfl, rfl, rfl, by rw [hz]; exact hI, z_ff_rf⟩
  refine z_iload_n (pc' := 1) X d_TC_expect_0 rfl rfl ?_
  refine z_callS X (c_isRow) k_TC_125 d_TC_expect_1 rfl rfl rfl (by decide) (Nat.le_of_ble_eq_true rfl) ⟨by omega, by omega⟩ (z_kp ?_)
  cases hr : z_ir r with
  | false =>
    refine z_if_eq (tgt := 14) (pc' := 7) X d_TC_expect_4 (by decide) rfl (fun _ => ?_) (fun q => absurd rfl q)
    exact no (by rw [hr]; rfl)
  | true =>
    refine z_if_eq (tgt := 14) (pc' := 7) X d_TC_expect_4 (by decide) rfl (fun q => absurd q (by decide)) (fun _ => ?_)
    refine z_iload_n (pc' := 8) X d_TC_expect_7 rfl rfl ?_
    refine z_callS X (c_isColumn) k_TC_129 d_TC_expect_8 rfl rfl rfl (by decide) (Nat.le_of_ble_eq_true rfl) ⟨by omega, by omega⟩ (z_kp ?_)
    cases hc : z_ic c with
    | false =>
      refine z_if_ne (tgt := 16) (pc' := 14) X d_TC_expect_11 (by decide) rfl (fun q => absurd rfl q) (fun _ => ?_)
      exact no (by rw [hr, hc]; rfl)
    | true =>
      refine z_if_ne (tgt := 16) (pc' := 14) X d_TC_expect_11 (by decide) rfl (fun _ => ?_) (fun q => absurd q (by decide))
      refine z_aload_n (pc' := 17) X d_TC_expect_16 rfl rfl ?_
      refine z_iconst (pc' := 18) (v := 1) X d_TC_expect_17 (by decide) rfl ?_
      refine z_put (pc' := 21) X 4 f_TC_139 (g_TC_139 _) d_TC_expect_18 (by assumption) rfl rfl rfl rfl rfl ?_
      have t1 := z_up_s h o (z_ob 0 (z_tcf K (1, v.2)))
      refine z_aload_n (pc' := 22) X d_TC_expect_21 rfl rfl ?_
      refine z_iload_n (pc' := 23) X d_TC_expect_22 rfl rfl ?_
      refine z_put (pc' := 26) X 6 f_TC_142 (g_TC_142 _) d_TC_expect_23 (by assumption) rfl rfl rfl rfl rfl ?_
      refine z_hp (z_uu _ _ _ _) ?_
      have t2 := z_up_s h o (z_ob 0 (z_tcf K (1, vSo v, r, v.2.2.2)))
      refine z_aload_n (pc' := 27) X d_TC_expect_26 rfl rfl ?_
      refine z_iload_n (pc' := 28) X d_TC_expect_27 rfl rfl ?_
      refine z_put (pc' := 31) X 7 f_TC_145 (g_TC_145 _) d_TC_expect_28 (by assumption) rfl rfl rfl rfl rfl ?_
      refine z_hp (z_uu _ _ _ _) ?_
      have t3 := z_up_s h o (z_ob 0 (z_tcf K (1, vSo v, r, c, v.2.2.2.2)))
      refine z_aload_n (pc' := 32) X d_TC_expect_31 rfl rfl ?_
      refine z_iload_n (pc' := 33) X d_TC_expect_32 rfl rfl ?_
      refine z_put (pc' := 36) X 5 f_TC_148 (g_TC_148 _) d_TC_expect_33 (by assumption) rfl rfl (by rcases hs with rfl | rfl <;> rfl) (by rcases hs with rfl | rfl <;> rfl) rfl ?_
      refine z_hp (z_uu _ _ _ _) ?_
      have t4 := z_up_s h o (z_ob 0 (z_tcf K (1, s, r, c, v.2.2.2.2)))
      refine z_aload_n (pc' := 37) X d_TC_expect_36 rfl rfl ?_
      refine z_iload (pc' := 39) X d_TC_expect_37 rfl rfl ?_
      refine z_put (pc' := 42) X 8 f_TC_151 (g_TC_151 _) d_TC_expect_39 (by assumption) rfl rfl rfl rfl rfl ?_
      refine z_hp (z_uu _ _ _ _) ?_
      refine z_iconst (pc' := 43) (v := 1) X d_TC_expect_42 (by decide) rfl ?_
      have hv := z_I_v hI (1, s, r, c, w, v.2.2.2.2.2)
      refine z_zret X rfl (Or.inr rfl) d_TC_expect_43 ⟨by rw [hr, hc]; rfl, rfl, rfl, by rw [hr, hc]; exact hv.1, hv.2⟩
end PUT
