/-! java.util.ArrayList: growing, adding -/
theorem z_imax {a b : Nat} (ha : a < 2 ^ 31) (hb : b < 2 ^ 31) : (if nI a < nI b then nI b else nI a) = nI (if a < b then b else a) := by
  by_cases hab : a < b
  · rw [if_pos hab, if_pos ((nI_ltI ha hb).mpr hab)]
  · rw [if_neg hab, if_neg (fun q => hab ((nI_ltI ha hb).mp q))]
theorem z_grow_lt (cap : Nat) : cap < z_grow cap (cap + 1) ∧ z_grow cap (cap + 1) ≤ 2 * cap + 10 ∧ z_grow cap (cap + 1) ≤ 4 * (z_grow cap (cap + 1) - cap) := by
  unfold z_grow
  split
  · split <;> omega
  · split <;> omega
/-- what growing costs, told by the rooms before and behind -/
def z_gw (cap len cap' k n : Nat) : Prop := cap ≤ cap' ∧ k ≤ cap' - cap ∧ n ≤ 4 * (cap' - cap) ∧ (cap' = cap ∨ (len = cap ∧ cap' = z_grow cap (cap + 1)))
theorem z_AL_nd {G : z_G} {h : z_H} {al d cap : Nat} {xs : List Nat} (hA : z_AL G h al d xs cap) {mo : Int32} {v1 v2 : Value} : z_AL G (z_up h al (z_ob 6 [.int mo, .ref d, .int (nI xs.length)])) al d xs cap := by
  obtain ⟨⟨mo, a1⟩, a2, a3, a4⟩ := hA
  refine ⟨⟨_, z_up_s _ _ _⟩, a2, a3, ?_⟩
  rcases a4 with a4 | ⟨b1, f, b2, b3⟩
  · exact Or.inl a4
  · exact Or.inr ⟨b1, f, by rw [z_up_n _ _ (z_ao a1 b2)]; exact b2, b3⟩
section ALG
variable {G : z_G} {A : Nat → Prop} {h : z_H}
theorem c_newLength {a b c : Nat} (hs : 0 < a + (if b < c then c else b)) (hl : a + b + c < 2 ^ 30) : z_C G A m_ASu_newLength 0 0 [.int (nI a), .int (nI b), .int (nI c)] h (z_pu (some (.int (nI (a + (if b < c then c else b))))) h) := by
  have hb : (if b < c then c else b) ≤ b + c := by split <;> omega
  refine z_C.of (by decide +kernel) rfl (Nat.le_of_ble_eq_true rfl) ?_
  intro x X
  refine z_iload_n (pc' := 1) X d_ASu_newLength_0 rfl rfl ?_
  refine z_iload_n (pc' := 2) X d_ASu_newLength_1 rfl rfl ?_
  refine z_iload_n (pc' := 3) X d_ASu_newLength_2 rfl rfl ?_
  refine z_mmax (pc' := 6) X l_ASu_194 ms_max mi_Math mc_max d_ASu_newLength_3 rfl (by decide) (Nat.le_of_ble_eq_true rfl) ⟨by omega, by omega⟩ rfl ?_
  refine z_top (b := .int (nI (if b < c then c else b))) (by rw [z_imax (by omega) (by omega)]) ?_
  refine z_iadd (pc' := 7) X d_ASu_newLength_6 rfl ?_
  refine z_top (b := .int (nI (a + (if b < c then c else b)))) (by rw [nI_add]) ?_
  refine z_istore_n (pc' := 8) X d_ASu_newLength_7 rfl rfl rfl ?_
  refine z_iconst (pc' := 9) (v := 0) X d_ASu_newLength_8 (by decide) rfl ?_
  refine z_iload_n (pc' := 10) X d_ASu_newLength_9 rfl rfl ?_
  refine z_icmp_ge (tgt := 21) (pc' := 13) X d_ASu_newLength_10 (by decide) rfl (fun c_10 => ?_) (fun c_10 => ?_)
  · exact absurd c_10 (nI_nle hs (by omega))
  · refine z_iload_n (pc' := 14) X d_ASu_newLength_13 rfl rfl ?_
    refine z_ldc (pc' := 16) X d_ASu_newLength_14 lc_ASu_200 rfl ?_
    refine z_icmp_gt (tgt := 21) (pc' := 19) X d_ASu_newLength_16 (by decide) rfl (fun c_16 => ?_) (fun c_16 => ?_)
    · exact absurd c_16 (nI_nlt (a := 2147483639) (by omega) (by omega))
    · refine z_iload_n (pc' := 20) X d_ASu_newLength_19 rfl rfl ?_
      exact z_iret X rfl d_ASu_newLength_20 (⟨rfl, rfl, rfl, rfl⟩)
theorem c_copyOf3 {a0 cap w : Nat} {f : Nat → Option Nat} (h0 : h a0 = some (z_ra (z_cO G) cap f)) (hcw : cap ≤ w) (hw : w < 2 ^ 20) (hel : ∀ t, t < cap → ∀ y, f t = some y → z_isob h y) : z_C G A m_Ars_copyOf_ALIL 1 w [.ref a0, .int (nI w), .ref (z_mi G)] h (fun v h' k n => k = 1 ∧ n = w ∧ ∃ a, v = some (.ref a) ∧ h a = none ∧ a ≠ z_d0 G ∧ h' = z_up h a (z_ra (z_cO G) w (va_cpy f (fun _ => none) 0 0 cap))) := by
  refine z_C.of (by decide +kernel) rfl (Nat.le_of_ble_eq_true rfl) ?_
  intro x X
  refine z_aload_n (pc' := 1) X d_Ars_copyOf_ALIL_0 rfl rfl ?_
  refine z_ldcM (pc' := 3) X lc_Ars_110 d_Ars_copyOf_ALIL_1 rfl ?_
  refine z_acmp_ne (tgt := 13) (pc' := 6) X d_Ars_copyOf_ALIL_3 (by decide) rfl (fun c_3 => ?_) (fun c_3 => ?_)
  · exact absurd rfl c_3
  · refine z_iload_n (pc' := 7) X d_Ars_copyOf_ALIL_6 rfl rfl ?_
    refine z_anew (pc' := 10) (C := "java/lang/Object") 1 X cl_Ars_2 (fun U hK => hK.2.2.1) rfl d_Ars_copyOf_ALIL_7 hw ⟨by omega, by omega⟩ rfl (fun a h1 h2 => ?_)
    have h3 : z_up h a (z_ra (z_cO G) w (fun _ => none)) a0 = some (z_ra (z_cO G) cap f) := by rw [z_up_n _ _ (z_nb h1 h0)]; exact h0
    refine z_goto (pc' := 24) X d_Ars_copyOf_ALIL_10 (by decide) ?_
    refine z_astore_n (pc' := 25) X d_Ars_copyOf_ALIL_24 rfl rfl rfl ?_
    refine z_aload_n (pc' := 26) X d_Ars_copyOf_ALIL_25 rfl rfl ?_
    refine z_iconst (pc' := 27) (v := 0) X d_Ars_copyOf_ALIL_26 (by decide) rfl ?_
    refine z_aload_n (pc' := 28) X d_Ars_copyOf_ALIL_27 rfl rfl ?_
    refine z_iconst (pc' := 29) (v := 0) X d_Ars_copyOf_ALIL_28 (by decide) rfl ?_
    refine z_aload_n (pc' := 30) X d_Ars_copyOf_ALIL_29 rfl rfl ?_
    refine z_alen (pc' := 31) X 1 d_Ars_copyOf_ALIL_30 h3 rfl rfl ?_
    refine z_iload_n (pc' := 32) X d_Ars_copyOf_ALIL_31 rfl rfl ?_
    refine z_mmin (pc' := 35) X l_Ars_304 ms_min mi_Math mc_min d_Ars_copyOf_ALIL_32 rfl (by decide) (Nat.le_of_ble_eq_true rfl) ⟨by omega, by omega⟩ rfl ?_
    refine z_top (b := .int (nI cap)) (by rw [if_neg (nI_nlt hcw (by omega))]) ?_
    refine z_copy (pc' := 38) (i := 0) (j := 0) (w := cap) X l_Ars_150 ac_1 ac_2 ac_3 d_Ars_copyOf_ALIL_35 h3 (z_up_s _ _ _) (by omega) (by omega) (by omega) (by omega) ?_ rfl (by decide) (Nat.le_of_ble_eq_true rfl) rfl rfl ?_
    · intro t ht y hy
      obtain ⟨ci, q, fs, g1, g2, g3⟩ := z_isob_c (hel t ht y (by rw [Nat.zero_add] at hy; exact hy))
      exact ⟨ci, q, fs, by rw [z_up_n _ _ (z_nb h1 g1)]; exact g1, g2, g3⟩
    · refine z_aload_n (pc' := 39) X d_Ars_copyOf_ALIL_38 rfl rfl ?_
      exact z_aret X rfl (Or.inr ⟨_, rfl⟩) (by first | exact Or.inr ⟨_, rfl⟩ | exact Or.inl rfl) d_Ars_copyOf_ALIL_39 (⟨by omega, by omega, a, rfl, h1, h2, z_uu _ _ _ _⟩)
theorem c_copyOf2 {a0 cap w : Nat} {f : Nat → Option Nat} (h0 : h a0 = some (z_ra (z_cO G) cap f)) (hcw : cap ≤ w) (hw : w < 2 ^ 20) (hel : ∀ t, t < cap → ∀ y, f t = some y → z_isob h y) : z_C G A m_Ars_copyOf_ALI 1 w [.ref a0, .int (nI w)] h (fun v h' k n => k = 1 ∧ n = w ∧ ∃ a, v = some (.ref a) ∧ h a = none ∧ a ≠ z_d0 G ∧ h' = z_up h a (z_ra (z_cO G) w (va_cpy f (fun _ => none) 0 0 cap))) := by
  refine z_C.of (by decide +kernel) rfl (Nat.le_of_ble_eq_true rfl) ?_
  intro x X
  refine z_aload_n (pc' := 1) X d_Ars_copyOf_ALI_0 rfl rfl ?_
  refine z_iload_n (pc' := 2) X d_Ars_copyOf_ALI_1 rfl rfl ?_
  refine z_aload_n (pc' := 3) X d_Ars_copyOf_ALI_2 rfl rfl ?_
  refine z_getC (pc' := 6) X l_Ars_86 gc_1 gc_2 gc_3 gc_4 d_Ars_copyOf_ALI_3 h0 rfl (by decide) (Nat.le_of_ble_eq_true rfl) rfl ?_
  refine z_callS X (c_copyOf3 h0 hcw hw hel) k_Ars_300 d_Ars_copyOf_ALI_6 rfl rfl rfl (by decide) (Nat.le_of_ble_eq_true rfl) ⟨by omega, by omega⟩ (fun v_6 h_6 k_6 n_6 p_6 => ?_)
  obtain ⟨rfl, rfl, a, rfl, h1, h2, rfl⟩ := p_6
  exact z_aret X rfl (Or.inr ⟨_, rfl⟩) (by first | exact Or.inr ⟨_, rfl⟩ | exact Or.inl rfl) d_Ars_copyOf_ALI_9 (⟨by omega, by omega, a, rfl, h1, h2, rfl⟩)
theorem c_grow_I {al d cap : Nat} {xs : List Nat} (hA : z_AL G h al d xs cap) (hfull : xs.length = cap) (hob : ∀ y ∈ xs, z_isob h y) (hc : 2 * cap + 10 < 2 ^ 20) : z_C G A m_AL_grow_I 1 (z_grow cap (cap + 1)) [.ref al, .int (nI (cap + 1))] h (fun v h' k n => k = 1 ∧ n = z_grow cap (cap + 1) ∧ ∃ a, v = some (.ref a) ∧ h a = none ∧ z_AL G h' al a xs (z_grow cap (cap + 1)) ∧ z_fr h h' [al]) := by
  have hg := z_grow_lt cap
  obtain ⟨⟨mo, a1⟩, a2, a3, a4⟩ := hA
  rcases a4 with ⟨rfl, rfl⟩ | ⟨b1, f, b2, b3⟩
  · have h10 : z_grow 0 (0 + 1) = 10 := rfl
    refine z_C.of (by decide +kernel) rfl (Nat.le_of_ble_eq_true rfl) ?_
    intro x X
    refine z_aload_n (pc' := 1) X d_AL_grow_I_0 rfl rfl ?_
    refine z_get (pc' := 4) X 1 f_AL_9 d_AL_grow_I_1 (by assumption) rfl rfl ?_
    refine z_alen0 (pc' := 5) X d_AL_grow_I_4 rfl ?_
    refine z_istore_n (pc' := 6) X d_AL_grow_I_5 rfl rfl rfl ?_
    refine z_iload_n (pc' := 7) X d_AL_grow_I_6 rfl rfl ?_
    refine z_if_gt (tgt := 20) (pc' := 10) X d_AL_grow_I_7 (by decide) rfl (fun c_7 => ?_) (fun c_7 => ?_)
    · exact absurd c_7 (by decide)
    · refine z_aload_n (pc' := 11) X d_AL_grow_I_10 rfl rfl ?_
      refine z_get (pc' := 14) X 1 f_AL_9 d_AL_grow_I_11 (by assumption) rfl rfl ?_
      refine z_gets (pc' := 17) X s_AL_39 d_AL_grow_I_14 rfl ?_
      refine z_acmp_eq (tgt := 45) (pc' := 20) X d_AL_grow_I_17 (by decide) rfl (fun c_17 => ?_) (fun c_17 => ?_)
      · refine z_aload_n (pc' := 46) X d_AL_grow_I_45 rfl rfl ?_
        refine z_bipush (pc' := 48) (v := 10) X d_AL_grow_I_46 (by decide) rfl ?_
        refine z_iload_n (pc' := 49) X d_AL_grow_I_48 rfl rfl ?_
        refine z_mmax (pc' := 52) X l_AL_79 ms_max mi_Math mc_max d_AL_grow_I_49 rfl (by decide) (Nat.le_of_ble_eq_true rfl) ⟨by omega, by omega⟩ rfl ?_
        refine z_top (b := .int (nI 10)) (by decide) ?_
        refine z_anew (pc' := 55) (C := "java/lang/Object") 1 X cl_AL_7 (fun U hK => hK.2.2.1) rfl d_AL_grow_I_52 (by omega) ⟨by omega, by omega⟩ rfl (fun a h1 h2 => ?_)
        have hal : z_up h a (z_ra (z_cO G) 10 (fun _ => none)) al = some (z_ob 6 [.int mo, .ref (z_d0 G), .int (nI xs.length)]) := by rw [z_up_n _ _ (z_nb h1 a1)]; exact a1
        refine z_dup_x1 (pc' := 56) X d_AL_grow_I_55 rfl rfl rfl ?_
        refine z_put (pc' := 59) X 1 f_AL_9 (g_AL_9 _) d_AL_grow_I_56 (by assumption) rfl rfl rfl rfl rfl ?_
        refine z_aret X rfl (Or.inr ⟨_, rfl⟩) (Or.inr ⟨_, rfl⟩) d_AL_grow_I_59 ⟨by omega, by show 0 + 10 = _; rfl, a, rfl, h1, ⟨⟨mo, z_up_s _ _ _⟩, by rw [hfull]; exact Nat.zero_le _, by omega, Or.inr ⟨by decide, fun _ => none, ?_, ?_⟩⟩, ?_⟩
        · rw [z_up_n _ _ (z_nb' h1 a1)]
          exact z_up_s _ _ _
        · intro i hi
          omega
        · exact z_fr_up (z_fr_new (z_fr_rf _ _) h1) (by simp)
      · exact absurd rfl c_17
  · refine z_C.of (by decide +kernel) rfl (Nat.le_of_ble_eq_true rfl) ?_
    intro x X
    refine z_aload_n (pc' := 1) X d_AL_grow_I_0 rfl rfl ?_
    refine z_get (pc' := 4) X 1 f_AL_9 d_AL_grow_I_1 (by assumption) rfl rfl ?_
    refine z_alen (pc' := 5) X 1 d_AL_grow_I_4 b2 rfl rfl ?_
    refine z_istore_n (pc' := 6) X d_AL_grow_I_5 rfl rfl rfl ?_
    refine z_iload_n (pc' := 7) X d_AL_grow_I_6 rfl rfl ?_
    refine z_if_gt (tgt := 20) (pc' := 10) X d_AL_grow_I_7 (by decide) rfl (fun c_7 => ?_) (fun c_7 => ?_)
    · refine z_iload_n (pc' := 21) X d_AL_grow_I_20 rfl rfl ?_
      refine z_iload_n (pc' := 22) X d_AL_grow_I_21 rfl rfl ?_
      refine z_iload_n (pc' := 23) X d_AL_grow_I_22 rfl rfl ?_
      refine z_isub (pc' := 24) X d_AL_grow_I_23 rfl ?_
      refine z_top (b := .int (nI 1)) (by rw [pk_sub (by omega), show cap + 1 - cap = 1 by omega]) ?_
      refine z_iload_n (pc' := 25) X d_AL_grow_I_24 rfl rfl ?_
      refine z_iconst (pc' := 26) (v := 1) X d_AL_grow_I_25 (by decide) rfl ?_
      refine z_ishr (pc' := 27) X d_AL_grow_I_26 rfl ?_
      refine z_top (b := .int (nI (cap / 2))) (by rw [pk_shrN (by omega) _ 1 (by decide)]) ?_
      have hz : z_grow cap (cap + 1) = cap + (if 1 < cap / 2 then cap / 2 else 1) := by
        unfold z_grow
        rw [if_neg (by omega), show cap + 1 - cap = 1 by omega]
      refine z_callS X (c_newLength (by omega) (by omega)) k_AL_73 d_AL_grow_I_27 rfl rfl rfl (by decide) (Nat.le_of_ble_eq_true rfl) ⟨by omega, by omega⟩ (z_kp ?_)
      rw [← hz]
      refine z_istore_n (pc' := 31) X d_AL_grow_I_30 rfl rfl rfl ?_
      refine z_aload_n (pc' := 32) X d_AL_grow_I_31 rfl rfl ?_
      refine z_aload_n (pc' := 33) X d_AL_grow_I_32 rfl rfl ?_
      refine z_get (pc' := 36) X 1 f_AL_9 d_AL_grow_I_33 (by assumption) rfl rfl ?_
      refine z_iload_n (pc' := 37) X d_AL_grow_I_36 rfl rfl ?_
      refine z_callS X (c_copyOf2 b2 (by omega) (by omega) (fun t ht y hy => hob y (List.mem_of_getElem? ((b3 t (by omega)).symm.trans hy)))) k_AL_66 d_AL_grow_I_37 rfl rfl rfl (by decide) (Nat.le_of_ble_eq_true rfl) ⟨by omega, by omega⟩ (fun v_37 h_37 k_37 n_37 p_37 => ?_)
      obtain ⟨rfl, rfl, a, rfl, h1, h2, rfl⟩ := p_37
      have hal : z_up h a (z_ra (z_cO G) (z_grow cap (cap + 1)) (va_cpy f (fun _ => none) 0 0 cap)) al = some (z_ob 6 [.int mo, .ref d, .int (nI xs.length)]) := by rw [z_up_n _ _ (z_nb h1 a1)]; exact a1
      refine z_dup_x1 (pc' := 41) X d_AL_grow_I_40 rfl rfl rfl ?_
      refine z_put (pc' := 44) X 1 f_AL_9 (g_AL_9 _) d_AL_grow_I_41 (by assumption) rfl rfl rfl rfl rfl ?_
      refine z_aret X rfl (Or.inr ⟨_, rfl⟩) (Or.inr ⟨_, rfl⟩) d_AL_grow_I_44 ⟨by omega, by omega, a, rfl, h1, ⟨⟨mo, z_up_s _ _ _⟩, by omega, by omega, Or.inr ⟨by omega, va_cpy f (fun _ => none) 0 0 cap, ?_, ?_⟩⟩, ?_⟩
      · rw [z_up_n _ _ (z_nb' h1 a1)]
        exact z_up_s _ _ _
      · intro i hi
        rw [pk_cpy_in (Nat.zero_le _) (by omega), Nat.zero_add, Nat.sub_zero]
        exact b3 i hi
      · exact z_fr_up (z_fr_new (z_fr_rf _ _) h1) (by simp)
    · exact absurd (nI_lt b1 (by omega)) c_7
theorem c_grow_0 {al d cap : Nat} {xs : List Nat} (hA : z_AL G h al d xs cap) (hfull : xs.length = cap) (hob : ∀ y ∈ xs, z_isob h y) (hc : 2 * cap + 10 < 2 ^ 20) : z_C G A m_AL_grow_0 1 (z_grow cap (cap + 1)) [.ref al] h (fun v h' k n => k = 1 ∧ n = z_grow cap (cap + 1) ∧ ∃ a, v = some (.ref a) ∧ h a = none ∧ z_AL G h' al a xs (z_grow cap (cap + 1)) ∧ z_fr h h' [al]) := by
  have hA0 := hA
  obtain ⟨⟨mo, a1⟩, a2, a3, a4⟩ := hA
  refine z_C.of (by decide +kernel) rfl (Nat.le_of_ble_eq_true rfl) ?_
  intro x X
  refine z_aload_n (pc' := 1) X d_AL_grow_0_0 rfl rfl ?_
  refine z_aload_n (pc' := 2) X d_AL_grow_0_1 rfl rfl ?_
  refine z_get (pc' := 5) X 2 f_AL_48 d_AL_grow_0_2 (by assumption) rfl rfl ?_
  refine z_iconst (pc' := 6) (v := 1) X d_AL_grow_0_5 (by decide) rfl ?_
  refine z_iadd (pc' := 7) X d_AL_grow_0_6 rfl ?_
  refine z_top (b := .int (nI (cap + 1))) (by rw [nI_1, hfull]) ?_
  refine z_callV X (c_grow_I hA0 hfull hob hc) k_AL_69 d_AL_grow_0_7 (by assumption) (show classes[6]? = some _ from rfl) rfl rfl rfl (by decide) (Nat.le_of_ble_eq_true rfl) ⟨by omega, by omega⟩ (fun v_7 h_7 k_7 n_7 p_7 => ?_)
  obtain ⟨rfl, rfl, a, rfl, h1, h2, h3⟩ := p_7
  exact z_aret X rfl (Or.inr ⟨_, rfl⟩) (by first | exact Or.inr ⟨_, rfl⟩ | exact Or.inl rfl) d_AL_grow_0_10 (⟨by omega, by omega, a, rfl, h1, h2, h3⟩)
end ALG
