/-! java.util.ArrayList: setting, removing -/
section ALB
variable {G : z_G} {A : Nat → Prop} {h : z_H}
theorem c_AL_set {al d cap y i b : Nat} {xs : List Nat} (hA : z_AL G h al d xs cap) (hi : xs[i]? = some b) (hy : z_isob h y) : z_C G A m_AL_set 0 0 [.ref al, .int (nI i), .ref y] h (fun v h' k n => v = some (.ref b) ∧ k = 0 ∧ n = 0 ∧ z_AL G h' al d (xs.set i y) cap ∧ z_fr h h' [al, d]) := by
  have hl := z_AL_len hA
  have hil : i < xs.length := (List.getElem?_eq_some_iff.mp hi).1
  obtain ⟨⟨mo, a1⟩, a2, a3, a4⟩ := hA
  rcases a4 with ⟨a4, -⟩ | ⟨b1, f, b2, b3⟩
  · omega
  obtain ⟨ci, q, fs, y1, y2, y3⟩ := z_isob_c hy
  refine z_C.of (by decide +kernel) rfl (Nat.le_of_ble_eq_true rfl) ?_
  intro x X
  refine z_iload_n (pc' := 1) X d_AL_set_0 rfl rfl ?_
  refine z_aload_n (pc' := 2) X d_AL_set_1 rfl rfl ?_
  refine z_get (pc' := 5) X 2 f_AL_48 d_AL_set_2 (by assumption) rfl rfl ?_
  refine z_callS X (c_Obs_checkIndex hil (by omega)) k_AL_118 d_AL_set_5 rfl rfl rfl (by decide) (Nat.le_of_ble_eq_true rfl) ⟨by omega, by omega⟩ (z_kp ?_)
  refine z_pop (pc' := 9) X d_AL_set_8 rfl rfl ?_
  refine z_aload_n (pc' := 10) X d_AL_set_9 rfl rfl ?_
  refine z_iload_n (pc' := 11) X d_AL_set_10 rfl rfl ?_
  refine z_callV X (c_AL_elementData a1 b2 (by omega) (by omega) ((b3 i hil).trans hi)) k_AL_123 d_AL_set_11 (by assumption) (show classes[6]? = some _ from rfl) rfl rfl rfl (by decide) (Nat.le_of_ble_eq_true rfl) ⟨by omega, by omega⟩ (z_kp ?_)
  refine z_astore_n (pc' := 15) X d_AL_set_14 rfl rfl rfl ?_
  refine z_aload_n (pc' := 16) X d_AL_set_15 rfl rfl ?_
  refine z_get (pc' := 19) X 1 f_AL_9 d_AL_set_16 (by assumption) rfl rfl ?_
  refine z_iload_n (pc' := 20) X d_AL_set_19 rfl rfl ?_
  refine z_aload_n (pc' := 21) X d_AL_set_20 rfl rfl ?_
  refine z_aastore (pc' := 22) X 1 d_AL_set_21 b2 rfl y1 y2 y3 (by omega) (by omega) rfl rfl ?_
  refine z_aload_n (pc' := 23) X d_AL_set_22 rfl rfl ?_
  refine z_aret X rfl (Or.inl ⟨_, rfl⟩) (Or.inr ⟨_, rfl⟩) d_AL_set_23 ⟨rfl, rfl, rfl, ⟨⟨mo, by rw [List.length_set, z_up_n _ _ (z_oa a1 b2)]; exact a1⟩, by rw [List.length_set]; exact a2, a3, Or.inr ⟨b1, _, z_up_s _ _ _, fun j hj => ?_⟩⟩, z_fr_up (z_fr_rf _ _) (by simp)⟩
  rw [List.length_set] at hj
  by_cases hji : j = i
  · subst hji
    rw [List.getElem?_set_self hil]
    simp [va_up]
  · rw [List.getElem?_set_ne (Ne.symm hji), va_up_ne _ _ hji, b3 j hj]
theorem z_del_at {xs : List Nat} {f g : Nat → Option Nat} {i : Nat} (hi : i < xs.length) (h3 : ∀ j, j < xs.length → f j = xs[j]?) (hg : ∀ j, j < xs.length - 1 → g j = va_cpy f f (i + 1) i (xs.length - 1 - i) j) : ∀ j, j < (xs.eraseIdx i).length → g j = (xs.eraseIdx i)[j]? := by
  intro j hj
  rw [List.length_eraseIdx_of_lt hi] at hj
  rw [hg j hj, List.getElem?_eraseIdx]
  split
  · rw [pk_cpy_out (Or.inl (by omega)), h3 j (by omega)]
  · rw [pk_cpy_in (by omega) (by omega), h3 _ (by omega), show i + 1 + (j - i) = j + 1 by omega]
theorem c_fastRemove {al d cap i : Nat} {xs : List Nat} (hA : z_AL G h al d xs cap) (hi : i < xs.length) (hob : ∀ z ∈ xs, z_isob h z) : z_C G A m_AL_fastRemove 0 0 [.ref al, .ref d, .int (nI i)] h (fun v h' k n => v = none ∧ k = 0 ∧ n = 0 ∧ z_AL G h' al d (xs.eraseIdx i) cap ∧ z_fr h h' [al, d]) := by
  have hl := z_AL_len hA
  have hA0 := hA
  obtain ⟨⟨mo, a1⟩, a2, a3, a4⟩ := hA
  rcases a4 with ⟨a4, -⟩ | ⟨b1, f, b2, b3⟩
  · omega
  have hlen : (xs.eraseIdx i).length = xs.length - 1 := List.length_eraseIdx_of_lt hi
  refine z_C.of (by decide +kernel) rfl (Nat.le_of_ble_eq_true rfl) ?_
  intro x X
  have tail : ∀ (hh : z_H) (mo : Int32) (g : Nat → Option Nat), hh al = some (z_ob 6 [.int mo, .ref d, .int (nI xs.length)]) → hh d = some (z_ra (z_cO G) cap g) → (∀ j, j < xs.length - 1 → g j = va_cpy f f (i + 1) i (xs.length - 1 - i) j) → z_fr h hh [al, d] → z_V G A x hh 0 0 34 [some (.ref al), some (.ref d), some (.int (nI i)), some (.int (nI (xs.length - 1)))] [] := by
    intro hh mo g g1 g2 g3 hf
    refine z_aload_n (pc' := 35) X d_AL_fastRemove_34 rfl rfl ?_
    refine z_aload_n (pc' := 36) X d_AL_fastRemove_35 rfl rfl ?_
    refine z_iload_n (pc' := 37) X d_AL_fastRemove_36 rfl rfl ?_
    refine z_dup_x1 (pc' := 38) X d_AL_fastRemove_37 rfl rfl rfl ?_
    refine z_put (pc' := 41) X 2 f_AL_48 (g_AL_48 _) d_AL_fastRemove_38 (by assumption) rfl rfl rfl rfl rfl ?_
    have hd1 : z_up hh al (z_ob 6 [.int mo, .ref d, .int (nI (xs.length - 1))]) d = some (z_ra (z_cO G) cap g) := by rw [z_up_n _ _ (z_ao g1 g2)]; exact g2
    refine z_anull (pc' := 42) X d_AL_fastRemove_41 rfl ?_
    refine z_aastoreN (pc' := 43) X 1 d_AL_fastRemove_42 hd1 rfl (by omega) (by omega) rfl rfl ?_
    refine z_vret X rfl d_AL_fastRemove_43 ⟨rfl, rfl, rfl, ⟨⟨mo, by rw [hlen, z_up_n _ _ (z_oa g1 g2)]; exact z_up_s _ _ _⟩, by omega, a3, Or.inr ⟨b1, _, z_up_s _ _ _, z_del_at hi b3 (fun j hj => ?_)⟩⟩, z_fr_up (z_fr_up hf (by simp)) (by simp)⟩
    rw [va_up_ne _ _ (by omega), g3 j hj]
  refine z_aload_n (pc' := 1) X d_AL_fastRemove_0 rfl rfl ?_
  refine z_dup (pc' := 2) X d_AL_fastRemove_1 rfl rfl ?_
  refine z_get (pc' := 5) X 0 f_AL_63 d_AL_fastRemove_2 (by assumption) rfl rfl ?_
  refine z_iconst (pc' := 6) (v := 1) X d_AL_fastRemove_5 (by decide) rfl ?_
  refine z_iadd (pc' := 7) X d_AL_fastRemove_6 rfl ?_
  refine z_put (pc' := 10) X 0 f_AL_63 (g_AL_63 _) d_AL_fastRemove_7 (by assumption) rfl rfl rfl rfl rfl ?_
  have h1 := z_up_s h al (z_ob 6 [.int (mo + 1), .ref d, .int (nI xs.length)])
  have hd1 : z_up h al (z_ob 6 [.int (mo + 1), .ref d, .int (nI xs.length)]) d = some (z_ra (z_cO G) cap f) := by rw [z_up_n _ _ (z_ao a1 b2)]; exact b2
  refine z_aload_n (pc' := 11) X d_AL_fastRemove_10 rfl rfl ?_
  refine z_get (pc' := 14) X 2 f_AL_48 d_AL_fastRemove_11 (by assumption) rfl rfl ?_
  refine z_iconst (pc' := 15) (v := 1) X d_AL_fastRemove_14 (by decide) rfl ?_
  refine z_isub (pc' := 16) X d_AL_fastRemove_15 rfl ?_
  refine z_top (b := .int (nI (xs.length - 1))) (by rw [show (1 : Int32) = nI 1 from rfl, pk_sub (by omega)]) ?_
  refine z_dup (pc' := 17) X d_AL_fastRemove_16 rfl rfl ?_
  refine z_istore_n (pc' := 18) X d_AL_fastRemove_17 rfl rfl rfl ?_
  refine z_iload_n (pc' := 19) X d_AL_fastRemove_18 rfl rfl ?_
  refine z_icmp_le (tgt := 34) (pc' := 22) X d_AL_fastRemove_19 (by decide) rfl (fun c_19 => ?_) (fun c_19 => ?_)
  · have hil : i = xs.length - 1 := by
      have := (nI_leI (by omega) (by omega)).mp c_19
      omega
    exact tail _ (mo + 1) f h1 hd1 (fun j hj => by rw [pk_cpy_out (Or.inl (by omega))]) (z_fr_up (z_fr_rf _ _) (by simp))
  · have hil : i < xs.length - 1 := by
      rcases Nat.lt_or_ge i (xs.length - 1) with q | q
      · exact q
      · exact absurd (nI_le q (by omega)) c_19
    refine z_aload_n (pc' := 23) X d_AL_fastRemove_22 rfl rfl ?_
    refine z_iload_n (pc' := 24) X d_AL_fastRemove_23 rfl rfl ?_
    refine z_iconst (pc' := 25) (v := 1) X d_AL_fastRemove_24 (by decide) rfl ?_
    refine z_iadd (pc' := 26) X d_AL_fastRemove_25 rfl ?_
    refine z_top (b := .int (nI (i + 1))) (by rw [nI_1]) ?_
    refine z_aload_n (pc' := 27) X d_AL_fastRemove_26 rfl rfl ?_
    refine z_iload_n (pc' := 28) X d_AL_fastRemove_27 rfl rfl ?_
    refine z_iload_n (pc' := 29) X d_AL_fastRemove_28 rfl rfl ?_
    refine z_iload_n (pc' := 30) X d_AL_fastRemove_29 rfl rfl ?_
    refine z_isub (pc' := 31) X d_AL_fastRemove_30 rfl ?_
    refine z_top (b := .int (nI (xs.length - 1 - i))) (by rw [pk_sub (by omega)]) ?_
    refine z_copy (pc' := 34) (i := i + 1) (j := i) (w := xs.length - 1 - i) X l_AL_112 ac_1 ac_2 ac_3 d_AL_fastRemove_31 hd1 hd1 (by omega) (by omega) (by omega) (by omega) ?_ rfl (by decide) (Nat.le_of_ble_eq_true rfl) rfl rfl ?_
    · intro t ht z hz
      exact z_isob_c (z_isob_up a1 (hob z (List.mem_of_getElem? ((b3 (i + 1 + t) (by omega)).symm.trans hz))))
    exact tail _ (mo + 1) _ (by rw [z_up_n _ _ (z_oa h1 hd1)]; exact h1) (z_up_s _ _ _) (fun j hj => rfl) (z_fr_up (z_fr_up (z_fr_rf _ _) (by simp)) (by simp))
theorem c_AL_remove {al d cap i b : Nat} {xs : List Nat} (hA : z_AL G h al d xs cap) (hi : xs[i]? = some b) (hob : ∀ z ∈ xs, z_isob h z) : z_C G A m_AL_remove 0 0 [.ref al, .int (nI i)] h (fun v h' k n => v = some (.ref b) ∧ k = 0 ∧ n = 0 ∧ z_AL G h' al d (xs.eraseIdx i) cap ∧ z_fr h h' [al, d]) := by
  have hl := z_AL_len hA
  have hA0 := hA
  have hil : i < xs.length := (List.getElem?_eq_some_iff.mp hi).1
  obtain ⟨⟨mo, a1⟩, a2, a3, a4⟩ := hA
  rcases a4 with ⟨a4, -⟩ | ⟨b1, f, b2, b3⟩
  · omega
  refine z_C.of (by decide +kernel) rfl (Nat.le_of_ble_eq_true rfl) ?_
  intro x X
  refine z_iload_n (pc' := 1) X d_AL_remove_0 rfl rfl ?_
  refine z_aload_n (pc' := 2) X d_AL_remove_1 rfl rfl ?_
  refine z_get (pc' := 5) X 2 f_AL_48 d_AL_remove_2 (by assumption) rfl rfl ?_
  refine z_callS X (c_Obs_checkIndex hil (by omega)) k_AL_118 d_AL_remove_5 rfl rfl rfl (by decide) (Nat.le_of_ble_eq_true rfl) ⟨by omega, by omega⟩ (z_kp ?_)
  refine z_pop (pc' := 9) X d_AL_remove_8 rfl rfl ?_
  refine z_aload_n (pc' := 10) X d_AL_remove_9 rfl rfl ?_
  refine z_get (pc' := 13) X 1 f_AL_9 d_AL_remove_10 (by assumption) rfl rfl ?_
  refine z_astore_n (pc' := 14) X d_AL_remove_13 rfl rfl rfl ?_
  refine z_aload_n (pc' := 15) X d_AL_remove_14 rfl rfl ?_
  refine z_iload_n (pc' := 16) X d_AL_remove_15 rfl rfl ?_
  refine z_aaload (pc' := 17) X 1 d_AL_remove_16 b2 rfl (by omega) (by omega) ((b3 i hil).trans hi) rfl ?_
  refine z_astore_n (pc' := 18) X d_AL_remove_17 rfl rfl rfl ?_
  refine z_aload_n (pc' := 19) X d_AL_remove_18 rfl rfl ?_
  refine z_aload_n (pc' := 20) X d_AL_remove_19 rfl rfl ?_
  refine z_iload_n (pc' := 21) X d_AL_remove_20 rfl rfl ?_
  refine z_callV X (c_fastRemove hA0 hil hob) k_AL_144 d_AL_remove_21 (by assumption) (show classes[6]? = some _ from rfl) rfl rfl rfl (by decide) (Nat.le_of_ble_eq_true rfl) ⟨by omega, by omega⟩ (fun v_21 h_21 k_21 n_21 p_21 => ?_)
  obtain ⟨rfl, rfl, rfl, q1, q2⟩ := p_21
  refine z_aload_n (pc' := 25) X d_AL_remove_24 rfl rfl ?_
  exact z_aret X rfl (Or.inl ⟨_, rfl⟩) (by first | exact Or.inr ⟨_, rfl⟩ | exact Or.inl rfl) d_AL_remove_25 (⟨rfl, rfl, rfl, q1, q2⟩)
end ALB
