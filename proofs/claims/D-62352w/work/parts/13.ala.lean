/-! java.util.ArrayList: adding, setting, removing -/
section ALA
variable {G : z_G} {A : Nat → Prop} {h : z_H}
/-- the array's length, whichever array it is -/
theorem z_ALlen {x : z_X} {M : z_M} {mc ms k n pc pc' : Nat} {Post : z_T} {L : List (Option Value)} {st : List Value} (X : z_O G A x M mc ms Post) {al d cap : Nat} {xs : List Nat} (hA : z_AL G h al d xs cap) (hd : decode M.2.1 pc = .ok (.arraylength, 1)) (hp : pc + 1 = pc') (kk : z_V G A x h k n pc' L (.int (nI cap) :: st)) : z_V G A x h k n pc L (.ref d :: st) := by
  obtain ⟨-, -, -, a4⟩ := hA
  rcases a4 with ⟨rfl, rfl⟩ | ⟨b1, f, b2, b3⟩
  · exact z_alen0 X hd hp kk
  · exact z_alen X 1 hd b2 rfl hp kk
theorem z_AL_app {al d cap : Nat} {xs : List Nat} {f : Nat → Option Nat} {mo : Int32} {y : Nat} (hlt : xs.length < cap) (hc : cap < 2 ^ 20) (h1 : h al = some (z_ob 6 [.int mo, .ref d, .int (nI (xs.length + 1))])) (h2 : h d = some (z_ra (z_cO G) cap (va_up f xs.length (some y)))) (h3 : ∀ i, i < xs.length → f i = xs[i]?) : z_AL G h al d (xs ++ [y]) cap := by
  refine ⟨⟨mo, by rw [List.length_append]; exact h1⟩, by rw [List.length_append]; exact hlt, hc, Or.inr ⟨by omega, _, h2, fun i hi => ?_⟩⟩
  rw [List.length_append] at hi
  by_cases hx : i = xs.length
  · subst hx
    simp [va_up]
  · have hx' : i < xs.length := by
      have : i < xs.length + 1 := hi
      omega
    rw [va_up_ne _ _ hx, List.getElem?_append_left hx', h3 i hx']
theorem c_add3 {al d cap y : Nat} {xs : List Nat} (hA : z_AL G h al d xs cap) (hob : ∀ z ∈ xs, z_isob h z) (hy : z_isob h y) (hc : 2 * cap + 10 < 2 ^ 20) : z_C G A m_AL_add_LALI 1 (2 * cap + 10) [.ref al, .ref y, .ref d, .int (nI xs.length)] h (fun v h' k n => v = none ∧ ∃ d' cap', z_AL G h' al d' (xs ++ [y]) cap' ∧ (d' = d ∨ h d' = none) ∧ z_fr h h' [al, d] ∧ z_gw cap xs.length cap' k n) := by
  have hl := z_AL_len hA
  have hg := z_grow_lt cap
  have hcap := hA.2.1
  have hA0 := hA
  refine z_C.of (by decide +kernel) rfl (Nat.le_of_ble_eq_true rfl) ?_
  intro x X
  have tail : ∀ (hh : z_H) (d' cap' k n : Nat), z_AL G hh al d' xs cap' → xs.length < cap' → z_isob hh y → (d' = d ∨ h d' = none) → z_fr h hh [al, d] → z_gw cap xs.length cap' k n → z_V G A x hh k n 11 [some (.ref al), some (.ref y), some (.ref d'), some (.int (nI xs.length))] [] := by
    intro hh d' cap' k n hA' hlt hy' hd' hf hw
    obtain ⟨⟨mo, a1⟩, a2, a3, a4⟩ := hA'
    rcases a4 with ⟨a4, -⟩ | ⟨b1, f, b2, b3⟩
    · omega
    obtain ⟨ci, q, fs, y1, y2, y3⟩ := z_isob_c hy'
    refine z_aload_n (pc' := 12) X d_AL_add_LALI_11 rfl rfl ?_
    refine z_iload_n (pc' := 13) X d_AL_add_LALI_12 rfl rfl ?_
    refine z_aload_n (pc' := 14) X d_AL_add_LALI_13 rfl rfl ?_
    refine z_aastore (pc' := 15) X 1 d_AL_add_LALI_14 b2 rfl y1 y2 y3 hlt (by omega) rfl rfl ?_
    have hal : z_up hh d' (z_ra (z_cO G) cap' (va_up f xs.length (some y))) al = some (z_ob 6 [.int mo, .ref d', .int (nI xs.length)]) := by rw [z_up_n _ _ (z_oa a1 b2)]; exact a1
    refine z_aload_n (pc' := 16) X d_AL_add_LALI_15 rfl rfl ?_
    refine z_iload_n (pc' := 17) X d_AL_add_LALI_16 rfl rfl ?_
    refine z_iconst (pc' := 18) (v := 1) X d_AL_add_LALI_17 (by decide) rfl ?_
    refine z_iadd (pc' := 19) X d_AL_add_LALI_18 rfl ?_
    refine z_top (b := .int (nI (xs.length + 1))) (by rw [nI_1]) ?_
    refine z_put (pc' := 22) X 2 f_AL_48 (g_AL_48 _) d_AL_add_LALI_19 (by assumption) rfl rfl rfl rfl rfl ?_
    refine z_vret X rfl d_AL_add_LALI_22 ⟨rfl, d', cap', z_AL_app hlt a3 (z_up_s _ _ _) (by rw [z_up_n _ _ (z_ao a1 b2)]; exact z_up_s _ _ _) b3, hd', ?_, hw⟩
    refine z_fr_up ?_ (by simp)
    rcases hd' with rfl | hd'
    · exact z_fr_up hf (by simp)
    · exact z_fr_new hf hd'
  refine z_iload_n (pc' := 1) X d_AL_add_LALI_0 rfl rfl ?_
  refine z_aload_n (pc' := 2) X d_AL_add_LALI_1 rfl rfl ?_
  refine z_ALlen (pc' := 3) X hA0 d_AL_add_LALI_2 rfl ?_
  refine z_icmp_ne (tgt := 11) (pc' := 6) X d_AL_add_LALI_3 (by decide) rfl (fun c_3 => ?_) (fun c_3 => ?_)
  · have hlt : xs.length < cap := by
      rcases Nat.lt_or_ge xs.length cap with q | q
      · exact q
      · exact absurd (by rw [Nat.le_antisymm hcap q]) c_3
    exact tail h d cap 0 0 hA0 hlt hy (Or.inl rfl) (z_fr_rf _ _) ⟨Nat.le_refl _, by omega, by omega, Or.inl rfl⟩
  · have hfull : xs.length = cap := (nI_eq (by omega) (by omega)).mp c_3
    obtain ⟨mo, hal⟩ := hA0.1
    refine z_aload_n (pc' := 7) X d_AL_add_LALI_6 rfl rfl ?_
    refine z_callV X (c_grow_0 hA0 hfull hob hc) k_AL_129 d_AL_add_LALI_7 (by assumption) (show classes[6]? = some _ from rfl) rfl rfl rfl (by decide) (Nat.le_of_ble_eq_true rfl) ⟨by omega, by omega⟩ (fun v_7 h_7 k_7 n_7 p_7 => ?_)
    obtain ⟨rfl, rfl, a, rfl, h1, h2, h3⟩ := p_7
    refine z_astore_n (pc' := 11) X d_AL_add_LALI_10 rfl rfl rfl ?_
    have hya : y ≠ al := fun e => by
      obtain ⟨ci, fs, q1, q2⟩ := hy
      rw [e, hal] at q1
      cases q1
      omega
    exact tail h_7 a _ _ _ h2 (by omega) (z_isob_fr h3 hy (by simpa using hya)) (Or.inr h1) (z_fr_mono h3 (by simp)) ⟨by omega, by omega, by omega, Or.inr ⟨hfull, rfl⟩⟩
theorem z_isob_al {al ci : Nat} {fs : List Value} {y : Nat} (hal : h al = some (z_ob 6 fs)) (hy : z_isob h y) : y ≠ al := fun e => by
  obtain ⟨ci, fs, q1, q2⟩ := hy
  rw [e, hal] at q1
  cases q1
  omega
theorem z_isob_up {al : Nat} {fs fs' : List Value} {y : Nat} (hal : h al = some (z_ob 6 fs)) (hy : z_isob h y) : z_isob (z_up h al (z_ob 6 fs')) y := by
  have hne := z_isob_al (ci := 0) hal hy
  obtain ⟨ci, fs, q1, q2⟩ := hy
  exact ⟨ci, fs, by rw [z_up_n _ _ hne]; exact q1, q2⟩
theorem c_AL_add {al d cap y : Nat} {xs : List Nat} (hA : z_AL G h al d xs cap) (hob : ∀ z ∈ xs, z_isob h z) (hy : z_isob h y) (hc : 2 * cap + 10 < 2 ^ 20) : z_C G A m_AL_add_L 1 (2 * cap + 10) [.ref al, .ref y] h (fun v h' k n => v = some (.int 1) ∧ ∃ d' cap', z_AL G h' al d' (xs ++ [y]) cap' ∧ (d' = d ∨ h d' = none) ∧ z_fr h h' [al, d] ∧ z_gw cap xs.length cap' k n) := by
  have hA0 := hA
  obtain ⟨⟨mo, a1⟩, a2, a3, a4⟩ := hA
  refine z_C.of (by decide +kernel) rfl (Nat.le_of_ble_eq_true rfl) ?_
  intro x X
  refine z_aload_n (pc' := 1) X d_AL_add_L_0 rfl rfl ?_
  refine z_dup (pc' := 2) X d_AL_add_L_1 rfl rfl ?_
  refine z_get (pc' := 5) X 0 f_AL_63 d_AL_add_L_2 (by assumption) rfl rfl ?_
  refine z_iconst (pc' := 6) (v := 1) X d_AL_add_L_5 (by decide) rfl ?_
  refine z_iadd (pc' := 7) X d_AL_add_L_6 rfl ?_
  refine z_put (pc' := 10) X 0 f_AL_63 (g_AL_63 _) d_AL_add_L_7 (by assumption) rfl rfl rfl rfl rfl ?_
  have h1 := z_up_s h al (z_ob 6 [.int (mo + 1), .ref d, .int (nI xs.length)])
  refine z_aload_n (pc' := 11) X d_AL_add_L_10 rfl rfl ?_
  refine z_aload_n (pc' := 12) X d_AL_add_L_11 rfl rfl ?_
  refine z_aload_n (pc' := 13) X d_AL_add_L_12 rfl rfl ?_
  refine z_get (pc' := 16) X 1 f_AL_9 d_AL_add_L_13 (by assumption) rfl rfl ?_
  refine z_aload_n (pc' := 17) X d_AL_add_L_16 rfl rfl ?_
  refine z_get (pc' := 20) X 2 f_AL_48 d_AL_add_L_17 (by assumption) rfl rfl ?_
  refine z_callV X (c_add3 (z_AL_nd hA0 (v1 := .null) (v2 := .null)) (fun z hz => z_isob_up a1 (hob z hz)) (z_isob_up a1 hy) hc) k_AL_131 d_AL_add_L_20 (by assumption) (show classes[6]? = some _ from rfl) rfl rfl rfl (by decide) (Nat.le_of_ble_eq_true rfl) ⟨by omega, by omega⟩ (fun v_20 h_20 k_20 n_20 p_20 => ?_)
  obtain ⟨rfl, d', cap', q1, q2, q3, q4⟩ := p_20
  refine z_iconst (pc' := 24) (v := 1) X d_AL_add_L_23 (by decide) rfl ?_
  refine z_zret X rfl (Or.inr rfl) d_AL_add_L_24 ⟨rfl, d', cap', q1, ?_, ?_, by rw [Nat.zero_add, Nat.zero_add]; exact q4⟩
  · rcases q2 with q2 | q2
    · exact Or.inl q2
    · right
      have hne : d' ≠ al := fun e => by rw [e, z_up_s] at q2; cases q2
      rw [z_up_n _ _ hne] at q2
      exact q2
  · exact z_fr_tr (z_fr_up (z_fr_rf _ _) (by simp)) q3
theorem c_rangeCheck {al i s : Nat} {v0 v1 : Value} (hal : h al = some (z_ob 6 [v0, v1, .int (nI s)])) (hi : i ≤ s) (hs : s < 2 ^ 31) : z_C G A m_AL_rangeCheckForAdd 0 0 [.ref al, .int (nI i)] h (z_pu none h) := by
  refine z_C.of (by decide +kernel) rfl (Nat.le_of_ble_eq_true rfl) ?_
  intro x X
  refine z_iload_n (pc' := 1) X d_AL_rangeCheckForAdd_0 rfl rfl ?_
  refine z_aload_n (pc' := 2) X d_AL_rangeCheckForAdd_1 rfl rfl ?_
  refine z_get (pc' := 5) X 2 f_AL_48 d_AL_rangeCheckForAdd_2 (by assumption) rfl rfl ?_
  refine z_icmp_gt (tgt := 12) (pc' := 8) X d_AL_rangeCheckForAdd_5 (by decide) rfl (fun c_5 => ?_) (fun c_5 => ?_)
  · exact absurd c_5 (nI_nlt hi hs)
  · refine z_iload_n (pc' := 9) X d_AL_rangeCheckForAdd_8 rfl rfl ?_
    refine z_if_ge (tgt := 25) (pc' := 12) X d_AL_rangeCheckForAdd_9 (by decide) rfl (fun c_9 => ?_) (fun c_9 => ?_)
    · exact z_vret X rfl d_AL_rangeCheckForAdd_25 (⟨rfl, rfl, rfl, rfl⟩)
    · exact absurd (nI_pos' (by omega)) c_9
theorem z_ins_at {xs : List Nat} {f : Nat → Option Nat} {i y : Nat} (hi : i ≤ xs.length) (h3 : ∀ j, j < xs.length → f j = xs[j]?) : ∀ j, j < (xs.take i ++ y :: xs.drop i).length → va_up (va_cpy f f i (i + 1) (xs.length - i)) i (some y) j = (xs.take i ++ y :: xs.drop i)[j]? := by
  intro j hj
  have hlen : (xs.take i).length = i := by rw [List.length_take]; omega
  rw [List.length_append, hlen, List.length_cons, List.length_drop] at hj
  rcases Nat.lt_trichotomy j i with q | q | q
  · rw [va_up_ne _ _ (by omega), pk_cpy_out (Or.inl (by omega)), List.getElem?_append_left (by omega), h3 j (by omega), List.getElem?_take, if_pos q]
  · subst q
    rw [List.getElem?_append_right (by omega), hlen, Nat.sub_self]
    simp [va_up]
  · rw [va_up_ne _ _ (by omega), pk_cpy_in (by omega) (by omega), List.getElem?_append_right (by omega), hlen, show j - i = (j - (i + 1)) + 1 by omega, List.getElem?_cons_succ, List.getElem?_drop, h3 _ (by omega)]
theorem c_AL_addAt {al d cap y i : Nat} {xs : List Nat} (hA : z_AL G h al d xs cap) (hi : i ≤ xs.length) (hob : ∀ z ∈ xs, z_isob h z) (hy : z_isob h y) (hc : 2 * cap + 10 < 2 ^ 20) : z_C G A m_AL_add_IL 1 (2 * cap + 10) [.ref al, .int (nI i), .ref y] h (fun v h' k n => v = none ∧ ∃ d' cap', z_AL G h' al d' (xs.take i ++ y :: xs.drop i) cap' ∧ (d' = d ∨ h d' = none) ∧ z_fr h h' [al, d] ∧ z_gw cap xs.length cap' k n) := by
  have hl := z_AL_len hA
  have hg := z_grow_lt cap
  have hcap := hA.2.1
  have hA0 := hA
  obtain ⟨⟨mo, a1⟩, a2, a3, a4⟩ := hA
  refine z_C.of (by decide +kernel) rfl (Nat.le_of_ble_eq_true rfl) ?_
  intro x X
  have tail : ∀ (hh : z_H) (d' cap' k n : Nat), z_AL G hh al d' xs cap' → xs.length < cap' → z_isob hh y → (∀ z ∈ xs, z_isob hh z) → (d' = d ∨ h d' = none) → z_fr h hh [al, d] → z_gw cap xs.length cap' k n → z_V G A x hh k n 38 [some (.ref al), some (.int (nI i)), some (.ref y), some (.int (nI xs.length)), some (.ref d')] [] := by
    intro hh d' cap' k n hA' hlt hy' hob' hd' hf hw
    obtain ⟨⟨mo, a1⟩, a2, a3, a4⟩ := hA'
    rcases a4 with ⟨a4, -⟩ | ⟨b1, f, b2, b3⟩
    · omega
    refine z_aload (pc' := 40) X d_AL_add_IL_38 rfl rfl ?_
    refine z_iload_n (pc' := 41) X d_AL_add_IL_40 rfl rfl ?_
    refine z_aload (pc' := 43) X d_AL_add_IL_41 rfl rfl ?_
    refine z_iload_n (pc' := 44) X d_AL_add_IL_43 rfl rfl ?_
    refine z_iconst (pc' := 45) (v := 1) X d_AL_add_IL_44 (by decide) rfl ?_
    refine z_iadd (pc' := 46) X d_AL_add_IL_45 rfl ?_
    refine z_top (b := .int (nI (i + 1))) (by rw [nI_1]) ?_
    refine z_iload_n (pc' := 47) X d_AL_add_IL_46 rfl rfl ?_
    refine z_iload_n (pc' := 48) X d_AL_add_IL_47 rfl rfl ?_
    refine z_isub (pc' := 49) X d_AL_add_IL_48 rfl ?_
    refine z_top (b := .int (nI (xs.length - i))) (by rw [pk_sub hi]) ?_
    refine z_copy (pc' := 52) (i := i) (j := i + 1) (w := xs.length - i) X l_AL_112 ac_1 ac_2 ac_3 d_AL_add_IL_49 b2 b2 (by omega) (by omega) (by omega) (by omega) ?_ rfl (by decide) (Nat.le_of_ble_eq_true rfl) rfl rfl ?_
    · intro t ht z hz
      exact z_isob_c (hob' z (List.mem_of_getElem? ((b3 (i + t) (by omega)).symm.trans hz)))
    have hyd : y ≠ d' := fun e => by
      obtain ⟨ci, fs, q1, q2⟩ := hy'
      rw [e, b2] at q1
      cases q1
    obtain ⟨ci, q, fs, y1, y2, y3⟩ := z_isob_c hy'
    refine z_aload (pc' := 54) X d_AL_add_IL_52 rfl rfl ?_
    refine z_iload_n (pc' := 55) X d_AL_add_IL_54 rfl rfl ?_
    refine z_aload_n (pc' := 56) X d_AL_add_IL_55 rfl rfl ?_
    refine z_aastore (pc' := 57) X 1 d_AL_add_IL_56 (z_up_s _ _ _) rfl (by rw [z_up_n _ _ hyd]; exact y1) y2 y3 (by omega) (by omega) rfl rfl ?_
    refine z_hp (z_uu _ _ _ _) ?_
    have hal : z_up hh d' (z_ra (z_cO G) cap' (va_up (va_cpy f f i (i + 1) (xs.length - i)) i (some y))) al = some (z_ob 6 [.int mo, .ref d', .int (nI xs.length)]) := by rw [z_up_n _ _ (z_oa a1 b2)]; exact a1
    refine z_aload_n (pc' := 58) X d_AL_add_IL_57 rfl rfl ?_
    refine z_iload_n (pc' := 59) X d_AL_add_IL_58 rfl rfl ?_
    refine z_iconst (pc' := 60) (v := 1) X d_AL_add_IL_59 (by decide) rfl ?_
    refine z_iadd (pc' := 61) X d_AL_add_IL_60 rfl ?_
    refine z_top (b := .int (nI (xs.length + 1))) (by rw [nI_1]) ?_
    refine z_put (pc' := 64) X 2 f_AL_48 (g_AL_48 _) d_AL_add_IL_61 (by assumption) rfl rfl rfl rfl rfl ?_
    have hlen : (xs.take i ++ y :: xs.drop i).length = xs.length + 1 := by rw [List.length_append, List.length_take, List.length_cons, List.length_drop]; omega
    refine z_vret X rfl d_AL_add_IL_64 ⟨rfl, d', cap', ⟨⟨mo, by rw [hlen]; exact z_up_s _ _ _⟩, by omega, a3, Or.inr ⟨b1, _, by rw [z_up_n _ _ (z_ao a1 b2)]; exact z_up_s _ _ _, z_ins_at hi b3⟩⟩, hd', ?_, hw⟩
    refine z_fr_up ?_ (by simp)
    rcases hd' with rfl | hd'
    · exact z_fr_up hf (by simp)
    · exact z_fr_new hf hd'
  refine z_aload_n (pc' := 1) X d_AL_add_IL_0 rfl rfl ?_
  refine z_iload_n (pc' := 2) X d_AL_add_IL_1 rfl rfl ?_
  refine z_callV X (c_rangeCheck a1 hi (by omega)) k_AL_135 d_AL_add_IL_2 (by assumption) (show classes[6]? = some _ from rfl) rfl rfl rfl (by decide) (Nat.le_of_ble_eq_true rfl) ⟨by omega, by omega⟩ (z_kp ?_)
  refine z_aload_n (pc' := 6) X d_AL_add_IL_5 rfl rfl ?_
  refine z_dup (pc' := 7) X d_AL_add_IL_6 rfl rfl ?_
  refine z_get (pc' := 10) X 0 f_AL_63 d_AL_add_IL_7 (by assumption) rfl rfl ?_
  refine z_iconst (pc' := 11) (v := 1) X d_AL_add_IL_10 (by decide) rfl ?_
  refine z_iadd (pc' := 12) X d_AL_add_IL_11 rfl ?_
  refine z_put (pc' := 15) X 0 f_AL_63 (g_AL_63 _) d_AL_add_IL_12 (by assumption) rfl rfl rfl rfl rfl ?_
  have h1 := z_up_s h al (z_ob 6 [.int (mo + 1), .ref d, .int (nI xs.length)])
  have hA1 := z_AL_nd hA0 (mo := mo + 1) (v1 := .null) (v2 := .null)
  refine z_aload_n (pc' := 16) X d_AL_add_IL_15 rfl rfl ?_
  refine z_get (pc' := 19) X 2 f_AL_48 d_AL_add_IL_16 (by assumption) rfl rfl ?_
  refine z_dup (pc' := 20) X d_AL_add_IL_19 rfl rfl ?_
  refine z_istore_n (pc' := 21) X d_AL_add_IL_20 rfl rfl rfl ?_
  refine z_aload_n (pc' := 22) X d_AL_add_IL_21 rfl rfl ?_
  refine z_get (pc' := 25) X 1 f_AL_9 d_AL_add_IL_22 (by assumption) rfl rfl ?_
  refine z_dup (pc' := 26) X d_AL_add_IL_25 rfl rfl ?_
  refine z_astore (pc' := 28) X d_AL_add_IL_26 rfl rfl rfl ?_
  refine z_ALlen (pc' := 29) X hA1 d_AL_add_IL_28 rfl ?_
  refine z_icmp_ne (tgt := 38) (pc' := 32) X d_AL_add_IL_29 (by decide) rfl (fun c_29 => ?_) (fun c_29 => ?_)
  · have hlt : xs.length < cap := by
      rcases Nat.lt_or_ge xs.length cap with q | q
      · exact q
      · exact absurd (by rw [Nat.le_antisymm hcap q]) c_29
    exact tail _ d cap 0 0 hA1 hlt (z_isob_up a1 hy) (fun z hz => z_isob_up a1 (hob z hz)) (Or.inl rfl) (z_fr_up (z_fr_rf _ _) (by simp)) ⟨Nat.le_refl _, by omega, by omega, Or.inl rfl⟩
  · have hfull : xs.length = cap := (nI_eq (by omega) (by omega)).mp c_29
    refine z_aload_n (pc' := 33) X d_AL_add_IL_32 rfl rfl ?_
    refine z_callV X (c_grow_0 hA1 hfull (fun z hz => z_isob_up a1 (hob z hz)) hc) k_AL_129 d_AL_add_IL_33 (by assumption) (show classes[6]? = some _ from rfl) rfl rfl rfl (by decide) (Nat.le_of_ble_eq_true rfl) ⟨by omega, by omega⟩ (fun v_33 h_33 k_33 n_33 p_33 => ?_)
    obtain ⟨rfl, rfl, a, rfl, g1, g2, g3⟩ := p_33
    refine z_astore (pc' := 38) X d_AL_add_IL_36 rfl rfl rfl ?_
    have hob1 : ∀ z, z_isob h z → z_isob h_33 z := fun z hz => z_isob_fr g3 (z_isob_up a1 hz) (by simpa using z_isob_al (ci := 0) a1 hz)
    have hne : a ≠ al := fun e => by rw [e, z_up_s] at g1; cases g1
    have g1' : h a = none := by rw [z_up_n _ _ hne] at g1; exact g1
    exact tail h_33 a _ _ _ g2 (by omega) (hob1 y hy) (fun z hz => hob1 z (hob z hz)) (Or.inr g1') (z_fr_tr (z_fr_up (z_fr_rf _ _) (by simp)) (z_fr_mono g3 (by simp))) ⟨by omega, by omega, by omega, Or.inr ⟨hfull, rfl⟩⟩
end ALA
