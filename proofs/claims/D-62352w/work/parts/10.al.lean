/-! java.util.ArrayList and what it calls: reading -/
section ALR
variable {G : z_G} {A : Nat → Prop} {h : z_H}
theorem c_Pre_checkIndex {i n : Nat} (hi : i < n) (hn : n < 2 ^ 31) : z_C G A m_Pre_checkIndex 0 0 [.int (nI i), .int (nI n), .null] h (z_pu (some (.int (nI i))) h) := by
  refine z_C.of (by decide +kernel) rfl (Nat.le_of_ble_eq_true rfl) ?_
  intro x X
  refine z_iload_n (pc' := 1) X d_Pre_checkIndex_0 rfl rfl ?_
  refine z_if_lt (tgt := 9) (pc' := 4) X d_Pre_checkIndex_1 (by decide) rfl (fun c_1 => ?_) (fun c_1 => ?_)
  · exact absurd c_1 (nI_pos (by omega))
  · refine z_iload_n (pc' := 5) X d_Pre_checkIndex_4 rfl rfl ?_
    refine z_iload_n (pc' := 6) X d_Pre_checkIndex_5 rfl rfl ?_
    refine z_icmp_lt (tgt := 16) (pc' := 9) X d_Pre_checkIndex_6 (by decide) rfl (fun c_6 => ?_) (fun c_6 => ?_)
    · refine z_iload_n (pc' := 17) X d_Pre_checkIndex_16 rfl rfl ?_
      exact z_iret X rfl d_Pre_checkIndex_17 (⟨rfl, rfl, rfl, rfl⟩)
    · exact absurd (nI_lt hi hn) c_6
theorem c_Obs_checkIndex {i n : Nat} (hi : i < n) (hn : n < 2 ^ 31) : z_C G A m_Obs_checkIndex 0 0 [.int (nI i), .int (nI n)] h (z_pu (some (.int (nI i))) h) := by
  refine z_C.of (by decide +kernel) rfl (Nat.le_of_ble_eq_true rfl) ?_
  intro x X
  refine z_iload_n (pc' := 1) X d_Obs_checkIndex_0 rfl rfl ?_
  refine z_iload_n (pc' := 2) X d_Obs_checkIndex_1 rfl rfl ?_
  refine z_anull (pc' := 3) X d_Obs_checkIndex_2 rfl ?_
  refine z_callS X (c_Pre_checkIndex hi hn) k_Obs_105 d_Obs_checkIndex_3 rfl rfl rfl (by decide) (by decide) ⟨by omega, by omega⟩ (z_kp ?_)
  exact z_iret X rfl d_Obs_checkIndex_6 (⟨rfl, rfl, rfl, rfl⟩)
theorem c_AL_size {al : Nat} {v0 v1 v2 : Value} {s : Int32} (hal : h al = some (z_ob 6 [v0, v1, .int s])) : z_C G A m_AL_size 0 0 [.ref al] h (z_pu (some (.int s)) h) := by
  refine z_C.of (by decide +kernel) rfl (Nat.le_of_ble_eq_true rfl) ?_
  intro x X
  refine z_aload_n (pc' := 1) X d_AL_size_0 rfl rfl ?_
  refine z_get (pc' := 4) X 2 f_AL_48 d_AL_size_1 (by assumption) rfl rfl ?_
  exact z_iret X rfl d_AL_size_4 (⟨rfl, rfl, rfl, rfl⟩)
theorem c_AL_isEmpty {al : Nat} {v0 v1 : Value} {s : Nat} (hal : h al = some (z_ob 6 [v0, v1, .int (nI s)])) (hs : s < 2 ^ 31) : z_C G A m_AL_isEmpty 0 0 [.ref al] h (z_pu (some (.int (if s = 0 then 1 else 0))) h) := by
  refine z_C.of (by decide +kernel) rfl (Nat.le_of_ble_eq_true rfl) ?_
  intro x X
  refine z_aload_n (pc' := 1) X d_AL_isEmpty_0 rfl rfl ?_
  refine z_get (pc' := 4) X 2 f_AL_48 d_AL_isEmpty_1 (by assumption) rfl rfl ?_
  refine z_if_ne (tgt := 11) (pc' := 7) X d_AL_isEmpty_4 (by decide) rfl (fun c_4 => ?_) (fun c_4 => ?_)
  · have h0 : ¬ s = 0 := fun e => c_4 (by rw [e]; rfl)
    refine z_iconst (pc' := 12) (v := 0) X d_AL_isEmpty_11 (by decide) rfl ?_
    exact z_zret X rfl (by first | decide | simp | assumption | omega) d_AL_isEmpty_12 (⟨by rw [if_neg h0], rfl, rfl, rfl⟩)
  · have h0 : s = 0 := by
      rcases Nat.eq_zero_or_pos s with q | q
      · exact q
      · exact absurd c_4 (nI_ne0 q hs)
    refine z_iconst (pc' := 8) (v := 1) X d_AL_isEmpty_7 (by decide) rfl ?_
    refine z_goto (pc' := 12) X d_AL_isEmpty_8 (by decide) ?_
    exact z_zret X rfl (by first | decide | simp | assumption | omega) d_AL_isEmpty_12 (⟨by rw [if_pos h0], rfl, rfl, rfl⟩)
theorem c_AL_elementData {al d b i cap : Nat} {f : Nat → Option Nat} {v0 v2 : Value} (hal : h al = some (z_ob 6 [v0, .ref d, v2])) (hd : h d = some (z_ra (z_cO G) cap f)) (hi : i < cap) (hc : cap < 2 ^ 31) (hf : f i = some b) : z_C G A m_AL_elementData 0 0 [.ref al, .int (nI i)] h (z_pu (some (.ref b)) h) := by
  refine z_C.of (by decide +kernel) rfl (Nat.le_of_ble_eq_true rfl) ?_
  intro x X
  refine z_aload_n (pc' := 1) X d_AL_elementData_0 rfl rfl ?_
  refine z_get (pc' := 4) X 1 f_AL_9 d_AL_elementData_1 (by assumption) rfl rfl ?_
  refine z_iload_n (pc' := 5) X d_AL_elementData_4 rfl rfl ?_
  refine z_aaload (pc' := 6) X 1 d_AL_elementData_5 hd rfl hi hc hf rfl ?_
  exact z_aret X rfl (Or.inl ⟨_, rfl⟩) (by first | exact Or.inr ⟨_, rfl⟩ | exact Or.inl rfl) d_AL_elementData_6 (⟨rfl, rfl, rfl, rfl⟩)
theorem c_AL_get {al d i cap b : Nat} {xs : List Nat} (hA : z_AL G h al d xs cap) (hi : xs[i]? = some b) : z_C G A m_AL_get 0 0 [.ref al, .int (nI i)] h (z_pu (some (.ref b)) h) := by
  have hl := z_AL_len hA
  have hil : i < xs.length := (List.getElem?_eq_some_iff.mp hi).1
  obtain ⟨⟨mo, a1⟩, a2, a3, a4⟩ := hA
  rcases a4 with ⟨a4, -⟩ | ⟨b1, f, b2, b3⟩
  · omega
  refine z_C.of (by decide +kernel) rfl (Nat.le_of_ble_eq_true rfl) ?_
  intro x X
  refine z_iload_n (pc' := 1) X d_AL_get_0 rfl rfl ?_
  refine z_aload_n (pc' := 2) X d_AL_get_1 rfl rfl ?_
  refine z_get (pc' := 5) X 2 f_AL_48 d_AL_get_2 (by assumption) rfl rfl ?_
  refine z_callS X (c_Obs_checkIndex hil (by omega)) k_AL_118 d_AL_get_5 rfl rfl rfl (by decide) (by decide) ⟨by omega, by omega⟩ (z_kp ?_)
  refine z_pop (pc' := 9) X d_AL_get_8 rfl rfl ?_
  refine z_aload_n (pc' := 10) X d_AL_get_9 rfl rfl ?_
  refine z_iload_n (pc' := 11) X d_AL_get_10 rfl rfl ?_
  refine z_callV X (c_AL_elementData a1 b2 (by omega) (by omega) ((b3 i hil).trans hi)) k_AL_123 d_AL_get_11 (by assumption) (show classes[6]? = some _ from rfl) rfl rfl rfl (by decide) (by decide) ⟨by omega, by omega⟩ (z_kp ?_)
  exact z_aret X rfl (Or.inl ⟨_, rfl⟩) (by first | exact Or.inr ⟨_, rfl⟩ | exact Or.inl rfl) d_AL_get_14 (⟨rfl, rfl, rfl, rfl⟩)
end ALR
