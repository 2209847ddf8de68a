/-! java.util.ArrayList: making and clearing -/
def z_ph (r : Option Value) (h1 : z_H) (k0 n0 : Nat) : z_T := fun v h' k n => v = r ∧ h' = h1 ∧ k = k0 ∧ n = n0
theorem z_kh {G : z_G} {A : Nat → Prop} {x : z_X} {h1 : z_H} {k n k0 n0 pc : Nat} {L : List (Option Value)} {st : List Value} {r : Option Value} (kk : z_V G A x h1 (k + k0) (n + n0) pc L (z_ps r st)) : ∀ (v : Option Value) (h' : z_H) (k' n' : Nat), z_ph r h1 k0 n0 v h' k' n' → z_V G A x h' (k + k') (n + n') pc L (z_ps v st) := by
  rintro v h' k' n' ⟨rfl, rfl, rfl, rfl⟩
  exact kk
theorem z_fr_up {h h1 : z_H} {S : List Nat} {b : Nat} {e : va_E} (hf : z_fr h h1 S) (hb : b ∈ S) : z_fr h (z_up h1 b e) S := fun c e' hc hs => by
  have hne : c ≠ b := fun q => hs (q ▸ hb)
  rw [z_up_n _ _ hne]
  exact hf c e' hc hs
theorem z_fr_new {h h1 : z_H} {S : List Nat} {b : Nat} {e : va_E} (hf : z_fr h h1 S) (hb : h b = none) : z_fr h (z_up h1 b e) S := fun c e' hc hs => by
  have hne : c ≠ b := fun q => by rw [q, hb] at hc; cases hc
  rw [z_up_n _ _ hne]
  exact hf c e' hc hs
theorem z_fr_mono {h h1 : z_H} {S S' : List Nat} (hf : z_fr h h1 S) (hs : ∀ b ∈ S, b ∈ S') : z_fr h h1 S' := fun c e hc hn => hf c e hc (fun q => hn (hs c q))
theorem z_oa {h : z_H} {a b ci : Nat} {fs : List Value} {y : ClassId × vp_A} (ha : h a = some (z_ob ci fs)) (hb : h b = some (.inl y)) : a ≠ b := fun e => by rw [e, hb] at ha; cases ha
theorem z_ao {h : z_H} {a b ci : Nat} {fs : List Value} {y : ClassId × vp_A} (ha : h a = some (z_ob ci fs)) (hb : h b = some (.inl y)) : b ≠ a := fun e => z_oa ha hb e.symm
theorem z_nb {h : z_H} {a b : Nat} {e : va_E} (ha : h a = none) (hb : h b = some e) : b ≠ a := fun q => by rw [q, ha] at hb; cases hb
theorem z_nb' {h : z_H} {a b : Nat} {e : va_E} (ha : h a = none) (hb : h b = some e) : a ≠ b := fun q => z_nb ha hb q.symm
theorem z_isob_fr {h h1 : z_H} {S : List Nat} {y : Nat} (hf : z_fr h h1 S) (hy : z_isob h y) (hs : y ∉ S) : z_isob h1 y := by
  obtain ⟨ci, fs, h1, h2⟩ := hy
  exact ⟨ci, fs, hf y _ h1 hs, h2⟩
theorem z_isob_na {h : z_H} {al d cap : Nat} {G : z_G} {xs : List Nat} {y : Nat} (hA : z_AL G h al d xs cap) (hy : z_isob h y) : y ∉ [al, d] ∨ d = z_d0 G := by
  obtain ⟨⟨mo, a1⟩, a2, a3, a4⟩ := hA
  obtain ⟨ci, fs, h1, h2⟩ := hy
  rcases a4 with ⟨-, a4⟩ | ⟨b1, f, b2, b3⟩
  · exact Or.inr a4
  · left
    intro hm
    rcases List.mem_cons.mp hm with e | hm
    · rw [e, a1] at h1
      cases h1
      omega
    · rw [List.mem_singleton.mp hm, b2] at h1
      cases h1
section ALW
variable {G : z_G} {A : Nat → Prop} {h : z_H}
theorem c_AbC_init {a : Nat} : z_C G A m_AbC_init 0 0 [.ref a] h (z_ph none h 0 0) := by
  refine z_C.of (by decide +kernel) rfl (Nat.le_of_ble_eq_true rfl) ?_
  intro x X
  refine z_aload_n (pc' := 1) X d_AbC_init_0 rfl rfl ?_
  refine z_obj (pc' := 4) X l_AbC_1 oi_1 oi_2 d_AbC_init_1 rfl (by decide) (by decide) rfl ?_
  exact z_vret X rfl d_AbC_init_4 (⟨rfl, rfl, rfl, rfl⟩)
theorem c_AbL_init {al : Nat} {v0 v1 v2 : Value} (hal : h al = some (z_ob 6 [v0, v1, v2])) : z_C G A m_AbL_init 0 0 [.ref al] h (z_ph none (z_up h al (z_ob 6 [.int 0, v1, v2])) 0 0) := by
  refine z_C.of (by decide +kernel) rfl (Nat.le_of_ble_eq_true rfl) ?_
  intro x X
  refine z_aload_n (pc' := 1) X d_AbL_init_0 rfl rfl ?_
  refine z_callI X c_AbC_init k_AbL_1 d_AbL_init_1 rfl rfl rfl (by decide) (by decide) ⟨by omega, by omega⟩ (z_kh ?_)
  refine z_aload_n (pc' := 5) X d_AbL_init_4 rfl rfl ?_
  refine z_iconst (pc' := 6) (v := 0) X d_AbL_init_5 (by decide) rfl ?_
  refine z_put (pc' := 9) X 0 f_AbL_7 (g_AbL_7 _) d_AbL_init_6 (by assumption) rfl rfl rfl rfl rfl ?_
  exact z_vret X rfl d_AbL_init_9 (⟨rfl, rfl, rfl, rfl⟩)
theorem c_AL_init_0 {al : Nat} {v0 v1 v2 : Value} (hal : h al = some (z_ob 6 [v0, v1, v2])) : z_C G A m_AL_init_0 0 0 [.ref al] h (z_ph none (z_up h al (z_ob 6 [.int 0, .ref (z_d0 G), v2])) 0 0) := by
  refine z_C.of (by decide +kernel) rfl (Nat.le_of_ble_eq_true rfl) ?_
  intro x X
  refine z_aload_n (pc' := 1) X d_AL_init_0_0 rfl rfl ?_
  refine z_callI X (c_AbL_init hal) k_AL_1 d_AL_init_0_1 rfl rfl rfl (by decide) (by decide) ⟨by omega, by omega⟩ (z_kh ?_)
  have hs := z_up_s h al (z_ob 6 [.int 0, v1, v2])
  refine z_aload_n (pc' := 5) X d_AL_init_0_4 rfl rfl ?_
  refine z_gets (pc' := 8) X s_AL_39 d_AL_init_0_5 rfl ?_
  refine z_put (pc' := 11) X 1 f_AL_9 (g_AL_9 _) d_AL_init_0_8 (by assumption) rfl rfl rfl rfl rfl ?_
  exact z_vret X rfl d_AL_init_0_11 (⟨rfl, z_uu _ _ _ _, rfl, rfl⟩)
theorem c_AL_init_I {al w : Nat} {v0 v1 v2 : Value} (hal : h al = some (z_ob 6 [v0, v1, v2])) (hw : 0 < w) (hw2 : w < 2 ^ 20) : z_C G A m_AL_init_I 1 w [.ref al, .int (nI w)] h (fun v h' k n => v = none ∧ k = 1 ∧ n = w ∧ ∃ a, h a = none ∧ a ≠ z_d0 G ∧ h' = z_up (z_up h a (z_ra (z_cO G) w (fun _ => none))) al (z_ob 6 [.int 0, .ref a, v2])) := by
  refine z_C.of (by decide +kernel) rfl (Nat.le_of_ble_eq_true rfl) ?_
  intro x X
  refine z_aload_n (pc' := 1) X d_AL_init_I_0 rfl rfl ?_
  refine z_callI X (c_AbL_init hal) k_AL_1 d_AL_init_I_1 rfl rfl rfl (by decide) (by decide) ⟨by omega, by omega⟩ (z_kh ?_)
  refine z_iload_n (pc' := 5) X d_AL_init_I_4 rfl rfl ?_
  refine z_if_le (tgt := 19) (pc' := 8) X d_AL_init_I_5 (by decide) rfl (fun c_5 => ?_) (fun c_5 => ?_)
  · exact absurd c_5 (nI_nle hw (by omega))
  · refine z_aload_n (pc' := 9) X d_AL_init_I_8 rfl rfl ?_
    refine z_iload_n (pc' := 10) X d_AL_init_I_9 rfl rfl ?_
    refine z_anew (pc' := 13) (C := "java/lang/Object") 1 X cl_AL_7 (fun U hK => hK.2.2.1) rfl d_AL_init_I_10 hw2 ⟨by omega, by omega⟩ rfl (fun a h1 h2 => ?_)
    have hne : al ≠ a := fun e => by rw [← e, z_up_s] at h1; cases h1
    have ha : h a = none := by rw [z_up_n _ _ (Ne.symm hne)] at h1; exact h1
    have h3 : z_up (z_up h al (z_ob 6 [.int 0, v1, v2])) a (z_ra (z_cO G) w (fun _ => none)) al = some (z_ob 6 [.int 0, v1, v2]) := by rw [z_up_n _ _ hne, z_up_s]
    refine z_put (pc' := 16) X 1 f_AL_9 (g_AL_9 _) d_AL_init_I_13 (by assumption) rfl rfl rfl rfl rfl ?_
    refine z_goto (pc' := 60) X d_AL_init_I_16 (by decide) ?_
    exact z_vret X rfl d_AL_init_I_60 (⟨rfl, rfl, by omega, a, ha, h2, by funext b; unfold z_up; split <;> rfl⟩)
theorem c_AL_clear {al d cap : Nat} {xs : List Nat} (hA : z_AL G h al d xs cap) : z_C G A m_AL_clear 0 0 [.ref al] h (fun v h' k n => v = none ∧ k = 0 ∧ n = 0 ∧ z_AL G h' al d [] cap ∧ z_fr h h' [al, d]) := by
  have hl := z_AL_len hA
  obtain ⟨⟨mo, a1⟩, a2, a3, a4⟩ := hA
  refine z_C.of (by decide +kernel) rfl (Nat.le_of_ble_eq_true rfl) ?_
  intro x X
  have loop : ∀ (m i : Nat) (hh : z_H), m + i = xs.length → z_AL G hh al d [] cap → z_fr h hh [al, d] → z_V G A x hh 0 0 27 [some (.ref al), some (.ref d), some (.int (nI xs.length)), some (.int (nI i))] [] := by
    intro m
    induction m with
    | zero =>
      intro i hh hi hA hf
      have hi : i = xs.length := by omega
      subst hi
      refine z_iload_n (pc' := 28) X d_AL_clear_27 rfl rfl ?_
      refine z_iload_n (pc' := 29) X d_AL_clear_28 rfl rfl ?_
      refine z_icmp_ge (tgt := 42) (pc' := 32) X d_AL_clear_29 (by decide) rfl (fun c_29 => ?_) (fun c_29 => ?_)
      · exact z_vret X rfl d_AL_clear_42 (⟨rfl, rfl, rfl, hA, hf⟩)
      · exact absurd (nI_le (Nat.le_refl _) (by omega)) c_29
    | succ m ih =>
      intro i hh hi hA hf
      have h0 := hA
      obtain ⟨⟨mo, b1⟩, b2, b3, b4⟩ := hA
      rcases b4 with ⟨b4, -⟩ | ⟨b4, g, b5, b6⟩
      · omega
      refine z_iload_n (pc' := 28) X d_AL_clear_27 rfl rfl ?_
      refine z_iload_n (pc' := 29) X d_AL_clear_28 rfl rfl ?_
      refine z_icmp_ge (tgt := 42) (pc' := 32) X d_AL_clear_29 (by decide) rfl (fun c_29 => ?_) (fun c_29 => ?_)
      · exact absurd c_29 (nI_ge (by omega) (by omega))
      · refine z_aload_n (pc' := 33) X d_AL_clear_32 rfl rfl ?_
        refine z_iload_n (pc' := 34) X d_AL_clear_33 rfl rfl ?_
        refine z_anull (pc' := 35) X d_AL_clear_34 rfl ?_
        refine z_aastoreN (pc' := 36) X 1 d_AL_clear_35 b5 rfl (by omega) (by omega) rfl rfl ?_
        refine z_iinc (pc' := 39) (w := nI (i + 1)) X d_AL_clear_36 rfl (z_i1 _) rfl rfl rfl ?_
        refine z_goto (pc' := 27) X d_AL_clear_39 (by decide) ?_
        exact ih (i + 1) _ (by omega) ⟨⟨mo, by rw [z_up_n _ _ (z_oa b1 b5)]; exact b1⟩, b2, b3, Or.inr ⟨b4, _, z_up_s _ _ _, fun j hj => absurd hj (Nat.not_lt_zero j)⟩⟩ (z_fr_up hf (by simp))
  refine z_aload_n (pc' := 1) X d_AL_clear_0 rfl rfl ?_
  refine z_dup (pc' := 2) X d_AL_clear_1 rfl rfl ?_
  refine z_get (pc' := 5) X 0 f_AL_63 d_AL_clear_2 (by assumption) rfl rfl ?_
  refine z_iconst (pc' := 6) (v := 1) X d_AL_clear_5 (by decide) rfl ?_
  refine z_iadd (pc' := 7) X d_AL_clear_6 rfl ?_
  refine z_put (pc' := 10) X 0 f_AL_63 (g_AL_63 _) d_AL_clear_7 (by assumption) rfl rfl rfl rfl rfl ?_
  have h1 : z_up h al (z_ob 6 [.int (mo + 1), .ref d, .int (nI xs.length)]) al = some (z_ob 6 [.int (mo + 1), .ref d, .int (nI xs.length)]) := z_up_s _ _ _
  refine z_aload_n (pc' := 11) X d_AL_clear_10 rfl rfl ?_
  refine z_get (pc' := 14) X 1 f_AL_9 d_AL_clear_11 (by assumption) rfl rfl ?_
  refine z_astore_n (pc' := 15) X d_AL_clear_14 rfl rfl rfl ?_
  refine z_aload_n (pc' := 16) X d_AL_clear_15 rfl rfl ?_
  refine z_get (pc' := 19) X 2 f_AL_48 d_AL_clear_16 (by assumption) rfl rfl ?_
  refine z_istore_n (pc' := 20) X d_AL_clear_19 rfl rfl rfl ?_
  refine z_aload_n (pc' := 21) X d_AL_clear_20 rfl rfl ?_
  refine z_iconst (pc' := 22) (v := 0) X d_AL_clear_21 (by decide) rfl ?_
  refine z_dup_x1 (pc' := 23) X d_AL_clear_22 rfl rfl rfl ?_
  refine z_put (pc' := 26) X 2 f_AL_48 (g_AL_48 _) d_AL_clear_23 h1 rfl rfl rfl rfl rfl ?_
  refine z_istore_n (pc' := 27) X d_AL_clear_26 rfl rfl rfl ?_
  refine z_hp (z_uu _ _ _ _) (loop xs.length 0 _ (by omega) ⟨⟨mo + 1, z_up_s _ _ _⟩, Nat.zero_le _, a3, ?_⟩ (z_fr_up (z_fr_rf _ _) (by simp)))
  rcases a4 with a4 | ⟨b1, f, b2, b3⟩
  · exact Or.inl a4
  · exact Or.inr ⟨b1, f, by rw [z_up_n _ _ (z_ao a1 b2)]; exact b2, fun j hj => absurd hj (Nat.not_lt_zero j)⟩
end ALW
