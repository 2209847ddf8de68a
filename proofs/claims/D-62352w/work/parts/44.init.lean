/-! the constructors -/
/-- cells Fs have been made beside object o, whose fields are w now -/
def z_F (h0 h : z_H) (o ci : Nat) (w : List Value) (Fs : List (Nat × va_E)) : Prop :=
  h o = some (z_ob ci w) ∧ (∀ p ∈ Fs, h p.1 = some p.2 ∧ p.1 ≠ o ∧ h0 p.1 = none) ∧ (Fs.map (fun p => p.1)).Nodup ∧ z_fr h0 h [o]
section INI
variable {G : z_G} {A : Nat → Prop} {h h0 : z_H} {o ci : Nat} {w : List Value} {Fs : List (Nat × va_E)}
theorem z_F_0 (ho : h o = some (z_ob ci w)) : z_F h h o ci w [] := ⟨ho, fun _ hp => absurd hp List.not_mem_nil, List.nodup_nil, z_fr_rf _ _⟩
theorem z_F_h0 {a : Nat} (hF : z_F h0 h o ci w Fs) (ha : h a = none) : h0 a = none := by
  cases hx : h0 a with
  | none => rfl
  | some e =>
    have hao : a ≠ o := fun q => by rw [q, hF.1] at ha; cases ha
    have := hF.2.2.2 a e hx (by simpa using hao)
    rw [ha] at this
    cases this
theorem z_F_new {a : Nat} {e : va_E} (hF : z_F h0 h o ci w Fs) (ha : h a = none) : z_F h0 (z_up h a e) o ci w ((a, e) :: Fs) := by
  have hao : a ≠ o := fun q => by rw [q, hF.1] at ha; cases ha
  have h0a := z_F_h0 hF ha
  refine ⟨by rw [z_up_n _ _ (Ne.symm hao)]; exact hF.1, fun p hp => ?_, ?_, z_fr_new hF.2.2.2 h0a⟩
  · rcases List.mem_cons.mp hp with rfl | hp
    · exact ⟨z_up_s _ _ _, hao, h0a⟩
    · obtain ⟨q1, q2, q3⟩ := hF.2.1 p hp
      exact ⟨by rw [z_up_n _ _ (z_nb ha q1)]; exact q1, q2, q3⟩
  · rw [List.map_cons]
    refine List.nodup_cons.mpr ⟨fun hm => ?_, hF.2.2.1⟩
    obtain ⟨p, hp, e⟩ := List.mem_map.mp hm
    have := (hF.2.1 p hp).1
    have e : p.1 = a := e
    rw [e, ha] at this
    cases this
theorem z_F_o {w' : List Value} (hF : z_F h0 h o ci w Fs) : z_F h0 (z_up h o (z_ob ci w')) o ci w' Fs := by
  refine ⟨z_up_s _ _ _, fun p hp => ?_, hF.2.2.1, z_fr_up hF.2.2.2 (by simp)⟩
  obtain ⟨q1, q2, q3⟩ := hF.2.1 p hp
  exact ⟨by rw [z_up_n _ _ q2]; exact q1, q2, q3⟩
/-- the cell at place i is written -/
theorem z_F_up {a : Nat} {e e' : va_E} {F1 F2 : List (Nat × va_E)} (hF : z_F h0 h o ci w (F1 ++ (a, e) :: F2)) : z_F h0 (z_up h a e') o ci w (F1 ++ (a, e') :: F2) := by
  obtain ⟨a1, a2, a3⟩ := hF.2.1 (a, e) (by simp)
  have hnd := hF.2.2.1
  have hmap : (F1 ++ (a, e') :: F2).map (fun p => p.1) = (F1 ++ (a, e) :: F2).map (fun p => p.1) := by simp
  refine ⟨by rw [z_up_n _ _ (Ne.symm a2)]; exact hF.1, fun p hp => ?_, by rw [hmap]; exact hnd, fun b e hb hn => ?_⟩
  · rw [List.map_append, List.map_cons, List.nodup_append] at hnd
    obtain ⟨n1, n2, n3⟩ := hnd
    rcases List.mem_append.mp hp with q | q
    · obtain ⟨q1, q2, q3⟩ := hF.2.1 p (List.mem_append_left _ q)
      have hne : p.1 ≠ a := n3 p.1 (List.mem_map.mpr ⟨p, q, rfl⟩) a List.mem_cons_self
      exact ⟨by rw [z_up_n _ _ hne]; exact q1, q2, q3⟩
    · rcases List.mem_cons.mp q with rfl | q
      · exact ⟨z_up_s _ _ _, a2, a3⟩
      · obtain ⟨q1, q2, q3⟩ := hF.2.1 p (List.mem_append_right _ (List.mem_cons_of_mem _ q))
        have hne : p.1 ≠ a := fun e => (List.nodup_cons.mp n2).1 (by rw [← e]; exact List.mem_map.mpr ⟨p, q, rfl⟩)
        exact ⟨by rw [z_up_n _ _ hne]; exact q1, q2, q3⟩
  · have hba : b ≠ a := z_nb a3 hb
    rw [z_up_n _ _ hba]
    exact hF.2.2.2 b e hb hn
/-- a call that writes the newest cell and makes others -/
theorem z_F_call {h' : z_H} {a : Nat} {e e' : va_E} {N : List (Nat × va_E)} (hF : z_F h0 h o ci w ((a, e) :: Fs)) (hf : z_fr h h' [a]) (ha : h' a = some e') (hN : ∀ p ∈ N, h p.1 = none ∧ h' p.1 = some p.2) (hNn : (N.map (fun p => p.1)).Nodup) : z_F h0 h' o ci w (N ++ (a, e') :: Fs) := by
  obtain ⟨a1, a2, a3⟩ := hF.2.1 (a, e) List.mem_cons_self
  have hnd := hF.2.2.1
  rw [List.map_cons] at hnd
  obtain ⟨n1, n2⟩ := List.nodup_cons.mp hnd
  refine ⟨hf _ _ hF.1 (by simpa using Ne.symm a2), fun p hp => ?_, ?_, fun b e hb hn => ?_⟩
  · rcases List.mem_append.mp hp with q | q
    · obtain ⟨q1, q2⟩ := hN p q
      exact ⟨q2, (fun e => by rw [e, hF.1] at q1; cases q1), z_F_h0 hF q1⟩
    · rcases List.mem_cons.mp q with rfl | q
      · exact ⟨ha, a2, a3⟩
      · obtain ⟨q1, q2, q3⟩ := hF.2.1 p (List.mem_cons_of_mem _ q)
        have hne : p.1 ≠ a := fun e => n1 (by rw [← e]; exact List.mem_map.mpr ⟨p, q, rfl⟩)
        exact ⟨hf _ _ q1 (by simpa using hne), q2, q3⟩
  · rw [List.map_append, List.map_cons]
    refine List.nodup_append.mpr ⟨hNn, List.nodup_cons.mpr ⟨n1, n2⟩, fun b hb c hc e => ?_⟩
    obtain ⟨p, hp, rfl⟩ := List.mem_map.mp hb
    have q1 := (hN p hp).1
    subst e
    rcases List.mem_cons.mp hc with q | q
    · have a1 : h a = some e := a1
      rw [q, a1] at q1
      cases q1
    · obtain ⟨p', hp', e⟩ := List.mem_map.mp q
      have q2 := (hF.2.1 p' (List.mem_cons_of_mem _ hp')).1
      have e : p'.1 = p.1 := e
      rw [e, q1] at q2
      cases q2
  · have hba : b ≠ a := z_nb a3 hb
    exact hf b e (hF.2.2.2 b e hb hn) (by simpa using hba)
theorem c_Mg_init {g : Nat} {v0 v1 v2 : Value} {i0 i1 i2 i3 i4 : Int32} (h1 : h g = some (z_ob 1 [v0, v1, v2, .int i0, .int i1, .int i2, .int i3, .int i4])) : z_C G A m_Mg_init 3 306 [.ref g] h (fun v h' k n => v = none ∧ k = 3 ∧ n = 306 ∧ ∃ sr at' ou, z_F h h' g 1 (z_mgf sr at' ou (i0, i1, i2, i3, i4)) [(ou, z_al0 G), (at', z_ia G 300 (fun _ => 0)), (sr, z_al0 G)]) := by
  refine z_C.of (by decide +kernel) rfl (Nat.le_of_ble_eq_true rfl) ?_
  intro x X
  have hF0 := z_F_0 h1
  refine z_aload_n (pc' := 1) X d_Mg_init_0 rfl rfl ?_
  refine z_obj (pc' := 4) X l_Mg_3 oi_1 oi_2 d_Mg_init_1 rfl (by decide) (Nat.le_of_ble_eq_true rfl) rfl ?_
  refine z_aload_n (pc' := 5) X d_Mg_init_4 rfl rfl ?_
  refine z_new (pc' := 8) X nw_Mg_9 d_Mg_init_5 ⟨by omega, by omega⟩ rfl (fun a_5 n_5 e_5 => ?_)
  refine z_dup (pc' := 9) X d_Mg_init_8 rfl rfl ?_
  refine z_callI X (c_AL_init_0 (z_up_s _ _ _)) k_Mg_11 d_Mg_init_9 rfl rfl rfl (by decide) (Nat.le_of_ble_eq_true rfl) ⟨by omega, by omega⟩ (z_kh ?_)
  refine z_hp (z_uu _ _ _ _) ?_
  have hF1 := z_F_new (e := z_al0 G) hF0 n_5
  have ho1 := hF1.1
  refine z_put (pc' := 15) X 0 f_Mg_12 g_Mg_12 d_Mg_init_12 (by assumption) rfl rfl rfl rfl rfl ?_
  have hF2 := z_F_o (w' := [.ref a_5, v1, v2, .int i0, .int i1, .int i2, .int i3, .int i4]) hF1
  refine z_hp (show _ = z_up (z_up h a_5 (z_al0 G)) g (z_ob 1 [.ref a_5, v1, v2, .int i0, .int i1, .int i2, .int i3, .int i4]) from rfl) ?_
  generalize z_up (z_up h a_5 (z_al0 G)) g (z_ob 1 [.ref a_5, v1, v2, .int i0, .int i1, .int i2, .int i3, .int i4]) = h2 at hF2 ⊢
  have ho2 := hF2.1
  refine z_aload_n (pc' := 16) X d_Mg_init_15 rfl rfl ?_
  refine z_sipush (pc' := 19) (v := 300) X d_Mg_init_16 (by decide) rfl ?_
  refine z_top (b := .int (nI 300)) rfl ?_
  refine z_newarr (pc' := 21) X d_Mg_init_19 (by omega) ⟨by omega, by omega⟩ rfl (fun a_19 n_19 e_19 => ?_)
  have hF3 := z_F_new (e := z_ia G 300 (fun _ => 0)) hF2 n_19
  have ho3 := hF3.1
  refine z_put (pc' := 24) X 1 f_Mg_18 g_Mg_18 d_Mg_init_21 (by assumption) rfl rfl rfl rfl rfl ?_
  have hF4 := z_F_o (w' := [.ref a_5, .ref a_19, v2, .int i0, .int i1, .int i2, .int i3, .int i4]) hF3
  refine z_hp (show _ = z_up (z_up h2 a_19 (z_ia G 300 (fun _ => 0))) g (z_ob 1 [.ref a_5, .ref a_19, v2, .int i0, .int i1, .int i2, .int i3, .int i4]) from rfl) ?_
  generalize z_up (z_up h2 a_19 (z_ia G 300 (fun _ => 0))) g (z_ob 1 [.ref a_5, .ref a_19, v2, .int i0, .int i1, .int i2, .int i3, .int i4]) = h3 at hF4 ⊢
  have ho4 := hF4.1
  refine z_aload_n (pc' := 25) X d_Mg_init_24 rfl rfl ?_
  refine z_new (pc' := 28) X nw_Mg_9 d_Mg_init_25 ⟨by omega, by omega⟩ rfl (fun a_25 n_25 e_25 => ?_)
  refine z_dup (pc' := 29) X d_Mg_init_28 rfl rfl ?_
  refine z_callI X (c_AL_init_0 (z_up_s _ _ _)) k_Mg_11 d_Mg_init_29 rfl rfl rfl (by decide) (Nat.le_of_ble_eq_true rfl) ⟨by omega, by omega⟩ (z_kh ?_)
  refine z_hp (z_uu _ _ _ _) ?_
  have hF5 := z_F_new (e := z_al0 G) hF4 n_25
  have ho5 := hF5.1
  refine z_put (pc' := 35) X 2 f_Mg_22 g_Mg_22 d_Mg_init_32 (by assumption) rfl rfl rfl rfl rfl ?_
  have hF6 := z_F_o (w' := [.ref a_5, .ref a_19, .ref a_25, .int i0, .int i1, .int i2, .int i3, .int i4]) hF5
  exact z_vret X rfl d_Mg_init_35 (⟨rfl, by omega, by omega, a_5, a_19, a_25, hF6⟩)
theorem z_pool_b {al d : Nat} {f : Nat → Option Nat} (h1 : h al = some (z_ob 6 [.int 0, .ref d, .int 0])) (h2 : h d = some (z_ra (z_cO G) 4 f)) : z_pool G h (z_lu (fun _ => none) al (d, [], 4)) := by
  refine ⟨fun a2 d2 x2 c2 q => ?_, fun a1 a2 dd x1 c1 x2 c2 q1 q2 hne => ?_⟩
  · by_cases e : a2 = al
    · subst e
      rw [z_lu_s] at q
      cases q
      exact ⟨⟨⟨0, h1⟩, Nat.zero_le _, by decide, Or.inr ⟨by decide, f, h2, fun i hi => absurd hi (Nat.not_lt_zero _)⟩⟩, fun y hy => absurd hy List.not_mem_nil⟩
    · rw [z_lu_n _ _ e] at q
      cases q
  · by_cases e1 : a1 = al
    · by_cases e2 : a2 = al
      · exact absurd (e1.trans e2.symm) hne
      · rw [z_lu_n _ _ e2] at q2
        cases q2
    · rw [z_lu_n _ _ e1] at q1
      cases q1
/-- brought into 0 .. m -/
def z_clp (m q : Int32) : Int32 := if 0 < (if q < m then q else m) then (if q < m then q else m) else 0
theorem c_TC_init {n0 a0 n1 a1 : Int32} (ho : h o = some (z_ob 0 n_TC)) : z_C G A m_TC_init 40 1200 [.ref o, .int n0, .int a0, .int n1, .int a1] h (fun val h' k n => val = none ∧ k ≤ 40 ∧ n ≤ 1200 ∧ (∀ (b : Nat) (e : va_E), h b = some e → b ≠ o → ¬ z_isl G e → h' b = some e) ∧ ∃ (K : z_KA) (La : z_LA) (en : Nat → z_E7) (sc tt : Nat → List Nat) (tb : Nat → z_TB) (t : Nat) (nu ag : Nat → Int32), z_I G h' o K (0, 0, 0, 0, 0, 0, 0, 0, 0, 0, 0) La en sc tt tb [t] [] [] nu ag (fun _ => 0) ∧ bF (tb t) = 0 ∧ bL (tb t) = 63 ∧ sc (bM (tb t)) = [] ∧ tt t = [] ∧ nu 0 = z_clp 5 n0 ∧ nu 1 = z_clp 5 n1 ∧ ag 0 = z_clp 9999 a0 ∧ ag 1 = z_clp 9999 a1) := by
  refine z_C.of (by decide +kernel) rfl (Nat.le_of_ble_eq_true rfl) ?_
  intro x X
  have hcn := z_cne X
  have hF0 := z_F_0 ho
  refine z_aload_n (pc' := 1) X d_TC_init_0 rfl rfl ?_
  refine z_obj (pc' := 4) X l_TC_17 oi_1 oi_2 d_TC_init_1 rfl (by decide) (Nat.le_of_ble_eq_true rfl) rfl ?_
  refine z_aload_n (pc' := 5) X d_TC_init_4 rfl rfl ?_
  refine z_iconst (pc' := 6) (v := 2) X d_TC_init_5 (by decide) rfl ?_
  refine z_top (b := .int (nI 2)) rfl ?_
  refine z_newarr (pc' := 8) X d_TC_init_6 (by omega) ⟨by omega, by omega⟩ rfl (fun a_6 n_6 e_6 => ?_)
  have hF1 := z_F_new (e := z_ia G 2 (fun _ => 0)) hF0 n_6
  have hq1 := hF1.1
  refine z_put (pc' := 11) X 0 f_TC_23 g_TC_23 d_TC_init_8 (by assumption) rfl rfl rfl rfl rfl ?_
  have hG1 := z_F_o (w' := [.ref a_6, .null, .null, .null, .int 0, .int 0, .int 0, .int 0, .int 0, .null, .null, .null, .null, .int 0, .int 0, .int 0, .int 0, .int 0, .int 0]) hF1
  refine z_hp (show _ = z_up (z_up h a_6 (z_ia G 2 (fun _ => 0))) o (z_ob 0 [.ref a_6, .null, .null, .null, .int 0, .int 0, .int 0, .int 0, .int 0, .null, .null, .null, .null, .int 0, .int 0, .int 0, .int 0, .int 0, .int 0]) from rfl) ?_
  generalize z_up (z_up h a_6 (z_ia G 2 (fun _ => 0))) o (z_ob 0 [.ref a_6, .null, .null, .null, .int 0, .int 0, .int 0, .int 0, .int 0, .null, .null, .null, .null, .int 0, .int 0, .int 0, .int 0, .int 0, .int 0]) = h1x at hG1 ⊢
  have hp1 := hG1.1
  have hF1 := hG1
  refine z_aload_n (pc' := 12) X d_TC_init_11 rfl rfl ?_
  refine z_iconst (pc' := 13) (v := 2) X d_TC_init_12 (by decide) rfl ?_
  refine z_top (b := .int (nI 2)) rfl ?_
  refine z_newarr (pc' := 15) X d_TC_init_13 (by omega) ⟨by omega, by omega⟩ rfl (fun a_13 n_13 e_13 => ?_)
  have hF2 := z_F_new (e := z_ia G 2 (fun _ => 0)) hF1 n_13
  have hq2 := hF2.1
  refine z_put (pc' := 18) X 1 f_TC_29 g_TC_29 d_TC_init_15 (by assumption) rfl rfl rfl rfl rfl ?_
  have hG2 := z_F_o (w' := [.ref a_6, .ref a_13, .null, .null, .int 0, .int 0, .int 0, .int 0, .int 0, .null, .null, .null, .null, .int 0, .int 0, .int 0, .int 0, .int 0, .int 0]) hF2
  refine z_hp (show _ = z_up (z_up h1x a_13 (z_ia G 2 (fun _ => 0))) o (z_ob 0 [.ref a_6, .ref a_13, .null, .null, .int 0, .int 0, .int 0, .int 0, .int 0, .null, .null, .null, .null, .int 0, .int 0, .int 0, .int 0, .int 0, .int 0]) from rfl) ?_
  generalize z_up (z_up h1x a_13 (z_ia G 2 (fun _ => 0))) o (z_ob 0 [.ref a_6, .ref a_13, .null, .null, .int 0, .int 0, .int 0, .int 0, .int 0, .null, .null, .null, .null, .int 0, .int 0, .int 0, .int 0, .int 0, .int 0]) = h2x at hG2 ⊢
  have hp2 := hG2.1
  have hF2 := hG2
  refine z_aload_n (pc' := 19) X d_TC_init_18 rfl rfl ?_
  refine z_new (pc' := 22) X nw_TC_32 d_TC_init_19 ⟨by omega, by omega⟩ rfl (fun a_19 n_19 e_19 => ?_)
  refine z_dup (pc' := 23) X d_TC_init_22 rfl rfl ?_
  refine z_callI X (c_AL_init_0 (z_up_s _ _ _)) k_TC_34 d_TC_init_23 rfl rfl rfl (by decide) (Nat.le_of_ble_eq_true rfl) ⟨by omega, by omega⟩ (z_kh ?_)
  refine z_hp (z_uu _ _ _ _) ?_
  have hF3 := z_F_new (e := z_al0 G) hF2 n_19
  have hq3 := hF3.1
  refine z_put (pc' := 29) X 2 f_TC_35 g_TC_35 d_TC_init_26 (by assumption) rfl rfl rfl rfl rfl ?_
  have hG3 := z_F_o (w' := [.ref a_6, .ref a_13, .ref a_19, .null, .int 0, .int 0, .int 0, .int 0, .int 0, .null, .null, .null, .null, .int 0, .int 0, .int 0, .int 0, .int 0, .int 0]) hF3
  refine z_hp (show _ = z_up (z_up h2x a_19 (z_al0 G)) o (z_ob 0 [.ref a_6, .ref a_13, .ref a_19, .null, .int 0, .int 0, .int 0, .int 0, .int 0, .null, .null, .null, .null, .int 0, .int 0, .int 0, .int 0, .int 0, .int 0]) from rfl) ?_
  generalize z_up (z_up h2x a_19 (z_al0 G)) o (z_ob 0 [.ref a_6, .ref a_13, .ref a_19, .null, .int 0, .int 0, .int 0, .int 0, .int 0, .null, .null, .null, .null, .int 0, .int 0, .int 0, .int 0, .int 0, .int 0]) = h3x at hG3 ⊢
  have hp3 := hG3.1
  have hF3 := hG3
  refine z_aload_n (pc' := 30) X d_TC_init_29 rfl rfl ?_
  refine z_new (pc' := 33) X nw_TC_32 d_TC_init_30 ⟨by omega, by omega⟩ rfl (fun a_30 n_30 e_30 => ?_)
  refine z_dup (pc' := 34) X d_TC_init_33 rfl rfl ?_
  refine z_iconst (pc' := 35) (v := 4) X d_TC_init_34 (by decide) rfl ?_
  have hF4 := z_F_new (e := z_ob 6 n_AL) hF3 n_30
  refine z_callI X (c_AL_init_I (w := 4) (z_up_s _ _ _) (by decide) (by decide)) k_TC_39 d_TC_init_35 rfl rfl rfl (by decide) (Nat.le_of_ble_eq_true rfl) ⟨by omega, by omega⟩ (fun v_35 h_35 k_35 n_35 p_35 => ?_)
  obtain ⟨rfl, rfl, rfl, ab, b1, b2, rfl⟩ := p_35
  have hF4 := z_F_new (e := z_ra (z_cO G) 4 (fun _ => none)) hF4 b1
  have hF4 := z_F_up (F1 := [(ab, z_ra (z_cO G) 4 (fun _ => none))]) (e' := z_ob 6 [.int 0, .ref ab, .int 0]) hF4
  have hq4 := hF4.1
  refine z_put (pc' := 41) X 3 f_TC_42 g_TC_42 d_TC_init_38 (by assumption) rfl rfl rfl rfl rfl ?_
  have hG4 := z_F_o (w' := [.ref a_6, .ref a_13, .ref a_19, .ref a_30, .int 0, .int 0, .int 0, .int 0, .int 0, .null, .null, .null, .null, .int 0, .int 0, .int 0, .int 0, .int 0, .int 0]) hF4
  refine z_hp (show _ = z_up (z_up (z_up (z_up h3x a_30 (z_ob 6 n_AL)) ab (z_ra (z_cO G) 4 (fun _ => none))) a_30 (z_ob 6 [.int 0, .ref ab, .int 0])) o (z_ob 0 [.ref a_6, .ref a_13, .ref a_19, .ref a_30, .int 0, .int 0, .int 0, .int 0, .int 0, .null, .null, .null, .null, .int 0, .int 0, .int 0, .int 0, .int 0, .int 0]) from rfl) ?_
  generalize z_up (z_up (z_up (z_up h3x a_30 (z_ob 6 n_AL)) ab (z_ra (z_cO G) 4 (fun _ => none))) a_30 (z_ob 6 [.int 0, .ref ab, .int 0])) o (z_ob 0 [.ref a_6, .ref a_13, .ref a_19, .ref a_30, .int 0, .int 0, .int 0, .int 0, .int 0, .null, .null, .null, .null, .int 0, .int 0, .int 0, .int 0, .int 0, .int 0]) = h4x at hG4 ⊢
  have hp4 := hG4.1
  have hF4 := hG4
  refine z_aload_n (pc' := 42) X d_TC_init_41 rfl rfl ?_
  refine z_new (pc' := 45) X nw_TC_45 d_TC_init_42 ⟨by omega, by omega⟩ rfl (fun a_42 n_42 e_42 => ?_)
  refine z_dup (pc' := 46) X d_TC_init_45 rfl rfl ?_
  have hF5 := z_F_new (e := z_ob 1 n_Mg) hF4 n_42
  refine z_callI X (c_Mg_init (z_up_s _ _ _)) k_TC_47 d_TC_init_46 rfl rfl rfl (by decide) (Nat.le_of_ble_eq_true rfl) ⟨by omega, by omega⟩ (fun v_46 h_46 k_46 n_46 p_46 => ?_)
  obtain ⟨rfl, rfl, rfl, sr, at', ou, hM⟩ := p_46
  have hF5 := z_F_call (N := [(ou, z_al0 G), (at', z_ia G 300 (fun _ => 0)), (sr, z_al0 G)]) hF5 hM.2.2.2 hM.1 (fun p hp => ⟨(hM.2.1 p hp).2.2, (hM.2.1 p hp).1⟩) hM.2.2.1
  have hq5 := hF5.1
  refine z_put (pc' := 52) X 9 f_TC_48 g_TC_48 d_TC_init_49 (by assumption) rfl rfl rfl rfl rfl ?_
  have hG5 := z_F_o (w' := [.ref a_6, .ref a_13, .ref a_19, .ref a_30, .int 0, .int 0, .int 0, .int 0, .int 0, .ref a_42, .null, .null, .null, .int 0, .int 0, .int 0, .int 0, .int 0, .int 0]) hF5
  refine z_hp (show _ = z_up (h_46) o (z_ob 0 [.ref a_6, .ref a_13, .ref a_19, .ref a_30, .int 0, .int 0, .int 0, .int 0, .int 0, .ref a_42, .null, .null, .null, .int 0, .int 0, .int 0, .int 0, .int 0, .int 0]) from rfl) ?_
  generalize z_up (h_46) o (z_ob 0 [.ref a_6, .ref a_13, .ref a_19, .ref a_30, .int 0, .int 0, .int 0, .int 0, .int 0, .ref a_42, .null, .null, .null, .int 0, .int 0, .int 0, .int 0, .int 0, .int 0]) = h5x at hG5 ⊢
  have hp5 := hG5.1
  have hF5 := hG5
  refine z_aload_n (pc' := 53) X d_TC_init_52 rfl rfl ?_
  refine z_new (pc' := 56) X nw_TC_32 d_TC_init_53 ⟨by omega, by omega⟩ rfl (fun a_53 n_53 e_53 => ?_)
  refine z_dup (pc' := 57) X d_TC_init_56 rfl rfl ?_
  refine z_callI X (c_AL_init_0 (z_up_s _ _ _)) k_TC_34 d_TC_init_57 rfl rfl rfl (by decide) (Nat.le_of_ble_eq_true rfl) ⟨by omega, by omega⟩ (z_kh ?_)
  refine z_hp (z_uu _ _ _ _) ?_
  have hF6 := z_F_new (e := z_al0 G) hF5 n_53
  have hq6 := hF6.1
  refine z_put (pc' := 63) X 10 f_TC_52 g_TC_52 d_TC_init_60 (by assumption) rfl rfl rfl rfl rfl ?_
  have hG6 := z_F_o (w' := [.ref a_6, .ref a_13, .ref a_19, .ref a_30, .int 0, .int 0, .int 0, .int 0, .int 0, .ref a_42, .ref a_53, .null, .null, .int 0, .int 0, .int 0, .int 0, .int 0, .int 0]) hF6
  refine z_hp (show _ = z_up (z_up h5x a_53 (z_al0 G)) o (z_ob 0 [.ref a_6, .ref a_13, .ref a_19, .ref a_30, .int 0, .int 0, .int 0, .int 0, .int 0, .ref a_42, .ref a_53, .null, .null, .int 0, .int 0, .int 0, .int 0, .int 0, .int 0]) from rfl) ?_
  generalize z_up (z_up h5x a_53 (z_al0 G)) o (z_ob 0 [.ref a_6, .ref a_13, .ref a_19, .ref a_30, .int 0, .int 0, .int 0, .int 0, .int 0, .ref a_42, .ref a_53, .null, .null, .int 0, .int 0, .int 0, .int 0, .int 0, .int 0]) = h6x at hG6 ⊢
  have hp6 := hG6.1
  have hF6 := hG6
  refine z_aload_n (pc' := 64) X d_TC_init_63 rfl rfl ?_
  refine z_new (pc' := 67) X nw_TC_32 d_TC_init_64 ⟨by omega, by omega⟩ rfl (fun a_64 n_64 e_64 => ?_)
  refine z_dup (pc' := 68) X d_TC_init_67 rfl rfl ?_
  refine z_callI X (c_AL_init_0 (z_up_s _ _ _)) k_TC_34 d_TC_init_68 rfl rfl rfl (by decide) (Nat.le_of_ble_eq_true rfl) ⟨by omega, by omega⟩ (z_kh ?_)
  refine z_hp (z_uu _ _ _ _) ?_
  have hF7 := z_F_new (e := z_al0 G) hF6 n_64
  have hq7 := hF7.1
  refine z_put (pc' := 74) X 11 f_TC_55 g_TC_55 d_TC_init_71 (by assumption) rfl rfl rfl rfl rfl ?_
  have hG7 := z_F_o (w' := [.ref a_6, .ref a_13, .ref a_19, .ref a_30, .int 0, .int 0, .int 0, .int 0, .int 0, .ref a_42, .ref a_53, .ref a_64, .null, .int 0, .int 0, .int 0, .int 0, .int 0, .int 0]) hF7
  refine z_hp (show _ = z_up (z_up h6x a_64 (z_al0 G)) o (z_ob 0 [.ref a_6, .ref a_13, .ref a_19, .ref a_30, .int 0, .int 0, .int 0, .int 0, .int 0, .ref a_42, .ref a_53, .ref a_64, .null, .int 0, .int 0, .int 0, .int 0, .int 0, .int 0]) from rfl) ?_
  generalize z_up (z_up h6x a_64 (z_al0 G)) o (z_ob 0 [.ref a_6, .ref a_13, .ref a_19, .ref a_30, .int 0, .int 0, .int 0, .int 0, .int 0, .ref a_42, .ref a_53, .ref a_64, .null, .int 0, .int 0, .int 0, .int 0, .int 0, .int 0]) = h7x at hG7 ⊢
  have hp7 := hG7.1
  have hF7 := hG7
  refine z_aload_n (pc' := 75) X d_TC_init_74 rfl rfl ?_
  refine z_sipush (pc' := 78) (v := 513) X d_TC_init_75 (by decide) rfl ?_
  refine z_top (b := .int (nI 513)) rfl ?_
  refine z_newarr (pc' := 80) X d_TC_init_78 (by omega) ⟨by omega, by omega⟩ rfl (fun a_78 n_78 e_78 => ?_)
  have hF8 := z_F_new (e := z_ia G 513 (fun _ => 0)) hF7 n_78
  have hq8 := hF8.1
  refine z_put (pc' := 83) X 12 f_TC_58 g_TC_58 d_TC_init_80 (by assumption) rfl rfl rfl rfl rfl ?_
  have hG8 := z_F_o (w' := [.ref a_6, .ref a_13, .ref a_19, .ref a_30, .int 0, .int 0, .int 0, .int 0, .int 0, .ref a_42, .ref a_53, .ref a_64, .ref a_78, .int 0, .int 0, .int 0, .int 0, .int 0, .int 0]) hF8
  refine z_hp (show _ = z_up (z_up h7x a_78 (z_ia G 513 (fun _ => 0))) o (z_ob 0 [.ref a_6, .ref a_13, .ref a_19, .ref a_30, .int 0, .int 0, .int 0, .int 0, .int 0, .ref a_42, .ref a_53, .ref a_64, .ref a_78, .int 0, .int 0, .int 0, .int 0, .int 0, .int 0]) from rfl) ?_
  generalize z_up (z_up h7x a_78 (z_ia G 513 (fun _ => 0))) o (z_ob 0 [.ref a_6, .ref a_13, .ref a_19, .ref a_30, .int 0, .int 0, .int 0, .int 0, .int 0, .ref a_42, .ref a_53, .ref a_64, .ref a_78, .int 0, .int 0, .int 0, .int 0, .int 0, .int 0]) = h8x at hG8 ⊢
  have hp8 := hG8.1
  have hF8 := hG8
  have hF9 := hF8
  obtain ⟨F1, hF1⟩ : ∃ F1, F1 = [(a_78, z_ia G 513 (fun _ => 0)), (a_64, z_al0 G), (a_53, z_al0 G), (ou, z_al0 G), (at', z_ia G 300 (fun _ => 0)), (sr, z_al0 G), (a_42, z_ob 1 (z_mgf sr at' ou (0, 0, 0, 0, 0))), (ab, z_ra (z_cO G) 4 (fun _ => none)), (a_30, z_ob 6 [.int 0, .ref ab, .int 0]), (a_19, z_al0 G)] := ⟨_, rfl⟩
  have hA : ∀ (hh : z_H) (f g : Nat → Int32), z_F h hh o 0 [.ref a_6, .ref a_13, .ref a_19, .ref a_30, .int 0, .int 0, .int 0, .int 0, .int 0, .ref a_42, .ref a_53, .ref a_64, .ref a_78, .int 0, .int 0, .int 0, .int 0, .int 0, .int 0] (F1 ++ (a_13, z_ia G 2 g) :: [(a_6, z_ia G 2 f)]) → hh a_6 = some (z_ia G 2 f) ∧ hh a_13 = some (z_ia G 2 g) := fun hh f g hF => ⟨(hF.2.1 (a_6, z_ia G 2 f) (by simp)).1, (hF.2.1 (a_13, z_ia G 2 g) (by simp)).1⟩
  have hU : ∀ (hh : z_H) (f g f' : Nat → Int32), z_F h hh o 0 [.ref a_6, .ref a_13, .ref a_19, .ref a_30, .int 0, .int 0, .int 0, .int 0, .int 0, .ref a_42, .ref a_53, .ref a_64, .ref a_78, .int 0, .int 0, .int 0, .int 0, .int 0, .int 0] (F1 ++ (a_13, z_ia G 2 g) :: [(a_6, z_ia G 2 f)]) → z_F h (z_up hh a_6 (z_ia G 2 f')) o 0 [.ref a_6, .ref a_13, .ref a_19, .ref a_30, .int 0, .int 0, .int 0, .int 0, .int 0, .ref a_42, .ref a_53, .ref a_64, .ref a_78, .int 0, .int 0, .int 0, .int 0, .int 0, .int 0] (F1 ++ (a_13, z_ia G 2 g) :: [(a_6, z_ia G 2 f')]) := fun hh f g f' hF => by
    have := z_F_up (F1 := F1 ++ [(a_13, z_ia G 2 g)]) (a := a_6) (e := z_ia G 2 f) (e' := z_ia G 2 f') (F2 := []) (by rw [List.append_assoc]; exact hF)
    rw [List.append_assoc] at this
    exact this
  have hF9 : z_F h h8x o 0 [.ref a_6, .ref a_13, .ref a_19, .ref a_30, .int 0, .int 0, .int 0, .int 0, .int 0, .ref a_42, .ref a_53, .ref a_64, .ref a_78, .int 0, .int 0, .int 0, .int 0, .int 0, .int 0] (F1 ++ (a_13, z_ia G 2 (fun _ => 0)) :: [(a_6, z_ia G 2 (fun _ => 0))]) := by rw [hF1]; exact hF8
  have hV : ∀ (hh : z_H) (f g g' : Nat → Int32), z_F h hh o 0 [.ref a_6, .ref a_13, .ref a_19, .ref a_30, .int 0, .int 0, .int 0, .int 0, .int 0, .ref a_42, .ref a_53, .ref a_64, .ref a_78, .int 0, .int 0, .int 0, .int 0, .int 0, .int 0] (F1 ++ (a_13, z_ia G 2 g) :: [(a_6, z_ia G 2 f)]) → z_F h (z_up hh a_13 (z_ia G 2 g')) o 0 [.ref a_6, .ref a_13, .ref a_19, .ref a_30, .int 0, .int 0, .int 0, .int 0, .int 0, .ref a_42, .ref a_53, .ref a_64, .ref a_78, .int 0, .int 0, .int 0, .int 0, .int 0, .int 0] (F1 ++ (a_13, z_ia G 2 g') :: [(a_6, z_ia G 2 f)]) := fun hh f g g' hF => z_F_up hF
  refine z_aload_n (pc' := 84) X d_TC_init_83 rfl rfl ?_
  refine z_get (pc' := 87) X 0 f_TC_23 d_TC_init_84 (by assumption) rfl rfl ?_
  refine z_iconst (pc' := 88) (v := 0) X d_TC_init_87 (by decide) rfl ?_
  refine z_iconst (pc' := 89) (v := 0) X d_TC_init_88 (by decide) rfl ?_
  refine z_iconst (pc' := 90) (v := 5) X d_TC_init_89 (by decide) rfl ?_
  refine z_iload_n (pc' := 91) X d_TC_init_90 rfl rfl ?_
  refine z_mmin (pc' := 94) X l_TC_61 ms_min mi_Math mc_min d_TC_init_91 rfl (by decide) (Nat.le_of_ble_eq_true rfl) ⟨by omega, by omega⟩ rfl ?_
  refine z_mmax (pc' := 97) X l_TC_67 ms_max mi_Math mc_max d_TC_init_94 rfl (by decide) (Nat.le_of_ble_eq_true rfl) ⟨by omega, by omega⟩ rfl ?_
  refine z_top (b := .int (z_clp 5 n0)) rfl ?_
  refine z_iastore (pc' := 98) (i := 0) X d_TC_init_97 (hA _ _ _ hF9).1 (by decide) (by decide) rfl rfl ?_
  have hF10 := hU _ _ _ (upd (fun _ => 0) 0 (z_clp 5 n0)) hF9
  have hp10 := hF10.1
  refine z_aload_n (pc' := 99) X d_TC_init_98 rfl rfl ?_
  refine z_get (pc' := 102) X 0 f_TC_23 d_TC_init_99 (by assumption) rfl rfl ?_
  refine z_iconst (pc' := 103) (v := 1) X d_TC_init_102 (by decide) rfl ?_
  refine z_iconst (pc' := 104) (v := 0) X d_TC_init_103 (by decide) rfl ?_
  refine z_iconst (pc' := 105) (v := 5) X d_TC_init_104 (by decide) rfl ?_
  refine z_iload_n (pc' := 106) X d_TC_init_105 rfl rfl ?_
  refine z_mmin (pc' := 109) X l_TC_61 ms_min mi_Math mc_min d_TC_init_106 rfl (by decide) (Nat.le_of_ble_eq_true rfl) ⟨by omega, by omega⟩ rfl ?_
  refine z_mmax (pc' := 112) X l_TC_67 ms_max mi_Math mc_max d_TC_init_109 rfl (by decide) (Nat.le_of_ble_eq_true rfl) ⟨by omega, by omega⟩ rfl ?_
  refine z_top (b := .int (z_clp 5 n1)) rfl ?_
  refine z_iastore (pc' := 113) (i := 1) X d_TC_init_112 (hA _ _ _ hF10).1 (by decide) (by decide) rfl rfl ?_
  have hF11 := hU _ _ _ (upd (upd (fun _ => 0) 0 (z_clp 5 n0)) 1 (z_clp 5 n1)) hF10
  have hp11 := hF11.1
  refine z_aload_n (pc' := 114) X d_TC_init_113 rfl rfl ?_
  refine z_get (pc' := 117) X 1 f_TC_29 d_TC_init_114 (by assumption) rfl rfl ?_
  refine z_iconst (pc' := 118) (v := 0) X d_TC_init_117 (by decide) rfl ?_
  refine z_iconst (pc' := 119) (v := 0) X d_TC_init_118 (by decide) rfl ?_
  refine z_sipush (pc' := 122) (v := 9999) X d_TC_init_119 (by decide) rfl ?_
  refine z_iload_n (pc' := 123) X d_TC_init_122 rfl rfl ?_
  refine z_mmin (pc' := 126) X l_TC_61 ms_min mi_Math mc_min d_TC_init_123 rfl (by decide) (Nat.le_of_ble_eq_true rfl) ⟨by omega, by omega⟩ rfl ?_
  refine z_mmax (pc' := 129) X l_TC_67 ms_max mi_Math mc_max d_TC_init_126 rfl (by decide) (Nat.le_of_ble_eq_true rfl) ⟨by omega, by omega⟩ rfl ?_
  refine z_top (b := .int (z_clp 9999 a0)) rfl ?_
  refine z_iastore (pc' := 130) (i := 0) X d_TC_init_129 (hA _ _ _ hF11).2 (by decide) (by decide) rfl rfl ?_
  have hF12 := hV _ _ _ (upd (fun _ => 0) 0 (z_clp 9999 a0)) hF11
  have hp12 := hF12.1
  refine z_aload_n (pc' := 131) X d_TC_init_130 rfl rfl ?_
  refine z_get (pc' := 134) X 1 f_TC_29 d_TC_init_131 (by assumption) rfl rfl ?_
  refine z_iconst (pc' := 135) (v := 1) X d_TC_init_134 (by decide) rfl ?_
  refine z_iconst (pc' := 136) (v := 0) X d_TC_init_135 (by decide) rfl ?_
  refine z_sipush (pc' := 139) (v := 9999) X d_TC_init_136 (by decide) rfl ?_
  refine z_iload (pc' := 141) X d_TC_init_139 rfl rfl ?_
  refine z_mmin (pc' := 144) X l_TC_61 ms_min mi_Math mc_min d_TC_init_141 rfl (by decide) (Nat.le_of_ble_eq_true rfl) ⟨by omega, by omega⟩ rfl ?_
  refine z_mmax (pc' := 147) X l_TC_67 ms_max mi_Math mc_max d_TC_init_144 rfl (by decide) (Nat.le_of_ble_eq_true rfl) ⟨by omega, by omega⟩ rfl ?_
  refine z_top (b := .int (z_clp 9999 a1)) rfl ?_
  refine z_iastore (pc' := 148) (i := 1) X d_TC_init_147 (hA _ _ _ hF12).2 (by decide) (by decide) rfl rfl ?_
  have hF13 := hV _ _ _ (upd (upd (fun _ => 0) 0 (z_clp 9999 a0)) 1 (z_clp 9999 a1)) hF12
  refine z_nd0 X (fun hd0 => ?_)
  generalize z_up (z_up (z_up (z_up h8x a_6 (z_ia G 2 (upd (fun _ => 0) 0 (z_clp 5 n0)))) a_6 (z_ia G 2 (upd (upd (fun _ => 0) 0 (z_clp 5 n0)) 1 (z_clp 5 n1)))) a_13 (z_ia G 2 (upd (fun _ => 0) 0 (z_clp 9999 a0)))) a_13 (z_ia G 2 (upd (upd (fun _ => 0) 0 (z_clp 9999 a0)) 1 (z_clp 9999 a1))) = hz at hF13 hd0 ⊢
  have hp13 := hF13.1
  subst hF1
  have hcell := hF13.2.1
  have hnd := hF13.2.2.1
  simp only [List.cons_append, List.nil_append, List.map_cons, List.map_nil, List.nodup_cons, List.mem_cons, not_or, List.not_mem_nil] at hnd
  have c78 := (hcell (a_78, z_ia G 513 (fun _ => 0)) (by simp)).1
  have c64 := (hcell (a_64, z_al0 G) (by simp)).1
  have c53 := (hcell (a_53, z_al0 G) (by simp)).1
  have cou := (hcell (ou, z_al0 G) (by simp)).1
  have cat := (hcell (at', z_ia G 300 (fun _ => 0)) (by simp)).1
  have csr := (hcell (sr, z_al0 G) (by simp)).1
  have c42 := (hcell (a_42, z_ob 1 (z_mgf sr at' ou (0, 0, 0, 0, 0))) (by simp)).1
  have cab := (hcell (ab, z_ra (z_cO G) 4 (fun _ => none)) (by simp)).1
  have c30 := (hcell (a_30, z_ob 6 [.int 0, .ref ab, .int 0]) (by simp)).1
  have c19 := (hcell (a_19, z_al0 G) (by simp)).1
  obtain ⟨c6, c13⟩ := hA _ _ _ hF13
  obtain ⟨w1, w2, w3, w4, w5, w6, w7, w8, w9, w10, w11, w12, -⟩ := hnd
  have hpool : z_pool G hz (z_lu (z_lu (z_lu (z_lu (z_lu (z_lu (fun _ => none) a_30 (ab, [], 4)) a_19 (z_d0 G, [], 0)) a_53 (z_d0 G, [], 0)) a_64 (z_d0 G, [], 0)) sr (z_d0 G, [], 0)) ou (z_d0 G, [], 0)) := z_pool_al (z_pool_al (z_pool_al (z_pool_al (z_pool_al (z_pool_b c30 cab) c19 hd0) c53 hd0) c64 hd0) csr hd0) cou hd0
  obtain ⟨La, hLa⟩ : ∃ La : z_LA, z_lu (z_lu (z_lu (z_lu (z_lu (z_lu (fun _ => none) a_30 (ab, [], 4)) a_19 (z_d0 G, [], 0)) a_53 (z_d0 G, [], 0)) a_64 (z_d0 G, [], 0)) sr (z_d0 G, [], 0)) ou (z_d0 G, [], 0) = La := ⟨_, rfl⟩
  have q1 : La a_19 = some (z_d0 G, [], 0) := by rw [← hLa, z_lu_n _ _ (Ne.symm w4.2.2.2.2.2.1), z_lu_n _ _ (Ne.symm w6.2.2.2.1), z_lu_n _ _ (Ne.symm w2.2.2.2.2.2.2.2.1), z_lu_n _ _ (Ne.symm w3.2.2.2.2.2.2.1), z_lu_s]
  have q2 : La a_30 = some (ab, [], 4) := by rw [← hLa, z_lu_n _ _ (Ne.symm w4.2.2.2.2.1), z_lu_n _ _ (Ne.symm w6.2.2.1), z_lu_n _ _ (Ne.symm w2.2.2.2.2.2.2.1), z_lu_n _ _ (Ne.symm w3.2.2.2.2.2.1), z_lu_n _ _ w9.1, z_lu_s]
  have q3 : La a_53 = some (z_d0 G, [], 0) := by rw [← hLa, z_lu_n _ _ w3.1, z_lu_n _ _ w3.2.2.1, z_lu_n _ _ (Ne.symm w2.1), z_lu_s]
  have q4 : La a_64 = some (z_d0 G, [], 0) := by rw [← hLa, z_lu_n _ _ w2.2.1, z_lu_n _ _ w2.2.2.2.1, z_lu_s]
  have q5 : La sr = some (z_d0 G, [], 0) := by rw [← hLa, z_lu_n _ _ (Ne.symm w4.2.1), z_lu_s]
  have q6 : La ou = some (z_d0 G, [], 0) := by rw [← hLa, z_lu_s]
  rw [hLa] at hpool
  have hndK : ([a_19, a_30, a_53, a_64, sr, ou] : List Nat).Nodup := by
    simp only [List.nodup_cons, List.mem_cons, not_or, List.not_mem_nil, List.nodup_nil, not_false_iff, and_true]
    exact ⟨⟨(Ne.symm w9.1), (Ne.symm w3.2.2.2.2.2.2.1), (Ne.symm w2.2.2.2.2.2.2.2.1), (Ne.symm w6.2.2.2.1), (Ne.symm w4.2.2.2.2.2.1)⟩, ⟨(Ne.symm w3.2.2.2.2.2.1), (Ne.symm w2.2.2.2.2.2.2.1), (Ne.symm w6.2.2.1), (Ne.symm w4.2.2.2.2.1)⟩, ⟨(Ne.symm w2.1), w3.2.2.1, w3.1⟩, ⟨w2.2.2.2.1, w2.2.1⟩, (Ne.symm w4.2.1)⟩
  have hndA : ([a_6, a_13, a_78, at'] : List Nat).Nodup := by
    simp only [List.nodup_cons, List.mem_cons, not_or, List.not_mem_nil, List.nodup_nil, not_false_iff, and_true]
    exact ⟨⟨(Ne.symm w11.1), (Ne.symm w1.2.2.2.2.2.2.2.2.2.2.1), (Ne.symm w5.2.2.2.2.2.2.1)⟩, ⟨(Ne.symm w1.2.2.2.2.2.2.2.2.2.1), (Ne.symm w5.2.2.2.2.2.1)⟩, w1.2.2.2.1⟩
  clear w1 w2 w3 w4 w5 w6 w7 w8 w9 w10 w11 w12
  have hI : z_I G hz o (a_6, a_13, a_19, a_30, a_42, a_53, a_64, a_78, sr, at', ou) (0, 0, 0, 0, 0, 0, 0, 0, 0, 0, 0) La (fun _ => (0, 0, 0, 0, 0, 0, 0)) (fun _ => []) (fun _ => []) (fun _ => (0, 0, 0, 0, 0)) [] [] [] (upd (upd (fun _ => 0) 0 (z_clp 5 n0)) 1 (z_clp 5 n1)) (upd (upd (fun _ => 0) 0 (z_clp 9999 a0)) 1 (z_clp 9999 a1)) (fun _ => 0) := by
    refine ⟨hpool, ⟨hp13, ⟨_, c42⟩, ⟨_, cat⟩, c6, c13, c78, hndA⟩, ⟨⟨_, _, q1, by decide⟩, ⟨_, _, q2, by decide, by decide⟩, ⟨_, _, _, q3, by decide⟩, ⟨_, _, q4, by decide⟩, ⟨_, _, _, q5, by decide⟩, ⟨_, _, _, q6, by decide⟩, fun t ht => absurd ht List.not_mem_nil, hndK⟩, fun t ht => absurd ht List.not_mem_nil, fun t ht => absurd ht List.not_mem_nil, fun t ht => absurd ht List.not_mem_nil⟩
  refine z_aload_n (pc' := 149) X d_TC_init_148 rfl rfl ?_
  refine z_get (pc' := 152) X 2 f_TC_35 d_TC_init_149 (by assumption) rfl rfl ?_
  refine z_new (pc' := 155) X nw_TC_70 d_TC_init_152 ⟨by omega, by omega⟩ rfl (fun a_152 n_152 e_152 => ?_)
  refine z_dup (pc' := 156) X d_TC_init_155 rfl rfl ?_
  refine z_iconst (pc' := 157) (v := 0) X d_TC_init_156 (by decide) rfl ?_
  refine z_bipush (pc' := 159) (v := 63) X d_TC_init_157 (by decide) rfl ?_
  refine z_callI X (c_Tb_init (z_up_s _ _ _)) k_TC_72 d_TC_init_159 rfl rfl rfl (by decide) (Nat.le_of_ble_eq_true rfl) ⟨by omega, by omega⟩ (fun v_159 h_159 k_159 n_159 p_159 => ?_)
  obtain ⟨rfl, rfl, rfl, m, al, ta, hN⟩ := p_159
  refine z_nd0 X (fun hd1 => ?_)
  obtain ⟨ext1, hE1, fs1, ph1, hJ1⟩ := z_J_new (z_J_of hI) n_152 hN hd1
  obtain ⟨⟨d1, c1, l1, m1⟩, -⟩ := id hJ1.2.2.1
  have hc1 : c1 = 0 := by
    have hTaE : a_19 ∈ z_lst (a_6, a_13, a_19, a_30, a_42, a_53, a_64, a_78, sr, at', ou) (fun _ => (0, 0, 0, 0, 0)) [] := by simp [z_lst]
    have n2 := z_lst_alJ (z_J_of hI) (show hz al = none from by
      have := hN.2.1
      rw [z_up_n _ _ (Ne.symm hN.2.2.2.2.2.2.2.1)] at this
      exact this)
    have n3 := z_lst_alJ (z_J_of hI) (show hz ta = none from by
      have := hN.2.2.1
      rw [z_up_n _ _ (Ne.symm hN.2.2.2.2.2.2.2.2.1)] at this
      exact this)
    have e : z_lu (z_lu La al (z_d0 G, [], 0)) ta (z_d0 G, [], 0) a_19 = some (z_d0 G, [], 0) := by
      rw [z_lu_n _ _ (fun e => n3 (by rw [← e]; exact hTaE)), z_lu_n _ _ (fun e => n2 (by rw [← e]; exact hTaE))]
      exact q1
    have l1' : z_lu (z_lu La al (z_d0 G, [], 0)) ta (z_d0 G, [], 0) a_19 = some (d1, [], c1) := l1
    rw [e] at l1'
    cases l1'
    rfl
  subst hc1
  obtain ⟨fs4, g4⟩ := P_ob hJ1.1 l1
  have hto := (hJ1.2.2.2.1 a_152 (by simp)).1
  refine z_callV X (P_add hJ1.1 l1 ⟨2, _, hto, Or.inl (by decide)⟩ (by decide)) k_TC_75 d_TC_init_162 (by assumption) (show classes[6]? = some _ from rfl) rfl rfl rfl (by decide) (Nat.le_of_ble_eq_true rfl) ⟨by omega, by omega⟩ (fun v_162 h_162 k_162 n_162 p_162 => ?_)
  obtain ⟨rfl, d', cap', r1, r2, r3⟩ := p_162
  have hcap : cap' ≤ 10 := by
    obtain ⟨z1, z2, z3, z4⟩ := r3
    rcases z4 with z4 | ⟨-, z4⟩
    · omega
    · rw [z4]
      decide
  obtain ⟨r31, r32, r33, -⟩ := r3
  have hJ2 := z_J_Ta hcn hJ1 r1 r2 (by omega)
  have hI2 := z_J_to hJ2 (fun u hu => hu) (z_LJ_7 hJ2.2.2.1).1
  have e1 := z_tu_s (fun _ => ((0, 0, 0, 0, 0) : z_TB)) a_152 (0, 63, m, al, ta)
  have hex : ∀ (b : Nat) (e : va_E), h b = some e → b ≠ o → ¬ z_isl G e → h_162 b = some e := fun b e hb hbo hl => r2 b e (ext1 b e (hF13.2.2.2 b e hb (by simpa using hbo))) hl
  refine z_pop (pc' := 166) X d_TC_init_165 rfl rfl ?_
  refine z_vret X rfl d_TC_init_166 ⟨rfl, by omega, by omega, hex, (a_6, a_13, a_19, a_30, a_42, a_53, a_64, a_78, sr, at', ou), _, _, _, _, _, a_152, _, _, hI2, ?_, ?_, ?_, ?_, ?_, ?_, ?_, ?_⟩
  · rw [e1]
  · rw [e1]
  · rw [e1]
    exact z_su_s _ _ _
  · exact z_su_s _ _ _
  · rfl
  · rfl
  · rfl
  · rfl
end INI
