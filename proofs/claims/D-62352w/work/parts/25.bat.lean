/-! batches: put, erase, expect, tear, crash, tick, log, looked -/
def z_ex (en : Nat → z_E7) (B : List Nat) (r : Int32) : Bool := decide (B.length < 4) && (decide (B = []) || decide (eR (en (B.getD 0 0)) = r))
def z_eu (en : Nat → z_E7) (a : Nat) (e : z_E7) : Nat → z_E7 := fun b => if b = a then e else en b
theorem z_eu_s (en : Nat → z_E7) (a : Nat) (e : z_E7) : z_eu en a e a = e := if_pos rfl
theorem z_eu_n (en : Nat → z_E7) {a b : Nat} (e : z_E7) (hb : b ≠ a) : z_eu en a e b = en b := if_neg hb
theorem z_fold_c {f g : Nat → Int64} (es : List Nat) : ∀ (w : Int64), (∀ b ∈ es, f b = g b) → es.foldl (fun w a => w ||| f a) w = es.foldl (fun w a => w ||| g a) w := by
  induction es with
  | nil => intro w _; rfl
  | cons a es ih =>
    intro w h
    simp only [List.foldl_cons]
    rw [h a List.mem_cons_self]
    exact ih _ (fun b hb => h b (List.mem_cons_of_mem _ hb))
theorem z_flt_c {en en' : Nat → z_E7} (es : List Nat) (he : ∀ b ∈ es, eR (en' b) = eR (en b)) : z_flt en' es = z_flt en es :=
  z_fold_c (f := fun a => z_bit (eR (en' a))) (g := fun a => z_bit (eR (en a))) es 0 (fun b hb => congrArg z_bit (he b hb))
theorem z_mne {a b : Nat} {l : List Nat} (ha : a ∉ l) (hb : b ∈ l) : b ≠ a := fun e => ha (by rw [← e]; exact hb)
section BAT
variable {G : z_G} {A : Nat → Prop} {h : z_H} {o : Nat} {K : z_KA} {v : z_VS} {La : z_LA} {en : Nat → z_E7} {sc tt : Nat → List Nat} {tb : Nat → z_TB} {T B R : List Nat} {nu ag wa : Nat → Int32}
theorem z_tab_c {en' : Nat → z_E7} {s : Nat} {es : List Nat} (ht : z_tab G h en s es) (he : ∀ b ∈ es, eR (en' b) = eR (en b) ∧ eL (en' b) = eL (en b)) : z_tab G h en' s es := by
  obtain ⟨arr, f, s1, s2, s3⟩ := ht
  refine ⟨arr, f, ?_, s2, s3⟩
  have e1 : z_flt en' es = z_flt en es := z_flt_c es (fun b hb => (he b hb).1)
  have e2 : z_era en' es = z_era en es := by
    unfold z_era
    exact List.countP_congr (fun b hb => by rw [(he b hb).2])
  rw [e1, e2]
  exact s1
theorem z_I_v (hI : z_I G h o K v La en sc tt tb T B R nu ag wa) (v' : z_VS) : z_I G (z_up h o (z_ob 0 (z_tcf K v'))) o K v' La en sc tt tb T B R nu ag wa ∧ z_ff G K h (z_up h o (z_ob 0 (z_tcf K v'))) := by
  obtain ⟨hp, ⟨j1, ⟨q0, j2⟩, ⟨f0, j3⟩, j4, j5, j6, j7⟩, hll, hi1, hB, hR⟩ := hI
  have hff : z_ff G K h (z_up h o (z_ob 0 (z_tcf K v'))) := z_ff_ob j1 (by decide)
  refine ⟨⟨z_pool_up hp j1 (z_isl_ob (by decide)) (fun _ => ⟨0, _, z_up_s _ _ _, Or.inl (by decide)⟩), ⟨z_up_s _ _ _, ⟨q0, ?_⟩, ⟨f0, ?_⟩, ?_, ?_, ?_, j7⟩, hll, fun t ht => z_I1_ff hff (hi1 t ht), z_ens_ff hff hB, z_ens_ff hff hR⟩, hff⟩
  · rw [z_up_n _ _ (fun e => by rw [e, j1] at j2; cases j2)]
    exact j2
  · rw [z_up_n _ _ (z_ao j1 j3)]
    exact j3
  · rw [z_up_n _ _ (z_ao j1 j4)]
    exact j4
  · rw [z_up_n _ _ (z_ao j1 j5)]
    exact j5
  · rw [z_up_n _ _ (z_ao j1 j6)]
    exact j6
/-- a new cell -/
theorem z_I0_new {a : Nat} {e : va_E} (hi : z_I0 G h o K v nu ag wa) (ha : h a = none) : z_I0 G (z_up h a e) o K v nu ag wa := by
  obtain ⟨j1, ⟨q0, j2⟩, ⟨f0, j3⟩, j4, j5, j6, j7⟩ := hi
  refine ⟨by rw [z_up_n _ _ (z_nb ha j1)]; exact j1, ⟨q0, by rw [z_up_n _ _ (z_nb ha j2)]; exact j2⟩, ⟨f0, by rw [z_up_n _ _ (z_nb ha j3)]; exact j3⟩, by rw [z_up_n _ _ (z_nb ha j4)]; exact j4, by rw [z_up_n _ _ (z_nb ha j5)]; exact j5, by rw [z_up_n _ _ (z_nb ha j6)]; exact j6, j7⟩
/-- entries' data may be told anew where no entry is -/
theorem z_ens_eu {a : Nat} {e : z_E7} {es : List Nat} (he : z_ens h en es) (ha : a ∉ es) : z_ens h (z_eu en a e) es := fun b hb => by
  rw [z_eu_n _ _ (z_mne ha hb)]
  exact he b hb
theorem z_ens_none {a : Nat} {es : List Nat} (he : z_ens h en es) (ha : h a = none) : a ∉ es := fun hm => by
  have := he a hm
  rw [ha] at this
  cases this
theorem z_I_en {a : Nat} {e : va_E} {e7 : z_E7} (hI : z_I G h o K v La en sc tt tb T B R nu ag wa) (ha : h a = none) : z_I G (z_up h a e) o K v La (z_eu en a e7) sc tt tb T B R nu ag wa ∧ z_ff G K h (z_up h a e) := by
  obtain ⟨hp, hi0, hll, hi1, hB, hR⟩ := hI
  have hff : z_ff G K h (z_up h a e) := z_ff_new ha
  refine ⟨⟨z_pool_new hp ha, z_I0_new hi0 ha, hll, fun t ht => ?_, z_ens_eu (z_ens_ff hff hB) (z_ens_none hB ha), z_ens_eu (z_ens_ff hff hR) (z_ens_none hR ha)⟩, hff⟩
  obtain ⟨i1, i2, i3, i4⟩ := hi1 t ht
  obtain ⟨u1, u2, u3, u4⟩ := z_I1_ff hff (hi1 t ht)
  refine ⟨u1, u2, z_ens_eu u3 (z_ens_none i3 ha), fun s hs => ⟨z_tab_c (u4 s hs).1 (fun b hb => ?_), z_ens_eu (u4 s hs).2 (z_ens_none (i4 s hs).2 ha)⟩⟩
  have hn := z_ens_none (i4 s hs).2 ha
  rw [z_eu_n _ _ (z_mne hn hb)]
  exact ⟨rfl, rfl⟩
theorem z_LL_B {B' : List Nat} {d c : Nat} (hl : z_LL La K tb tt sc T B R) (hc : 4 ≤ c ∧ c ≤ 1000) : z_LL (z_lu La (kBa K) (d, B', c)) K tb tt sc T B' R := by
  obtain ⟨⟨d1, c1, l1, m1⟩, ⟨d2, c2, l2, m2⟩, ⟨d3, x3, c3, l3, m3⟩, ⟨d4, c4, l4, m4⟩, ⟨d5, x5, c5, l5, m5⟩, ⟨d6, x6, c6, l6, m6⟩, l7, l8⟩ := hl
  obtain ⟨n1, n2, n3⟩ := z_lst_nd l8
  have nt : ∀ t ∈ T, bA (tb t) ≠ kBa K ∧ bT (tb t) ≠ kBa K := fun t ht => ⟨(n3 t ht (kBa K) (by simp)).1.symm, (n3 t ht (kBa K) (by simp)).2.symm⟩
  simp only [List.nodup_cons, List.mem_cons, not_or, List.not_mem_nil] at n1
  refine ⟨⟨d1, c1, by rw [z_lu_n _ _ n1.1.1]; exact l1, m1⟩, ⟨d, c, z_lu_s _ _ _, hc⟩, ⟨d3, x3, c3, by rw [z_lu_n _ _ (Ne.symm n1.2.1.1)]; exact l3, m3⟩, ⟨d4, c4, by rw [z_lu_n _ _ (Ne.symm n1.2.1.2.1)]; exact l4, m4⟩, ⟨d5, x5, c5, by rw [z_lu_n _ _ (Ne.symm n1.2.1.2.2.1)]; exact l5, m5⟩, ⟨d6, x6, c6, by rw [z_lu_n _ _ (Ne.symm n1.2.1.2.2.2.1)]; exact l6, m6⟩, fun t ht => ?_, l8⟩
  obtain ⟨⟨da, ca, q1, q2⟩, ⟨db, cb, q3, q4⟩⟩ := l7 t ht
  exact ⟨⟨da, ca, by rw [z_lu_n _ _ (nt t ht).1]; exact q1, q2⟩, ⟨db, cb, by rw [z_lu_n _ _ (nt t ht).2]; exact q3, q4⟩⟩
theorem z_I0_nl {h' : z_H} (hi : z_I0 G h o K v nu ag wa) (hn : z_nl G h h') : z_I0 G h' o K v nu ag wa := by
  obtain ⟨j1, ⟨q0, j2⟩, ⟨f0, j3⟩, j4, j5, j6, j7⟩ := hi
  exact ⟨hn _ _ j1 (z_isl_ob (by decide)), ⟨q0, hn _ _ j2 (z_isl_ob (by decide))⟩, ⟨f0, hn _ _ j3 z_isl_ia⟩, hn _ _ j4 z_isl_ia, hn _ _ j5 z_isl_ia, hn _ _ j6 z_isl_ia, j7⟩
theorem z_kBa (hn : (z_lst K tb T).Nodup) : kBa K ∈ z_lst K tb T := by simp [z_lst]
theorem c_extend {a : Nat} (hI : z_I G h o K v La en sc tt tb T B R nu ag wa) (ha : h a = some (z_ob 5 (z_ef (en a)))) : z_C G A m_TC_extend 1 2010 [.ref o, .ref a] h (fun val h' k n => val = some (.int (bI (z_ex en B (eR (en a))))) ∧ k = 0 ∧ n = 0 ∧ (∃ La', z_I G h' o K v La' en sc tt tb T (if z_ex en B (eR (en a)) then B ++ [a] else B) R nu ag wa ∧ z_Phi La' (z_lst K tb T) = z_Phi La (z_lst K tb T)) ∧ z_ff G K h h') := by
  have hI0 := hI
  obtain ⟨hp, hi0, hll, hi1, hB, hR⟩ := hI
  obtain ⟨j1, -⟩ := id hi0
  obtain ⟨-, ⟨d2, c2, l2, m2⟩, -, -, -, -, -, l8⟩ := id hll
  obtain ⟨fs, g1⟩ := P_ob hp l2
  have hlt := P_lt hp l2
  refine z_C.of (by decide +kernel) rfl (Nat.le_of_ble_eq_true rfl) ?_
  intro x X
  have hcn := z_cne X
  have ok : z_ex en B (eR (en a)) = true → z_V G A x h 0 0 44 [some (.ref o), some (.ref a)] [] := by
    intro hz
    have hz4 : B.length < 4 := by
      unfold z_ex at hz
      simp at hz
      exact hz.1
    refine z_aload_n (pc' := 45) X d_TC_extend_44 rfl rfl ?_
    refine z_get (pc' := 48) X 3 f_TC_42 d_TC_extend_45 (by assumption) rfl rfl ?_
    refine z_aload_n (pc' := 49) X d_TC_extend_48 rfl rfl ?_
    refine z_callV X (P_add hp l2 ⟨5, _, ha, Or.inl (by decide)⟩ (by omega)) k_TC_75 d_TC_extend_49 (by assumption) (show classes[6]? = some _ from rfl) rfl rfl rfl (by decide) (Nat.le_of_ble_eq_true rfl) ⟨by omega, by omega⟩ (fun v_49 h_49 k_49 n_49 p_49 => ?_)
    obtain ⟨rfl, d', cap', r1, r2, r3⟩ := p_49
    have hcc : cap' = c2 ∧ k_49 = 0 ∧ n_49 = 0 := by
      obtain ⟨q1, q2, q3, q4⟩ := r3
      rcases q4 with q4 | ⟨q4, -⟩
      · omega
      · omega
    obtain ⟨rfl, rfl, rfl⟩ := hcc
    have hff := z_ff_nl (K := K) hcn r2
    refine z_pop (pc' := 53) X d_TC_extend_52 rfl rfl ?_
    refine z_iconst (pc' := 54) (v := 1) X d_TC_extend_53 (by decide) rfl ?_
    refine z_zret X rfl (Or.inr rfl) d_TC_extend_54 ⟨by rw [hz]; rfl, rfl, rfl, ⟨_, ⟨r1, z_I0_nl hi0 r2, by rw [hz]; exact z_LL_B hll m2, fun t ht => z_I1_ff hff (hi1 t ht), ?_, z_ens_ff hff hR⟩, ?_⟩, hff⟩
    · rw [hz]
      intro b hb
      rcases List.mem_append.mp hb with q | q
      · exact z_ens_ff hff hB b q
      · rw [List.mem_singleton.mp q]
        exact hff _ _ ha (Or.inl ⟨5, _, rfl, by decide, by decide⟩)
    · have e := z_Phi_lu (La := La) (r := (d', B ++ [a], cap')) (a := kBa K) _ l8 (z_kBa l8)
      rw [z_cp_of l2] at e
      simp only at e
      omega
  have no : z_ex en B (eR (en a)) = false → z_V G A x h 0 0 42 [some (.ref o), some (.ref a)] [] := by
    intro hz
    refine z_iconst (pc' := 43) (v := 0) X d_TC_extend_42 (by decide) rfl ?_
    refine z_zret X rfl (Or.inl rfl) d_TC_extend_43 ⟨by rw [hz]; rfl, rfl, rfl, ⟨La, by rw [hz]; exact hI0, rfl⟩, z_ff_rf⟩
  refine z_aload_n (pc' := 1) X d_TC_extend_0 rfl rfl ?_
  refine z_get (pc' := 4) X 3 f_TC_42 d_TC_extend_1 (by assumption) rfl rfl ?_
  refine z_callV X (P_size hp l2) k_TC_79 d_TC_extend_4 (by assumption) (show classes[6]? = some _ from rfl) rfl rfl rfl (by decide) (Nat.le_of_ble_eq_true rfl) ⟨by omega, by omega⟩ (z_kp ?_)
  refine z_iconst (pc' := 8) (v := 4) X d_TC_extend_7 (by decide) rfl ?_
  refine z_icmp_ge (tgt := 42) (pc' := 11) X d_TC_extend_8 (by decide) rfl (fun c_8 => ?_) (fun c_8 => ?_)
  · have h4 : ¬ B.length < 4 := fun q => absurd c_8 (nI_ge (b := 4) q (by omega))
    exact no (by unfold z_ex; simp [h4])
  · have h4 : B.length < 4 := by
      rcases Nat.lt_or_ge B.length 4 with q | q
      · exact q
      · exact absurd (nI_le (a := 4) q (by omega)) c_8
    refine z_aload_n (pc' := 12) X d_TC_extend_11 rfl rfl ?_
    refine z_get (pc' := 15) X 3 f_TC_42 d_TC_extend_12 (by assumption) rfl rfl ?_
    refine z_callV X (P_isEmpty hp l2) k_TC_121 d_TC_extend_15 (by assumption) (show classes[6]? = some _ from rfl) rfl rfl rfl (by decide) (Nat.le_of_ble_eq_true rfl) ⟨by omega, by omega⟩ (z_kp ?_)
    by_cases hb0 : B.length = 0
    · rw [if_pos hb0]
      refine z_if_ne (tgt := 44) (pc' := 21) X d_TC_extend_18 (by decide) rfl (fun c_18 => ?_) (fun c_18 => absurd c_18 (by decide))
      exact ok (by unfold z_ex; simp [List.length_eq_zero_iff.mp hb0])
    · rw [if_neg hb0]
      refine z_if_ne (tgt := 44) (pc' := 21) X d_TC_extend_18 (by decide) rfl (fun c_18 => absurd rfl c_18) (fun c_18 => ?_)
      have hg : B[0]? = some (B.getD 0 0) := by
        rw [List.getD_eq_getElem?_getD, List.getElem?_eq_getElem (by omega)]
        rfl
      have hbo := hB _ (List.mem_of_getElem? hg)
      have hbn : B ≠ [] := fun e => hb0 (by rw [e]; rfl)
      refine z_aload_n (pc' := 22) X d_TC_extend_21 rfl rfl ?_
      refine z_get (pc' := 25) X 3 f_TC_42 d_TC_extend_22 (by assumption) rfl rfl ?_
      refine z_iconst (pc' := 26) (v := 0) X d_TC_extend_25 (by decide) rfl ?_
      refine z_callV X (P_get hp l2 (i := 0) hg) k_TC_80 d_TC_extend_26 (by assumption) (show classes[6]? = some _ from rfl) rfl rfl rfl (by decide) (Nat.le_of_ble_eq_true rfl) ⟨by omega, by omega⟩ (z_kp ?_)
      refine z_cast (pc' := 32) X cl_TC_12 ca_Entry d_TC_extend_29 (by assumption) rfl rfl ?_
      refine z_get (pc' := 35) X 0 f_TC_11 d_TC_extend_32 (by assumption) rfl rfl ?_
      refine z_aload_n (pc' := 36) X d_TC_extend_35 rfl rfl ?_
      refine z_get (pc' := 39) X 0 f_TC_11 d_TC_extend_36 (by assumption) rfl rfl ?_
      refine z_icmp_eq (tgt := 44) (pc' := 42) X d_TC_extend_39 (by decide) rfl (fun c_39 => ?_) (fun c_39 => ?_)
      · exact ok (by unfold z_ex; rw [c_39]; simp [h4])
      · exact no (by unfold z_ex; simp [hbn, h4]; exact c_39)
theorem c_tear (hI : z_I G h o K v La en sc tt tb T B R nu ag wa) : z_C G A m_TC_tear 0 0 [.ref o] h (fun val h' k n => val = none ∧ k = 0 ∧ n = 0 ∧ z_I G h' o K (vEx v, vSo v, vER v, vEC v, vEV v, vBs v, vLg v, vSq v, vCk v, vLk v, 1) La en sc tt tb T B R nu ag wa ∧ z_ff G K h h') := by
  have j1 := hI.2.1.1
  refine z_C.of (by decide +kernel) rfl (Nat.le_of_ble_eq_true rfl) ?_
  intro x X
  refine z_aload_n (pc' := 1) X d_TC_tear_0 rfl rfl ?_
  refine z_iconst (pc' := 2) (v := 1) X d_TC_tear_1 (by decide) rfl ?_
  refine z_put (pc' := 5) X 18 f_TC_186 (g_TC_186 _) d_TC_tear_2 (by assumption) rfl rfl rfl rfl rfl ?_
  exact z_vret X rfl d_TC_tear_5 (⟨rfl, rfl, rfl, (z_I_v hI (vEx v, vSo v, vER v, vEC v, vEV v, vBs v, vLg v, vSq v, vCk v, vLk v, 1)).1, (z_I_v hI (vEx v, vSo v, vER v, vEC v, vEV v, vBs v, vLg v, vSq v, vCk v, vLk v, 1)).2⟩)
theorem c_crash (hI : z_I G h o K v La en sc tt tb T B R nu ag wa) : z_C G A m_TC_crash 0 0 [.ref o] h (fun val h' k n => val = none ∧ k = 0 ∧ n = 0 ∧ (∃ La', z_I G h' o K (0, v.2) La' en sc tt tb T [] R nu ag wa ∧ z_Phi La' (z_lst K tb T) = z_Phi La (z_lst K tb T)) ∧ z_ff G K h h') := by
  obtain ⟨hp, hi0, hll, hi1, hB, hR⟩ := hI
  obtain ⟨j1, -⟩ := id hi0
  obtain ⟨-, ⟨d2, c2, l2, m2⟩, -, -, -, -, -, l8⟩ := id hll
  obtain ⟨fs, g1⟩ := P_ob hp l2
  refine z_C.of (by decide +kernel) rfl (Nat.le_of_ble_eq_true rfl) ?_
  intro x X
  have hcn := z_cne X
  refine z_aload_n (pc' := 1) X d_TC_crash_0 rfl rfl ?_
  refine z_get (pc' := 4) X 3 f_TC_42 d_TC_crash_1 (by assumption) rfl rfl ?_
  refine z_callV X (P_clear hp l2) k_TC_208 d_TC_crash_4 (by assumption) (show classes[6]? = some _ from rfl) rfl rfl rfl (by decide) (Nat.le_of_ble_eq_true rfl) ⟨by omega, by omega⟩ (fun v_4 h_4 k_4 n_4 p_4 => ?_)
  obtain ⟨rfl, rfl, rfl, r1, r2⟩ := p_4
  have hff := z_ff_nl (K := K) hcn r2
  have hI1 : z_I G h_4 o K v (z_lu La (kBa K) (d2, [], c2)) en sc tt tb T [] R nu ag wa := ⟨r1, z_I0_nl hi0 r2, z_LL_B hll m2, fun t ht => z_I1_ff hff (hi1 t ht), fun b hb => absurd hb List.not_mem_nil, z_ens_ff hff hR⟩
  have j1' := hI1.2.1.1
  have e := z_Phi_lu (La := La) (r := (d2, [], c2)) (a := kBa K) _ l8 (z_kBa l8)
  rw [z_cp_of l2] at e
  simp only at e
  refine z_aload_n (pc' := 8) X d_TC_crash_7 rfl rfl ?_
  refine z_iconst (pc' := 9) (v := 0) X d_TC_crash_8 (by decide) rfl ?_
  refine z_put (pc' := 12) X 4 f_TC_139 (g_TC_139 _) d_TC_crash_9 (by assumption) rfl rfl rfl rfl rfl ?_
  exact z_vret X rfl d_TC_crash_12 (⟨rfl, rfl, rfl, ⟨_, (z_I_v hI1 (0, v.2)).1, by omega⟩, z_ff_tr hff (z_I_v hI1 (0, v.2)).2⟩)
theorem c_tick {n : Int32} (hI : z_I G h o K v La en sc tt tb T B R nu ag wa) : z_C G A m_TC_tick 0 0 [.ref o, .int n] h (fun val h' k m => val = some (.int (vCk v + (if ¬ n < 0 ∧ n ≤ 5000 then n else 0))) ∧ k = 0 ∧ m = 0 ∧ z_I G h' o K (vEx v, vSo v, vER v, vEC v, vEV v, vBs v, vLg v, vSq v, vCk v + (if ¬ n < 0 ∧ n ≤ 5000 then n else 0), vLk v, vTo v) La en sc tt tb T B R nu ag wa ∧ z_ff G K h h') := by
  have j1 := hI.2.1.1
  refine z_C.of (by decide +kernel) rfl (Nat.le_of_ble_eq_true rfl) ?_
  intro x X
  have fin : ∀ d : Int32, d = (if ¬ n < 0 ∧ n ≤ 5000 then n else 0) → z_V G A x h 0 0 21 [some (.ref o), some (.int n)] [.int d, .int (vCk v), .ref o] := by
    intro d hd
    subst hd
    refine z_iadd (pc' := 22) X d_TC_tick_21 rfl ?_
    refine z_put (pc' := 25) X 16 f_TC_97 (g_TC_97 _) d_TC_tick_22 (by assumption) rfl rfl rfl rfl rfl ?_
    have t1 := z_up_s h o (z_ob 0 (z_tcf K (vEx v, vSo v, vER v, vEC v, vEV v, vBs v, vLg v, vSq v, vCk v + (if ¬ n < 0 ∧ n ≤ 5000 then n else 0), vLk v, vTo v)))
    refine z_aload_n (pc' := 26) X d_TC_tick_25 rfl rfl ?_
    refine z_get (pc' := 29) X 16 f_TC_97 d_TC_tick_26 (by assumption) rfl rfl ?_
    exact z_iret X rfl d_TC_tick_29 (⟨rfl, rfl, rfl, (z_I_v hI (vEx v, vSo v, vER v, vEC v, vEV v, vBs v, vLg v, vSq v, vCk v + (if ¬ n < 0 ∧ n ≤ 5000 then n else 0), vLk v, vTo v)).1, (z_I_v hI (vEx v, vSo v, vER v, vEC v, vEV v, vBs v, vLg v, vSq v, vCk v + (if ¬ n < 0 ∧ n ≤ 5000 then n else 0), vLk v, vTo v)).2⟩)
  refine z_aload_n (pc' := 1) X d_TC_tick_0 rfl rfl ?_
  refine z_dup (pc' := 2) X d_TC_tick_1 rfl rfl ?_
  refine z_get (pc' := 5) X 16 f_TC_97 d_TC_tick_2 (by assumption) rfl rfl ?_
  refine z_iload_n (pc' := 6) X d_TC_tick_5 rfl rfl ?_
  refine z_if_lt (tgt := 20) (pc' := 9) X d_TC_tick_6 (by decide) rfl (fun c_6 => ?_) (fun c_6 => ?_)
  · refine z_iconst (pc' := 21) (v := 0) X d_TC_tick_20 (by decide) rfl ?_
    exact fin 0 (by rw [if_neg (fun q => q.1 c_6)])
  · refine z_iload_n (pc' := 10) X d_TC_tick_9 rfl rfl ?_
    refine z_sipush (pc' := 13) (v := 5000) X d_TC_tick_10 (by decide) rfl ?_
    refine z_icmp_gt (tgt := 20) (pc' := 16) X d_TC_tick_13 (by decide) rfl (fun c_13 => ?_) (fun c_13 => ?_)
    · refine z_iconst (pc' := 21) (v := 0) X d_TC_tick_20 (by decide) rfl ?_
      exact fin 0 (by rw [if_neg (fun q => absurd c_13 (Int32.not_lt.mpr q.2))])
    · refine z_iload_n (pc' := 17) X d_TC_tick_16 rfl rfl ?_
      refine z_goto (pc' := 21) X d_TC_tick_17 (by decide) ?_
      exact fin n (by rw [if_pos ⟨c_6, Int32.not_lt.mp c_13⟩])
theorem c_log (h1 : h o = some (z_ob 0 (z_tcf K v))) : z_C G A m_TC_log 0 0 [.ref o] h (z_pu (some (.int (vLg v))) h) := by
  refine z_C.of (by decide +kernel) rfl (Nat.le_of_ble_eq_true rfl) ?_
  intro x X
  refine z_aload_n (pc' := 1) X d_TC_log_0 rfl rfl ?_
  refine z_get (pc' := 4) X 14 f_TC_192 d_TC_log_1 (by assumption) rfl rfl ?_
  exact z_iret X rfl d_TC_log_4 (⟨rfl, rfl, rfl, rfl⟩)
theorem c_looked (h1 : h o = some (z_ob 0 (z_tcf K v))) : z_C G A m_TC_looked 0 0 [.ref o] h (z_pu (some (.int (vLk v))) h) := by
  refine z_C.of (by decide +kernel) rfl (Nat.le_of_ble_eq_true rfl) ?_
  intro x X
  refine z_aload_n (pc' := 1) X d_TC_looked_0 rfl rfl ?_
  refine z_get (pc' := 4) X 17 f_TC_211 d_TC_looked_1 (by assumption) rfl rfl ?_
  exact z_iret X rfl d_TC_looked_4 (⟨rfl, rfl, rfl, rfl⟩)
end BAT
