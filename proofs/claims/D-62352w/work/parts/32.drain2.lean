/-! drain, flush -/
section DR2
variable {G : z_G} {A : Nat → Prop} {h : z_H} {o : Nat} {K : z_KA} {v : z_VS} {La : z_LA} {en : Nat → z_E7} {sc tt : Nat → List Nat} {tb : Nat → z_TB} {T B R : List Nat} {nu ag wa : Nat → Int32}
theorem z_I0_up {a ci : Nat} {fs : List Value} {e : va_E} (hi : z_I0 G h o K v nu ag wa) (ha : h a = some (z_ob ci fs)) (hc : 2 ≤ ci) : z_I0 G (z_up h a e) o K v nu ag wa := by
  obtain ⟨j1, ⟨q0, j2⟩, ⟨f0, j3⟩, j4, j5, j6, j7⟩ := hi
  refine ⟨by rw [z_up_n _ _ (fun e => by rw [e, ha] at j1; cases j1; omega)]; exact j1, ⟨q0, by rw [z_up_n _ _ (fun e => by rw [e, ha] at j2; cases j2; omega)]; exact j2⟩, ⟨f0, by rw [z_up_n _ _ (z_ao ha j3)]; exact j3⟩, by rw [z_up_n _ _ (z_ao ha j4)]; exact j4, by rw [z_up_n _ _ (z_ao ha j5)]; exact j5, by rw [z_up_n _ _ (z_ao ha j6)]; exact j6, j7⟩
/-- a tablet's tables are others: ts, of which each is a table -/
theorem z_I_tab {h' : z_H} {t d c : Nat} {ts : List Nat} {sc' : Nat → List Nat} (hcn : z_cE G ≠ z_cO G) (hI : z_I G h o K v La en sc tt tb T B R nu ag wa) (ht : t ∈ T) (hp : z_pool G h' (z_lu La (bT (tb t)) (d, ts, c))) (hn : z_nl G h h') (hc : c ≤ 1000) (hs : ∀ u ∈ T, sc' (bM (tb u)) = sc (bM (tb u)) ∧ ∀ s ∈ tt u, sc' s = sc s) (hts : ∀ s ∈ ts, z_tab G h en s (sc' s) ∧ z_ens h en (sc' s)) : z_I G h' o K v (z_lu La (bT (tb t)) (d, ts, c)) en sc' (z_su tt t ts) tb T B R nu ag wa := by
  have hff := z_ff_nl (K := K) hcn hn
  have hl1 := z_LL_T (d := d) (ts := ts) hI.2.2.1 ht hc
  obtain ⟨l1, l2, l3, l4, l5, l6, l7, l8⟩ := hl1
  refine ⟨hp, z_I0_nl hI.2.1 hn, ⟨l1, l2, l3, l4, l5, l6, fun u hu => ?_, l8⟩, fun u hu => ?_, z_ens_ff hff hI.2.2.2.2.1, z_ens_ff hff hI.2.2.2.2.2⟩
  · rw [(hs u hu).1]
    exact l7 u hu
  · obtain ⟨i1, i2, i3, i4⟩ := z_I1_ff hff (hI.2.2.2.1 u hu)
    refine ⟨i1, i2, by rw [(hs u hu).1]; exact i3, fun s hs' => ?_⟩
    by_cases hut : u = t
    · subst hut
      rw [z_su_s] at hs'
      obtain ⟨q1, q2⟩ := hts s hs'
      exact ⟨z_tab_ff hff q1, z_ens_ff hff q2⟩
    · rw [z_su_n _ _ hut] at hs'
      rw [(hs u hu).2 s hs']
      exact i4 s hs'
theorem z_fm_tu {t al : Nat} {r : z_TB} : ∀ (T : List Nat), T.Nodup → (T.flatMap (fun t => [bA (tb t), bT (tb t)])).Nodup → al ∉ T.flatMap (fun t => [bA (tb t), bT (tb t)]) → bA r = al → bT r = bT (tb t) → (T.flatMap (fun u => [bA (z_tu tb t r u), bT (z_tu tb t r u)])).Nodup ∧ ∀ a ∈ T.flatMap (fun u => [bA (z_tu tb t r u), bT (z_tu tb t r u)]), (a = al ∧ t ∈ T) ∨ a ∈ T.flatMap (fun t => [bA (tb t), bT (tb t)])
  | [], _, _, _, _, _ => ⟨List.nodup_nil, fun a ha => absurd ha List.not_mem_nil⟩
  | y :: T, h0, hn, ha, e1, e2 => by
    rw [List.flatMap_cons] at hn ha
    obtain ⟨h01, h02⟩ := List.nodup_cons.mp h0
    obtain ⟨h1, h2, h3⟩ := List.nodup_append.mp hn
    rw [List.mem_append, not_or] at ha
    obtain ⟨ih1, ih2⟩ := z_fm_tu (t := t) (r := r) T h02 h2 ha.2 e1 e2
    rw [List.flatMap_cons, List.flatMap_cons]
    by_cases hy : y = t
    · subst hy
      rw [z_tu_s, e1, e2]
      have ha1 : ¬ al = bT (tb y) := fun q => ha.1 (by rw [q]; simp)
      refine ⟨List.nodup_append.mpr ⟨by simp; exact ha1, ih1, fun a hm b hb => ?_⟩, fun a hm => ?_⟩
      · rcases ih2 b hb with ⟨-, q⟩ | q
        · exact absurd q h01
        · rcases List.mem_cons.mp hm with rfl | hm
          · exact fun e => ha.2 (by rw [e]; exact q)
          · rw [List.mem_singleton.mp hm]
            exact h3 _ (by simp) b q
      · rcases List.mem_append.mp hm with q | q
        · rcases List.mem_cons.mp q with q | q
          · exact Or.inl ⟨q, List.mem_cons_self⟩
          · exact Or.inr (List.mem_append_left _ (by simp at q; simp [q]))
        · rcases ih2 a q with ⟨q1, q2⟩ | q
          · exact Or.inl ⟨q1, List.mem_cons_of_mem _ q2⟩
          · exact Or.inr (List.mem_append_right _ q)
    · rw [z_tu_n _ _ hy]
      refine ⟨List.nodup_append.mpr ⟨h1, ih1, fun a hm b hb => ?_⟩, fun a hm => ?_⟩
      · rcases ih2 b hb with ⟨q, -⟩ | q
        · exact fun e => ha.1 (by rw [← q, ← e]; exact hm)
        · exact h3 a hm b q
      · rcases List.mem_append.mp hm with q | q
        · exact Or.inr (List.mem_append_left _ q)
        · rcases ih2 a q with ⟨q1, q2⟩ | q
          · exact Or.inl ⟨q1, List.mem_cons_of_mem _ q2⟩
          · exact Or.inr (List.mem_append_right _ q)
theorem z_lst_al {al : Nat} (hI : z_I G h o K v La en sc tt tb T B R nu ag wa) (ha : h al = none) : al ∉ z_lst K tb T := fun hm => by
  obtain ⟨⟨d1, c1, l1, m1⟩, ⟨d2, c2, l2, m2⟩, ⟨d3, x3, c3, l3, m3⟩, ⟨d4, c4, l4, m4⟩, ⟨d5, x5, c5, l5, m5⟩, ⟨d6, x6, c6, l6, m6⟩, l7, l8⟩ := hI.2.2.1
  have key : ∀ b d xs c, La b = some (d, xs, c) → al ≠ b := fun b d xs c hb e => by
    obtain ⟨fs, g⟩ := P_ob hI.1 hb
    rw [← e, ha] at g
    cases g
  rcases List.mem_append.mp hm with q | q
  · simp only [List.mem_cons, List.not_mem_nil, or_false] at q
    rcases q with q | q | q | q | q | q
    · exact key _ _ _ _ l1 q
    · exact key _ _ _ _ l2 q
    · exact key _ _ _ _ l3 q
    · exact key _ _ _ _ l4 q
    · exact key _ _ _ _ l5 q
    · exact key _ _ _ _ l6 q
  · obtain ⟨u, hu, q⟩ := List.mem_flatMap.mp q
    obtain ⟨⟨da, ca, q1, q2⟩, ⟨db, cb, q3, q4⟩⟩ := l7 u hu
    simp at q
    rcases q with q | q
    · exact key _ _ _ _ q1 q
    · exact key _ _ _ _ q3 q
theorem z_LL_eq {La' : z_LA} (hl : z_LL La K tb tt sc T B R) (he : ∀ b ∈ z_lst K tb T, La' b = La b) : z_LL La' K tb tt sc T B R := by
  obtain ⟨⟨d1, c1, l1, m1⟩, ⟨d2, c2, l2, m2⟩, ⟨d3, x3, c3, l3, m3⟩, ⟨d4, c4, l4, m4⟩, ⟨d5, x5, c5, l5, m5⟩, ⟨d6, x6, c6, l6, m6⟩, l7, l8⟩ := hl
  refine ⟨⟨d1, c1, by rw [he _ (by simp [z_lst])]; exact l1, m1⟩, ⟨d2, c2, by rw [he _ (by simp [z_lst])]; exact l2, m2⟩, ⟨d3, x3, c3, by rw [he _ (by simp [z_lst])]; exact l3, m3⟩, ⟨d4, c4, by rw [he _ (by simp [z_lst])]; exact l4, m4⟩, ⟨d5, x5, c5, by rw [he _ (by simp [z_lst])]; exact l5, m5⟩, ⟨d6, x6, c6, by rw [he _ (by simp [z_lst])]; exact l6, m6⟩, fun u hu => ?_, l8⟩
  rw [he _ (z_bAm hu).1, he _ (z_bAm hu).2]
  exact l7 u hu
theorem z_ens_t {t : Nat} {fs : List Value} {e : va_E} {es : List Nat} (ht : h t = some (z_ob 2 fs)) (he : z_ens h en es) : z_ens (z_up h t e) en es := fun b hb => by
  have h1 := he b hb
  rw [z_up_n _ _ (fun e => by rw [e, ht] at h1; cases h1)]
  exact h1
theorem z_tab_t {t s : Nat} {fs : List Value} {e : va_E} {es : List Nat} (ht : h t = some (z_ob 2 fs)) (hs : z_tab G h en s es) : z_tab G (z_up h t e) en s es := by
  obtain ⟨arr, f, s1, s2, s3⟩ := hs
  refine ⟨arr, f, ?_, ?_, s3⟩
  · rw [z_up_n _ _ (fun e => by rw [e, ht] at s1; cases s1)]
    exact s1
  · rw [z_up_n _ _ (z_ao ht s2)]
    exact s2
/-- a tablet gets a new, empty memtable -/
theorem z_I_nm {t m al : Nat} {w : List Value} (hI : z_I G h o K v La en sc tt tb T B R nu ag wa) (ht : t ∈ T) (h0 : h (z_d0 G) = none) (hm : h m = none) (ha : h al = none) (hma : m ≠ al) (had : al ≠ z_d0 G) (hmd : m ≠ z_d0 G) : z_I G (z_up (z_up (z_up h m (z_ob 3 w)) al (z_ob 6 [.int 0, .ref (z_d0 G), .int 0])) m (z_ob 3 [.ref al])) o K v (z_lu La al (z_d0 G, [], 0)) en sc tt tb T B R nu ag wa ∧ z_I G (z_up (z_up (z_up (z_up h m (z_ob 3 w)) al (z_ob 6 [.int 0, .ref (z_d0 G), .int 0])) m (z_ob 3 [.ref al])) t (z_ob 2 [.int (bF (tb t)), .int (bL (tb t)), .ref m, .ref (bT (tb t))])) o K v (z_lu La al (z_d0 G, [], 0)) en (z_su sc m []) tt (z_tu tb t (bF (tb t), bL (tb t), m, al, bT (tb t))) T B R nu ag wa ∧ z_Phi (z_lu La al (z_d0 G, [], 0)) (z_lst K (z_tu tb t (bF (tb t), bL (tb t), m, al, bT (tb t))) T) + z_cp La (bA (tb t)) = z_Phi La (z_lst K tb T) := by
  have hals := z_lst_al hI ha
  have hext : ∀ (b : Nat) (e : va_E), h b = some e → z_up (z_up (z_up h m (z_ob 3 w)) al (z_ob 6 [.int 0, .ref (z_d0 G), .int 0])) m (z_ob 3 [.ref al]) b = some e := fun b e hb => by
    rw [z_up_n _ _ (z_nb hm hb), z_up_n _ _ (z_nb ha hb), z_up_n _ _ (z_nb hm hb)]
    exact hb
  have heq : ∀ b ∈ z_lst K tb T, z_lu La al (z_d0 G, [], 0) b = La b := fun b hb => z_lu_n _ _ (fun e => hals (by rw [← e]; exact hb))
  have hp1 : z_pool G (z_up (z_up (z_up h m (z_ob 3 w)) al (z_ob 6 [.int 0, .ref (z_d0 G), .int 0])) m (z_ob 3 [.ref al])) (z_lu La al (z_d0 G, [], 0)) := by
    have h1 := z_pool_new (e' := z_ob 3 w) hI.1 hm
    have h2 := z_pool_nw h1 (by rw [z_up_n _ _ (Ne.symm hma)]; exact ha) (by rw [z_up_n _ _ (Ne.symm hmd)]; exact h0) had
    have h3 : z_up (z_up h m (z_ob 3 w)) al (z_ob 6 [.int 0, .ref (z_d0 G), .int 0]) m = some (z_ob 3 w) := by rw [z_up_n _ _ hma, z_up_s]
    exact z_pool_up h2 h3 (z_isl_ob (by decide)) (fun _ => ⟨3, _, z_up_s _ _ _, Or.inl (by decide)⟩)
  have hI1 := z_I_ext hI hext
  have hIa : z_I G (z_up (z_up (z_up h m (z_ob 3 w)) al (z_ob 6 [.int 0, .ref (z_d0 G), .int 0])) m (z_ob 3 [.ref al])) o K v (z_lu La al (z_d0 G, [], 0)) en sc tt tb T B R nu ag wa := ⟨hp1, hI1.2.1, z_LL_eq hI.2.2.1 heq, hI1.2.2.2⟩
  have hms := z_up_s (z_up (z_up h m (z_ob 3 w)) al (z_ob 6 [.int 0, .ref (z_d0 G), .int 0])) m (z_ob 3 [.ref al])
  have hscm : ∀ s, (∃ e, h s = some e) → z_su sc m [] s = sc s := fun s ⟨e, he⟩ => z_su_n _ _ (z_nb hm he)
  generalize z_up (z_up (z_up h m (z_ob 3 w)) al (z_ob 6 [.int 0, .ref (z_d0 G), .int 0])) m (z_ob 3 [.ref al]) = h3 at hIa hms ⊢
  obtain ⟨l1, l2, l3, l4, l5, l6, l7, l8⟩ := hIa.2.2.1
  have hto := (hIa.2.2.2.1 t ht).1
  have hTn := z_T_nd l8
  have hnd := z_lst_nd l8
  have hfm := z_fm_tu (tb := tb) (t := t) (al := al) (r := (bF (tb t), bL (tb t), m, al, bT (tb t))) T hTn hnd.2.1 (fun q => hals (List.mem_append_right _ q)) rfl rfl
  refine ⟨hIa, ⟨z_pool_up hIa.1 hto (z_isl_ob (by decide)) (fun _ => ⟨2, _, z_up_s _ _ _, Or.inl (by decide)⟩), z_I0_up hIa.2.1 hto (by decide), ⟨l1, l2, l3, l4, l5, l6, fun u hu => ?_, ?_⟩, fun u hu => ?_, z_ens_t hto hIa.2.2.2.2.1, z_ens_t hto hIa.2.2.2.2.2⟩, ?_⟩
  · by_cases hut : u = t
    · subst hut
      rw [z_tu_s]
      exact ⟨⟨z_d0 G, 0, by rw [z_su_s]; exact z_lu_s _ _ _, by decide⟩, (l7 u hu).2⟩
    · rw [z_tu_n _ _ hut, hscm _ ⟨_, (hI.2.2.2.1 u hu).2.1⟩]
      exact l7 u hu
  · refine List.nodup_append.mpr ⟨hnd.1, hfm.1, fun a ha' b hb => ?_⟩
    rcases hfm.2 b hb with ⟨q, -⟩ | q
    · exact fun e => hals (by rw [← q, ← e]; exact List.mem_append_left _ ha')
    · obtain ⟨u, hu, hb'⟩ := List.mem_flatMap.mp q
      simp at hb'
      rcases hb' with rfl | rfl
      · exact (hnd.2.2 u hu a ha').1
      · exact (hnd.2.2 u hu a ha').2
  · obtain ⟨i1, i2, i3, i4⟩ := hIa.2.2.2.1 u hu
    have hi4 := (hI.2.2.2.1 u hu).2.2.2
    have htabs : ∀ s ∈ tt u, z_tab G (z_up h3 t (z_ob 2 [.int (bF (tb t)), .int (bL (tb t)), .ref m, .ref (bT (tb t))])) en s (z_su sc m [] s) ∧ z_ens (z_up h3 t (z_ob 2 [.int (bF (tb t)), .int (bL (tb t)), .ref m, .ref (bT (tb t))])) en (z_su sc m [] s) := fun s hs => by
      obtain ⟨arr, f, s1, -⟩ := (hi4 s hs).1
      rw [hscm s ⟨_, s1⟩]
      exact ⟨z_tab_t hto (i4 s hs).1, z_ens_t hto (i4 s hs).2⟩
    by_cases hut : u = t
    · subst hut
      unfold z_I1
      rw [z_tu_s]
      refine ⟨z_up_s _ _ _, ?_, ?_, htabs⟩
      · have hmu : m ≠ u := fun e => by rw [e, hto] at hms; cases hms
        show z_up h3 u _ m = _
        rw [z_up_n _ _ hmu]
        exact hms
      · rw [z_su_s]
        exact fun b hb => absurd hb List.not_mem_nil
    · unfold z_I1
      rw [z_tu_n _ _ hut]
      refine ⟨by rw [z_up_n _ _ hut]; exact i1, ?_, ?_, htabs⟩
      · rw [z_up_n _ _ (fun e => by rw [e, hto] at i2; cases i2)]
        exact i2
      · rw [hscm _ ⟨_, (hI.2.2.2.1 u hu).2.1⟩]
        exact z_ens_t hto i3
  · rw [z_Phi_T, z_Phi_T]
    have e1 : z_Phi (z_lu La al (z_d0 G, [], 0)) [kTa K, kBa K, kKe K, kRe K, kSr K, kOu K] = z_Phi La [kTa K, kBa K, kKe K, kRe K, kSr K, kOu K] := z_Phi_nm (fun q => hals (List.mem_append_left _ q))
    have ec : ∀ u ∈ T, z_cp (z_lu La al (z_d0 G, [], 0)) (bA (tb u)) = z_cp La (bA (tb u)) ∧ z_cp (z_lu La al (z_d0 G, [], 0)) (bT (tb u)) = z_cp La (bT (tb u)) := fun u hu => by
      unfold z_cp
      rw [heq _ (z_bAm hu).1, heq _ (z_bAm hu).2]
      exact ⟨rfl, rfl⟩
    have e2 := z_sum_upd (g := fun u => z_cp La (bA (tb u)) + z_cp La (bT (tb u))) (g' := fun u => z_cp (z_lu La al (z_d0 G, [], 0)) (bA (z_tu tb t (bF (tb t), bL (tb t), m, al, bT (tb t)) u)) + z_cp (z_lu La al (z_d0 G, [], 0)) (bT (z_tu tb t (bF (tb t), bL (tb t), m, al, bT (tb t)) u))) T hTn ht (fun u hu hut => by
      rw [z_tu_n _ _ hut, (ec u hu).1, (ec u hu).2])
    simp only [z_tu_s] at e2
    have e3 : z_cp (z_lu La al (z_d0 G, [], 0)) al = 0 := by unfold z_cp; rw [z_lu_s]
    have e4 := (ec t ht).2
    rw [e3, e4] at e2
    rw [e1]
    omega
end DR2
