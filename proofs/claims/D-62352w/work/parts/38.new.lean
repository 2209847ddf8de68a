/-! new tablets; the picture with tablets that aren't in the list yet -/
abbrev z_al0 (G : z_G) : va_E := z_ob 6 [.int 0, .ref (z_d0 G), .int 0]
/-- a new tablet's cells -/
def z_NT (G : z_G) (h h' : z_H) (t : Nat) (f l : Int32) (m al ta : Nat) : Prop :=
  h m = none ∧ h al = none ∧ h ta = none ∧ m ≠ al ∧ m ≠ ta ∧ al ≠ ta ∧ t ≠ m ∧ t ≠ al ∧ t ≠ ta ∧ h' t = some (z_ob 2 [.int f, .int l, .ref m, .ref ta]) ∧ h' m = some (z_ob 3 [.ref al]) ∧ h' al = some (z_al0 G) ∧ h' ta = some (z_al0 G) ∧ z_fr h h' [t]
section NEW
variable {G : z_G} {A : Nat → Prop} {h : z_H} {o : Nat} {K : z_KA} {v : z_VS} {La : z_LA} {en : Nat → z_E7} {sc tt : Nat → List Nat} {tb : Nat → z_TB} {T E B R : List Nat} {nu ag wa : Nat → Int32}
theorem c_Tb_init {t : Nat} {f l : Int32} {v0 v1 v2 v3 : Value} (h1 : h t = some (z_ob 2 [v0, v1, v2, v3])) : z_C G A m_Tb_init 3 7 [.ref t, .int f, .int l] h (fun v h' k n => v = none ∧ k = 3 ∧ n = 7 ∧ ∃ m al ta, z_NT G h h' t f l m al ta) := by
  refine z_C.of (by decide +kernel) rfl (Nat.le_of_ble_eq_true rfl) ?_
  intro x X
  refine z_aload_n (pc' := 1) X d_Tb_init_0 rfl rfl ?_
  refine z_obj (pc' := 4) X l_Tb_1 oi_1 oi_2 d_Tb_init_1 rfl (by decide) (Nat.le_of_ble_eq_true rfl) rfl ?_
  refine z_aload_n (pc' := 5) X d_Tb_init_4 rfl rfl ?_
  refine z_new (pc' := 8) X nw_Tb_7 d_Tb_init_5 ⟨by omega, by omega⟩ rfl (fun a_5 n_5 e_5 => ?_)
  refine z_dup (pc' := 9) X d_Tb_init_8 rfl rfl ?_
  have s1 := z_up_s h a_5 (z_ob 3 n_Mt)
  refine z_callI X (c_Mt_init s1) k_Tb_9 d_Tb_init_9 rfl rfl rfl (by decide) (Nat.le_of_ble_eq_true rfl) ⟨by omega, by omega⟩ (fun v_9 h_9 k_9 n_9 p_9 => ?_)
  obtain ⟨rfl, rfl, rfl, al, q1, q2, rfl⟩ := p_9
  have hma : a_5 ≠ al := fun e => by rw [← e, z_up_s] at q1; cases q1
  have q3 : h al = none := by rw [z_up_n _ _ (Ne.symm hma)] at q1; exact q1
  have tm := z_nb n_5 h1
  have tal := z_nb q3 h1
  have g1 : z_up (z_up (z_up h a_5 (z_ob 3 n_Mt)) al (z_ob 6 [.int 0, .ref (z_d0 G), .int 0])) a_5 (z_ob 3 [.ref al]) t = some (z_ob 2 [v0, v1, v2, v3]) := by rw [z_up_n _ _ tm, z_up_n _ _ tal, z_up_n _ _ tm]; exact h1
  have b1 := z_up_s (z_up (z_up h a_5 (z_ob 3 n_Mt)) al (z_ob 6 [.int 0, .ref (z_d0 G), .int 0])) a_5 (z_ob 3 [.ref al])
  have b2 : z_up (z_up (z_up h a_5 (z_ob 3 n_Mt)) al (z_ob 6 [.int 0, .ref (z_d0 G), .int 0])) a_5 (z_ob 3 [.ref al]) al = some (z_al0 G) := by rw [z_up_n _ _ (Ne.symm hma), z_up_s]
  have b3 : z_fr h (z_up (z_up (z_up h a_5 (z_ob 3 n_Mt)) al (z_ob 6 [.int 0, .ref (z_d0 G), .int 0])) a_5 (z_ob 3 [.ref al])) [t] := z_fr_new (z_fr_new (z_fr_new (z_fr_rf _ _) n_5) q3) n_5
  generalize z_up (z_up (z_up h a_5 (z_ob 3 n_Mt)) al (z_ob 6 [.int 0, .ref (z_d0 G), .int 0])) a_5 (z_ob 3 [.ref al]) = h2 at g1 b1 b2 b3
  refine z_put (pc' := 15) X 2 f_Tb_10 (g_Tb_10 _) d_Tb_init_12 (by assumption) rfl rfl rfl rfl rfl ?_
  have g2 := z_up_s h2 t (z_ob 2 [v0, v1, .ref a_5, v3])
  have b1' : z_up h2 t (z_ob 2 [v0, v1, .ref a_5, v3]) a_5 = some (z_ob 3 [.ref al]) := by rw [z_up_n _ _ (Ne.symm tm)]; exact b1
  have b2' : z_up h2 t (z_ob 2 [v0, v1, .ref a_5, v3]) al = some (z_al0 G) := by rw [z_up_n _ _ (Ne.symm tal)]; exact b2
  have b3' : z_fr h (z_up h2 t (z_ob 2 [v0, v1, .ref a_5, v3])) [t] := z_fr_up b3 (by simp)
  refine z_hp (show _ = z_up h2 t (z_ob 2 [v0, v1, .ref a_5, v3]) from rfl) ?_
  generalize z_up h2 t (z_ob 2 [v0, v1, .ref a_5, v3]) = h3 at g2 b1' b2' b3' ⊢
  refine z_aload_n (pc' := 16) X d_Tb_init_15 rfl rfl ?_
  refine z_new (pc' := 19) X nw_Tb_16 d_Tb_init_16 ⟨by omega, by omega⟩ rfl (fun a_16 n_16 e_16 => ?_)
  refine z_dup (pc' := 20) X d_Tb_init_19 rfl rfl ?_
  refine z_callI X (c_AL_init_0 (z_up_s _ _ _)) k_Tb_18 d_Tb_init_20 rfl rfl rfl (by decide) (Nat.le_of_ble_eq_true rfl) ⟨by omega, by omega⟩ (z_kh ?_)
  refine z_hp (z_uu _ _ _ _) ?_
  have ta1 := z_nb n_16 g2
  have ta2 := z_nb n_16 b1'
  have ta3 := z_nb n_16 b2'
  have ta4 : h a_16 = none := by
    cases hx : h a_16 with
    | none => rfl
    | some e =>
      have := b3' a_16 e hx (by simpa using Ne.symm ta1)
      rw [n_16] at this
      cases this
  have g3 : z_up h3 a_16 (z_ob 6 [.int 0, .ref (z_d0 G), .int 0]) t = some (z_ob 2 [v0, v1, .ref a_5, v3]) := by rw [z_up_n _ _ ta1]; exact g2
  refine z_put (pc' := 26) X 3 f_Tb_19 g_Tb_19 d_Tb_init_23 (by assumption) rfl rfl rfl rfl rfl ?_
  have g4 := z_up_s (z_up h3 a_16 (z_ob 6 [.int 0, .ref (z_d0 G), .int 0])) t (z_ob 2 [v0, v1, .ref a_5, .ref a_16])
  refine z_aload_n (pc' := 27) X d_Tb_init_26 rfl rfl ?_
  refine z_iload_n (pc' := 28) X d_Tb_init_27 rfl rfl ?_
  refine z_put (pc' := 31) X 0 f_Tb_23 (g_Tb_23 _) d_Tb_init_28 (by assumption) rfl rfl rfl rfl rfl ?_
  refine z_hp (z_uu _ _ _ _) ?_
  have g5 := z_up_s (z_up h3 a_16 (z_ob 6 [.int 0, .ref (z_d0 G), .int 0])) t (z_ob 2 [.int f, v1, .ref a_5, .ref a_16])
  refine z_aload_n (pc' := 32) X d_Tb_init_31 rfl rfl ?_
  refine z_iload_n (pc' := 33) X d_Tb_init_32 rfl rfl ?_
  refine z_put (pc' := 36) X 1 f_Tb_27 (g_Tb_27 _) d_Tb_init_33 (by assumption) rfl rfl rfl rfl rfl ?_
  refine z_hp (z_uu _ _ _ _) ?_
  exact z_vret X rfl d_Tb_init_36 (⟨rfl, by omega, by omega, a_5, al, a_16, n_5, q3, ta4, hma, ta2, ta3, tm, tal, ta1, z_up_s _ _ _, by rw [z_up_n _ _ (Ne.symm tm), z_up_n _ _ ta2]; exact b1', by rw [z_up_n _ _ (Ne.symm tal), z_up_n _ _ ta3]; exact b2', by rw [z_up_n _ _ (Ne.symm ta1), z_up_s], z_fr_up (z_fr_new b3' ta4) (by simp)⟩)
/-- a list that is there, empty and without room -/
theorem z_pool_al {al : Nat} (hp : z_pool G h La) (ha : h al = some (z_al0 G)) (h0 : h (z_d0 G) = none) : z_pool G h (z_lu La al (z_d0 G, [], 0)) := by
  refine ⟨fun a2 d2 x2 c2 h2 => ?_, fun a1 a2 dd x1 c1 x2 c2 h1 h2 hne => ?_⟩
  · by_cases e : a2 = al
    · subst e
      rw [z_lu_s] at h2
      cases h2
      exact ⟨⟨⟨0, ha⟩, Nat.zero_le _, by decide, Or.inl ⟨rfl, rfl⟩⟩, fun y hy => absurd hy List.not_mem_nil⟩
    · rw [z_lu_n _ _ e] at h2
      exact hp.1 a2 d2 x2 c2 h2
  · by_cases e1 : a1 = al
    · subst e1
      rw [z_lu_s] at h1
      cases h1
      rfl
    · rw [z_lu_n _ _ e1] at h1
      by_cases e2 : a2 = al
      · subst e2
        rw [z_lu_s] at h2
        cases h2
        obtain ⟨-, -, -, a4⟩ := (hp.1 a1 (z_d0 G) x1 c1 h1).1
        rcases a4 with ⟨a4, -⟩ | ⟨b1, f, b2, -⟩
        · exact a4
        · rw [h0] at b2
          cases b2
      · rw [z_lu_n _ _ e2] at h2
        exact hp.2 a1 a2 dd x1 c1 x2 c2 h1 h2 hne
theorem z_lu_co (La : z_LA) {a b : Nat} (r r' : Nat × List Nat × Nat) (hab : a ≠ b) : z_lu (z_lu La a r) b r' = z_lu (z_lu La b r') a r := by
  funext c
  unfold z_lu
  by_cases h1 : c = a
  · rw [if_pos h1, if_pos h1, if_neg (fun e => hab (h1.symm.trans e))]
  · rw [if_neg h1, if_neg h1]
/-- the lists, with tablets E beside the list of tablets T -/
def z_LJ (La : z_LA) (K : z_KA) (tb : Nat → z_TB) (tt sc : Nat → List Nat) (T E B R : List Nat) : Prop :=
  (∃ d c, La (kTa K) = some (d, T, c) ∧ c ≤ 1000) ∧ ∀ d c, c ≤ 1000 → z_LL (z_lu La (kTa K) (d, E, c)) K tb tt sc E B R
def z_J (G : z_G) (h : z_H) (x : Nat) (K : z_KA) (v : z_VS) (La : z_LA) (en : Nat → z_E7) (sc tt : Nat → List Nat) (tb : Nat → z_TB) (T E B R : List Nat) (nu ag wa : Nat → Int32) : Prop :=
  z_pool G h La ∧ z_I0 G h x K v nu ag wa ∧ z_LJ La K tb tt sc T E B R ∧ (∀ t ∈ E, z_I1 G h en sc tt tb t) ∧ z_ens h en B ∧ z_ens h en R
theorem z_LL_Ta {d c : Nat} {T' : List Nat} (hl : z_LL La K tb tt sc T B R) (hc : c ≤ 1000) (hT : ∀ t ∈ T', t ∈ T) (hn : (z_lst K tb T').Nodup) : z_LL (z_lu La (kTa K) (d, T', c)) K tb tt sc T' B R := by
  obtain ⟨⟨d1, c1, l1, m1⟩, ⟨d2, c2, l2, m2⟩, ⟨d3, x3, c3, l3, m3⟩, ⟨d4, c4, l4, m4⟩, ⟨d5, x5, c5, l5, m5⟩, ⟨d6, x6, c6, l6, m6⟩, l7, l8⟩ := hl
  obtain ⟨n1, n2, n3⟩ := z_lst_nd l8
  have nt : ∀ t ∈ T, bA (tb t) ≠ kTa K ∧ bT (tb t) ≠ kTa K := fun t ht => ⟨(n3 t ht (kTa K) (by simp)).1.symm, (n3 t ht (kTa K) (by simp)).2.symm⟩
  simp only [List.nodup_cons, List.mem_cons, not_or, List.not_mem_nil] at n1
  refine ⟨⟨d, c, z_lu_s _ _ _, hc⟩, ⟨d2, c2, by rw [z_lu_n _ _ (Ne.symm n1.1.1)]; exact l2, m2⟩, ⟨d3, x3, c3, by rw [z_lu_n _ _ (Ne.symm n1.1.2.1)]; exact l3, m3⟩, ⟨d4, c4, by rw [z_lu_n _ _ (Ne.symm n1.1.2.2.1)]; exact l4, m4⟩, ⟨d5, x5, c5, by rw [z_lu_n _ _ (Ne.symm n1.1.2.2.2.1)]; exact l5, m5⟩, ⟨d6, x6, c6, by rw [z_lu_n _ _ (Ne.symm n1.1.2.2.2.2.1)]; exact l6, m6⟩, fun t ht => ?_, hn⟩
  have ht := hT t ht
  obtain ⟨⟨da, ca, q1, q2⟩, ⟨db, cb, q3, q4⟩⟩ := l7 t ht
  exact ⟨⟨da, ca, by rw [z_lu_n _ _ (nt t ht).1]; exact q1, q2⟩, ⟨db, cb, by rw [z_lu_n _ _ (nt t ht).2]; exact q3, q4⟩⟩
theorem z_J_of (hI : z_I G h o K v La en sc tt tb T B R nu ag wa) : z_J G h o K v La en sc tt tb T T B R nu ag wa :=
  ⟨hI.1, hI.2.1, ⟨hI.2.2.1.1, fun _ _ hc => z_LL_Ta hI.2.2.1 hc (fun _ ht => ht) hI.2.2.1.2.2.2.2.2.2.2⟩, hI.2.2.2⟩
/-- the list's tablets are all that count -/
theorem z_J_to (hJ : z_J G h o K v La en sc tt tb T E B R nu ag wa) (hT : ∀ t ∈ T, t ∈ E) (hn : (z_lst K tb T).Nodup) : z_I G h o K v La en sc tt tb T B R nu ag wa := by
  obtain ⟨hp, h0, ⟨⟨d, c, l1, m1⟩, l2⟩, h1, h2⟩ := hJ
  refine ⟨hp, h0, ?_, fun t ht => h1 t (hT t ht), h2⟩
  have := z_LL_Ta (d := d) (c := c) (l2 d c m1) m1 hT hn
  rw [z_lulu] at this
  have e : z_lu La (kTa K) (d, T, c) = La := by
    funext b
    unfold z_lu
    split
    · rename_i e
      rw [e, l1]
    · rfl
  rw [e] at this
  exact this
theorem z_LJ_7 (hl : z_LJ La K tb tt sc T E B R) : (z_lst K tb E).Nodup ∧ (∀ t ∈ E, (∃ d c, La (bA (tb t)) = some (d, sc (bM (tb t)), c) ∧ c ≤ 1000) ∧ (∃ d c, La (bT (tb t)) = some (d, tt t, c) ∧ c ≤ 1000)) ∧ (∃ d xs c, La (kKe K) = some (d, xs, c) ∧ c ≤ 1000) ∧ (∀ t ∈ E, bA (tb t) ≠ kTa K ∧ bT (tb t) ≠ kTa K) ∧ kKe K ≠ kTa K := by
  have h1 := hl.2 0 0 (by decide)
  obtain ⟨l1, l2, ⟨d3, x3, c3, l3, m3⟩, l4, l5, l6, l7, l8⟩ := h1
  obtain ⟨n1, n2, n3⟩ := z_lst_nd l8
  have nt : ∀ t ∈ E, bA (tb t) ≠ kTa K ∧ bT (tb t) ≠ kTa K := fun t ht => ⟨(n3 t ht (kTa K) (by simp)).1.symm, (n3 t ht (kTa K) (by simp)).2.symm⟩
  simp only [List.nodup_cons, List.mem_cons, not_or, List.not_mem_nil] at n1
  refine ⟨l8, fun t ht => ?_, ⟨d3, x3, c3, by rw [z_lu_n _ _ (Ne.symm n1.1.2.1)] at l3; exact l3, m3⟩, nt, Ne.symm n1.1.2.1⟩
  obtain ⟨⟨da, ca, q1, q2⟩, ⟨db, cb, q3, q4⟩⟩ := l7 t ht
  rw [z_lu_n _ _ (nt t ht).1] at q1
  rw [z_lu_n _ _ (nt t ht).2] at q3
  exact ⟨⟨da, ca, q1, q2⟩, ⟨db, cb, q3, q4⟩⟩
/-- memtables of different tablets differ -/
theorem z_bM_neJ {t u : Nat} (hJ : z_J G h o K v La en sc tt tb T E B R nu ag wa) (ht : t ∈ E) (hu : u ∈ E) (hut : u ≠ t) : bM (tb u) ≠ bM (tb t) := fun e => by
  have h1 := (hJ.2.2.2.1 t ht).2.1
  have h2 := (hJ.2.2.2.1 u hu).2.1
  rw [e, h1] at h2
  have h3 : bA (tb t) = bA (tb u) := by
    injection h2 with h2
    injection h2 with h2
    injection h2 with _ h2
    injection h2 with h2
    injection h2 with h2
  exact z_nd2 _ (z_lst_nd (z_LJ_7 hJ.2.2.1).1).2.1 u hu t ht hut _ (by simp) _ (by simp) h3.symm
theorem z_J_mem {h' : z_H} {t d c : Nat} {es : List Nat} (hcn : z_cE G ≠ z_cO G) (hJ : z_J G h o K v La en sc tt tb T E B R nu ag wa) (ht : t ∈ E) (hp : z_pool G h' (z_lu La (bA (tb t)) (d, es, c))) (hn : z_nl G h h') (hc : c ≤ 1000) (he : z_ens h en es) : z_J G h' o K v (z_lu La (bA (tb t)) (d, es, c)) en (z_su sc (bM (tb t)) es) tt tb T E B R nu ag wa := by
  have hff := z_ff_nl (K := K) hcn hn
  obtain ⟨-, -, -, nt, -⟩ := z_LJ_7 hJ.2.2.1
  obtain ⟨⟨d1, c1, l1, m1⟩, l2⟩ := hJ.2.2.1
  refine ⟨hp, z_I0_nl hJ.2.1 hn, ⟨⟨d1, c1, by rw [z_lu_n _ _ (Ne.symm (nt t ht).1)]; exact l1, m1⟩, fun d0 c0 h0 => ?_⟩, fun u hu => ?_, z_ens_ff hff hJ.2.2.2.2.1, z_ens_ff hff hJ.2.2.2.2.2⟩
  · rw [z_lu_co _ _ _ (nt t ht).1]
    exact z_LL_A (l2 d0 c0 h0) ht (fun u hu hut => z_bM_neJ hJ ht hu hut) hc
  · obtain ⟨i1, i2, i3, i4⟩ := z_I1_ff hff (hJ.2.2.2.1 u hu)
    refine ⟨i1, i2, ?_, fun s hs => ?_⟩
    · by_cases hut : u = t
      · subst hut
        rw [z_su_s]
        exact z_ens_ff hff he
      · rw [z_su_n _ _ (z_bM_neJ hJ ht hu hut)]
        exact i3
    · have hsm : s ≠ bM (tb t) := z_tab_ne (((hJ.2.2.2.1 u hu).2.2.2 s hs).1) (hJ.2.2.2.1 t ht).2.1
      rw [z_su_n _ _ hsm]
      exact i4 s hs
theorem z_J_scr {h' : z_H} {d c : Nat} {xs : List Nat} (hcn : z_cE G ≠ z_cO G) (hJ : z_J G h o K v La en sc tt tb T E B R nu ag wa) (hp : z_pool G h' (z_lu La (kKe K) (d, xs, c))) (hn : z_nl G h h') (hc : c ≤ 1000) : z_J G h' o K v (z_lu La (kKe K) (d, xs, c)) en sc tt tb T E B R nu ag wa := by
  have hff := z_ff_nl (K := K) hcn hn
  obtain ⟨-, -, -, -, nk⟩ := z_LJ_7 hJ.2.2.1
  obtain ⟨⟨d1, c1, l1, m1⟩, l2⟩ := hJ.2.2.1
  refine ⟨hp, z_I0_nl hJ.2.1 hn, ⟨⟨d1, c1, by rw [z_lu_n _ _ (Ne.symm nk)]; exact l1, m1⟩, fun d0 c0 h0 => ?_⟩, fun u hu => z_I1_ff hff (hJ.2.2.2.1 u hu), z_ens_ff hff hJ.2.2.2.2.1, z_ens_ff hff hJ.2.2.2.2.2⟩
  rw [z_lu_co _ _ _ nk]
  exact z_LL_scr (l2 d0 c0 h0) (Or.inl rfl) hc
theorem z_J_tab {h' : z_H} {t d c : Nat} {ts : List Nat} {sc' : Nat → List Nat} (hcn : z_cE G ≠ z_cO G) (hJ : z_J G h o K v La en sc tt tb T E B R nu ag wa) (ht : t ∈ E) (hp : z_pool G h' (z_lu La (bT (tb t)) (d, ts, c))) (hn : z_nl G h h') (hc : c ≤ 1000) (hs : ∀ u ∈ E, sc' (bM (tb u)) = sc (bM (tb u)) ∧ ∀ s ∈ tt u, sc' s = sc s) (hts : ∀ s ∈ ts, z_tab G h' en s (sc' s) ∧ z_ens h' en (sc' s)) : z_J G h' o K v (z_lu La (bT (tb t)) (d, ts, c)) en sc' (z_su tt t ts) tb T E B R nu ag wa := by
  have hff := z_ff_nl (K := K) hcn hn
  obtain ⟨-, -, -, nt, -⟩ := z_LJ_7 hJ.2.2.1
  obtain ⟨⟨d1, c1, l1, m1⟩, l2⟩ := hJ.2.2.1
  refine ⟨hp, z_I0_nl hJ.2.1 hn, ⟨⟨d1, c1, by rw [z_lu_n _ _ (Ne.symm (nt t ht).2)]; exact l1, m1⟩, fun d0 c0 h0 => ?_⟩, fun u hu => ?_, z_ens_ff hff hJ.2.2.2.2.1, z_ens_ff hff hJ.2.2.2.2.2⟩
  · rw [z_lu_co _ _ _ (nt t ht).2]
    obtain ⟨q1, q2, q3, q4, q5, q6, q7, q8⟩ := z_LL_T (d := d) (ts := ts) (l2 d0 c0 h0) ht hc
    refine ⟨q1, q2, q3, q4, q5, q6, fun u hu => ?_, q8⟩
    rw [(hs u hu).1]
    exact q7 u hu
  · obtain ⟨i1, i2, i3, i4⟩ := z_I1_ff hff (hJ.2.2.2.1 u hu)
    refine ⟨i1, i2, by rw [(hs u hu).1]; exact i3, fun s hs' => ?_⟩
    by_cases hut : u = t
    · subst hut
      rw [z_su_s] at hs'
      exact hts s hs'
    · rw [z_su_n _ _ hut] at hs'
      rw [(hs u hu).2 s hs']
      exact i4 s hs'
theorem z_J_ext {h' : z_H} (hJ : z_J G h o K v La en sc tt tb T E B R nu ag wa) (hx : ∀ (b : Nat) (e : va_E), h b = some e → h' b = some e) : z_J G h' o K v La en sc tt tb T E B R nu ag wa := by
  obtain ⟨hp, ⟨j1, ⟨q0, j2⟩, ⟨f0, j3⟩, j4, j5, j6, j7⟩, hll, hi1, hB, hR⟩ := hJ
  have hff : z_ff G K h h' := fun b e hb _ => hx b e hb
  exact ⟨z_pool_fr hp (fun b e hb _ => hx b e hb) (fun y ⟨ci, fs, g1, g2⟩ => ⟨ci, fs, hx _ _ g1, g2⟩), ⟨hx _ _ j1, ⟨q0, hx _ _ j2⟩, ⟨f0, hx _ _ j3⟩, hx _ _ j4, hx _ _ j5, hx _ _ j6, j7⟩, hll, fun t ht => z_I1_ff hff (hi1 t ht), z_ens_ff hff hB, z_ens_ff hff hR⟩
theorem z_lst_alJ {al : Nat} (hJ : z_J G h o K v La en sc tt tb T E B R nu ag wa) (ha : h al = none) : al ∉ z_lst K tb E := fun hm => by
  obtain ⟨⟨d1, c1, l1, m1⟩, l2⟩ := hJ.2.2.1
  have l7 := (z_LJ_7 hJ.2.2.1).2.1
  have key : ∀ b d xs c, La b = some (d, xs, c) → al ≠ b := fun b d xs c hb e => by
    obtain ⟨fs, g⟩ := P_ob hJ.1 hb
    rw [← e, ha] at g
    cases g
  have l0 := l2 d1 c1 m1
  have n8 := l0.2.2.2.2.2.2.2
  obtain ⟨n1, n2, n3⟩ := z_lst_nd n8
  simp only [List.nodup_cons, List.mem_cons, not_or, List.not_mem_nil] at n1
  obtain ⟨-, ⟨e2, f2, g2, -⟩, ⟨e3, x3, f3, g3, -⟩, ⟨e4, f4, g4, -⟩, ⟨e5, x5, f5, g5, -⟩, ⟨e6, x6, f6, g6, -⟩, -, -⟩ := l0
  rw [z_lu_n _ _ (Ne.symm n1.1.1)] at g2
  rw [z_lu_n _ _ (Ne.symm n1.1.2.1)] at g3
  rw [z_lu_n _ _ (Ne.symm n1.1.2.2.1)] at g4
  rw [z_lu_n _ _ (Ne.symm n1.1.2.2.2.1)] at g5
  rw [z_lu_n _ _ (Ne.symm n1.1.2.2.2.2.1)] at g6
  rcases List.mem_append.mp hm with q | q
  · simp only [List.mem_cons, List.not_mem_nil, or_false] at q
    rcases q with q | q | q | q | q | q
    · exact key _ _ _ _ l1 q
    · exact key _ _ _ _ g2 q
    · exact key _ _ _ _ g3 q
    · exact key _ _ _ _ g4 q
    · exact key _ _ _ _ g5 q
    · exact key _ _ _ _ g6 q
  · obtain ⟨u, hu, q⟩ := List.mem_flatMap.mp q
    obtain ⟨⟨da, ca, q1, q2⟩, ⟨db, cb, q3, q4⟩⟩ := l7 u hu
    simp at q
    rcases q with q | q
    · exact key _ _ _ _ q1 q
    · exact key _ _ _ _ q3 q
end NEW
