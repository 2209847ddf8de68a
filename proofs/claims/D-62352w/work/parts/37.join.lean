/-! join -/
theorem z_susu (sc : Nat → List Nat) (m : Nat) (a b : List Nat) : z_su (z_su sc m a) m b = z_su sc m b := by
  funext s
  unfold z_su
  split <;> rfl
theorem z_tutu (tb : Nat → z_TB) (t : Nat) (a b : z_TB) : z_tu (z_tu tb t a) t b = z_tu tb t b := by
  funext s
  unfold z_tu
  split <;> rfl
theorem z_eraseIdx_mem {l : List Nat} {i a : Nat} (h : a ∈ l.eraseIdx i) : a ∈ l := (List.eraseIdx_sublist l i).mem h
theorem z_fm_sub {f : Nat → List Nat} {l1 l2 : List Nat} (h : l1.Sublist l2) : (l1.flatMap f).Sublist (l2.flatMap f) := by
  induction h with
  | slnil => exact List.Sublist.refl _
  | cons a _ ih =>
    rw [List.flatMap_cons]
    exact ih.trans (List.sublist_append_right _ _)
  | cons_cons a _ ih =>
    rw [List.flatMap_cons, List.flatMap_cons]
    exact List.Sublist.append (List.Sublist.refl _) ih
theorem z_sum_erase {f : Nat → Nat} : ∀ (l : List Nat) (i y : Nat), l[i]? = some y → (l.map f).sum = ((l.eraseIdx i).map f).sum + f y
  | [], i, y, h => by simp at h
  | a :: l, 0, y, h => by
    simp at h
    subst h
    simp
    omega
  | a :: l, i + 1, y, h => by
    rw [List.getElem?_cons_succ] at h
    have ih := z_sum_erase (f := f) l i y h
    rw [List.eraseIdx_cons_succ, List.map_cons, List.sum_cons, List.map_cons, List.sum_cons]
    omega
section JOI
variable {G : z_G} {A : Nat → Prop} {h : z_H} {o : Nat} {K : z_KA} {v : z_VS} {La : z_LA} {en : Nat → z_E7} {sc tt : Nat → List Nat} {tb : Nat → z_TB} {T B R : List Nat} {nu ag wa : Nat → Int32}
/-- a tablet's first and last are written -/
theorem z_I_fl {t : Nat} {f l : Int32} (hI : z_I G h o K v La en sc tt tb T B R nu ag wa) (ht : t ∈ T) : z_I G (z_up h t (z_ob 2 [.int f, .int l, .ref (bM (tb t)), .ref (bT (tb t))])) o K v La en sc tt (z_tu tb t (f, l, bM (tb t), bA (tb t), bT (tb t))) T B R nu ag wa ∧ z_lst K (z_tu tb t (f, l, bM (tb t), bA (tb t), bT (tb t))) T = z_lst K tb T ∧ z_fx G K h (z_up h t (z_ob 2 [.int f, .int l, .ref (bM (tb t)), .ref (bT (tb t))])) := by
  obtain ⟨tb1, htb⟩ : ∃ tb1, z_tu tb t (f, l, bM (tb t), bA (tb t), bT (tb t)) = tb1 := ⟨_, rfl⟩
  have hb : ∀ u, bM (tb1 u) = bM (tb u) ∧ bA (tb1 u) = bA (tb u) ∧ bT (tb1 u) = bT (tb u) := fun u => by
    rw [← htb]
    by_cases hut : u = t
    · subst hut
      rw [z_tu_s]
      exact ⟨rfl, rfl, rfl⟩
    · rw [z_tu_n _ _ hut]
      exact ⟨rfl, rfl, rfl⟩
  have hl : z_lst K tb1 T = z_lst K tb T := by
    unfold z_lst
    congr 1
    have : (fun t => [bA (tb1 t), bT (tb1 t)]) = (fun t => [bA (tb t), bT (tb t)]) := by
      funext u
      rw [(hb u).2.1, (hb u).2.2]
    rw [this]
  have hto := (hI.2.2.2.1 t ht).1
  obtain ⟨l1, l2, l3, l4, l5, l6, l7, l8⟩ := hI.2.2.1
  rw [htb]
  refine ⟨⟨z_pool_up hI.1 hto (z_isl_ob (by decide)) (fun _ => ⟨2, _, z_up_s _ _ _, Or.inl (by decide)⟩), z_I0_up hI.2.1 hto (by decide), ⟨l1, l2, l3, l4, l5, l6, fun u hu => ?_, by rw [hl]; exact l8⟩, fun u hu => ?_, z_ens_t hto hI.2.2.2.2.1, z_ens_t hto hI.2.2.2.2.2⟩, hl, z_fx_ob hto (by decide)⟩
  · rw [(hb u).1, (hb u).2.1, (hb u).2.2]
    exact l7 u hu
  · obtain ⟨i1, i2, i3, i4⟩ := hI.2.2.2.1 u hu
    refine ⟨?_, ?_, ?_, fun s hs => ⟨z_tab_t hto (i4 s hs).1, z_ens_t hto (i4 s hs).2⟩⟩
    · rw [← htb]
      by_cases hut : u = t
      · subst hut
        rw [z_tu_s, z_up_s]
      · rw [z_tu_n _ _ hut, z_up_n _ _ hut]
        exact i1
    · rw [(hb u).1, (hb u).2.1]
      rw [z_up_n _ _ (fun e => by rw [e, hto] at i2; cases i2)]
      exact i2
    · rw [(hb u).1]
      exact z_ens_t hto i3
/-- a tablet is taken off -/
theorem z_I_rm {h' : z_H} {d c i y : Nat} (hcn : z_cE G ≠ z_cO G) (hI : z_I G h o K v La en sc tt tb T B R nu ag wa) (hi : T[i]? = some y) (hp : z_pool G h' (z_lu La (kTa K) (d, T.eraseIdx i, c))) (hn : z_nl G h h') (hc : c ≤ 1000) (hcc : z_cp La (kTa K) = c) : z_I G h' o K v (z_lu La (kTa K) (d, T.eraseIdx i, c)) en sc tt tb (T.eraseIdx i) B R nu ag wa ∧ z_Phi La (z_lst K tb T) ≤ z_Phi (z_lu La (kTa K) (d, T.eraseIdx i, c)) (z_lst K tb (T.eraseIdx i)) + 2000 := by
  have hff := z_ff_nl (K := K) hcn hn
  obtain ⟨⟨d1, c1, l1, m1⟩, ⟨d2, c2, l2, m2⟩, ⟨d3, x3, c3, l3, m3⟩, ⟨d4, c4, l4, m4⟩, ⟨d5, x5, c5, l5, m5⟩, ⟨d6, x6, c6, l6, m6⟩, l7, l8⟩ := hI.2.2.1
  obtain ⟨n1, n2, n3⟩ := z_lst_nd l8
  have hsub : (z_lst K tb (T.eraseIdx i)).Sublist (z_lst K tb T) := List.Sublist.append (List.Sublist.refl _) (z_fm_sub (List.eraseIdx_sublist T i))
  have nd' := l8.sublist hsub
  have nt : ∀ t ∈ T, bA (tb t) ≠ kTa K ∧ bT (tb t) ≠ kTa K := fun t ht => ⟨(n3 t ht (kTa K) (by simp)).1.symm, (n3 t ht (kTa K) (by simp)).2.symm⟩
  have n1' := n1
  simp only [List.nodup_cons, List.mem_cons, not_or, List.not_mem_nil] at n1
  refine ⟨⟨hp, z_I0_nl hI.2.1 hn, ⟨⟨d, c, z_lu_s _ _ _, hc⟩, ⟨d2, c2, by rw [z_lu_n _ _ (Ne.symm n1.1.1)]; exact l2, m2⟩, ⟨d3, x3, c3, by rw [z_lu_n _ _ (Ne.symm n1.1.2.1)]; exact l3, m3⟩, ⟨d4, c4, by rw [z_lu_n _ _ (Ne.symm n1.1.2.2.1)]; exact l4, m4⟩, ⟨d5, x5, c5, by rw [z_lu_n _ _ (Ne.symm n1.1.2.2.2.1)]; exact l5, m5⟩, ⟨d6, x6, c6, by rw [z_lu_n _ _ (Ne.symm n1.1.2.2.2.2.1)]; exact l6, m6⟩, fun t ht => ?_, nd'⟩, fun t ht => z_I1_ff hff (hI.2.2.2.1 t (z_eraseIdx_mem ht)), z_ens_ff hff hI.2.2.2.2.1, z_ens_ff hff hI.2.2.2.2.2⟩, ?_⟩
  · have ht := z_eraseIdx_mem ht
    obtain ⟨⟨da, ca, q1, q2⟩, ⟨db, cb, q3, q4⟩⟩ := l7 t ht
    exact ⟨⟨da, ca, by rw [z_lu_n _ _ (nt t ht).1]; exact q1, q2⟩, ⟨db, cb, by rw [z_lu_n _ _ (nt t ht).2]; exact q3, q4⟩⟩
  · have hy := List.mem_of_getElem? hi
    obtain ⟨⟨da, ca, q1, q2⟩, ⟨db, cb, q3, q4⟩⟩ := l7 y hy
    have e1 := z_Phi_lu (La := La) (r := (d, T.eraseIdx i, c)) (a := kTa K) _ nd' (by simp [z_lst])
    rw [hcc] at e1
    simp only at e1
    rw [z_Phi_T La K tb (T.eraseIdx i)] at e1
    rw [z_Phi_T La K tb T, z_sum_erase T i y hi, z_cp_of q1, z_cp_of q3]
    omega
theorem c_joinN {i : Int32} (hI : z_I G h o K v La en sc tt tb T B R nu ag wa) (hi : i < 0 ∨ nI T.length - 1 ≤ i) : z_C G A m_TC_join 6000 40000 [.ref o, .int i] h (z_pu (some (.int 0)) h) := by
  obtain ⟨⟨d1, c1, l1, m1⟩, -⟩ := hI.2.2.1
  have ho := hI.2.1.1
  obtain ⟨fs, g1⟩ := P_ob hI.1 l1
  refine z_C.of (by decide +kernel) rfl (Nat.le_of_ble_eq_true rfl) ?_
  intro x X
  refine z_iload_n (pc' := 1) X d_TC_join_0 rfl rfl ?_
  refine z_if_lt (tgt := 17) (pc' := 4) X d_TC_join_1 (by decide) rfl (fun c_1 => ?_) (fun c_1 => ?_)
  · refine z_iconst (pc' := 18) (v := 0) X d_TC_join_17 (by decide) rfl ?_
    exact z_zret X rfl (by first | decide | simp | assumption | omega) d_TC_join_18 (⟨rfl, rfl, rfl, rfl⟩)
  · refine z_iload_n (pc' := 5) X d_TC_join_4 rfl rfl ?_
    refine z_aload_n (pc' := 6) X d_TC_join_5 rfl rfl ?_
    refine z_get (pc' := 9) X 2 f_TC_35 d_TC_join_6 (by assumption) rfl rfl ?_
    refine z_callV X (P_size hI.1 l1) k_TC_79 d_TC_join_9 (by assumption) (show classes[6]? = some _ from rfl) rfl rfl rfl (by decide) (Nat.le_of_ble_eq_true rfl) ⟨by omega, by omega⟩ (z_kp ?_)
    refine z_iconst (pc' := 13) (v := 1) X d_TC_join_12 (by decide) rfl ?_
    refine z_isub (pc' := 14) X d_TC_join_13 rfl ?_
    refine z_icmp_lt (tgt := 19) (pc' := 17) X d_TC_join_14 (by decide) rfl (fun c_14 => ?_) (fun c_14 => ?_)
    · rcases hi with hi | hi
      · exact absurd hi c_1
      · exact absurd hi (Int32.not_le.mpr c_14)
    · refine z_iconst (pc' := 18) (v := 0) X d_TC_join_17 (by decide) rfl ?_
      exact z_zret X rfl (by first | decide | simp | assumption | omega) d_TC_join_18 (⟨rfl, rfl, rfl, rfl⟩)
theorem c_join {i t y : Nat} (hI : z_I G h o K v La en sc tt tb T B R nu ag wa) (hi : T[i]? = some t) (hi2 : T[i + 1]? = some y) (hw : z_WS en sc tt tb T) (hok : ∀ a ∈ sc (bM (tb t)) ++ sc (bM (tb y)), z_vk (en a)) (hsr : z_srt en (sc (bM (tb t)))) (hnd : ((sc (bM (tb t)) ++ sc (bM (tb y))).map (fun a => eS (en a))).Nodup) : z_C G A m_TC_join 6000 40000 [.ref o, .int (nI i)] h (fun val h' k n => val = some (.int 1) ∧ (∃ ms La1, z_srt en ms ∧ ms.Perm (sc (bM (tb t)) ++ sc (bM (tb y))) ∧ z_I G h' o K v La1 en (z_su sc (bM (tb t)) ms) (z_su tt t (tt t ++ tt y)) (z_tu tb t (bF (tb t), bL (tb y), bM (tb t), bA (tb t), bT (tb t))) (T.eraseIdx (i + 1)) B R nu ag wa ∧ z_ct (z_Phi La (z_lst K tb T)) (z_Phi La1 (z_lst K (z_tu tb t (bF (tb t), bL (tb y), bM (tb t), bA (tb t), bT (tb t))) (T.eraseIdx (i + 1)))) k n 2000 8000) ∧ z_fx G K h h' ∧ k ≤ 2000 ∧ n ≤ 8000) := by
  obtain ⟨⟨d1, c1, l1, m1⟩, -⟩ := hI.2.2.1
  have l8 := hI.2.2.1.2.2.2.2.2.2.2
  have ho := hI.2.1.1
  have ht := List.mem_of_getElem? hi
  have hy := List.mem_of_getElem? hi2
  have hTn := z_T_nd l8
  have hty : y ≠ t := fun e => by
    obtain ⟨b1, b2⟩ := List.getElem?_eq_some_iff.mp hi
    obtain ⟨b3, b4⟩ := List.getElem?_eq_some_iff.mp hi2
    have := List.pairwise_iff_getElem.mp hTn i (i + 1) b1 b3 (by omega)
    rw [b2, b4] at this
    exact this e.symm
  have hmm := z_bM_ne hI ht hy hty
  have hil : i + 1 < T.length := (List.getElem?_eq_some_iff.mp hi2).1
  have hlt := P_lt hI.1 l1
  have wt := z_WS_t hw ht
  have wy := z_WS_t hw hy
  obtain ⟨fs, g1⟩ := P_ob hI.1 l1
  have hto := (hI.2.2.2.1 t ht).1
  have hyo := (hI.2.2.2.1 y hy).1
  obtain ⟨hIa, hla, hfa⟩ := z_I_fl (f := bF (tb t)) (l := bL (tb y)) hI ht
  obtain ⟨tb1, htb⟩ : ∃ tb1, z_tu tb t (bF (tb t), bL (tb y), bM (tb t), bA (tb t), bT (tb t)) = tb1 := ⟨_, rfl⟩
  have bt : tb1 t = (bF (tb t), bL (tb y), bM (tb t), bA (tb t), bT (tb t)) := by rw [← htb, z_tu_s]
  have by' : tb1 y = tb y := by rw [← htb, z_tu_n _ _ hty]
  rw [htb] at hIa hla ⊢
  obtain ⟨M, hM⟩ : ∃ M, sc (bM (tb t)) = M := ⟨_, rfl⟩
  obtain ⟨N, hN⟩ : ∃ N, sc (bM (tb y)) = N := ⟨_, rfl⟩
  rw [hM, hN] at hok hnd
  rw [hM] at hsr
  rw [hM, hN]
  have wtM : M.length + N.length ≤ 255 ∧ (tt t).length + (tt y).length ≤ 255 := by
    have e := hw.2
    have e1 : z_tsz sc tt tb t + z_tsz sc tt tb y ≤ z_tot sc tt tb T := by
      have e2 := z_sum_erase (f := z_tsz sc tt tb) T (i + 1) y hi2
      have e3 := z_le_sum (f := z_tsz sc tt tb) (T.eraseIdx (i + 1)) t (by
        refine List.mem_of_getElem? (i := i) ?_
        rw [List.getElem?_eraseIdx, if_pos (by omega)]
        exact hi)
      unfold z_tot
      omega
    have e4 : z_tsz sc tt tb t = (sc (bM (tb t))).length + ((tt t).map (fun s => (sc s).length)).sum := rfl
    have e5 : z_tsz sc tt tb y = (sc (bM (tb y))).length + ((tt y).map (fun s => (sc s).length)).sum := rfl
    rw [hM] at e4
    rw [hN] at e5
    have e6 := z_len_sum (sc := sc) (tt t) (fun s hs => ((hw.1 t ht).2 s hs).2)
    have e7 := z_len_sum (sc := sc) (tt y) (fun s hs => ((hw.1 y hy).2 s hs).2)
    omega
  obtain ⟨wtM, wtT⟩ := wtM
  refine z_C.of (by decide +kernel) rfl (Nat.le_of_ble_eq_true rfl) ?_
  intro x X
  have hcn := z_cne X
  -- the tables, then the tablet goes
  have tail : ∀ (mm j : Nat) (ms : List Nat) (h3 : z_H) (La3 : z_LA) (k n : Nat), mm + j = (tt y).length → z_srt en ms → ms.Perm (M ++ N) → z_I G h3 o K v La3 en (z_su sc (bM (tb t)) ms) (z_su tt t (tt t ++ (tt y).take j)) tb1 T B R nu ag wa → z_fx G K h h3 → z_ct (z_Phi La (z_lst K tb T)) (z_Phi La3 (z_lst K tb T)) k n 0 0 → k + z_cp La (bT (tb t)) ≤ 1000 + z_cp La3 (bT (tb t)) → n + 4 * z_cp La (bT (tb t)) ≤ 4000 + 4 * z_cp La3 (bT (tb t)) → z_V G A x h3 k n 93 [some (.ref o), some (.int (nI i)), some (.ref t), some (.ref y), some (.int (nI j))] [] := by
    intro mm
    induction mm with
    | zero =>
      intro j ms h3 La3 k n hj hs hperm hI3 hfx hct hk hn
      have hj : j = (tt y).length := by omega
      subst hj
      rw [List.take_length] at hI3
      obtain ⟨u1, u2, u3, u4⟩ := hI3.2.2.2.1 y hy
      rw [by'] at u1
      obtain ⟨-, ⟨dy, cy, ly, my⟩⟩ := hI3.2.2.1.2.2.2.2.2.2.1 y hy
      rw [by', z_su_n _ _ hty] at ly
      obtain ⟨-, ⟨dt, ct, lt, mt⟩⟩ := hI3.2.2.1.2.2.2.2.2.2.1 t ht
      rw [bt] at lt
      have hcpt : z_cp La3 (bT (tb t)) = ct := z_cp_of lt
      obtain ⟨⟨d3, c3, l3, m3⟩, -⟩ := hI3.2.2.1
      have ho3 := hI3.2.1.1
      obtain ⟨fs, g1⟩ := P_ob hI3.1 ly
      obtain ⟨fs', g1'⟩ := P_ob hI3.1 l3
      refine z_iload (pc' := 95) X d_TC_join_93 rfl rfl ?_
      refine z_aload_n (pc' := 96) X d_TC_join_95 rfl rfl ?_
      refine z_get (pc' := 99) X 3 f_TC_114 d_TC_join_96 (by assumption) rfl rfl ?_
      refine z_callV X (P_size hI3.1 ly) k_TC_79 d_TC_join_99 (by assumption) (show classes[6]? = some _ from rfl) rfl rfl rfl (by decide) (Nat.le_of_ble_eq_true rfl) ⟨by omega, by omega⟩ (z_kp ?_)
      refine z_icmp_ge (tgt := 131) (pc' := 105) X d_TC_join_102 (by decide) rfl (fun c_102 => ?_) (fun c_102 => ?_)
      · refine z_aload_n (pc' := 132) X d_TC_join_131 rfl rfl ?_
        refine z_get (pc' := 135) X 2 f_TC_35 d_TC_join_132 (by assumption) rfl rfl ?_
        refine z_iload_n (pc' := 136) X d_TC_join_135 rfl rfl ?_
        refine z_iconst (pc' := 137) (v := 1) X d_TC_join_136 (by decide) rfl ?_
        refine z_iadd (pc' := 138) X d_TC_join_137 rfl ?_
        refine z_top (b := .int (nI (i + 1))) (by rw [nI_1]) ?_
        refine z_callV X (P_remove hI3.1 l3 hi2) k_TC_248 d_TC_join_138 (by assumption) (show classes[6]? = some _ from rfl) rfl rfl rfl (by decide) (Nat.le_of_ble_eq_true rfl) ⟨by omega, by omega⟩ (fun v_138 h_138 k_138 n_138 p_138 => ?_)
        obtain ⟨rfl, rfl, rfl, r1, r2⟩ := p_138
        obtain ⟨f1, f2⟩ := z_I_rm hcn hI3 hi2 r1 r2 m3 (z_cp_of l3)
        rw [hla] at f2
        have hct1 := hct.1
        have hct2 := hct.2
        refine z_pop (pc' := 142) X d_TC_join_141 rfl rfl ?_
        refine z_iconst (pc' := 143) (v := 1) X d_TC_join_142 (by decide) rfl ?_
        refine z_zret X rfl (Or.inr rfl) d_TC_join_143 ⟨rfl, ⟨ms, _, hs, hperm, f1, ?_, ?_⟩, z_fx_tr hfx (z_fx_nl r2), ?_, ?_⟩
        · omega
        · omega
        · omega
        · omega
      · exact absurd (nI_le (Nat.le_refl _) (by omega)) c_102
    | succ mm ih =>
      intro j ms h3 La3 k n hj hs hperm hI3 hfx hct hk hn
      have hjl : j < (tt y).length := by omega
      have hg := List.getElem?_eq_getElem hjl
      obtain ⟨u1, u2, u3, u4⟩ := hI3.2.2.2.1 y hy
      rw [by'] at u1
      rw [z_su_n _ _ hty] at u4
      obtain ⟨⟨arr, f, s1, s2, s3⟩, -⟩ := u4 _ (List.getElem_mem hjl)
      obtain ⟨-, ⟨dy, cy, ly, my⟩⟩ := hI3.2.2.1.2.2.2.2.2.2.1 y hy
      rw [by', z_su_n _ _ hty] at ly
      obtain ⟨t1, t2, t3, t4⟩ := hI3.2.2.2.1 t ht
      rw [bt] at t1
      rw [z_su_s] at t4
      obtain ⟨-, ⟨dt, ct, lt, mt⟩⟩ := hI3.2.2.1.2.2.2.2.2.2.1 t ht
      rw [bt, z_su_s] at lt
      have lt : La3 (bT (tb t)) = some (dt, tt t ++ (tt y).take j, ct) := lt
      have hcpt : z_cp La3 (bT (tb t)) = ct := z_cp_of lt
      obtain ⟨fs, g1⟩ := P_ob hI3.1 ly
      obtain ⟨fs', g1'⟩ := P_ob hI3.1 lt
      refine z_iload (pc' := 95) X d_TC_join_93 rfl rfl ?_
      refine z_aload_n (pc' := 96) X d_TC_join_95 rfl rfl ?_
      refine z_get (pc' := 99) X 3 f_TC_114 d_TC_join_96 (by assumption) rfl rfl ?_
      refine z_callV X (P_size hI3.1 ly) k_TC_79 d_TC_join_99 (by assumption) (show classes[6]? = some _ from rfl) rfl rfl rfl (by decide) (Nat.le_of_ble_eq_true rfl) ⟨by omega, by omega⟩ (z_kp ?_)
      refine z_icmp_ge (tgt := 131) (pc' := 105) X d_TC_join_102 (by decide) rfl (fun c_102 => ?_) (fun c_102 => ?_)
      · exact absurd c_102 (nI_ge hjl (by omega))
      · refine z_aload_n (pc' := 106) X d_TC_join_105 rfl rfl ?_
        refine z_get (pc' := 109) X 3 f_TC_114 d_TC_join_106 (by assumption) rfl rfl ?_
        refine z_aload_n (pc' := 110) X d_TC_join_109 rfl rfl ?_
        refine z_get (pc' := 113) X 3 f_TC_114 d_TC_join_110 (by assumption) rfl rfl ?_
        refine z_iload (pc' := 115) X d_TC_join_113 rfl rfl ?_
        refine z_callV X (P_get hI3.1 ly hg) k_TC_80 d_TC_join_115 (by assumption) (show classes[6]? = some _ from rfl) rfl rfl rfl (by decide) (Nat.le_of_ble_eq_true rfl) ⟨by omega, by omega⟩ (z_kp ?_)
        refine z_cast (pc' := 121) X cl_TC_214 ca_Table d_TC_join_118 (by assumption) rfl rfl ?_
        refine z_callV X (P_add hI3.1 lt ⟨4, _, s1, Or.inl (by decide)⟩ (by omega)) k_TC_75 d_TC_join_121 (by assumption) (show classes[6]? = some _ from rfl) rfl rfl rfl (by decide) (Nat.le_of_ble_eq_true rfl) ⟨by omega, by omega⟩ (fun v_121 h_121 k_121 n_121 p_121 => ?_)
        obtain ⟨rfl, d', cap', r1, r2, r3⟩ := p_121
        have hcb := z_gw_b r3 mt (by rw [List.length_append, List.length_take]; omega)
        obtain ⟨r31, r32, r33, -⟩ := r3
        have hI4 := z_I_tab (t := t) (sc' := z_su sc (bM (tb t)) ms) hcn hI3 ht (by rw [bt]; exact r1) r2 hcb (fun _ _ => ⟨rfl, fun _ _ => rfl⟩) (fun s hs => by
          rcases List.mem_append.mp hs with q | q
          · exact t4 s q
          · rw [List.mem_singleton.mp q]
            exact u4 _ (List.getElem_mem hjl))
        have htk : (tt y).take (j + 1) = (tt y).take j ++ [(tt y)[j]] := by rw [List.take_add_one, hg]; rfl
        rw [bt, z_susu, List.append_assoc, ← htk] at hI4
        have e := z_Phi_lu (La := La3) (r := (d', tt t ++ (tt y).take (j + 1), cap')) (a := bT (tb t)) _ l8 (z_bAm (K := K) (tb := tb) ht).2
        rw [hcpt] at e
        simp only at e
        have hct1 := hct.1
        have hct2 := hct.2
        have ec : z_cp (z_lu La3 (bT (tb t)) (d', tt t ++ (tt y).take (j + 1), cap')) (bT (tb t)) = cap' := z_cp_of (z_lu_s _ _ _)
        refine z_pop (pc' := 125) X d_TC_join_124 rfl rfl ?_
        refine z_iinc (pc' := 128) (w := nI (j + 1)) X d_TC_join_125 rfl (z_i1 _) rfl rfl rfl ?_
        refine z_goto (pc' := 93) X d_TC_join_128 (by decide) ?_
        refine ih (j + 1) ms h_121 (z_lu La3 (bT (tb t)) (d', tt t ++ (tt y).take (j + 1), cap')) _ _ (by omega) hs hperm hI4 (z_fx_tr hfx (z_fx_nl r2)) ⟨?_, ?_⟩ (by rw [ec]; omega) (by rw [ec]; omega)
        · omega
        · omega
  have loop : ∀ (mm j : Nat) (ms : List Nat) (h3 : z_H) (La3 : z_LA) (k n : Nat), mm + j = N.length → z_srt en ms → ms.Perm (M ++ N.take j) → z_I G h3 o K v La3 en (z_su sc (bM (tb t)) ms) tt tb1 T B R nu ag wa → z_fx G K h h3 → z_ct (z_Phi La (z_lst K tb T)) (z_Phi La3 (z_lst K tb T)) k n 0 0 → z_cp La3 (bT (tb t)) = z_cp La (bT (tb t)) → k + z_cp La (bA (tb t)) ≤ z_cp La3 (bA (tb t)) → n + 4 * z_cp La (bA (tb t)) ≤ 4 * z_cp La3 (bA (tb t)) → z_V G A x h3 k n 56 [some (.ref o), some (.int (nI i)), some (.ref t), some (.ref y), some (.int (nI j))] [] := by
    intro mm
    induction mm with
    | zero =>
      intro j ms h3 La3 k n hj hs hperm hI3 hfx hct hcp hk hn
      have hj : j = N.length := by omega
      subst hj
      rw [List.take_length] at hperm
      obtain ⟨u1, u2, u3, u4⟩ := hI3.2.2.2.1 y hy
      rw [by'] at u1 u2 u3
      rw [z_su_n _ _ hmm, hN] at u3
      obtain ⟨⟨da, ca, la, ma⟩, -⟩ := hI3.2.2.1.2.2.2.2.2.2.1 y hy
      rw [by', z_su_n _ _ hmm, hN] at la
      obtain ⟨⟨dt, ct, lt, mt⟩, -⟩ := hI3.2.2.1.2.2.2.2.2.2.1 t ht
      rw [bt] at lt
      have hcpt : z_cp La3 (bA (tb t)) = ct := z_cp_of lt
      refine z_iload (pc' := 58) X d_TC_join_56 rfl rfl ?_
      refine z_aload_n (pc' := 59) X d_TC_join_58 rfl rfl ?_
      refine z_get (pc' := 62) X 2 f_TC_107 d_TC_join_59 (by assumption) rfl rfl ?_
      refine z_callV X (c_Mt_size hI3.1 u2 la) k_TC_203 d_TC_join_62 (by assumption) (show classes[3]? = some _ from rfl) rfl rfl rfl (by decide) (Nat.le_of_ble_eq_true rfl) ⟨by omega, by omega⟩ (z_kp ?_)
      refine z_icmp_ge (tgt := 90) (pc' := 68) X d_TC_join_65 (by decide) rfl (fun c_65 => ?_) (fun c_65 => ?_)
      · refine z_iconst (pc' := 91) (v := 0) X d_TC_join_90 (by decide) rfl ?_
        refine z_istore (pc' := 93) X d_TC_join_91 rfl rfl rfl ?_
        refine tail (tt y).length 0 ms h3 La3 k n (by omega) hs hperm ?_ hfx hct (by omega) (by omega)
        rw [List.take_zero, List.append_nil]
        have : z_su tt t (tt t) = tt := by
          funext s
          unfold z_su
          split
          · rename_i e
            rw [e]
          · rfl
        rw [this]
        exact hI3
      · exact absurd (nI_le (Nat.le_refl _) (by omega)) c_65
    | succ mm ih =>
      intro j ms h3 La3 k n hj hs hperm hI3 hfx hct hcp hk hn
      have hjl : j < N.length := by omega
      have hg := List.getElem?_eq_getElem hjl
      obtain ⟨u1, u2, u3, u4⟩ := hI3.2.2.2.1 y hy
      rw [by'] at u1 u2 u3
      rw [z_su_n _ _ hmm, hN] at u3
      obtain ⟨⟨da, ca, la, ma⟩, -⟩ := hI3.2.2.1.2.2.2.2.2.2.1 y hy
      rw [by', z_su_n _ _ hmm, hN] at la
      obtain ⟨⟨dt, ct, lt, mt⟩, -⟩ := hI3.2.2.1.2.2.2.2.2.2.1 t ht
      have lt0 := lt
      rw [bt] at lt
      rw [show bM (bF (tb t), bL (tb y), bM (tb t), bA (tb t), bT (tb t)) = bM (tb t) from rfl, z_su_s] at lt
      obtain ⟨t1, t2, t3, t4⟩ := hI3.2.2.2.1 t ht
      rw [bt] at t1 t2 t3
      rw [show bM (bF (tb t), bL (tb y), bM (tb t), bA (tb t), bT (tb t)) = bM (tb t) from rfl, z_su_s] at t3
      have lt : La3 (bA (tb t)) = some (dt, ms, ct) := lt
      have hcpt : z_cp La3 (bA (tb t)) = ct := z_cp_of lt
      have hml : ms.length = M.length + j := by
        rw [hperm.length_eq, List.length_append, List.length_take]
        omega
      have hsub : ∀ a ∈ ms, a ∈ M ++ N.take j := fun a ha => hperm.mem_iff.mp ha
      have hokm : ∀ a ∈ ms, z_vk (en a) := fun a ha => by
        rcases List.mem_append.mp (hsub a ha) with q | q
        · exact hok a (List.mem_append_left _ q)
        · exact hok a (List.mem_append_right _ (List.mem_of_mem_take q))
      have hoky : z_vk (en N[j]) := hok _ (List.mem_append_right _ (List.getElem_mem hjl))
      have hne : ∀ a ∈ ms, eS (en a) ≠ eS (en N[j]) := fun a ha => by
        rw [List.map_append, List.nodup_append] at hnd
        rcases List.mem_append.mp (hsub a ha) with q | q
        · exact hnd.2.2 _ (List.mem_map.mpr ⟨a, q, rfl⟩) _ (List.mem_map.mpr ⟨_, List.getElem_mem hjl, rfl⟩)
        · obtain ⟨z, hz, e⟩ := List.getElem_of_mem q
          rw [List.length_take] at hz
          rw [List.getElem_take] at e
          have := List.pairwise_iff_getElem.mp hnd.2.1 z j (by rw [List.length_map]; omega) (by rw [List.length_map]; omega) (by omega)
          rw [List.getElem_map, List.getElem_map, e] at this
          exact this
      refine z_iload (pc' := 58) X d_TC_join_56 rfl rfl ?_
      refine z_aload_n (pc' := 59) X d_TC_join_58 rfl rfl ?_
      refine z_get (pc' := 62) X 2 f_TC_107 d_TC_join_59 (by assumption) rfl rfl ?_
      refine z_callV X (c_Mt_size hI3.1 u2 la) k_TC_203 d_TC_join_62 (by assumption) (show classes[3]? = some _ from rfl) rfl rfl rfl (by decide) (Nat.le_of_ble_eq_true rfl) ⟨by omega, by omega⟩ (z_kp ?_)
      refine z_icmp_ge (tgt := 90) (pc' := 68) X d_TC_join_65 (by decide) rfl (fun c_65 => ?_) (fun c_65 => ?_)
      · exact absurd c_65 (nI_ge hjl (by omega))
      · refine z_aload_n (pc' := 69) X d_TC_join_68 rfl rfl ?_
        refine z_get (pc' := 72) X 2 f_TC_107 d_TC_join_69 (by assumption) rfl rfl ?_
        refine z_aload_n (pc' := 73) X d_TC_join_72 rfl rfl ?_
        refine z_get (pc' := 76) X 2 f_TC_107 d_TC_join_73 (by assumption) rfl rfl ?_
        refine z_iload (pc' := 78) X d_TC_join_76 rfl rfl ?_
        refine z_callV X (c_Mt_at hI3.1 u2 la u3 hg) k_TC_235 d_TC_join_78 (by assumption) (show classes[3]? = some _ from rfl) rfl rfl rfl (by decide) (Nat.le_of_ble_eq_true rfl) ⟨by omega, by omega⟩ (z_kp ?_)
        refine z_callV X (c_Mt_insert hI3.1 t2 lt t3 (u3 _ (List.getElem_mem hjl)) (by omega) (z_srt_mo hs hokm hoky (fun _ _ => rfl))) k_TC_173 d_TC_join_81 (by assumption) (show classes[3]? = some _ from rfl) rfl rfl rfl (by decide) (Nat.le_of_ble_eq_true rfl) ⟨by omega, by omega⟩ (fun v_81 h_81 k_81 n_81 p_81 => ?_)
        obtain ⟨rfl, p, d', cap', r1, r2, r3, r4, r5, r6⟩ := p_81
        have hcb := z_gw_b r6 mt (by omega)
        obtain ⟨r61, r62, r63, -⟩ := r6
        obtain ⟨s1, s2⟩ := z_srt_ins hs hokm hoky hne r2 r3
        have hI4 := z_I_mem (t := t) hcn hI3 ht (by rw [bt]; exact r4) r5 hcb (fun c hc => by
          rcases List.mem_cons.mp (s2.mem_iff.mp hc) with q | q
          · rw [q]; exact u3 _ (List.getElem_mem hjl)
          · exact t3 c q)
        rw [bt, z_susu] at hI4
        have e := z_Phi_lu (La := La3) (r := (d', ms.take p ++ N[j] :: ms.drop p, cap')) (a := bA (tb t)) _ l8 (z_bAm (K := K) (tb := tb) ht).1
        rw [hcpt] at e
        simp only at e
        have hct1 := hct.1
        have hct2 := hct.2
        have ec : z_cp (z_lu La3 (bA (tb t)) (d', ms.take p ++ N[j] :: ms.drop p, cap')) (bA (tb t)) = cap' := z_cp_of (z_lu_s _ _ _)
        have ec2 : z_cp (z_lu La3 (bA (tb t)) (d', ms.take p ++ N[j] :: ms.drop p, cap')) (bT (tb t)) = z_cp La3 (bT (tb t)) := by
          have hnd := z_nd1 _ (z_lst_nd l8).2.1 t ht
          simp at hnd
          unfold z_cp
          rw [z_lu_n _ _ (fun q => hnd q.symm)]
        have htk : N.take (j + 1) = N.take j ++ [N[j]] := by rw [List.take_add_one, hg]; rfl
        refine z_iinc (pc' := 87) (w := nI (j + 1)) X d_TC_join_84 rfl (z_i1 _) rfl rfl rfl ?_
        refine z_goto (pc' := 56) X d_TC_join_87 (by decide) ?_
        refine ih (j + 1) _ h_81 (z_lu La3 (bA (tb t)) (d', ms.take p ++ N[j] :: ms.drop p, cap')) _ _ (by omega) s1 ?_ hI4 (z_fx_tr hfx (z_fx_nl r5)) ⟨?_, ?_⟩ (by rw [ec2]; exact hcp) (by rw [ec]; omega) (by rw [ec]; omega)
        · rw [htk, ← List.append_assoc]
          refine s2.trans ?_
          refine ((List.perm_append_singleton N[j] ms).symm).trans ?_
          exact hperm.append_right _
        · omega
        · omega
  refine z_iload_n (pc' := 1) X d_TC_join_0 rfl rfl ?_
  refine z_if_lt (tgt := 17) (pc' := 4) X d_TC_join_1 (by decide) rfl (fun c_1 => ?_) (fun c_1 => ?_)
  · exact absurd c_1 (nI_pos (by omega))
  · refine z_iload_n (pc' := 5) X d_TC_join_4 rfl rfl ?_
    refine z_aload_n (pc' := 6) X d_TC_join_5 rfl rfl ?_
    refine z_get (pc' := 9) X 2 f_TC_35 d_TC_join_6 (by assumption) rfl rfl ?_
    refine z_callV X (P_size hI.1 l1) k_TC_79 d_TC_join_9 (by assumption) (show classes[6]? = some _ from rfl) rfl rfl rfl (by decide) (Nat.le_of_ble_eq_true rfl) ⟨by omega, by omega⟩ (z_kp ?_)
    refine z_iconst (pc' := 13) (v := 1) X d_TC_join_12 (by decide) rfl ?_
    refine z_isub (pc' := 14) X d_TC_join_13 rfl ?_
    refine z_icmp_lt (tgt := 19) (pc' := 17) X d_TC_join_14 (by decide) rfl (fun c_14 => ?_) (fun c_14 => ?_)
    · refine z_aload_n (pc' := 20) X d_TC_join_19 rfl rfl ?_
      refine z_get (pc' := 23) X 2 f_TC_35 d_TC_join_20 (by assumption) rfl rfl ?_
      refine z_iload_n (pc' := 24) X d_TC_join_23 rfl rfl ?_
      refine z_callV X (P_get hI.1 l1 hi) k_TC_80 d_TC_join_24 (by assumption) (show classes[6]? = some _ from rfl) rfl rfl rfl (by decide) (Nat.le_of_ble_eq_true rfl) ⟨by omega, by omega⟩ (z_kp ?_)
      refine z_cast (pc' := 30) X cl_TC_70 ca_Tablet d_TC_join_27 (by assumption) rfl rfl ?_
      refine z_astore_n (pc' := 31) X d_TC_join_30 rfl rfl rfl ?_
      refine z_aload_n (pc' := 32) X d_TC_join_31 rfl rfl ?_
      refine z_get (pc' := 35) X 2 f_TC_35 d_TC_join_32 (by assumption) rfl rfl ?_
      refine z_iload_n (pc' := 36) X d_TC_join_35 rfl rfl ?_
      refine z_iconst (pc' := 37) (v := 1) X d_TC_join_36 (by decide) rfl ?_
      refine z_iadd (pc' := 38) X d_TC_join_37 rfl ?_
      refine z_top (b := .int (nI (i + 1))) (by rw [nI_1]) ?_
      refine z_callV X (P_get hI.1 l1 hi2) k_TC_80 d_TC_join_38 (by assumption) (show classes[6]? = some _ from rfl) rfl rfl rfl (by decide) (Nat.le_of_ble_eq_true rfl) ⟨by omega, by omega⟩ (z_kp ?_)
      refine z_cast (pc' := 44) X cl_TC_70 ca_Tablet d_TC_join_41 (by assumption) rfl rfl ?_
      refine z_astore_n (pc' := 45) X d_TC_join_44 rfl rfl rfl ?_
      refine z_aload_n (pc' := 46) X d_TC_join_45 rfl rfl ?_
      refine z_aload_n (pc' := 47) X d_TC_join_46 rfl rfl ?_
      refine z_get (pc' := 50) X 1 f_TC_84 d_TC_join_47 (by assumption) rfl rfl ?_
      refine z_put (pc' := 53) X 1 f_TC_84 (g_TC_84 _) d_TC_join_50 (by assumption) rfl rfl rfl rfl rfl ?_
      refine z_iconst (pc' := 54) (v := 0) X d_TC_join_53 (by decide) rfl ?_
      refine z_istore (pc' := 56) X d_TC_join_54 rfl rfl rfl ?_
      refine loop N.length 0 M _ La _ _ (by omega) hsr (by rw [List.take_zero, List.append_nil]) ?_ hfa ⟨by omega, by omega⟩ rfl (by omega) (by omega)
      have : z_su sc (bM (tb t)) M = sc := by
        funext s
        unfold z_su
        split
        · rename_i e
          rw [e, hM]
        · rfl
      rw [this]
      exact hIa
    · refine absurd ?_ c_14
      rw [show nI T.length - 1 = nI (T.length - 1) from by
        have := nI_sub1 (T.length - 1)
        rw [show T.length - 1 + 1 = T.length from by omega] at this
        exact this]
      exact nI_lt (by omega) (by omega)
end JOI
