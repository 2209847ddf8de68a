/-! moving the picture: an entry, the waiting numbers, a memtable's list, a tables' list; enter, leaveLog -/
def z_su (sc : Nat → List Nat) (m : Nat) (es : List Nat) : Nat → List Nat := fun s => if s = m then es else sc s
theorem z_su_s (sc : Nat → List Nat) (m : Nat) (es : List Nat) : z_su sc m es m = es := if_pos rfl
theorem z_su_n (sc : Nat → List Nat) {m s : Nat} (es : List Nat) (hn : s ≠ m) : z_su sc m es s = sc s := if_neg hn
theorem z_nd2 {f : Nat → List Nat} : ∀ (T : List Nat), (T.flatMap f).Nodup → ∀ t ∈ T, ∀ u ∈ T, t ≠ u → ∀ a ∈ f t, ∀ b ∈ f u, a ≠ b
  | [], _, t, ht, _, _, _, _, _, _, _ => absurd ht List.not_mem_nil
  | y :: T, hn, t, ht, u, hu, htu, a, ha, b, hb => by
    rw [List.flatMap_cons] at hn
    obtain ⟨h1, h2, h3⟩ := List.nodup_append.mp hn
    rcases List.mem_cons.mp ht with e1 | ht2
    · rcases List.mem_cons.mp hu with e2 | hu2
      · exact absurd (e1.trans e2.symm) htu
      · exact h3 a (e1 ▸ ha) b (List.mem_flatMap.mpr ⟨u, hu2, hb⟩)
    · rcases List.mem_cons.mp hu with e2 | hu2
      · exact (h3 b (e2 ▸ hb) a (List.mem_flatMap.mpr ⟨t, ht2, ha⟩)).symm
      · exact z_nd2 T h2 t ht2 u hu2 htu a ha b hb
theorem z_nd1 {f : Nat → List Nat} : ∀ (T : List Nat), (T.flatMap f).Nodup → ∀ t ∈ T, (f t).Nodup
  | [], _, t, ht => absurd ht List.not_mem_nil
  | y :: T, hn, t, ht => by
    rw [List.flatMap_cons] at hn
    obtain ⟨h1, h2, h3⟩ := List.nodup_append.mp hn
    rcases List.mem_cons.mp ht with rfl | ht
    · exact h1
    · exact z_nd1 T h2 t ht
section MUT
variable {G : z_G} {A : Nat → Prop} {h : z_H} {o : Nat} {K : z_KA} {v : z_VS} {La : z_LA} {en : Nat → z_E7} {sc tt : Nat → List Nat} {tb : Nat → z_TB} {T B R : List Nat} {nu ag wa : Nat → Int32}
theorem z_ens_e {a : Nat} {e' : z_E7} {es : List Nat} (he : z_ens h en es) : z_ens (z_up h a (z_ob 5 (z_ef e'))) (z_eu en a e') es := fun b hb => by
  by_cases hba : b = a
  · subst hba
    rw [z_up_s, z_eu_s]
  · rw [z_up_n _ _ hba, z_eu_n _ _ hba]
    exact he b hb
/-- an entry's sequence and batch are written -/
theorem z_I_e {a : Nat} {e' : z_E7} (hI : z_I G h o K v La en sc tt tb T B R nu ag wa) (ha : h a = some (z_ob 5 (z_ef (en a)))) (hr : eR e' = eR (en a)) (hl : eL e' = eL (en a)) : z_I G (z_up h a (z_ob 5 (z_ef e'))) o K v La (z_eu en a e') sc tt tb T B R nu ag wa ∧ z_fx G K h (z_up h a (z_ob 5 (z_ef e'))) := by
  obtain ⟨hp, ⟨j1, ⟨q0, j2⟩, ⟨f0, j3⟩, j4, j5, j6, j7⟩, hll, hi1, hB, hR⟩ := hI
  refine ⟨⟨z_pool_up hp ha (z_isl_ob (by decide)) (fun _ => ⟨5, _, z_up_s _ _ _, Or.inl (by decide)⟩), ⟨?_, ⟨q0, ?_⟩, ⟨f0, ?_⟩, ?_, ?_, ?_, j7⟩, hll, fun t ht => ?_, z_ens_e hB, z_ens_e hR⟩, z_fx_ob ha (by decide)⟩
  · rw [z_up_n _ _ (fun e => by rw [e, ha] at j1; cases j1)]
    exact j1
  · rw [z_up_n _ _ (fun e => by rw [e, ha] at j2; cases j2)]
    exact j2
  · rw [z_up_n _ _ (z_ao ha j3)]
    exact j3
  · rw [z_up_n _ _ (z_ao ha j4)]
    exact j4
  · rw [z_up_n _ _ (z_ao ha j5)]
    exact j5
  · rw [z_up_n _ _ (z_ao ha j6)]
    exact j6
  · obtain ⟨i1, i2, i3, i4⟩ := hi1 t ht
    refine ⟨?_, ?_, z_ens_e i3, fun s hs => ⟨?_, z_ens_e (i4 s hs).2⟩⟩
    · rw [z_up_n _ _ (fun e => by rw [e, ha] at i1; cases i1)]
      exact i1
    · rw [z_up_n _ _ (fun e => by rw [e, ha] at i2; cases i2)]
      exact i2
    · obtain ⟨arr, f, s1, s2, s3⟩ := (i4 s hs).1
      refine z_tab_c (en := en) ⟨arr, f, ?_, ?_, s3⟩ (fun b hb => ?_)
      · rw [z_up_n _ _ (fun e => by rw [e, ha] at s1; cases s1)]
        exact s1
      · rw [z_up_n _ _ (z_ao ha s2)]
        exact s2
      · by_cases hba : b = a
        · subst hba
          rw [z_eu_s]
          exact ⟨hr, hl⟩
        · rw [z_eu_n _ _ hba]
          exact ⟨rfl, rfl⟩
/-- the waiting numbers are written -/
theorem z_I_w {wa' : Nat → Int32} (hI : z_I G h o K v La en sc tt tb T B R nu ag wa) : z_I G (z_up h (kWa K) (z_ia G 513 wa')) o K v La en sc tt tb T B R nu ag wa' ∧ z_ff G K h (z_up h (kWa K) (z_ia G 513 wa')) := by
  obtain ⟨hp, ⟨j1, ⟨q0, j2⟩, ⟨f0, j3⟩, j4, j5, j6, j7⟩, hll, hi1, hB, hR⟩ := hI
  have n := j7
  simp only [List.nodup_cons, List.mem_cons, not_or, List.not_mem_nil] at n
  have hff : z_ff G K h (z_up h (kWa K) (z_ia G 513 wa')) := fun b e hb hf => by
    have hne : b ≠ kWa K := fun e' => by
      subst e'
      rw [j6] at hb
      cases hb
      rcases hf with ⟨ci, fs, e, -⟩ | ⟨n, f, e⟩ | ⟨-, e, -⟩
      · cases e
      · simp at e
      · exact e rfl
    rw [z_up_n _ _ hne]
    exact hb
  refine ⟨⟨z_pool_up hp j6 z_isl_ia (fun ho => by
      obtain ⟨ci, fs, q1, -⟩ := ho
      rw [j6] at q1
      cases q1), ⟨?_, ⟨q0, ?_⟩, ⟨f0, ?_⟩, ?_, ?_, z_up_s _ _ _, j7⟩, hll, fun t ht => z_I1_ff hff (hi1 t ht), z_ens_ff hff hB, z_ens_ff hff hR⟩, hff⟩
  · rw [z_up_n _ _ (z_oa j1 j6)]
    exact j1
  · rw [z_up_n _ _ (z_oa j2 j6)]
    exact j2
  · rw [z_up_n _ _ (fun e => n.2.2.1.1 e.symm)]
    exact j3
  · rw [z_up_n _ _ n.1.2.1]
    exact j4
  · rw [z_up_n _ _ n.2.1.1]
    exact j5
/-- the lists: one tablet's memtable -/
theorem z_LL_A {t d c : Nat} {es : List Nat} (hl : z_LL La K tb tt sc T B R) (ht : t ∈ T) (hm : ∀ u ∈ T, u ≠ t → bM (tb u) ≠ bM (tb t)) (hc : c ≤ 1000) : z_LL (z_lu La (bA (tb t)) (d, es, c)) K tb tt (z_su sc (bM (tb t)) es) T B R := by
  obtain ⟨⟨d1, c1, l1, m1⟩, ⟨d2, c2, l2, m2⟩, ⟨d3, x3, c3, l3, m3⟩, ⟨d4, c4, l4, m4⟩, ⟨d5, x5, c5, l5, m5⟩, ⟨d6, x6, c6, l6, m6⟩, l7, l8⟩ := hl
  obtain ⟨n1, n2, n3⟩ := z_lst_nd l8
  have k : ∀ a ∈ [kTa K, kBa K, kKe K, kRe K, kSr K, kOu K], a ≠ bA (tb t) := fun a ha => (n3 t ht a ha).1
  refine ⟨⟨d1, c1, by rw [z_lu_n _ _ (k _ (by simp))]; exact l1, m1⟩, ⟨d2, c2, by rw [z_lu_n _ _ (k _ (by simp))]; exact l2, m2⟩, ⟨d3, x3, c3, by rw [z_lu_n _ _ (k _ (by simp))]; exact l3, m3⟩, ⟨d4, c4, by rw [z_lu_n _ _ (k _ (by simp))]; exact l4, m4⟩, ⟨d5, x5, c5, by rw [z_lu_n _ _ (k _ (by simp))]; exact l5, m5⟩, ⟨d6, x6, c6, by rw [z_lu_n _ _ (k _ (by simp))]; exact l6, m6⟩, fun u hu => ?_, l8⟩
  obtain ⟨⟨da, ca, q1, q2⟩, ⟨db, cb, q3, q4⟩⟩ := l7 u hu
  by_cases hut : u = t
  · subst hut
    have hne : bT (tb u) ≠ bA (tb u) := by
      have := z_nd1 _ n2 u hu
      simp at this
      exact fun e => this e.symm
    refine ⟨⟨d, c, by rw [z_lu_s, z_su_s], hc⟩, ⟨db, cb, by rw [z_lu_n _ _ hne]; exact q3, q4⟩⟩
  · have h1 := z_nd2 _ n2 u hu t ht hut
    refine ⟨⟨da, ca, by rw [z_lu_n _ _ (h1 _ (by simp) _ (by simp)), z_su_n _ _ (hm u hu hut)]; exact q1, q2⟩, ⟨db, cb, by rw [z_lu_n _ _ (h1 _ (by simp) _ (by simp))]; exact q3, q4⟩⟩
/-- the lists: one tablet's tables -/
theorem z_LL_T {t d c : Nat} {ts : List Nat} (hl : z_LL La K tb tt sc T B R) (ht : t ∈ T) (hc : c ≤ 1000) : z_LL (z_lu La (bT (tb t)) (d, ts, c)) K tb (z_su tt t ts) sc T B R := by
  obtain ⟨⟨d1, c1, l1, m1⟩, ⟨d2, c2, l2, m2⟩, ⟨d3, x3, c3, l3, m3⟩, ⟨d4, c4, l4, m4⟩, ⟨d5, x5, c5, l5, m5⟩, ⟨d6, x6, c6, l6, m6⟩, l7, l8⟩ := hl
  obtain ⟨n1, n2, n3⟩ := z_lst_nd l8
  have k : ∀ a ∈ [kTa K, kBa K, kKe K, kRe K, kSr K, kOu K], a ≠ bT (tb t) := fun a ha => (n3 t ht a ha).2
  refine ⟨⟨d1, c1, by rw [z_lu_n _ _ (k _ (by simp))]; exact l1, m1⟩, ⟨d2, c2, by rw [z_lu_n _ _ (k _ (by simp))]; exact l2, m2⟩, ⟨d3, x3, c3, by rw [z_lu_n _ _ (k _ (by simp))]; exact l3, m3⟩, ⟨d4, c4, by rw [z_lu_n _ _ (k _ (by simp))]; exact l4, m4⟩, ⟨d5, x5, c5, by rw [z_lu_n _ _ (k _ (by simp))]; exact l5, m5⟩, ⟨d6, x6, c6, by rw [z_lu_n _ _ (k _ (by simp))]; exact l6, m6⟩, fun u hu => ?_, l8⟩
  obtain ⟨⟨da, ca, q1, q2⟩, ⟨db, cb, q3, q4⟩⟩ := l7 u hu
  by_cases hut : u = t
  · subst hut
    have hne : bA (tb u) ≠ bT (tb u) := by
      have := z_nd1 _ n2 u hu
      simp at this
      exact this
    refine ⟨⟨da, ca, by rw [z_lu_n _ _ hne]; exact q1, q2⟩, ⟨d, c, by rw [z_lu_s, z_su_s], hc⟩⟩
  · have h1 := z_nd2 _ n2 u hu t ht hut
    refine ⟨⟨da, ca, by rw [z_lu_n _ _ (h1 _ (by simp) _ (by simp))]; exact q1, q2⟩, ⟨db, cb, by rw [z_lu_n _ _ (h1 _ (by simp) _ (by simp)), z_su_n _ _ hut]; exact q3, q4⟩⟩
theorem z_bAm {t : Nat} (ht : t ∈ T) : bA (tb t) ∈ z_lst K tb T ∧ bT (tb t) ∈ z_lst K tb T := by
  constructor
  · exact List.mem_append_right _ (List.mem_flatMap.mpr ⟨t, ht, by simp⟩)
  · exact List.mem_append_right _ (List.mem_flatMap.mpr ⟨t, ht, by simp⟩)
/-- memtables of different tablets differ, and are no tables -/
theorem z_bM_ne {t u : Nat} (hI : z_I G h o K v La en sc tt tb T B R nu ag wa) (ht : t ∈ T) (hu : u ∈ T) (hut : u ≠ t) : bM (tb u) ≠ bM (tb t) := fun e => by
  have h1 := (hI.2.2.2.1 t ht).2.1
  have h2 := (hI.2.2.2.1 u hu).2.1
  rw [e, h1] at h2
  have h3 : bA (tb t) = bA (tb u) := by
    injection h2 with h2
    injection h2 with h2
    injection h2 with _ h2
    injection h2 with h2
    injection h2 with h2
  exact z_nd2 _ (z_lst_nd hI.2.2.1.2.2.2.2.2.2.2).2.1 u hu t ht hut _ (by simp) _ (by simp) h3.symm
theorem z_tab_ne {s m : Nat} {es : List Nat} {w : List Value} (ht : z_tab G h en s es) (hm : h m = some (z_ob 3 w)) : s ≠ m := fun e => by
  obtain ⟨arr, f, s1, -⟩ := ht
  rw [e, hm] at s1
  cases s1
/-- one tablet's memtable has other entries -/
theorem z_I_mem {h' : z_H} {t d c : Nat} {es : List Nat} (hcn : z_cE G ≠ z_cO G) (hI : z_I G h o K v La en sc tt tb T B R nu ag wa) (ht : t ∈ T) (hp : z_pool G h' (z_lu La (bA (tb t)) (d, es, c))) (hn : z_nl G h h') (hc : c ≤ 1000) (he : z_ens h en es) : z_I G h' o K v (z_lu La (bA (tb t)) (d, es, c)) en (z_su sc (bM (tb t)) es) tt tb T B R nu ag wa := by
  have hff := z_ff_nl (K := K) hcn hn
  refine ⟨hp, z_I0_nl hI.2.1 hn, z_LL_A hI.2.2.1 ht (fun u hu hut => z_bM_ne hI ht hu hut) hc, fun u hu => ?_, z_ens_ff hff hI.2.2.2.2.1, z_ens_ff hff hI.2.2.2.2.2⟩
  obtain ⟨i1, i2, i3, i4⟩ := z_I1_ff hff (hI.2.2.2.1 u hu)
  refine ⟨i1, i2, ?_, fun s hs => ?_⟩
  · by_cases hut : u = t
    · subst hut
      rw [z_su_s]
      exact z_ens_ff hff he
    · rw [z_su_n _ _ (z_bM_ne hI ht hu hut)]
      exact i3
  · have hsm : s ≠ bM (tb t) := z_tab_ne (((hI.2.2.2.1 u hu).2.2.2 s hs).1) (hI.2.2.2.1 t ht).2.1
    rw [z_su_n _ _ hsm]
    exact i4 s hs
end MUT
