/-! the system's picture -/
/-- its constant addresses: numbers, ages, tablets, batch, merger, kept, result, waiting; the merger's sources, places, out -/
abbrev z_KA : Type := Nat × Nat × Nat × Nat × Nat × Nat × Nat × Nat × Nat × Nat × Nat
abbrev kNu (K : z_KA) : Nat := K.1
abbrev kAg (K : z_KA) : Nat := K.2.1
abbrev kTa (K : z_KA) : Nat := K.2.2.1
abbrev kBa (K : z_KA) : Nat := K.2.2.2.1
abbrev kMg (K : z_KA) : Nat := K.2.2.2.2.1
abbrev kKe (K : z_KA) : Nat := K.2.2.2.2.2.1
abbrev kRe (K : z_KA) : Nat := K.2.2.2.2.2.2.1
abbrev kWa (K : z_KA) : Nat := K.2.2.2.2.2.2.2.1
abbrev kSr (K : z_KA) : Nat := K.2.2.2.2.2.2.2.2.1
abbrev kAt (K : z_KA) : Nat := K.2.2.2.2.2.2.2.2.2.1
abbrev kOu (K : z_KA) : Nat := K.2.2.2.2.2.2.2.2.2.2
/-- its numbers: expects, some, expected row, column, value; batches, logged, sequence, clock, looked, torn -/
abbrev z_VS : Type := Int32 × Int32 × Int32 × Int32 × Int32 × Int32 × Int32 × Int32 × Int32 × Int32 × Int32
abbrev vEx (v : z_VS) : Int32 := v.1
abbrev vSo (v : z_VS) : Int32 := v.2.1
abbrev vER (v : z_VS) : Int32 := v.2.2.1
abbrev vEC (v : z_VS) : Int32 := v.2.2.2.1
abbrev vEV (v : z_VS) : Int32 := v.2.2.2.2.1
abbrev vBs (v : z_VS) : Int32 := v.2.2.2.2.2.1
abbrev vLg (v : z_VS) : Int32 := v.2.2.2.2.2.2.1
abbrev vSq (v : z_VS) : Int32 := v.2.2.2.2.2.2.2.1
abbrev vCk (v : z_VS) : Int32 := v.2.2.2.2.2.2.2.2.1
abbrev vLk (v : z_VS) : Int32 := v.2.2.2.2.2.2.2.2.2.1
abbrev vTo (v : z_VS) : Int32 := v.2.2.2.2.2.2.2.2.2.2
abbrev z_tcf (K : z_KA) (v : z_VS) : List Value := [.ref (kNu K), .ref (kAg K), .ref (kTa K), .ref (kBa K), .int (vEx v), .int (vSo v), .int (vER v), .int (vEC v), .int (vEV v), .ref (kMg K), .ref (kKe K), .ref (kRe K), .ref (kWa K), .int (vBs v), .int (vLg v), .int (vSq v), .int (vCk v), .int (vLk v), .int (vTo v)]
/-- a tablet: first, last, memtable, its list, the list of tables -/
abbrev z_TB : Type := Int32 × Int32 × Nat × Nat × Nat
abbrev bF (b : z_TB) : Int32 := b.1
abbrev bL (b : z_TB) : Int32 := b.2.1
abbrev bM (b : z_TB) : Nat := b.2.2.1
abbrev bA (b : z_TB) : Nat := b.2.2.2.1
abbrev bT (b : z_TB) : Nat := b.2.2.2.2
def z_lst (K : z_KA) (tb : Nat → z_TB) (T : List Nat) : List Nat := [kTa K, kBa K, kKe K, kRe K, kSr K, kOu K] ++ T.flatMap (fun t => [bA (tb t), bT (tb t)])
def z_cp (La : z_LA) (a : Nat) : Nat := match La a with
  | some r => r.2.2
  | none => 0
def z_Phi (La : z_LA) (l : List Nat) : Nat := (l.map (z_cp La)).sum
/-- what is in the lists -/
def z_LL (La : z_LA) (K : z_KA) (tb : Nat → z_TB) (tt sc : Nat → List Nat) (T B R : List Nat) : Prop :=
  (∃ d c, La (kTa K) = some (d, T, c) ∧ c ≤ 1000) ∧ (∃ d c, La (kBa K) = some (d, B, c) ∧ 4 ≤ c ∧ c ≤ 1000) ∧ (∃ d xs c, La (kKe K) = some (d, xs, c) ∧ c ≤ 1000) ∧ (∃ d c, La (kRe K) = some (d, R, c) ∧ c ≤ 40000) ∧ (∃ d xs c, La (kSr K) = some (d, xs, c) ∧ c ≤ 1000) ∧ (∃ d xs c, La (kOu K) = some (d, xs, c) ∧ c ≤ 1000) ∧
  (∀ t ∈ T, (∃ d c, La (bA (tb t)) = some (d, sc (bM (tb t)), c) ∧ c ≤ 1000) ∧ (∃ d c, La (bT (tb t)) = some (d, tt t, c) ∧ c ≤ 1000)) ∧ (z_lst K tb T).Nodup
/-- the cells beside the lists -/
def z_I0 (G : z_G) (h : z_H) (x : Nat) (K : z_KA) (v : z_VS) (nu ag wa : Nat → Int32) : Prop :=
  h x = some (z_ob 0 (z_tcf K v)) ∧ (∃ q, h (kMg K) = some (z_ob 1 (z_mgf (kSr K) (kAt K) (kOu K) q))) ∧ (∃ f, h (kAt K) = some (z_ia G 300 f)) ∧
  h (kNu K) = some (z_ia G 2 nu) ∧ h (kAg K) = some (z_ia G 2 ag) ∧ h (kWa K) = some (z_ia G 513 wa) ∧ [kNu K, kAg K, kWa K, kAt K].Nodup
def z_I1 (G : z_G) (h : z_H) (en : Nat → z_E7) (sc tt : Nat → List Nat) (tb : Nat → z_TB) (t : Nat) : Prop :=
  h t = some (z_ob 2 [.int (bF (tb t)), .int (bL (tb t)), .ref (bM (tb t)), .ref (bT (tb t))]) ∧ h (bM (tb t)) = some (z_ob 3 [.ref (bA (tb t))]) ∧ z_ens h en (sc (bM (tb t))) ∧ ∀ s ∈ tt t, z_tab G h en s (sc s) ∧ z_ens h en (sc s)
def z_I (G : z_G) (h : z_H) (x : Nat) (K : z_KA) (v : z_VS) (La : z_LA) (en : Nat → z_E7) (sc tt : Nat → List Nat) (tb : Nat → z_TB) (T B R : List Nat) (nu ag wa : Nat → Int32) : Prop :=
  z_pool G h La ∧ z_I0 G h x K v nu ag wa ∧ z_LL La K tb tt sc T B R ∧ (∀ t ∈ T, z_I1 G h en sc tt tb t) ∧ z_ens h en B ∧ z_ens h en R
/-- how many entries -/
def z_tsz (sc tt : Nat → List Nat) (tb : Nat → z_TB) (t : Nat) : Nat := (sc (bM (tb t))).length + ((tt t).map (fun s => (sc s).length)).sum
def z_tot (sc tt : Nat → List Nat) (tb : Nat → z_TB) (T : List Nat) : Nat := (T.map (z_tsz sc tt tb)).sum
/-- cells that reading leaves: objects but the system's own and the merger, tables' arrays, int arrays but the two that are written -/
def z_fxd (G : z_G) (K : z_KA) (b : Nat) (e : va_E) : Prop := (∃ ci fs, e = z_ob ci fs ∧ 2 ≤ ci ∧ ci ≠ 6) ∨ (∃ n f, e = z_ra (z_cE G) n f) ∨ ((∃ n f, e = z_ia G n f) ∧ b ≠ kWa K ∧ b ≠ kAt K)
def z_ff (G : z_G) (K : z_KA) (h h' : z_H) : Prop := ∀ (b : Nat) (e : va_E), h b = some e → z_fxd G K b e → h' b = some e
/-- cells of another system stay -/
def z_fx (G : z_G) (K : z_KA) (h h' : z_H) : Prop := ∀ (b : Nat) (e : va_E), h b = some e → ((∃ fs, e = z_ob 7 fs) ∨ ((∃ n f, e = z_ia G n f) ∧ b ≠ kWa K ∧ b ≠ kAt K)) → h' b = some e
/-- cost: E cells and F slots beside what the lists' rooms have grown -/
def z_ct (P P' k n E F : Nat) : Prop := k + P ≤ P' + E ∧ n + 4 * P ≤ 4 * P' + F
/-- an entry is of the kinds that there are -/
def z_va (e : z_E7) : Prop := 0 ≤ (eR e).toInt ∧ (eR e).toInt < 64 ∧ -1 ≤ (eC e).toInt ∧ (eC e).toInt < 8 ∧ -1 ≤ (eT e).toInt ∧ (eT e).toInt < 10000 ∧ (eL e = 0 ∨ eL e = 1) ∧ ((eC e).toInt = -1 → (eT e).toInt = -1) ∧ ((eT e).toInt = -1 → eL e = 0)
section INV
variable {G : z_G} {A : Nat → Prop} {h h' : z_H} {x : Nat} {K : z_KA} {v : z_VS} {La La' : z_LA} {en : Nat → z_E7} {sc tt : Nat → List Nat} {tb : Nat → z_TB} {T B R : List Nat} {nu ag wa : Nat → Int32}
theorem z_fx_rf : z_fx G K h h := fun _ _ hb _ => hb
theorem z_fx_tr {h1 h2 : z_H} (a : z_fx G K h h1) (b : z_fx G K h1 h2) : z_fx G K h h2 := fun c e hc hf => b c e (a c e hc hf) hf
theorem z_fx_nl (hn : z_nl G h h') : z_fx G K h h' := fun b e hb hf => hn b e hb (by
  rcases hf with ⟨fs, rfl⟩ | ⟨⟨n, f, rfl⟩, -⟩
  · exact z_isl_ob (by decide)
  · exact z_isl_ia)
theorem z_fx_ob {a ci : Nat} {fs fs' : List Value} (ha : h a = some (z_ob ci fs)) (hc : ci ≠ 7) : z_fx G K h (z_up h a (z_ob ci fs')) := fun b e hb hf => by
  have hne : b ≠ a := fun e' => by
    subst e'
    rw [ha] at hb
    cases hb
    rcases hf with ⟨fs, e⟩ | ⟨⟨n, f, e⟩, -⟩
    · cases e
      exact hc rfl
    · cases e
  rw [z_up_n _ _ hne]
  exact hb
theorem z_fx_new {a : Nat} {e : va_E} (ha : h a = none) : z_fx G K h (z_up h a e) := fun b e hb hf => by
  rw [z_up_n _ _ (z_nb ha hb)]
  exact hb
theorem z_ff_fx (hf : z_ff G K h h') : z_fx G K h h' := fun b e hb he => hf b e hb (by
  rcases he with ⟨fs, rfl⟩ | he
  · exact Or.inl ⟨7, fs, rfl, by decide, by decide⟩
  · exact Or.inr (Or.inr he))
theorem z_ff_rf : z_ff G K h h := fun _ _ hb _ => hb
theorem z_ff_tr {h1 h2 : z_H} (a : z_ff G K h h1) (b : z_ff G K h1 h2) : z_ff G K h h2 := fun c e hc hf => b c e (a c e hc hf) hf
theorem z_ff_nl (hcn : z_cE G ≠ z_cO G) (hn : z_nl G h h') : z_ff G K h h' := fun b e hb hf => hn b e hb (by
  rcases hf with ⟨ci, fs, rfl, -, hc⟩ | ⟨n, f, rfl⟩ | ⟨⟨n, f, rfl⟩, -⟩
  · exact z_isl_ob hc
  · exact z_isl_ra hcn
  · exact z_isl_ia)
theorem z_ff_fm (hcn : z_cE G ≠ z_cO G) {q : List Value} {f : Nat → Int32} (hg : h (kMg K) = some (z_ob 1 q)) (ha : h (kAt K) = some (z_ia G 300 f)) (hn : z_fm G (kMg K) (kAt K) h h') : z_ff G K h h' := fun b e hb hf => by
  rcases hf with ⟨ci, fs, rfl, h2, hc⟩ | ⟨n, f, rfl⟩ | ⟨⟨n, f, rfl⟩, h1, h2⟩
  · exact hn b _ hb (z_isl_ob hc) (fun e => by rw [e, hg] at hb; cases hb; omega) (fun e => by rw [e, ha] at hb; cases hb)
  · exact hn b _ hb (z_isl_ra hcn) (fun e => by rw [e, hg] at hb; cases hb) (fun e => by rw [e, ha] at hb; simp at hb)
  · exact hn b _ hb z_isl_ia (fun e => by rw [e, hg] at hb; cases hb) h2
theorem z_ff_ob {a ci : Nat} {fs fs' : List Value} (ha : h a = some (z_ob ci fs)) (hc : ci < 2) : z_ff G K h (z_up h a (z_ob ci fs')) := fun b e hb hf => by
  have hne : b ≠ a := fun e' => by
    subst e'
    rw [ha] at hb
    cases hb
    rcases hf with ⟨ci', fs, e, h2, -⟩ | ⟨n, f, e⟩ | ⟨⟨n, f, e⟩, -⟩
    · cases e
      omega
    · cases e
    · cases e
  rw [z_up_n _ _ hne]
  exact hb
theorem z_ff_new {a : Nat} {e : va_E} (ha : h a = none) : z_ff G K h (z_up h a e) := fun b e hb hf => by
  rw [z_up_n _ _ (z_nb ha hb)]
  exact hb
theorem z_ens_ff {es : List Nat} (hf : z_ff G K h h') (he : z_ens h en es) : z_ens h' en es := fun a ha => hf _ _ (he a ha) (Or.inl ⟨5, _, rfl, by decide, by decide⟩)
theorem z_tab_ff {s : Nat} {es : List Nat} (hf : z_ff G K h h') (ht : z_tab G h en s es) : z_tab G h' en s es := by
  obtain ⟨arr, f, s1, s2, s3⟩ := ht
  exact ⟨arr, f, hf _ _ s1 (Or.inl ⟨4, _, rfl, by decide, by decide⟩), hf _ _ s2 (Or.inr (Or.inl ⟨_, _, rfl⟩)), s3⟩
theorem z_I1_ff {t : Nat} (hf : z_ff G K h h') (hi : z_I1 G h en sc tt tb t) : z_I1 G h' en sc tt tb t := by
  obtain ⟨i1, i2, i3, i4⟩ := hi
  exact ⟨hf _ _ i1 (Or.inl ⟨2, _, rfl, by decide, by decide⟩), hf _ _ i2 (Or.inl ⟨3, _, rfl, by decide, by decide⟩), z_ens_ff hf i3, fun s hs => ⟨z_tab_ff hf (i4 s hs).1, z_ens_ff hf (i4 s hs).2⟩⟩
theorem z_Phi_nm {l : List Nat} {a : Nat} {r : Nat × List Nat × Nat} (ha : a ∉ l) : z_Phi (z_lu La a r) l = z_Phi La l := by
  unfold z_Phi
  congr 1
  refine List.map_congr_left (fun b hb => ?_)
  have hne : b ≠ a := fun e => ha (by rw [← e]; exact hb)
  unfold z_cp
  rw [z_lu_n _ _ hne]
theorem z_Phi_lu {a : Nat} {r : Nat × List Nat × Nat} : ∀ (l : List Nat), l.Nodup → a ∈ l → z_Phi (z_lu La a r) l + z_cp La a = z_Phi La l + r.2.2
  | [], _, ha => absurd ha List.not_mem_nil
  | b :: l, hn, ha => by
    obtain ⟨hb, hl⟩ := List.nodup_cons.mp hn
    have e1 : ∀ (L' : z_LA), z_Phi L' (b :: l) = z_cp L' b + z_Phi L' l := fun L' => by unfold z_Phi; rw [List.map_cons, List.sum_cons]
    rw [e1, e1]
    by_cases hab : a = b
    · subst hab
      rw [z_Phi_nm hb]
      have : z_cp (z_lu La a r) a = r.2.2 := by unfold z_cp; rw [z_lu_s]
      rw [this]
      omega
    · have ih := z_Phi_lu (r := r) l hl ((List.mem_cons.mp ha).resolve_left hab)
      have : z_cp (z_lu La a r) b = z_cp La b := by unfold z_cp; rw [z_lu_n _ _ (Ne.symm hab)]
      rw [this]
      omega
theorem z_cp_of {a d c : Nat} {xs : List Nat} (ha : La a = some (d, xs, c)) : z_cp La a = c := by unfold z_cp; rw [ha]
theorem z_lst_nd (hn : (z_lst K tb T).Nodup) : [kTa K, kBa K, kKe K, kRe K, kSr K, kOu K].Nodup ∧ (T.flatMap (fun t => [bA (tb t), bT (tb t)])).Nodup ∧ ∀ t ∈ T, ∀ a ∈ [kTa K, kBa K, kKe K, kRe K, kSr K, kOu K], a ≠ bA (tb t) ∧ a ≠ bT (tb t) := by
  obtain ⟨h1, h2, h3⟩ := List.nodup_append.mp hn
  exact ⟨h1, h2, fun t ht a ha => ⟨h3 a ha _ (List.mem_flatMap.mpr ⟨t, ht, by simp⟩), h3 a ha _ (List.mem_flatMap.mpr ⟨t, ht, by simp⟩)⟩⟩
/-- a scratch list moves: kept, sources or out -/
theorem z_LL_scr {a d c : Nat} {xs : List Nat} (hl : z_LL La K tb tt sc T B R) (ha : a = kKe K ∨ a = kSr K ∨ a = kOu K) (hc : c ≤ 1000) : z_LL (z_lu La a (d, xs, c)) K tb tt sc T B R := by
  obtain ⟨⟨d1, c1, l1, m1⟩, ⟨d2, c2, l2, m2⟩, ⟨d3, x3, c3, l3, m3⟩, ⟨d4, c4, l4, m4⟩, ⟨d5, x5, c5, l5, m5⟩, ⟨d6, x6, c6, l6, m6⟩, l7, l8⟩ := hl
  obtain ⟨n1, n2, n3⟩ := z_lst_nd l8
  have ham : a ∈ [kTa K, kBa K, kKe K, kRe K, kSr K, kOu K] := by rcases ha with rfl | rfl | rfl <;> simp
  have nt : ∀ t ∈ T, bA (tb t) ≠ a ∧ bT (tb t) ≠ a := fun t ht => ⟨(n3 t ht a ham).1.symm, (n3 t ht a ham).2.symm⟩
  have e1 : kTa K ≠ a ∧ kBa K ≠ a ∧ kRe K ≠ a := by
    simp only [List.nodup_cons, List.mem_cons, not_or, List.not_mem_nil] at n1
    rcases ha with rfl | rfl | rfl
    · exact ⟨n1.1.2.1, n1.2.1.1, fun e => n1.2.2.1.1 e.symm⟩
    · exact ⟨n1.1.2.2.2.1, n1.2.1.2.2.1, n1.2.2.2.1.1⟩
    · exact ⟨n1.1.2.2.2.2.1, n1.2.1.2.2.2.1, n1.2.2.2.1.2.1⟩
  have k : ∀ b, (∃ d xs c, La b = some (d, xs, c) ∧ c ≤ 1000) → ∃ d' xs' c', z_lu La a (d, xs, c) b = some (d', xs', c') ∧ c' ≤ 1000 := by
    intro b hb
    by_cases hba : b = a
    · subst hba
      exact ⟨d, xs, c, z_lu_s _ _ _, hc⟩
    · obtain ⟨d', xs', c', g1, g2⟩ := hb
      exact ⟨d', xs', c', by rw [z_lu_n _ _ hba]; exact g1, g2⟩
  refine ⟨⟨d1, c1, by rw [z_lu_n _ _ e1.1]; exact l1, m1⟩, ⟨d2, c2, by rw [z_lu_n _ _ e1.2.1]; exact l2, m2⟩, k _ ⟨d3, x3, c3, l3, m3⟩, ⟨d4, c4, by rw [z_lu_n _ _ e1.2.2]; exact l4, m4⟩, k _ ⟨d5, x5, c5, l5, m5⟩, k _ ⟨d6, x6, c6, l6, m6⟩, fun t ht => ?_, l8⟩
  obtain ⟨⟨da, ca, q1, q2⟩, ⟨db, cb, q3, q4⟩⟩ := l7 t ht
  exact ⟨⟨da, ca, by rw [z_lu_n _ _ (nt t ht).1]; exact q1, q2⟩, ⟨db, cb, by rw [z_lu_n _ _ (nt t ht).2]; exact q3, q4⟩⟩
end INV
