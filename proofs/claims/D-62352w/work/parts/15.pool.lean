/-! the pool of all lists: list address ↦ (array, elements, room) -/
section ZPL
variable {G : z_G} {A : Nat → Prop} {h h' : z_H}
theorem z_C.mono {M : z_M} {mc ms : Nat} {sv : List Value} {Post Post' : z_T} (hC : z_C G A M mc ms sv h Post) (hm : h (z_d0 G) = none → ∀ (v : Option Value) (h' : z_H) (k n : Nat), h' (z_d0 G) = none → Post v h' k n → Post' v h' k n) : z_C G A M mc ms sv h Post' := by
  intro p e ha hc hk s m args below hf happ hP hK
  have hd0 : h (z_d0 G) = none := by
    cases hh : h (z_d0 G) with
    | none => rfl
    | some e' => exact absurd (hP.2.2.2.2 _ _ hh).2 hP.2.2.2.1.2.out
  obtain ⟨n, o, h1, h2, h3, L, k, n', h4, h5, v, h', h6, h7, h8, h9⟩ := hC p e ha hc hk s m args below hf happ hP hK
  have hd0' : h' (z_d0 G) = none := by
    cases hh : h' (z_d0 G) with
    | none => rfl
    | some e' => exact absurd (h7 _ _ hh).2 hP.2.2.2.1.2.out
  exact ⟨n, o, h1, h2, h3, L, k, n', h4, h5, v, h', h6, h7, hm hd0 v h' k n' hd0' h8, h9⟩
/-- the empty list's array is no cell of the heap -/
theorem z_nd0 {x : z_X} {M : z_M} {mc ms k n pc : Nat} {Post : z_T} {L : List (Option Value)} {st : List Value} (X : z_O G A x M mc ms Post) (kk : h (z_d0 G) = none → z_V G A x h k n pc L st) : z_V G A x h k n pc L st := by
  obtain ⟨p, e, R, s, m, args, below, meth, c, Q⟩ := x
  obtain ⟨hx, hb, hml, hown, hK, hR, hret, hnm, hlk, hA, hZ, hQ⟩ := X
  intro H locs ls hP hS hL
  refine kk ?_ H locs ls hP hS hL
  cases hh : h (z_d0 G) with
  | none => rfl
  | some e' => exact absurd (hP _ _ hh).2 hZ.2.out
abbrev z_LA : Type := Nat → Option (Nat × List Nat × Nat)
def z_lu (La : z_LA) (al : Nat) (r : Nat × List Nat × Nat) : z_LA := fun b => if b = al then some r else La b
theorem z_lu_s (La : z_LA) (al : Nat) (r : Nat × List Nat × Nat) : z_lu La al r al = some r := if_pos rfl
theorem z_lu_n (La : z_LA) {al b : Nat} (r : Nat × List Nat × Nat) (hn : b ≠ al) : z_lu La al r b = La b := if_neg hn
def z_pool (G : z_G) (h : z_H) (La : z_LA) : Prop := (∀ (al d : Nat) (xs : List Nat) (cap : Nat), La al = some (d, xs, cap) → z_AL G h al d xs cap ∧ ∀ y ∈ xs, z_isob h y) ∧ (∀ (a1 a2 d : Nat) (x1 : List Nat) (c1 : Nat) (x2 : List Nat) (c2 : Nat), La a1 = some (d, x1, c1) → La a2 = some (d, x2, c2) → a1 ≠ a2 → c1 = 0)
def z_isl (G : z_G) (e : va_E) : Prop := (∃ fs, e = z_ob 6 fs) ∨ (∃ n f, e = z_ra (z_cO G) n f)
/-- cells that are neither list objects nor lists' arrays stay -/
def z_nl (G : z_G) (h h' : z_H) : Prop := ∀ (b : Nat) (e : va_E), h b = some e → ¬ z_isl G e → h' b = some e
theorem z_nl_rf : z_nl G h h := fun _ _ hb _ => hb
theorem z_nl_tr {h1 h2 : z_H} (h01 : z_nl G h h1) (h12 : z_nl G h1 h2) : z_nl G h h2 := fun b e hb hn => h12 b e (h01 b e hb hn) hn
theorem z_isl_ob {ci : Nat} {fs : List Value} (hc : ci ≠ 6) : ¬ z_isl G (z_ob ci fs) := by
  rintro (⟨fs', e⟩ | ⟨n, f, e⟩)
  · cases e
    exact hc rfl
  · cases e
theorem z_isl_ia {n : Nat} {f : Nat → Int32} : ¬ z_isl G (z_ia G n f) := by
  rintro (⟨fs', e⟩ | ⟨n, f, e⟩)
  · cases e
  · simp at e
theorem z_isl_ra {c : ClassId} {n : Nat} {f : Nat → Option Nat} (hc : c ≠ z_cO G) : ¬ z_isl G (z_ra c n f) := by
  rintro (⟨fs', e⟩ | ⟨n', f', e⟩)
  · cases e
  · cases e
    exact hc rfl
theorem z_isob_nl {y : Nat} (hn : z_nl G h h') (hy : z_isob h y) : z_isob h' y := by
  obtain ⟨ci, fs, h1, h2⟩ := hy
  exact ⟨ci, fs, hn _ _ h1 (z_isl_ob (by omega)), h2⟩
theorem z_pool_upd {La : z_LA} {al d d' cap cap' : Nat} {xs xs' : List Nat} (hp : z_pool G h La) (h0 : h (z_d0 G) = none) (h0' : h' (z_d0 G) = none) (hl : La al = some (d, xs, cap)) (hA : z_AL G h' al d' xs' cap') (hd : d' = d ∨ h d' = none) (hf : z_fr h h' [al, d]) (hx : ∀ y ∈ xs', z_isob h y) : z_pool G h' (z_lu La al (d', xs', cap')) ∧ z_nl G h h' := by
  have hAl := (hp.1 al d xs cap hl).1
  have hc0 : d' = z_d0 G → cap' = 0 := by
    intro e
    obtain ⟨-, -, -, a4⟩ := hA
    rcases a4 with ⟨a4, -⟩ | ⟨b1, f, b2, -⟩
    · exact a4
    · rw [e, h0'] at b2
      cases b2
  have hnl : z_nl G h h' := by
    intro b e hb hn
    refine hf b e hb (fun hm => ?_)
    obtain ⟨⟨mo, a1⟩, -, -, a4⟩ := hAl
    rcases List.mem_cons.mp hm with rfl | hm
    · rw [a1] at hb
      cases hb
      exact hn (Or.inl ⟨_, rfl⟩)
    · rw [List.mem_singleton.mp hm] at hb
      rcases a4 with ⟨-, a4⟩ | ⟨b1, f, b2, b3⟩
      · rw [a4, h0] at hb
        cases hb
      · rw [b2] at hb
        cases hb
        exact hn (Or.inr ⟨_, _, rfl⟩)
  refine ⟨⟨fun a2 d2 x2 c2 h2 => ?_, fun a1 a2 dd x1 c1 x2 c2 h1 h2 hne => ?_⟩, hnl⟩
  · by_cases ha : a2 = al
    · subst ha
      rw [z_lu_s] at h2
      cases h2
      exact ⟨hA, fun y hy => z_isob_nl hnl (hx y hy)⟩
    · rw [z_lu_n _ _ ha] at h2
      obtain ⟨g1, g2⟩ := hp.1 a2 d2 x2 c2 h2
      refine ⟨?_, fun y hy => z_isob_nl hnl (g2 y hy)⟩
      obtain ⟨⟨mo2, q1⟩, q2, q3, q4⟩ := g1
      obtain ⟨⟨mo, a1⟩, -, -, a4⟩ := hAl
      have had : a2 ≠ d := fun e => by
        rcases a4 with ⟨-, a4⟩ | ⟨b1, f, b2, b3⟩
        · rw [e, a4, h0] at q1
          cases q1
        · rw [e, b2] at q1
          cases q1
      refine ⟨⟨mo2, hf _ _ q1 (by simp [ha, had])⟩, q2, q3, ?_⟩
      rcases q4 with q4 | ⟨b1, f, b2, b3⟩
      · exact Or.inl q4
      · refine Or.inr ⟨b1, f, hf _ _ b2 ?_, b3⟩
        intro hm
        rcases List.mem_cons.mp hm with e | hm
        · rw [e, a1] at b2
          cases b2
        · have e := List.mem_singleton.mp hm
          subst e
          have := hp.2 a2 al d2 x2 c2 xs cap h2 hl ha
          omega
  · have key : ∀ (a3 : Nat) (x3 : List Nat) (c3 : Nat), a3 ≠ al → La a3 = some (d', x3, c3) → c3 = 0 ∧ cap' = 0 := by
      intro a3 x3 c3 h3 g
      have gA := (hp.1 a3 d' x3 c3 g).1
      rcases hd with rfl | hd
      · have e1 := hp.2 a3 al d' x3 c3 xs cap g hl h3
        have e2 := hp.2 al a3 d' xs cap x3 c3 hl g (Ne.symm h3)
        obtain ⟨-, -, -, a4⟩ := gA
        rcases a4 with ⟨-, a4⟩ | ⟨b1, -⟩
        · exact ⟨e1, hc0 a4⟩
        · omega
      · obtain ⟨-, -, -, a4⟩ := gA
        rcases a4 with ⟨a4, a5⟩ | ⟨b1, f, b2, -⟩
        · exact ⟨a4, hc0 a5⟩
        · rw [hd] at b2
          cases b2
    by_cases e1 : a1 = al
    · subst e1
      rw [z_lu_s] at h1
      cases h1
      rw [z_lu_n _ _ (Ne.symm hne)] at h2
      exact (key a2 x2 c2 (Ne.symm hne) h2).2
    · rw [z_lu_n _ _ e1] at h1
      by_cases e2 : a2 = al
      · subst e2
        rw [z_lu_s] at h2
        cases h2
        exact (key a1 x1 c1 e1 h1).1
      · rw [z_lu_n _ _ e2] at h2
        exact hp.2 a1 a2 dd x1 c1 x2 c2 h1 h2 hne
/-- other cells move, lists and what lies in them stay objects -/
theorem z_pool_fr {La : z_LA} (hp : z_pool G h La) (h1 : ∀ (b : Nat) (e : va_E), h b = some e → z_isl G e → h' b = some e) (h2 : ∀ y, z_isob h y → z_isob h' y) : z_pool G h' La := by
  refine ⟨fun al d xs cap hl => ?_, hp.2⟩
  obtain ⟨⟨⟨mo, a1⟩, a2, a3, a4⟩, g2⟩ := hp.1 al d xs cap hl
  refine ⟨⟨⟨mo, h1 _ _ a1 (Or.inl ⟨_, rfl⟩)⟩, a2, a3, ?_⟩, fun y hy => h2 y (g2 y hy)⟩
  rcases a4 with a4 | ⟨b1, f, b2, b3⟩
  · exact Or.inl a4
  · exact Or.inr ⟨b1, f, h1 _ _ b2 (Or.inr ⟨_, _, rfl⟩), b3⟩
theorem z_pool_up {La : z_LA} {a : Nat} {e e' : va_E} (hp : z_pool G h La) (ha : h a = some e) (hn : ¬ z_isl G e) (ho : z_isob h a → z_isob (z_up h a e') a) : z_pool G (z_up h a e') La := by
  refine z_pool_fr hp (fun b e2 hb hl => ?_) (fun y hy => ?_)
  · have hne : b ≠ a := fun q => by
      subst q
      rw [ha] at hb
      cases hb
      exact hn hl
    rw [z_up_n _ _ hne]
    exact hb
  · by_cases hya : y = a
    · subst hya
      exact ho hy
    · obtain ⟨ci, fs, g1, g2⟩ := hy
      exact ⟨ci, fs, by rw [z_up_n _ _ hya]; exact g1, g2⟩
theorem z_pool_new {La : z_LA} {a : Nat} {e' : va_E} (hp : z_pool G h La) (ha : h a = none) : z_pool G (z_up h a e') La := by
  refine z_pool_fr hp (fun b e2 hb hl => ?_) (fun y hy => ?_)
  · rw [z_up_n _ _ (z_nb ha hb)]
    exact hb
  · obtain ⟨ci, fs, g1, g2⟩ := hy
    exact ⟨ci, fs, by rw [z_up_n _ _ (z_nb ha g1)]; exact g1, g2⟩
theorem P_size {La : z_LA} {al d cap : Nat} {xs : List Nat} (hp : z_pool G h La) (hl : La al = some (d, xs, cap)) : z_C G A m_AL_size 0 0 [.ref al] h (z_pu (some (.int (nI xs.length))) h) := by
  obtain ⟨mo, a1⟩ := (hp.1 al d xs cap hl).1.1
  exact c_AL_size (v2 := .null) a1
theorem P_ob {La : z_LA} {al d cap : Nat} {xs : List Nat} (hp : z_pool G h La) (hl : La al = some (d, xs, cap)) : ∃ fs, h al = some (z_ob 6 fs) := by
  obtain ⟨mo, a1⟩ := (hp.1 al d xs cap hl).1.1
  exact ⟨_, a1⟩
theorem P_lt {La : z_LA} {al d cap : Nat} {xs : List Nat} (hp : z_pool G h La) (hl : La al = some (d, xs, cap)) : xs.length < 2 ^ 20 := z_AL_len (hp.1 al d xs cap hl).1
theorem P_isEmpty {La : z_LA} {al d cap : Nat} {xs : List Nat} (hp : z_pool G h La) (hl : La al = some (d, xs, cap)) : z_C G A m_AL_isEmpty 0 0 [.ref al] h (z_pu (some (.int (if xs.length = 0 then 1 else 0))) h) := by
  obtain ⟨mo, a1⟩ := (hp.1 al d xs cap hl).1.1
  exact c_AL_isEmpty a1 (by have := P_lt hp hl; omega)
theorem P_get {La : z_LA} {al d cap i b : Nat} {xs : List Nat} (hp : z_pool G h La) (hl : La al = some (d, xs, cap)) (hi : xs[i]? = some b) : z_C G A m_AL_get 0 0 [.ref al, .int (nI i)] h (z_pu (some (.ref b)) h) := c_AL_get (hp.1 al d xs cap hl).1 hi
theorem P_clear {La : z_LA} {al d cap : Nat} {xs : List Nat} (hp : z_pool G h La) (hl : La al = some (d, xs, cap)) : z_C G A m_AL_clear 0 0 [.ref al] h (fun v h' k n => v = none ∧ k = 0 ∧ n = 0 ∧ z_pool G h' (z_lu La al (d, [], cap)) ∧ z_nl G h h') := by
  refine (c_AL_clear (hp.1 al d xs cap hl).1).mono (fun h0 v h' k n h0' hp' => ?_)
  obtain ⟨e1, e2, e3, e4, e5⟩ := hp'
  have := z_pool_upd hp h0 h0' hl e4 (Or.inl rfl) e5 (fun y hy => absurd hy List.not_mem_nil)
  exact ⟨e1, e2, e3, this.1, this.2⟩
theorem P_set {La : z_LA} {al d cap i b y : Nat} {xs : List Nat} (hp : z_pool G h La) (hl : La al = some (d, xs, cap)) (hi : xs[i]? = some b) (hy : z_isob h y) : z_C G A m_AL_set 0 0 [.ref al, .int (nI i), .ref y] h (fun v h' k n => v = some (.ref b) ∧ k = 0 ∧ n = 0 ∧ z_pool G h' (z_lu La al (d, xs.set i y, cap)) ∧ z_nl G h h') := by
  have hg := hp.1 al d xs cap hl
  refine (c_AL_set hg.1 hi hy).mono (fun h0 v h' k n h0' hp' => ?_)
  obtain ⟨e1, e2, e3, e4, e5⟩ := hp'
  have := z_pool_upd hp h0 h0' hl e4 (Or.inl rfl) e5 (fun z hz => by
    rcases List.mem_or_eq_of_mem_set hz with q | q
    · exact hg.2 z q
    · rw [q]; exact hy)
  exact ⟨e1, e2, e3, this.1, this.2⟩
theorem P_remove {La : z_LA} {al d cap i b : Nat} {xs : List Nat} (hp : z_pool G h La) (hl : La al = some (d, xs, cap)) (hi : xs[i]? = some b) : z_C G A m_AL_remove 0 0 [.ref al, .int (nI i)] h (fun v h' k n => v = some (.ref b) ∧ k = 0 ∧ n = 0 ∧ z_pool G h' (z_lu La al (d, xs.eraseIdx i, cap)) ∧ z_nl G h h') := by
  have hg := hp.1 al d xs cap hl
  refine (c_AL_remove hg.1 hi hg.2).mono (fun h0 v h' k n h0' hp' => ?_)
  obtain ⟨e1, e2, e3, e4, e5⟩ := hp'
  have := z_pool_upd hp h0 h0' hl e4 (Or.inl rfl) e5 (fun z hz => hg.2 z ((List.eraseIdx_sublist xs i).mem hz))
  exact ⟨e1, e2, e3, this.1, this.2⟩
theorem P_add {La : z_LA} {al d cap y : Nat} {xs : List Nat} (hp : z_pool G h La) (hl : La al = some (d, xs, cap)) (hy : z_isob h y) (hc : cap < 2 ^ 18) : z_C G A m_AL_add_L 1 (2 * cap + 10) [.ref al, .ref y] h (fun v h' k n => v = some (.int 1) ∧ ∃ d' cap', z_pool G h' (z_lu La al (d', xs ++ [y], cap')) ∧ z_nl G h h' ∧ z_gw cap xs.length cap' k n) := by
  have hg := hp.1 al d xs cap hl
  refine (c_AL_add hg.1 hg.2 hy (by omega)).mono (fun h0 v h' k n h0' hp' => ?_)
  obtain ⟨e1, d', cap', e2, e3, e4, e5⟩ := hp'
  have := z_pool_upd hp h0 h0' hl e2 e3 e4 (fun z hz => by
    rcases List.mem_append.mp hz with q | q
    · exact hg.2 z q
    · rw [List.mem_singleton.mp q]; exact hy)
  exact ⟨e1, d', cap', this.1, this.2, e5⟩
theorem P_addAt {La : z_LA} {al d cap y i : Nat} {xs : List Nat} (hp : z_pool G h La) (hl : La al = some (d, xs, cap)) (hi : i ≤ xs.length) (hy : z_isob h y) (hc : cap < 2 ^ 18) : z_C G A m_AL_add_IL 1 (2 * cap + 10) [.ref al, .int (nI i), .ref y] h (fun v h' k n => v = none ∧ ∃ d' cap', z_pool G h' (z_lu La al (d', xs.take i ++ y :: xs.drop i, cap')) ∧ z_nl G h h' ∧ z_gw cap xs.length cap' k n) := by
  have hg := hp.1 al d xs cap hl
  refine (c_AL_addAt hg.1 hi hg.2 hy (by omega)).mono (fun h0 v h' k n h0' hp' => ?_)
  obtain ⟨e1, d', cap', e2, e3, e4, e5⟩ := hp'
  have := z_pool_upd hp h0 h0' hl e2 e3 e4 (fun z hz => by
    rcases List.mem_append.mp hz with q | q
    · exact hg.2 z (List.mem_of_mem_take q)
    · rcases List.mem_cons.mp q with q | q
      · rw [q]; exact hy
      · exact hg.2 z (List.mem_of_mem_drop q))
  exact ⟨e1, d', cap', this.1, this.2, e5⟩
end ZPL
