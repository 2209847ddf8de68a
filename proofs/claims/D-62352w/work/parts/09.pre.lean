/-! small words: pure answers, lists -/
def z_pu (r : Option Value) (h : z_H) : z_T := fun v h' k n => v = r ∧ h' = h ∧ k = 0 ∧ n = 0
theorem z_kp {G : z_G} {A : Nat → Prop} {x : z_X} {h : z_H} {k n pc : Nat} {L : List (Option Value)} {st : List Value} {r : Option Value} (kk : z_V G A x h k n pc L (z_ps r st)) : ∀ (v : Option Value) (h' : z_H) (k' n' : Nat), z_pu r h v h' k' n' → z_V G A x h' (k + k') (n + n') pc L (z_ps v st) := by
  rintro v h' k' n' ⟨rfl, rfl, rfl, rfl⟩
  exact kk
theorem z_i1 (i : Nat) : nI i + Int32.ofInt 1 = nI (i + 1) := nI_1 i
theorem z_uu (h : z_H) (a : Nat) (e1 e2 : va_E) : z_up (z_up h a e1) a e2 = z_up h a e2 := by
  funext b
  unfold z_up
  split <;> rfl
/-- b was known and is still the same, if it isn't one of S -/
def z_fr (h h' : z_H) (S : List Nat) : Prop := ∀ (b : Nat) (e : va_E), h b = some e → b ∉ S → h' b = some e
theorem z_fr_rf (h : z_H) (S : List Nat) : z_fr h h S := fun _ _ hb _ => hb
theorem z_fr_tr {h h1 h2 : z_H} {S : List Nat} (h01 : z_fr h h1 S) (h12 : z_fr h1 h2 S) : z_fr h h2 S := fun b e hb hs => h12 b e (h01 b e hb hs) hs
/-- a list object at al, its array d (the empty one or one of its own), its elements xs, its room cap -/
def z_AL (G : z_G) (h : z_H) (al d : Nat) (xs : List Nat) (cap : Nat) : Prop :=
  (∃ mo : Int32, h al = some (z_ob 6 [.int mo, .ref d, .int (nI xs.length)])) ∧ xs.length ≤ cap ∧ cap < 2 ^ 20 ∧
  ((cap = 0 ∧ d = z_d0 G) ∨ (0 < cap ∧ ∃ f : Nat → Option Nat, h d = some (z_ra (z_cO G) cap f) ∧ ∀ i, i < xs.length → f i = xs[i]?))
def z_isob (h : z_H) (y : Nat) : Prop := ∃ (ci : Nat) (fs : List Value), h y = some (z_ob ci fs) ∧ (ci < 6 ∨ ci = 7)
theorem z_isob_c {h : z_H} {y : Nat} (hy : z_isob h y) : ∃ (ci : Nat) (q : vw_C) (fs : List Value), h y = some (z_ob ci fs) ∧ classes[ci]? = some q ∧ Cond.castable q.1 "java/lang/Object" ∈ lw_tbl := by
  obtain ⟨ci, fs, h1, h2⟩ := hy
  have hl : ci < classes.length := by
    show ci < 8
    omega
  exact ⟨ci, classes[ci], fs, h1, List.getElem?_eq_getElem hl, z_co ci _ (List.getElem?_eq_getElem hl) h2⟩
/-- the room that a full list of room cap gets -/
def z_grow (cap mn : Nat) : Nat := if cap = 0 then (if 10 < mn then mn else 10) else cap + (if mn - cap < cap / 2 then cap / 2 else mn - cap)
theorem z_AL_len {G : z_G} {h : z_H} {al d cap : Nat} {xs : List Nat} (hA : z_AL G h al d xs cap) : xs.length < 2 ^ 20 := Nat.lt_of_le_of_lt hA.2.1 hA.2.2.1
theorem z_AL_fr {G : z_G} {h h' : z_H} {al d cap : Nat} {xs : List Nat} {S : List Nat} (hA : z_AL G h al d xs cap) (hf : z_fr h h' S) (h1 : al ∉ S) (h2 : d ∉ S) : z_AL G h' al d xs cap := by
  obtain ⟨⟨mo, a1⟩, a2, a3, a4⟩ := hA
  refine ⟨⟨mo, hf _ _ a1 h1⟩, a2, a3, ?_⟩
  rcases a4 with a4 | ⟨b1, f, b2, b3⟩
  · exact Or.inl a4
  · exact Or.inr ⟨b1, f, hf _ _ b2 h2, b3⟩
