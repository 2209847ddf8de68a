/-! more rows: new arrays, casts, returns, Math, class objects, Object.<init> -/
section ZS
variable {G : z_G} {A : Nat → Prop} {x : z_X} {M : z_M} {mc ms k n pc pc' : Nat} {Post : z_T} {h : z_H} {L L' : List (Option Value)} {st : List Value}
theorem z_dne {s : State} {H : Heap} {locs : List Loc} (hZ : z_Z G A s s.heap) (hS : va_S A s.heap H locs) {q : Nat} (hq : A q) : q ≠ z_d0 G := fun e => (hZ.2.kept hS.2.1).out (e ▸ hq)
theorem z_adj {s : State} {H : Heap} {locs : List Loc} (hZ : z_Z G A s s.heap) (hS : va_S A s.heap H locs) : va_S (fun q => A q ∧ q ≠ z_d0 G) s.heap H locs := by
  refine ⟨hS.1, fun q h1 h2 => ?_, fun l hl => ⟨hS.2.2 l hl, z_dne hZ hS (hS.2.2 l hl)⟩⟩
  by_cases hA' : A q
  · exact absurd ⟨hA', z_dne hZ hS hA'⟩ h2
  · exact hS.2.1 q h1 hA'
theorem z_adj2 {s : State} {H : Heap} {locs : List Loc} (hS : va_S (fun q => A q ∧ q ≠ z_d0 G) s.heap H locs) : va_S A s.heap H locs :=
  ⟨hS.1, fun q h1 h2 => hS.2.1 q h1 (fun z => h2 z.1), fun l hl => (hS.2.2 l hl).1⟩
theorem z_newarr (X : z_O G A x M mc ms Post) {w : Nat} (hd : decode M.2.1 pc = .ok (.newarray .int, 2)) (hw : w < 2 ^ 20) (hk : k + 1 ≤ mc ∧ n + w ≤ ms) (hp : pc + 2 = pc') (kk : ∀ a : Nat, h a = none → a ≠ z_d0 G → z_V G A x (z_up h a (z_ia G w (fun _ => 0))) (k + 1) (n + w) pc' L (.ref a :: st)) : z_V G A x h k n pc L (.int (nI w) :: st) := by
  subst hp
  obtain ⟨p, e, R, s, m, args, below, meth, c, Q⟩ := x
  obtain ⟨hx, hb, hml, hown, hK, hR, hret, hnm, hlk, hA, hZ, hQ⟩ := X
  intro H locs ls hP hS hL
  subst hR
  obtain ⟨ws, wP, wD, wE⟩ := z_lift hP
  have harr : (Cond.arrayClass (newarray.typeOf .int)).before args s = true := word_at (State.WarmedH.refl s) (Or.inr ⟨FieldType.int, rfl⟩) hK.2.1
  have hcell : ∀ cA : ClassId, vp_cell cA (w, .inl (fun _ => 0)) = arrV cA w (fun _ => defaultValue .int) := fun cA => by
    rw [vp_cell_i]
    rfl
  have hb1 : w * componentBytes .int ≤ 536870912 := by
    show w * 4 ≤ 536870912
    omega
  have hpos : ¬ nI w < 0 := nI_pos (by omega)
  have hcl : (nI w).toNatClampNeg = w := nI_clamp (by omega)
  refine va_newa (A := fun q => A q ∧ q ≠ z_d0 G) (ty := .int) (a0 := (w, .inl (fun _ => 0))) hx hb harr rfl hK.2.2.2.2.2.1 wP ⟨wD.1, fun k q hk => ⟨wD.2 k q hk, z_dne hZ hS (wD.2 k q hk)⟩⟩ (z_adj hZ hS) (fun q hq => ⟨hA q hq, z_dne hZ hS (hA q hq)⟩) hcell hpos hcl hb1 hk.1 hk.2 hd (fun a cA H1 k1 p1 d1 s1 => ?_)
  have hc : cA = z_cI G := by
    have h1 : va_RA s cA .int := (k1.2 3 (cA, .int) rfl).2
    have h2 : va_RA s (z_cI G) .int := (hK.2.2.2.2.2.1.2 0 (z_cI G, .int) rfl).2
    exact Option.some.inj (h1.symm.trans h2)
  subst hc
  have d2 : va_D A (ws ++ [(a, z_ia G w (fun _ => 0))]) := ⟨d1.1, fun k q hk => (d1.2 k q hk).1⟩
  obtain ⟨g1, g2⟩ := z_push wE p1 d2
  have g3 : a ≠ z_d0 G := (d1.2 ws.length (a, z_ia G w (fun _ => 0)) (by simp)).2
  exact kk a g1 g3 H1 locs ls g2 (z_adj2 s1) hL
theorem z_anew {C : String} {cA : ClassId} (t0 : Nat) (X : z_O G A x M mc ms Post) {idx w : Nat} (hw0 : Cond.classLink M.1.cls idx C ∈ lw_tbl) (hao : ∀ U, z_K G U → va_AO C U) (ht : (z_tys G)[t0]? = some (cA, .object C)) (hd : decode M.2.1 pc = .ok (.anewarray idx, 3)) (hw : w < 2 ^ 20) (hk : k + 1 ≤ mc ∧ n + w ≤ ms) (hp : pc + 3 = pc') (kk : ∀ a : Nat, h a = none → a ≠ z_d0 G → z_V G A x (z_up h a (z_ra cA w (fun _ => none))) (k + 1) (n + w) pc' L (.ref a :: st)) : z_V G A x h k n pc L (.int (nI w) :: st) := by
  subst hp
  obtain ⟨p, e, R, s, m, args, below, meth, c, Q⟩ := x
  obtain ⟨hx, hb, hml, hown, hK, hR, hret, hnm, hlk, hA, hZ, hQ⟩ := X
  intro H locs ls hP hS hL
  subst hR
  obtain ⟨ws, wP, wD, wE⟩ := z_lift hP
  refine va_newq (A := fun q => A q ∧ q ≠ z_d0 G) hx hb hown (hK.w hw0 rfl) (hao s hK) hK.2.2.2.2.2.1 wP ⟨wD.1, fun k q hk => ⟨wD.2 k q hk, z_dne hZ hS (wD.2 k q hk)⟩⟩ (z_adj hZ hS) (fun q hq => ⟨hA q hq, z_dne hZ hS (hA q hq)⟩) (nI_pos (by omega)) (nI_clamp (by omega)) (by omega) hk.1 hk.2 hd (fun a cA' H1 k1 p1 d1 s1 => ?_)
  have hc : cA' = cA := by
    obtain ⟨_, _, _, _, _, h1⟩ := (k1.2 3 (cA', .object C) rfl).2
    obtain ⟨_, _, _, _, _, h2⟩ := (hK.2.2.2.2.2.1.2 t0 (cA, .object C) ht).2
    exact Option.some.inj (h1.symm.trans h2)
  subst hc
  have d2 : va_D A (ws ++ [(a, z_ra cA' w (fun _ => none))]) := ⟨d1.1, fun k q hk => (d1.2 k q hk).1⟩
  obtain ⟨g1, g2⟩ := z_push wE p1 d2
  have g3 : a ≠ z_d0 G := (d1.2 ws.length (a, z_ra cA' w (fun _ => none)) (by simp)).2
  exact kk a g1 g3 H1 locs ls g2 (z_adj2 s1) hL
theorem z_cast (X : z_O G A x M mc ms Post) {idx a ci : Nat} {fs : List Value} {q : vw_C} {nm : String} (hw : Cond.classLink M.1.cls idx nm ∈ lw_tbl) (hw2 : Cond.castable q.1 nm ∈ lw_tbl) (hd : decode M.2.1 pc = .ok (.checkcast idx, 3)) (ha : h a = some (z_ob ci fs)) (hc : classes[ci]? = some q) (hp : pc + 3 = pc') (kk : z_V G A x h k n pc' L (.ref a :: st)) : z_V G A x h k n pc L (.ref a :: st) := by
  subst hp
  obtain ⟨p, e, R, s, m, args, below, meth, c, Q⟩ := x
  obtain ⟨hx, hb, hml, hown, hK, hR, hret, hnm, hlk, hA, hZ, hQ⟩ := X
  intro H locs ls hP hS hL
  exact va_castY hx hb hown (hK.w hw rfl) (va_Nw.of (A := args) rfl (hK.w hw2 rfl)) (z_rcv hK hP ha hc) hd (kk H locs ls hP hS hL)
theorem z_castN (X : z_O G A x M mc ms Post) {idx : Nat} (hd : decode M.2.1 pc = .ok (.checkcast idx, 3)) (hp : pc + 3 = pc') (kk : z_V G A x h k n pc' L (.null :: st)) : z_V G A x h k n pc L (.null :: st) := by
  subst hp
  obtain ⟨p, e, R, s, m, args, below, meth, c, Q⟩ := x
  obtain ⟨hx, hb, hml, hown, hK, hR, hret, hnm, hlk, hA, hZ, hQ⟩ := X
  intro H locs ls hP hS hL
  exact lv_castN hx hb hd (kk H locs ls hP hS hL)
theorem z_mono {p : Program} {l : Launch} {e : Env} {R : Room} {s : State} {m : MethodId} {args : Array Value} {below : List Frame} {meth : Method} {c : Code} {H : Heap} {locs : List Loc} {cells slots : Nat} {Q Q' : State → Prop} {g : JFrame} (hq : ∀ t, Q t → Q' t) (w : W p l e R s m args below meth c H locs cells slots Q g) : W p l e R s m args below meth c H locs cells slots Q' g := by
  intro T hT X
  obtain ⟨t, a, b⟩ := w T hT X
  exact ⟨t, a, hq t b⟩
theorem z_iret (X : z_O G A x M mc ms Post) {v : Int32} (hr : M.2.2.2.1 = some .int) (hd : decode M.2.1 pc = .ok (.ireturn, 1)) (hp : Post (some (.int v)) h k n) : z_V G A x h k n pc L [.int v] := by
  obtain ⟨p, e, R, s, m, args, below, meth, c, Q⟩ := x
  obtain ⟨hx, hb, hml, hown, hK, hR, hret, hnm, hlk, hA, hZ, hQ⟩ := X
  intro H locs ls hP hS hL
  exact z_mono (hQ k n) (W.iret (Qc := z_Q G A Post k n) (free := A) hx hb (hret.trans hr) (fun t ht _ => ⟨_, h, rfl, by rw [ht]; exact hP, hp, hS.F ht⟩) hS.2.2 hd hlk)
theorem z_zret (X : z_O G A x M mc ms Post) {v : Int32} (hr : M.2.2.2.1 = some .boolean) (hv : v = 0 ∨ v = 1) (hd : decode M.2.1 pc = .ok (.ireturn, 1)) (hp : Post (some (.int v)) h k n) : z_V G A x h k n pc L [.int v] := by
  obtain ⟨p, e, R, s, m, args, below, meth, c, Q⟩ := x
  obtain ⟨hx, hb, hml, hown, hK, hR, hret, hnm, hlk, hA, hZ, hQ⟩ := X
  intro H locs ls hP hS hL
  exact z_mono (hQ k n) (W.zret (Qc := z_Q G A Post k n) (free := A) hx hb (hret.trans hr) (by rcases hv with rfl | rfl <;> rfl) (fun t ht _ => ⟨_, h, rfl, by rw [ht]; exact hP, hp, hS.F ht⟩) hS.2.2 hd hlk)
theorem z_lret (X : z_O G A x M mc ms Post) {v : Int64} (hr : M.2.2.2.1 = some .long) (hd : decode M.2.1 pc = .ok (.lreturn, 1)) (hp : Post (some (.long v)) h k n) : z_V G A x h k n pc L [.long v] := by
  obtain ⟨p, e, R, s, m, args, below, meth, c, Q⟩ := x
  obtain ⟨hx, hb, hml, hown, hK, hR, hret, hnm, hlk, hA, hZ, hQ⟩ := X
  intro H locs ls hP hS hL
  exact z_mono (hQ k n) (W.lret (Qc := z_Q G A Post k n) (free := A) hx hb (hret.trans hr) (fun t ht _ => ⟨_, h, rfl, by rw [ht]; exact hP, hp, hS.F ht⟩) hS.2.2 hd hlk)
theorem z_vret (X : z_O G A x M mc ms Post) (hr : M.2.2.2.1 = none) (hd : decode M.2.1 pc = .ok (.return_, 1)) (hp : Post none h k n) : z_V G A x h k n pc L [] := by
  obtain ⟨p, e, R, s, m, args, below, meth, c, Q⟩ := x
  obtain ⟨hx, hb, hml, hown, hK, hR, hret, hnm, hlk, hA, hZ, hQ⟩ := X
  intro H locs ls hP hS hL
  exact z_mono (hQ k n) (W.vret (Qc := z_Q G A Post k n) (free := A) hx hb (hret.trans hr) (fun t ht _ => ⟨_, h, rfl, by rw [ht]; exact hP, hp, hS.F ht⟩) hS.2.2 hd hlk)
theorem z_aret (X : z_O G A x M mc ms Post) {v : Value} {rt : FieldType} (hr : M.2.2.2.1 = some rt) (hrt : (∃ n, rt = .object n) ∨ ∃ t, rt = .array t) (hv : v = .null ∨ ∃ a, v = .ref a) (hd : decode M.2.1 pc = .ok (.areturn, 1)) (hp : Post (some v) h k n) : z_V G A x h k n pc L [v] := by
  obtain ⟨p, e, R, s, m, args, below, meth, c, Q⟩ := x
  obtain ⟨hx, hb, hml, hown, hK, hR, hret, hnm, hlk, hA, hZ, hQ⟩ := X
  intro H locs ls hP hS hL
  exact z_mono (hQ k n) (W.aret (Qc := z_Q G A Post k n) (free := A) hx hb (hret.trans hr) hrt hv (fun t ht _ => ⟨_, h, rfl, by rw [ht]; exact hP, hp, hS.F ht⟩) hS.2.2 hd hlk)
theorem z_mmax (X : z_O G A x M mc ms Post) {idx : Nat} {a b : Int32} (h1 : Cond.methodLink M.1.cls idx Lib.Math.max.name ∈ lw_tbl) (h2 : Cond.static Lib.Math.max.name ∈ lw_tbl) (h3 : Cond.initialized "java/lang/Math" ∈ lw_tbl) (h4 : Cond.code Lib.Math.max.name Lib.Math.max.code 2 (some .int) ∈ lw_tbl) (hd : decode M.2.1 pc = .ok (.invokestatic idx, 3)) (hll : L.length = M.2.2.1) (hrm : 1 ≤ M.2.2.2.2.1 ∧ 40 ≤ M.2.2.2.2.2) (hrest : (st.map fun v => v.category).sum ≤ 8) (hk : k ≤ mc ∧ n ≤ ms) (hp : pc + 3 = pc') (kk : z_V G A x h k n pc' L (.int (if a < b then b else a) :: st)) : z_V G A x h k n pc L (.int b :: .int a :: st) := by
  subst hp
  obtain ⟨p, e, R, s, m, args, below, meth, c, Q⟩ := x
  obtain ⟨hx, hb, hml, hown, hK, hR, hret, hnm, hlk, hA, hZ, hQ⟩ := X
  intro H locs ls hP hS hL
  subst hR
  exact va_mmax hx hb (by rw [hml, ← hll, hL.1]) hown (hK.w h1 rfl) (hK.w h2 rfl) (hK.w h3 rfl) (hK.w h4 rfl) hrm.1 (by show _ ≤ M.2.2.2.2.2; omega) hk.1 hk.2 hd (kk H locs ls hP hS hL)
theorem z_mmin (X : z_O G A x M mc ms Post) {idx : Nat} {a b : Int32} (h1 : Cond.methodLink M.1.cls idx Lib.Math.min.name ∈ lw_tbl) (h2 : Cond.static Lib.Math.min.name ∈ lw_tbl) (h3 : Cond.initialized "java/lang/Math" ∈ lw_tbl) (h4 : Cond.code Lib.Math.min.name Lib.Math.min.code 2 (some .int) ∈ lw_tbl) (hd : decode M.2.1 pc = .ok (.invokestatic idx, 3)) (hll : L.length = M.2.2.1) (hrm : 1 ≤ M.2.2.2.2.1 ∧ 40 ≤ M.2.2.2.2.2) (hrest : (st.map fun v => v.category).sum ≤ 8) (hk : k ≤ mc ∧ n ≤ ms) (hp : pc + 3 = pc') (kk : z_V G A x h k n pc' L (.int (if b < a then b else a) :: st)) : z_V G A x h k n pc L (.int b :: .int a :: st) := by
  subst hp
  obtain ⟨p, e, R, s, m, args, below, meth, c, Q⟩ := x
  obtain ⟨hx, hb, hml, hown, hK, hR, hret, hnm, hlk, hA, hZ, hQ⟩ := X
  intro H locs ls hP hS hL
  subst hR
  exact va_mmin hx hb (by rw [hml, ← hll, hL.1]) hown (hK.w h1 rfl) (hK.w h2 rfl) (hK.w h3 rfl) (hK.w h4 rfl) hrm.1 (by show _ ≤ M.2.2.2.2.2; omega) hk.1 hk.2 hd (kk H locs ls hP hS hL)
theorem z_obj (X : z_O G A x M mc ms Post) {idx a : Nat} (h1 : Cond.methodLink M.1.cls idx objectInit ∈ lw_tbl) (h2 : Cond.instanceMethod objectInit ∈ lw_tbl) (h3 : Cond.code objectInit ⟨#[0xb1]⟩ 1 none ∈ lw_tbl) (hd : decode M.2.1 pc = .ok (.invokespecial idx, 3)) (hll : L.length = M.2.2.1) (hrm : 1 ≤ M.2.2.2.2.1 ∧ 40 ≤ M.2.2.2.2.2) (hrest : (st.map fun v => v.category).sum ≤ 8) (hp : pc + 3 = pc') (kk : z_V G A x h k n pc' L st) : z_V G A x h k n pc L (.ref a :: st) := by
  subst hp
  obtain ⟨p, e, R, s, m, args, below, meth, c, Q⟩ := x
  obtain ⟨hx, hb, hml, hown, hK, hR, hret, hnm, hlk, hA, hZ, hQ⟩ := X
  intro H locs ls hP hS hL
  subst hR
  exact W.objInit hx hb hown (hK.w h1 rfl) (hK.w h2 rfl) (hK.w h3 rfl) rfl (by show ls.size = _; rw [hL.1, hml, hll]) rfl hd hrm.1 (by have := z_mroom (m := m) (pc := pc) (ls := ls) (st := .ref a :: st) hrest; show _ ≤ M.2.2.2.2.2; omega) (kk H locs ls hP hS hL)
theorem z_ldcM (X : z_O G A x M mc ms Post) {idx : Nat} (hw : Cond.classLink M.1.cls idx "[Ljava/lang/Object;" ∈ lw_tbl) (hd : decode M.2.1 pc = .ok (.ldc idx, 2)) (hp : pc + 2 = pc') (kk : z_V G A x h k n pc' L (.ref (z_mi G) :: st)) : z_V G A x h k n pc L st := by
  subst hp
  obtain ⟨p, e, R, s, m, args, below, meth, c, Q⟩ := x
  obtain ⟨hx, hb, hml, hown, hK, hR, hret, hnm, hlk, hA, hZ, hQ⟩ := X
  intro H locs ls hP hS hL
  exact va_ldcM hx hb hown (hK.w hw rfl) hK.2.2.2.2.2.2 hd (kk H locs ls hP hS hL)
abbrev z_gc : MethodName := ⟨"java/lang/Object", "getClass", "()Ljava/lang/Class;"⟩
theorem z_getC (X : z_O G A x M mc ms Post) {idx a w : Nat} {f : Nat → Option Nat} (h1 : Cond.methodLink M.1.cls idx z_gc ∈ lw_tbl) (h2 : Cond.declares z_gc ∈ lw_tbl) (h3 : Cond.selects "[Ljava/lang/Object;" z_gc z_gc ∈ lw_tbl) (h4 : Cond.instanceMethod z_gc ∈ lw_tbl) (h5 : Cond.native z_gc ∈ lw_tbl) (hd : decode M.2.1 pc = .ok (.invokevirtual idx, 3)) (ha : h a = some (z_ra (z_cO G) w f)) (hll : L.length = M.2.2.1) (hrm : 1 ≤ M.2.2.2.2.1 ∧ 40 ≤ M.2.2.2.2.2) (hrest : (st.map fun v => v.category).sum ≤ 8) (hp : pc + 3 = pc') (kk : z_V G A x h k n pc' L (.ref (z_mi G) :: st)) : z_V G A x h k n pc L (.ref a :: st) := by
  subst hp
  obtain ⟨p, e, R, s, m, args, below, meth, c, Q⟩ := x
  obtain ⟨hx, hb, hml, hown, hK, hR, hret, hnm, hlk, hA, hZ, hQ⟩ := X
  intro H locs ls hP hS hL
  subst hR
  have hc := (hP a _ ha).1
  have hnmc : s.vm.findClass "[Ljava/lang/Object;" = some (z_cO G) := va_nmO (hK.2.2.2.2.2.1.2 1 (z_cO G, .object "java/lang/Object") rfl).2 (by decide)
  exact va_getC hx hb (by rw [hml, ← hll, hL.1]) hown (hK.w h1 rfl) (hK.w h2 rfl) (hK.w h3 rfl) (hK.w h4 rfl) (hK.w h5 rfl) hK.2.2.2.2.2.2 ⟨_, hc, rfl, hnmc⟩ hrm.1 (by show _ ≤ M.2.2.2.2.2; omega) hd (kk H locs ls hP hS hL)
end ZS
