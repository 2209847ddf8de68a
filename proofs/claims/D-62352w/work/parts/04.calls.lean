/-! calls: a contract at a call -/
def z_ps (v : Option Value) (st : List Value) : List Value := match v with
  | none => st
  | some a => a :: st
theorem z_ps_eq (v : Option Value) (st : List Value) : v.toList ++ st = z_ps v st := by cases v <;> rfl
theorem z_back {G : z_G} {A : Nat → Prop} {M : z_M} {mc ms : Nat} {sv : List Value} {h : z_H} {Post : z_T} {p : Program} {e : Env} {R : Room} {s : State} {args : Array Value} {below : List Frame} (len : Nat)
    (hC : z_C G A M mc ms sv h Post) (hK : z_K G s) (hfr : M.2.2.2.2.1 + 1 ≤ R.frames) (hlo : 8 + (M.2.2.1 + 11) + M.2.2.2.2.2 ≤ R.locals) (hcode : Cond.code M.1 M.2.1 M.2.2.1 M.2.2.2.1 ∈ lw_tbl) (hini : Cond.initialized M.1.cls ∈ lw_tbl) :
    Back G.1 R p e below s args M.1 len 8 (fun A0 a => A0.cells + mc ≤ R.cells ∧ A0.slots + ms ≤ R.slots ∧ z_Pc G A sv h a A0.U)
      (fun A0 _ v B => ∃ (t : State) (L : List Loc) (k n : Nat) (h' : z_H), B.U.heap = t.heap ∧ B.locs = A0.locs ++ L ∧ (∀ q ∈ L, A q.base) ∧ B.cells = A0.cells + k ∧ B.slots = A0.slots + n ∧ z_P G A h' t.heap ∧ Post v h' k n ∧ A0.U.heap.size ≤ t.heap.size ∧ ∀ q : Nat, q < A0.U.heap.size → ¬ A q → t.heap[q]? = A0.U.heap[q]?) := by
  refine Back.of_free (S := headSpec [.code M.1 M.2.1 M.2.2.1 M.2.2.2.1] (z_R M mc ms)) (P := z_Pc G A sv h) (K := fun _ _ _ _ _ => True) (bytes := M.2.1) (maxL := M.2.2.1) (ret := M.2.2.2.1)
    (E := fun a st o t L k n => (∀ q ∈ L, A q.base) ∧ z_Q G A Post k n a st o t) hC hfr hlo ?_ ?_ (fun _ _ _ _ _ _ _ _ _ => trivial) ?_ ?_
  · intro m meth c A0 a X hp
    have hK' := hK.moved X.warmed
    have hc : (Cond.code M.1 M.2.1 M.2.2.1 M.2.2.2.1).before a A0.U = true := hK'.w hcode rfl
    refine ⟨atoms_intro fun w hw => ?_, hc, hK'.w hini rfl, hp.1, hp.2.1⟩
    rw [List.mem_singleton.mp hw]
    exact hc
  · intro m meth c A0 a g mk X hp
    obtain ⟨-, -, q0, q1, q2, q3, q4⟩ := hp
    exact ⟨q0, q1.moved (U := A0.U.calling g mk a) (State.WarmedH.refl A0.U), q2, q3.moved (Vm.Alike.refl A0.U.vm), q4⟩
  · intro a st o t ⟨L, k, n, hF, hL, hq⟩
    exact ⟨L, k, n, hF, hL, hq⟩
  · intro m meth c A0 a g mk v t L k n X hp hq hF hE
    obtain ⟨hL, v', h', hv, hP', hpost, hz, hk⟩ := hE
    cases hv
    exact ⟨t, L, k, n, h', rfl, rfl, hL, rfl, rfl, hP', hpost, hz, hk⟩
section ZC
variable {G : z_G} {A : Nat → Prop} {p : Program} {e : Env} {R : Room} {s : State} {m : MethodId} {args : Array Value} {below : List Frame} {meth : Method} {c : Code} {Q : State → Prop} {H : Heap} {locs : List Loc} {ls : Array Slot} {h : z_H} {k n pc len : Nat} {L : List (Option Value)} {st rest : List Value} {Post : z_T} {a : Array Value}
theorem z_fin (hS : va_S A s.heap H locs) (hL : z_L ls L)
    (hr : ∀ T : State, T.heap = H → Stand p G.1 e R s m args below meth c T locs k n → ∃ (v : Option Value) (vm₁ : Vm) (B : Pt), s.WarmedH vm₁ ∧ Stand p G.1 e R s m args below meth c B.U B.locs B.cells B.slots ∧
      (∃ (t : State) (L : List Loc) (k' n' : Nat) (h' : z_H), B.U.heap = t.heap ∧ B.locs = locs ++ L ∧ (∀ q ∈ L, A q.base) ∧ B.cells = k + k' ∧ B.slots = n + n' ∧ z_P G A h' t.heap ∧ Post v h' k' n' ∧ T.heap.size ≤ t.heap.size ∧ ∀ q : Nat, q < T.heap.size → ¬ A q → t.heap[q]? = T.heap[q]?) ∧
      ∀ target, Steps p.tables e below (B.U.setTop (F0 m (pc + len) ls (v.toList ++ rest))) target → Steps p.tables e below (T.setTop (F0 m pc ls st)) target)
    (kk : ∀ (v : Option Value) (h' : z_H) (k' n' : Nat), Post v h' k' n' → z_V G A (p, e, R, s, m, args, below, meth, c, Q) h' (k + k') (n + n') (pc + len) L (z_ps v rest)) : W p G.1 e R s m args below meth c H locs k n Q (F0 m pc ls st) := by
  intro T hT X
  obtain ⟨v, vm₁, ⟨U', l2, c2, s2⟩, hW₁, X', ⟨t, L', k', n', h', e1, e2, hL', e3, e4, hP', hp, hz, hk⟩, hst⟩ := hr T hT X
  dsimp only [Pt.U, Pt.locs, Pt.cells, Pt.slots] at X' e1 e2 e3 e4 hst
  subst e2; subst e3; subst e4
  rw [hT] at hz hk
  obtain ⟨t2, a1, b1⟩ := kk v h' k' n' hp U'.heap (locs ++ L') ls (by rw [e1]; exact hP') ⟨Nat.le_trans hS.1 (by rw [e1]; exact hz), fun q h1 h2 => by rw [e1, hk q (Nat.lt_of_lt_of_le h1 hS.1) h2]; exact hS.2.1 q h1 h2, fun q hq => by
      rcases List.mem_append.mp hq with h | h
      · exact hS.2.2 q h
      · exact hL' q h⟩ hL U' rfl X'
  exact ⟨t2, hst t2 (by rw [z_ps_eq]; exact a1), b1⟩
theorem z_pre {sv : List Value} (hK : z_K G s) (hA : ∀ q, s.heap.size ≤ q → A q) (hZ : z_Z G A s s.heap) (hP : z_P G A h H) (hS : va_S A s.heap H locs) {T : State} (hT : T.heap = H) (vm₁ : Vm) (hW : s.WarmedH vm₁) : z_Pc G A sv h sv.toArray (T.setVm vm₁) := by
  have hh : (T.setVm vm₁).heap = H := hT
  refine ⟨rfl, hK.moved hW, fun q hq => hA q (Nat.le_trans hS.1 (by rw [← hh]; exact hq)), ?_, by rw [hh]; exact hP⟩
  rw [hh]
  exact (hZ.kept hS.2.1).moved hW.alike
end ZC
def z_cB (M : z_M) (np : Nat) : Prop := Cond.code M.1 M.2.1 M.2.2.1 M.2.2.2.1 ∈ lw_tbl ∧ Cond.initialized M.1.cls ∈ lw_tbl ∧ (M.1.cls ≠ "java/lang/invoke/MethodHandle" ∧ M.1.cls ≠ "java/lang/invoke/VarHandle") ∧ (parseMethodDescriptor M.1.desc).map (fun d => d.parameters.length) = some np
def z_lk (own : String) (idx : Nat) (y : MethodName) : Prop := Cond.methodLink own idx y ∈ lw_tbl ∨ ∃ host, Cond.methodLinkNest own idx y host ∈ lw_tbl
def z_cS (own : String) (idx : Nat) (M : z_M) (np : Nat) : Prop := z_cB M np ∧ z_lk own idx M.1 ∧ Cond.static M.1 ∈ lw_tbl
def z_cV (own : String) (idx : Nat) (C : String) (M : z_M) (np : Nat) : Prop := z_cB M np ∧ z_lk own idx M.1 ∧ Cond.instanceMethod M.1 ∈ lw_tbl ∧ Cond.selects C M.1 M.1 ∈ lw_tbl
def z_cI' (own : String) (idx : Nat) (M : z_M) (np : Nat) : Prop := z_cB M np ∧ z_lk own idx M.1 ∧ Cond.instanceMethod M.1 ∈ lw_tbl ∧ M.1.name = "<init>" ∧ M.2.2.2.1 = none
def z_cF (own : String) (idx : Nat) (C : String) (y : MethodName) (M : z_M) (np : Nat) : Prop := z_cB M np ∧ Cond.methodLink own idx y ∈ lw_tbl ∧ Cond.selects C y M.1 ∈ lw_tbl ∧ Cond.instanceMethod M.1 ∈ lw_tbl ∧ (y.cls ≠ "java/lang/invoke/MethodHandle" ∧ y.cls ≠ "java/lang/invoke/VarHandle") ∧ y.desc = M.1.desc ∧ ∀ (G : z_G) (U : State), z_K G U → va_Fw C y M.1 U
theorem z_len {y : MethodName} {np : Nat} (h : (parseMethodDescriptor y.desc).map (fun d => d.parameters.length) = some np) : ∀ sig, parseMethodDescriptor y.desc = some sig → np = sig.parameters.length := by
  intro sig hs
  rw [hs] at h
  exact (Option.some.inj h).symm
theorem z_mroom {m : MethodId} {pc : Nat} {ls : Array Slot} {st rest : List Value} (h : (rest.map fun v => v.category).sum ≤ 8) : 2 * (F0 m pc ls st).monitorRoom + (rest.map fun v => v.category).sum ≤ 8 := lv_room h
section ZD
variable {G : z_G} {A : Nat → Prop} {x : z_X} {M M2 : z_M} {mc ms mc2 ms2 np idx k n pc : Nat} {Post Post2 : z_T} {h : z_H} {L : List (Option Value)} {st rest sv As : List Value}
theorem z_rcv {s : State} {H : Heap} {b ci : Nat} {fs : List Value} {q : vw_C} (hK : z_K G s) (hP : z_P G A h H) (hb : h b = some (.inr (ci, fs))) (hc : classes[ci]? = some q) : ∃ cell : Cell, H[b]? = some cell ∧ cell.vm.isStatics = false ∧ s.vm.findClass q.1 = some cell.cls :=
  va_recv (ws := [(b, .inr (ci, fs))]) (q0 := 0) hK.2.2.2.2.2.1 (fun k q hk => by
    have hz : k < 1 := (List.getElem?_eq_some_iff.mp hk).1
    rw [show k = 0 by omega] at hk
    cases hk
    exact (hP _ _ hb).1) hc rfl
theorem z_callS (X : z_O G A x M mc ms Post) (hC : z_C G A M2 mc2 ms2 sv h Post2) (w : z_cS M.1.cls idx M2 np) (hd : decode M.2.1 pc = .ok (.invokestatic idx, 3)) (hst : st = sv.reverse ++ rest) (hn : sv.length = np) (hll : L.length = M.2.2.1) (hrm : M2.2.2.2.2.1 + 1 ≤ M.2.2.2.2.1 ∧ 8 + (M2.2.2.1 + 11) + M2.2.2.2.2.2 ≤ M.2.2.2.2.2) (hrest : (rest.map fun v => v.category).sum ≤ 8) (hk : k + mc2 ≤ mc ∧ n + ms2 ≤ ms)
    (kk : ∀ (v : Option Value) (h' : z_H) (k' n' : Nat), Post2 v h' k' n' → z_V G A x h' (k + k') (n + n') (pc + 3) L (z_ps v rest)) : z_V G A x h k n pc L st := by
  obtain ⟨p, e, R, s, m, args, below, meth, c, Q⟩ := x
  obtain ⟨hx, hb, hml, hown, hK, hR, -, -, -, hA, hZ, -⟩ := X
  intro H locs ls hP hS hL
  subst hR; subst hst
  have hsz : ls.size = c.maxLocals := by rw [hL.1, hml, hll]
  refine z_fin hS hL (fun T hT X => ?_) kk
  obtain ⟨⟨w1, w2, w3, w4⟩, w5, w6⟩ := w
  have hK2 := z_back (p := p) (e := e) (args := args) (below := below) (R := z_R M mc ms) 3 hC hK hrm.1 hrm.2 w1 w2
  rcases w5 with w5 | ⟨host, w5⟩
  · exact callS X hx hown (hK.w w5 rfl) (hK.w w6 rfl) (hK.w w2 rfl) (hK.w w1 rfl) w3 hK2 rfl hsz (argsL := sv) (rest := rest) (fun sig hs => hn.trans (z_len w4 sig hs)) rfl (z_mroom hrest) (by rw [hb]; exact hd) (fun vm₁ hW => ⟨hk.1, hk.2, z_pre hK hA hZ hP hS hT vm₁ hW⟩)
  · exact va_callSN X hx hown (hK.w w5 rfl) (hK.w w6 rfl) (hK.w w2 rfl) (hK.w w1 rfl) w3 hK2 rfl hsz (argsL := sv) (rest := rest) (fun sig hs => hn.trans (z_len w4 sig hs)) rfl (z_mroom hrest) (by rw [hb]; exact hd) (fun vm₁ hW => ⟨hk.1, hk.2, z_pre hK hA hZ hP hS hT vm₁ hW⟩)
theorem z_callV (X : z_O G A x M mc ms Post) {b ci : Nat} {fs : List Value} {q : vw_C} (hC : z_C G A M2 mc2 ms2 (.ref b :: As) h Post2) (w : z_cV M.1.cls idx q.1 M2 np) (hd : decode M.2.1 pc = .ok (.invokevirtual idx, 3)) (hbo : h b = some (.inr (ci, fs))) (hcl : classes[ci]? = some q) (hst : st = As.reverse ++ .ref b :: rest) (hn : As.length = np) (hll : L.length = M.2.2.1) (hrm : M2.2.2.2.2.1 + 1 ≤ M.2.2.2.2.1 ∧ 8 + (M2.2.2.1 + 11) + M2.2.2.2.2.2 ≤ M.2.2.2.2.2) (hrest : (rest.map fun v => v.category).sum ≤ 8) (hk : k + mc2 ≤ mc ∧ n + ms2 ≤ ms)
    (kk : ∀ (v : Option Value) (h' : z_H) (k' n' : Nat), Post2 v h' k' n' → z_V G A x h' (k + k') (n + n') (pc + 3) L (z_ps v rest)) : z_V G A x h k n pc L st := by
  obtain ⟨p, e, R, s, m, args, below, meth, c, Q⟩ := x
  obtain ⟨hx, hb, hml, hown, hK, hR, -, -, -, hA, hZ, -⟩ := X
  intro H locs ls hP hS hL
  subst hR; subst hst
  have hsz : ls.size = c.maxLocals := by rw [hL.1, hml, hll]
  refine z_fin hS hL (fun T hT X => ?_) kk
  obtain ⟨⟨w1, w2, w3, w4⟩, w5, w6, w7⟩ := w
  have hK2 := z_back (p := p) (e := e) (args := args) (below := below) (R := z_R M mc ms) 3 hC hK hrm.1 hrm.2 w1 w2
  obtain ⟨cell, g1, g2, g3⟩ := z_rcv hK hP hbo hcl
  rcases w5 with w5 | ⟨host, w5⟩
  · exact callV X hx (C := q.1) hown (hK.w w5 rfl) (hK.w w6 rfl) (hK.w w7 rfl) (hK.w w1 rfl) w3 hK2 (by rw [hT]; exact g1) g2 g3 rfl hsz (argsL := As) (rest := rest) (fun sig hs => hn.trans (z_len w4 sig hs)) rfl (z_mroom hrest) (by rw [hb]; exact hd) (fun vm₁ hW => ⟨hk.1, hk.2, z_pre hK hA hZ hP hS hT vm₁ hW⟩)
  · exact va_callVN X hx (C := q.1) hown (hK.w w5 rfl) (hK.w w6 rfl) (hK.w w7 rfl) (hK.w w1 rfl) w3 hK2 (by rw [hT]; exact g1) g2 g3 rfl hsz (argsL := As) (rest := rest) (fun sig hs => hn.trans (z_len w4 sig hs)) rfl (z_mroom hrest) (by rw [hb]; exact hd) (fun vm₁ hW => ⟨hk.1, hk.2, z_pre hK hA hZ hP hS hT vm₁ hW⟩)
theorem z_callI (X : z_O G A x M mc ms Post) {b : Nat} (hC : z_C G A M2 mc2 ms2 (.ref b :: As) h Post2) (w : z_cI' M.1.cls idx M2 np) (hd : decode M.2.1 pc = .ok (.invokespecial idx, 3)) (hst : st = As.reverse ++ .ref b :: rest) (hn : As.length = np) (hll : L.length = M.2.2.1) (hrm : M2.2.2.2.2.1 + 1 ≤ M.2.2.2.2.1 ∧ 8 + (M2.2.2.1 + 11) + M2.2.2.2.2.2 ≤ M.2.2.2.2.2) (hrest : (rest.map fun v => v.category).sum ≤ 8) (hk : k + mc2 ≤ mc ∧ n + ms2 ≤ ms)
    (kk : ∀ (v : Option Value) (h' : z_H) (k' n' : Nat), Post2 v h' k' n' → z_V G A x h' (k + k') (n + n') (pc + 3) L (z_ps v rest)) : z_V G A x h k n pc L st := by
  obtain ⟨p, e, R, s, m, args, below, meth, c, Q⟩ := x
  obtain ⟨hx, hb, hml, hown, hK, hR, -, -, -, hA, hZ, -⟩ := X
  intro H locs ls hP hS hL
  subst hR; subst hst
  have hsz : ls.size = c.maxLocals := by rw [hL.1, hml, hll]
  refine z_fin hS hL (fun T hT X => ?_) kk
  obtain ⟨⟨w1, w2, w3, w4⟩, w5, w6, w7, w8⟩ := w
  have hK2 := z_back (p := p) (e := e) (args := args) (below := below) (R := z_R M mc ms) 3 hC hK hrm.1 hrm.2 w1 w2
  have hcd := hK.w (args := args) w1 rfl
  rw [w8] at hcd
  rcases w5 with w5 | ⟨host, w5⟩
  · exact callI X hx hown w7 (hK.w w5 rfl) (hK.w w6 rfl) hcd w3 hK2 rfl hsz (a := b) (argsL := As) (rest := rest) (fun sig hs => hn.trans (z_len w4 sig hs)) rfl (z_mroom hrest) (by rw [hb]; exact hd) (fun vm₁ hW => ⟨hk.1, hk.2, z_pre hK hA hZ hP hS hT vm₁ hW⟩)
  · exact va_callIN X hx hown w7 (hK.w w5 rfl) (hK.w w6 rfl) hcd w3 hK2 rfl hsz (a := b) (argsL := As) (rest := rest) (fun sig hs => hn.trans (z_len w4 sig hs)) rfl (z_mroom hrest) (by rw [hb]; exact hd) (fun vm₁ hW => ⟨hk.1, hk.2, z_pre hK hA hZ hP hS hT vm₁ hW⟩)
theorem z_callF (X : z_O G A x M mc ms Post) {b ci count : Nat} {fs : List Value} {q : vw_C} {y : MethodName} (hC : z_C G A M2 mc2 ms2 (.ref b :: As) h Post2) (w : z_cF M.1.cls idx q.1 y M2 np) (hd : decode M.2.1 pc = .ok (.invokeinterface idx count, 5)) (hbo : h b = some (.inr (ci, fs))) (hcl : classes[ci]? = some q) (hst : st = As.reverse ++ .ref b :: rest) (hn : As.length = np) (hll : L.length = M.2.2.1) (hrm : M2.2.2.2.2.1 + 1 ≤ M.2.2.2.2.1 ∧ 8 + (M2.2.2.1 + 11) + M2.2.2.2.2.2 ≤ M.2.2.2.2.2) (hrest : (rest.map fun v => v.category).sum ≤ 8) (hk : k + mc2 ≤ mc ∧ n + ms2 ≤ ms)
    (kk : ∀ (v : Option Value) (h' : z_H) (k' n' : Nat), Post2 v h' k' n' → z_V G A x h' (k + k') (n + n') (pc + 5) L (z_ps v rest)) : z_V G A x h k n pc L st := by
  obtain ⟨p, e, R, s, m, args, below, meth, c, Q⟩ := x
  obtain ⟨hx, hb, hml, hown, hK, hR, -, -, -, hA, hZ, -⟩ := X
  intro H locs ls hP hS hL
  subst hR; subst hst
  have hsz : ls.size = c.maxLocals := by rw [hL.1, hml, hll]
  refine z_fin hS hL (fun T hT X => ?_) kk
  obtain ⟨⟨w1, w2, w3, w4⟩, w5, w6, w7, w8, w9, w10⟩ := w
  have hK2 := z_back (p := p) (e := e) (args := args) (below := below) (R := z_R M mc ms) 5 hC hK hrm.1 hrm.2 w1 w2
  obtain ⟨cell, g1, g2, g3⟩ := z_rcv hK hP hbo hcl
  obtain ⟨f1, f2, f3, f4, f5⟩ := w10 G s hK
  obtain ⟨kB, hkB, -⟩ := Vm.findClass_spec g3
  exact va_callIF X hx (C := q.1) hown (hK.w w5 rfl) (va_any rfl f1) (va_any rfl f2) (hK.w w6 rfl) (hK.w w7 rfl) (va_any rfl f3) (va_any rfl f4) (va_any rfl f5) (hK.w w1 rfl) w8 hK2 (by rw [hT]; exact g1) g2 g3 hkB rfl hsz (argsL := As) (rest := rest) (fun sig hs => hn.trans (z_len w4 sig (by rw [← w9]; exact hs))) rfl (z_mroom hrest) (by rw [hb]; exact hd) (fun vm₁ hW => ⟨hk.1, hk.2, z_pre hK hA hZ hP hS hT vm₁ hW⟩)
end ZD
