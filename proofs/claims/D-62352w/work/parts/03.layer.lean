/-! THE LAYER: abstract heaps (address ↦ cell), a method's walk z_V over them, contracts z_C whose cost is told by the outcome -/
abbrev z_H : Type := Nat → Option va_E
def z_up (h : z_H) (a : Nat) (e : va_E) : z_H := fun b => if b = a then some e else h b
theorem z_up_s (h : z_H) (a : Nat) (e : va_E) : z_up h a e a = some e := if_pos rfl
theorem z_up_n (h : z_H) {a b : Nat} (e : va_E) (hn : b ≠ a) : z_up h a e b = h b := if_neg hn
/-- a method: name, bytes, locals, answer's type, frames and locals' words below it -/
abbrev z_M : Type := MethodName × ByteArray × Nat × Option FieldType × Nat × Nat
/-- what never moves: the launch, the classes' numbers and slots, array classes (int[], Object[], Entry[]), the empty list's array, the mirror of Object[] -/
abbrev z_G : Type := Launch × va_G × (ClassId × ClassId × ClassId) × Nat × Nat
abbrev z_cI (G : z_G) : ClassId := G.2.2.1.1
abbrev z_cO (G : z_G) : ClassId := G.2.2.1.2.1
abbrev z_cE (G : z_G) : ClassId := G.2.2.1.2.2
abbrev z_d0 (G : z_G) : Nat := G.2.2.2.1
abbrev z_mi (G : z_G) : Nat := G.2.2.2.2
abbrev z_tys (G : z_G) : List (ClassId × FieldType) := [(z_cI G, .int), (z_cO G, .object "java/lang/Object"), (z_cE G, .object "TabletCells$Entry")]
abbrev z_X : Type := Program × Env × Room × State × MethodId × Array Value × List Frame × Method × Code × (State → Prop)
abbrev z_T : Type := Option Value → z_H → Nat → Nat → Prop
def z_keep (w : Cond) : Bool := w.onTables && (w.keeps || match w with
  | .fieldLinkNest .. => true
  | .methodLinkNest .. => true
  | .declares _ => true
  | .castable .. => true
  | .publicMethod _ => true
  | .unhidden .. => true
  | _ => false)
theorem z_stab {w : Cond} (hk : z_keep w = true) {s U : State} (hW : s.WarmedH U.vm) (h : w.before #[] s = true) : w.before #[] U = true := by
  unfold z_keep at hk
  rw [Bool.and_eq_true] at hk
  obtain ⟨h1, h2⟩ := hk
  cases hkp : w.keeps with
  | true => exact word_at hW (Or.inl (by rw [h1, hkp]; rfl)) h
  | false =>
    rw [hkp, Bool.false_or] at h2
    cases w <;> first
      | exact va_Nw.warmF hW h
      | exact va_Nw.warmM hW h
      | exact va_Nw.warmD hW h
      | exact va_Nw.warmC hW h
      | exact va_tabs rfl (rfl : (s.setVm U.vm).vm = U.vm) (by rw [Cond.publicMethod_setVm hW.alike]; exact h)
      | exact va_tabs rfl (rfl : (s.setVm U.vm).vm = U.vm) (by rw [Cond.unhidden_setVm hW.alike]; exact h)
      | exact absurd h2 (by decide)
      | (exfalso; revert h2; simp; done)
abbrev z_xs : MethodName := ⟨"TabletCells$Source", "size", "()I"⟩
abbrev z_xa : MethodName := ⟨"TabletCells$Source", "at", "(I)LTabletCells$Entry;"⟩
def z_K (G : z_G) (U : State) : Prop :=
  (∀ w ∈ lw_tbl, z_keep w = true → w.before #[] U = true) ∧ (Cond.arrayClass .int).before #[] U = true ∧ va_AO "java/lang/Object" U ∧ va_AO "TabletCells$Entry" U ∧
  (va_Fw "TabletCells$Memtable" z_xs ⟨"TabletCells$Memtable", "size", "()I"⟩ U ∧ va_Fw "TabletCells$Table" z_xs ⟨"TabletCells$Table", "size", "()I"⟩ U ∧ va_Fw "TabletCells$Memtable" z_xa ⟨"TabletCells$Memtable", "at", "(I)LTabletCells$Entry;"⟩ U ∧ va_Fw "TabletCells$Table" z_xa ⟨"TabletCells$Table", "at", "(I)LTabletCells$Entry;"⟩ U) ∧
  va_K G.2.1 classes (z_tys G) U ∧ va_Mi "[Ljava/lang/Object;" (z_mi G) U
theorem z_K.moved {G : z_G} {s U : State} (hW : s.WarmedH U.vm) (h : z_K G s) : z_K G U := by
  obtain ⟨h1, h2, h3, h4, ⟨h5, h6, h7, h8⟩, h9, h10⟩ := h
  exact ⟨fun w hw hk => z_stab hk hW (h1 w hw hk), word_at hW (Or.inr ⟨_, rfl⟩) h2, h3.moved hW.alike, h4.moved hW.alike, ⟨h5.moved (by decide) hW.alike, h6.moved (by decide) hW.alike, h7.moved (by decide) hW.alike, h8.moved (by decide) hW.alike⟩, h9.moved hW.alike, h10.moved hW.alike⟩
theorem z_K.w {G : z_G} {s : State} {args : Array Value} (h : z_K G s) {w : Cond} (hw : w ∈ lw_tbl) (hk : z_keep w = true) : w.before args s = true :=
  va_tabs (by unfold z_keep at hk; rw [Bool.and_eq_true] at hk; exact hk.1) rfl (h.1 w hw hk)
def z_Z (G : z_G) (A : Nat → Prop) (U : State) (H : Heap) : Prop :=
  va_Z "java/util/ArrayList" "DEFAULTCAPACITY_EMPTY_ELEMENTDATA" "[Ljava/lang/Object;" (.ref (z_d0 G)) A U H ∧ va_T (.object "java/lang/Object") (z_d0 G) 0 (fun _ => .null) A U H
theorem z_Z.kept {G : z_G} {A : Nat → Prop} {U : State} {H H1 : Heap} (h : z_Z G A U H) (hq : ∀ a : Nat, a < H.size → ¬ A a → H1[a]? = H[a]?) : z_Z G A U H1 := ⟨h.1.kept hq, h.2.kept hq⟩
theorem z_Z.moved {G : z_G} {A : Nat → Prop} {u U : State} {H : Heap} (hvm : u.vm.Alike U.vm) (h : z_Z G A u H) : z_Z G A U H := ⟨h.1.moved hvm, h.2.moved hvm⟩
def z_P (G : z_G) (A : Nat → Prop) (h : z_H) (H : Heap) : Prop := ∀ (a : Nat) (e : va_E), h a = some e → va_at G.2.1 classes (a, e) H ∧ A a
/-- the whole heap as a list of cells -/
theorem z_lift {G : z_G} {A : Nat → Prop} {h : z_H} {H : Heap} (hP : z_P G A h H) : ∃ ws : va_W, va_P G.2.1 classes ws H ∧ va_D A ws ∧ ∀ (a : Nat) (e : va_E), h a = some e ↔ ∃ k : Nat, ws[k]? = some (a, e) := by
  have hw : ∀ q ∈ (List.range H.size).filterMap (fun a => (h a).map (fun e => (a, e))), h q.1 = some q.2 := by
    intro q hq
    obtain ⟨a, -, ha⟩ := List.mem_filterMap.mp hq
    cases hh : h a with
    | none => rw [hh] at ha; cases ha
    | some e => rw [hh] at ha; cases ha; exact hh
  have hp : ((List.range H.size).filterMap (fun a => (h a).map (fun e => (a, e)))).Pairwise (fun p q => p.1 < q.1) := by
    refine List.Pairwise.filterMap _ ?_ (List.pairwise_lt_range (n := H.size))
    intro a b hab p hp q hq
    cases ha : h a with
    | none => rw [ha] at hp; cases hp
    | some e =>
      rw [ha] at hp
      cases hb : h b with
      | none => rw [hb] at hq; cases hq
      | some e' => rw [hb] at hq; cases hp; cases hq; exact hab
  refine ⟨_, fun k q hk => (hP q.1 q.2 (hw q (List.mem_of_getElem? hk))).1, ⟨fun i j p q hi hj hpq => ?_, fun k q hk => (hP q.1 q.2 (hw q (List.mem_of_getElem? hk))).2⟩, fun a e => ⟨fun ha => ?_, fun ⟨k, hk⟩ => hw (a, e) (List.mem_of_getElem? hk)⟩⟩
  · rcases Nat.lt_trichotomy i j with hij | hij | hij
    · obtain ⟨h1, e1⟩ := List.getElem?_eq_some_iff.mp hi
      obtain ⟨h2, e2⟩ := List.getElem?_eq_some_iff.mp hj
      have := List.pairwise_iff_getElem.mp hp i j h1 h2 hij
      rw [e1, e2, hpq] at this
      exact absurd this (Nat.lt_irrefl _)
    · exact hij
    · obtain ⟨h1, e1⟩ := List.getElem?_eq_some_iff.mp hi
      obtain ⟨h2, e2⟩ := List.getElem?_eq_some_iff.mp hj
      have := List.pairwise_iff_getElem.mp hp j i h2 h1 hij
      rw [e1, e2, hpq] at this
      exact absurd this (Nat.lt_irrefl _)
  · exact List.getElem?_of_mem (List.mem_filterMap.mpr ⟨a, List.mem_range.mpr (hP a e ha).1.lt, by rw [ha]; rfl⟩)
theorem z_set {G : z_G} {A : Nat → Prop} {h : z_H} {H1 : Heap} {ws : va_W} {k a : Nat} {e0 e : va_E} (hE : ∀ (a : Nat) (e : va_E), h a = some e ↔ ∃ k : Nat, ws[k]? = some (a, e)) (hk : ws[k]? = some (a, e0)) (hP : va_P G.2.1 classes (ws.set k (a, e)) H1) (hD : va_D A (ws.set k (a, e))) : z_P G A (z_up h a e) H1 := by
  have hl := (List.getElem?_eq_some_iff.mp hk).1
  intro b e' hb
  by_cases hba : b = a
  · subst hba
    rw [z_up_s] at hb
    cases hb
    have hs := List.getElem?_set_self (l := ws) (a := (b, e)) hl
    exact ⟨hP k _ hs, hD.2 k _ hs⟩
  · rw [z_up_n h e hba] at hb
    obtain ⟨j, hj⟩ := (hE b e').mp hb
    have hjk : k ≠ j := fun q => by
      subst q
      rw [hk] at hj
      cases hj
      exact hba rfl
    have hs : (ws.set k (a, e))[j]? = some (b, e') := by rw [List.getElem?_set_ne hjk]; exact hj
    exact ⟨hP j _ hs, hD.2 j _ hs⟩
theorem z_push {G : z_G} {A : Nat → Prop} {h : z_H} {H1 : Heap} {ws : va_W} {q : Nat} {e : va_E} (hE : ∀ (a : Nat) (e : va_E), h a = some e ↔ ∃ k : Nat, ws[k]? = some (a, e)) (hP : va_P G.2.1 classes (ws ++ [(q, e)]) H1) (hD : va_D A (ws ++ [(q, e)])) : h q = none ∧ z_P G A (z_up h q e) H1 := by
  have hl : (ws ++ [(q, e)])[ws.length]? = some (q, e) := by simp
  refine ⟨?_, fun b e' hb => ?_⟩
  · cases hh : h q with
    | none => rfl
    | some e' =>
      obtain ⟨k, hk⟩ := (hE q e').mp hh
      have hkl := (List.getElem?_eq_some_iff.mp hk).1
      have := hD.1 k ws.length (q, e') (q, e) (by rw [List.getElem?_append_left hkl]; exact hk) hl rfl
      omega
  · by_cases hbq : b = q
    · subst hbq
      rw [z_up_s] at hb
      cases hb
      exact ⟨hP _ _ hl, hD.2 _ _ hl⟩
    · rw [z_up_n h e hbq] at hb
      obtain ⟨k, hk⟩ := (hE b e').mp hb
      have hs : (ws ++ [(q, e)])[k]? = some (b, e') := by rw [List.getElem?_append_left (List.getElem?_eq_some_iff.mp hk).1]; exact hk
      exact ⟨hP k _ hs, hD.2 k _ hs⟩
/-- locals as a list; none: nothing known -/
def z_al : Nat → List (Option Value) → List (Nat × Value)
  | _, [] => []
  | i, none :: L => z_al (i + 1) L
  | i, some v :: L => (i, v) :: z_al (i + 1) L
theorem z_al_mem : ∀ (L : List (Option Value)) (i : Nat) (q : Nat × Value), q ∈ z_al i L ↔ i ≤ q.1 ∧ L[q.1 - i]? = some (some q.2)
  | [], i, q => by simp [z_al]
  | none :: L, i, q => by
    rw [z_al, z_al_mem L (i + 1) q]
    constructor
    · rintro ⟨h1, h2⟩
      refine ⟨by omega, ?_⟩
      rw [show q.1 - i = (q.1 - (i + 1)) + 1 by omega, List.getElem?_cons_succ]
      exact h2
    · rintro ⟨h1, h2⟩
      by_cases hq : q.1 = i
      · rw [hq, Nat.sub_self] at h2
        simp at h2
      · refine ⟨by omega, ?_⟩
        rw [show q.1 - i = (q.1 - (i + 1)) + 1 by omega, List.getElem?_cons_succ] at h2
        exact h2
  | some v :: L, i, q => by
    rw [z_al, List.mem_cons, z_al_mem L (i + 1) q]
    constructor
    · rintro (rfl | ⟨h1, h2⟩)
      · exact ⟨Nat.le_refl _, by simp⟩
      · refine ⟨by omega, ?_⟩
        rw [show q.1 - i = (q.1 - (i + 1)) + 1 by omega, List.getElem?_cons_succ]
        exact h2
    · rintro ⟨h1, h2⟩
      by_cases hq : q.1 = i
      · left
        rw [hq, Nat.sub_self] at h2
        simp at h2
        exact Prod.ext hq h2.symm
      · right
        refine ⟨by omega, ?_⟩
        rw [show q.1 - i = (q.1 - (i + 1)) + 1 by omega, List.getElem?_cons_succ] at h2
        exact h2
def z_L (ls : Array Slot) (L : List (Option Value)) : Prop := lv_has ls L.length (z_al 0 L)
theorem z_L.at {ls : Array Slot} {L : List (Option Value)} (h : z_L ls L) {i : Nat} {v : Value} (hi : L[i]? = some (some v)) : ls[i]? = some (.val v) :=
  h.2.2 (i, v) ((z_al_mem L 0 (i, v)).mpr ⟨Nat.zero_le _, hi⟩)
def z_ok (L : List (Option Value)) (i : Nat) : Bool := match i with
  | 0 => true
  | j + 1 => match L[j]? with
    | some (some v) => v.category == 1
    | _ => true
theorem z_L.st1 {ls ls' : Array Slot} {L : List (Option Value)} {i : Nat} {v : Value} (hk : z_ok L i = true) (hl : lv_has ls' L.length ((i, v) :: (z_al 0 L).filter (fun q => !(q.1 == i) && !(q.1 + 1 == i && q.2.category == 2)))) : z_L ls' (L.set i (some v)) := by
  refine ⟨by rw [List.length_set]; exact hl.1, hl.2.1, fun q hq => hl.2.2 q ?_⟩
  obtain ⟨-, h2⟩ := (z_al_mem _ 0 q).mp hq
  rw [Nat.sub_zero] at h2
  by_cases hqi : q.1 = i
  · rw [hqi, List.getElem?_set] at h2
    simp at h2
    obtain ⟨h3, h4⟩ := h2
    exact List.mem_cons.mpr (Or.inl (Prod.ext hqi h4.symm))
  · rw [List.getElem?_set_ne (fun z => hqi z.symm)] at h2
    refine List.mem_cons.mpr (Or.inr (List.mem_filter.mpr ⟨(z_al_mem L 0 q).mpr ⟨Nat.zero_le _, h2⟩, ?_⟩))
    have e1 : (q.1 == i) = false := beq_eq_false_iff_ne.mpr hqi
    rw [e1]
    by_cases hq1 : q.1 + 1 = i
    · subst hq1
      unfold z_ok at hk
      simp only [h2] at hk
      have : q.2.category = 1 := by simpa using hk
      simp [this]
    · have e2 : (q.1 + 1 == i) = false := beq_eq_false_iff_ne.mpr hq1
      simp [e2]
theorem z_L.st2 {ls ls' : Array Slot} {L : List (Option Value)} {i : Nat} {v : Value} (hk : z_ok L i = true) (hl : lv_has ls' L.length ((i, v) :: (z_al 0 L).filter (fun q => !(q.1 == i) && (!(q.1 == i + 1) && !(q.1 + 1 == i && q.2.category == 2))))) : z_L ls' ((L.set i (some v)).set (i + 1) none) := by
  refine ⟨by rw [List.length_set, List.length_set]; exact hl.1, hl.2.1, fun q hq => hl.2.2 q ?_⟩
  obtain ⟨-, h2⟩ := (z_al_mem _ 0 q).mp hq
  rw [Nat.sub_zero] at h2
  by_cases hq2 : q.1 = i + 1
  · rw [hq2, List.getElem?_set] at h2
    simp at h2
  · rw [List.getElem?_set_ne (fun z => hq2 z.symm)] at h2
    have e0 : (q.1 == i + 1) = false := beq_eq_false_iff_ne.mpr hq2
    by_cases hqi : q.1 = i
    · rw [hqi, List.getElem?_set] at h2
      simp at h2
      obtain ⟨h3, h4⟩ := h2
      exact List.mem_cons.mpr (Or.inl (Prod.ext hqi h4.symm))
    · rw [List.getElem?_set_ne (fun z => hqi z.symm)] at h2
      refine List.mem_cons.mpr (Or.inr (List.mem_filter.mpr ⟨(z_al_mem L 0 q).mpr ⟨Nat.zero_le _, h2⟩, ?_⟩))
      have e1 : (q.1 == i) = false := beq_eq_false_iff_ne.mpr hqi
      rw [e1, e0]
      by_cases hq1 : q.1 + 1 = i
      · subst hq1
        unfold z_ok at hk
        simp only [h2] at hk
        have : q.2.category = 1 := by simpa using hk
        simp [this]
      · have e2 : (q.1 + 1 == i) = false := beq_eq_false_iff_ne.mpr hq1
        simp [e2]
/-- the walk: from this frame, heap and cost the machine comes to a state with x's Q -/
def z_V (G : z_G) (A : Nat → Prop) (x : z_X) (h : z_H) (k n pc : Nat) (L : List (Option Value)) (st : List Value) : Prop := match x with
  | (p, e, R, s, m, args, below, meth, c, Q) => ∀ (H : Heap) (locs : List Loc) (ls : Array Slot), z_P G A h H → va_S A s.heap H locs → z_L ls L → W p G.1 e R s m args below meth c H locs k n Q (F0 m pc ls st)
def z_Q (G : z_G) (A : Nat → Prop) (Post : z_T) (k n : Nat) : Array Value → State → Outcome → State → Prop := fun _ st oc t => ∃ (v : Option Value) (h' : z_H), oc = .returned v ∧ z_P G A h' t.heap ∧ Post v h' k n ∧ va_F A st t
abbrev z_R (M : z_M) (mc ms : Nat) : Room := { frames := M.2.2.2.2.1, cells := mc, slots := ms, locals := M.2.2.2.2.2 }
/-- what stays true along a walk of method M -/
def z_O (G : z_G) (A : Nat → Prop) (x : z_X) (M : z_M) (mc ms : Nat) (Post : z_T) : Prop := match x with
  | (p, _, R, s, m, args, below, meth, c, Q) => p.tables.exec = Jvm.exec ∧ c.code = M.2.1 ∧ c.maxLocals = M.2.2.1 ∧ s.vm.findClass M.1.cls = some m.cls ∧ z_K G s ∧ R = z_R M mc ms ∧ meth.sig.returnType = M.2.2.2.1 ∧ meth.name = M.1.name ∧ meth.locks = false ∧ (∀ q, s.heap.size ≤ q → A q) ∧ z_Z G A s s.heap ∧ (∀ (k n : Nat) (t : State), MQ below (z_Q G A Post k n) args s k n A t → Q t)
def z_Pc (G : z_G) (A : Nat → Prop) (sv : List Value) (h : z_H) : Array Value → State → Prop := fun a U => a = sv.toArray ∧ z_K G U ∧ (∀ q, U.heap.size ≤ q → A q) ∧ z_Z G A U U.heap ∧ z_P G A h U.heap
/-- the contract of M: from sv and h it returns, with Post of (answer, heap, cells made, slots made); room for mc cells of ms slots is asked ahead -/
def z_C (G : z_G) (A : Nat → Prop) (M : z_M) (mc ms : Nat) (sv : List Value) (h : z_H) (Post : z_T) : Prop :=
  MetFree G.1 M.1 (headSpec [.code M.1 M.2.1 M.2.2.1 M.2.2.2.1] (z_R M mc ms)) (z_Pc G A sv h) (fun _ _ _ _ _ => True) (fun a st o t => ∃ (L : List Loc) (k n : Nat), FrameEnd st o t L k n ∧ (∀ q ∈ L, A q.base) ∧ z_Q G A Post k n a st o t)
def z_ent (sv : List Value) (nL : Nat) : List (Option Value) := sv.map some ++ List.replicate (nL - sv.length) none
theorem z_sl1 : ∀ (sv : List Value), (sv.all (fun v => v.category == 1)) = true → lg_sl sv = sv.map (fun v => Slot.val v)
  | [], _ => rfl
  | v :: sv, h => by
    rw [List.all_cons, Bool.and_eq_true] at h
    have hc : v.category = 1 := by simpa using h.1
    have e := z_sl1 sv h.2
    unfold lg_sl at e ⊢
    rw [List.flatMap_cons, e, if_neg (by omega)]
    rfl
theorem z_args1 : ∀ (sv : List Value) (i : Nat) (q : Nat × Value), (sv.all (fun v => v.category == 1)) = true → i ≤ q.1 → sv[q.1 - i]? = some q.2 → q ∈ lv_args i sv
  | [], i, q, _, _, h => by simp at h
  | v :: sv, i, q, h, hi, hq => by
    rw [List.all_cons, Bool.and_eq_true] at h
    have hc : v.category = 1 := by simpa using h.1
    rw [lv_args, if_neg (by omega)]
    by_cases hqi : q.1 = i
    · rw [hqi, Nat.sub_self] at hq
      simp at hq
      exact List.mem_cons.mpr (Or.inl (Prod.ext hqi hq.symm))
    · refine List.mem_cons.mpr (Or.inr (z_args1 sv (i + 1) q h.2 (by omega) ?_))
      rw [show q.1 - i = (q.1 - (i + 1)) + 1 by omega, List.getElem?_cons_succ] at hq
      exact hq
theorem z_C.of {G : z_G} {A : Nat → Prop} {M : z_M} {mc ms : Nat} {sv : List Value} {h : z_H} {Post : z_T} (hy : plainFor M.1 = true) (hc : (sv.all (fun v => v.category == 1)) = true) (hn : sv.length ≤ M.2.2.1)
    (body : ∀ x : z_X, z_O G A x M mc ms Post → z_V G A x h 0 0 0 (z_ent sv M.2.2.1) []) : z_C G A M mc ms sv h Post := by
  refine MetFree.of_bodySF (code := M.2.1) (maxLocals := M.2.2.1) (ret := M.2.2.2.1) hy ?_ ?_
  · intro args s m h hn
    obtain ⟨meth, c, h1, h2, h3, h4, h5, h6, -, -⟩ := Cond.code_spec hn (atoms_spec (ws := [.code M.1 M.2.1 M.2.2.1 M.2.2.2.1]) h _ List.mem_cons_self)
    exact ⟨meth, c, h1, h2, h3, h4, h5, h6⟩
  · intro p e s m args below meth c s₁ B hml hP _
    obtain ⟨rfl, hK, hA, hZ, hP⟩ := hP
    have hh0 : s₁.heap = s.heap := by rw [B.state]; rfl
    have hO : z_O G A (p, e, z_R M mc ms, s, m, sv.toArray, below, meth, c, fun t => ∃ (k n : Nat), MQ below (z_Q G A Post k n) sv.toArray s k n A t) M mc ms Post :=
      ⟨B.exec, B.bytes, hml, findClass_of_methodNamed B.named, hK, rfl, B.returns, (name_of_methodNamed B.named B.method).1, B.notSynchronized, hA, hZ, fun k n t ht => ⟨k, n, ht⟩⟩
    have hV := body _ hO s.heap [] ((lg_sl sv ++ List.replicate (M.2.2.1 - (lg_sl sv).length) Slot.unset).toArray) hP va_S.rf (by
      have hsl := z_sl1 sv hc
      have hlen : (lg_sl sv).length = sv.length := by rw [hsl, List.length_map]
      have he := lv_entry sv (n := M.2.2.1) (by rw [hlen]; exact hn)
      have hz : (z_ent sv M.2.2.1).length = M.2.2.1 := by unfold z_ent; rw [List.length_append, List.length_map, List.length_replicate]; omega
      refine ⟨by rw [hz]; exact he.1, he.2.1, fun q hq => he.2.2 q ?_⟩
      obtain ⟨-, h2⟩ := (z_al_mem _ 0 q).mp hq
      rw [Nat.sub_zero] at h2
      refine z_args1 sv 0 q hc (Nat.zero_le _) ?_
      rw [Nat.sub_zero]
      unfold z_ent at h2
      by_cases hl : q.1 < sv.length
      · rw [List.getElem?_append_left (by rw [List.length_map]; exact hl), List.getElem?_map] at h2
        cases hx : sv[q.1]? with
        | none => rw [hx] at h2; cases h2
        | some v => rw [hx] at h2; simp at h2; rw [h2]
      · rw [List.getElem?_append_right (by rw [List.length_map]; omega), List.getElem?_replicate] at h2
        split at h2 <;> cases h2)
    rw [← lg_entry_eq] at hV
    obtain ⟨t, a1, k, n, o, b1, b2, b3, L, b4, b5⟩ := hV s₁ hh0 (Stand.of_body B)
    exact ⟨t, o, a1, b1, b2, L, k, n, b4, b5, b3⟩
