/-! one row an instruction (printed by gen/rows.py) -/
abbrev z_ia (G : z_G) (len : Nat) (f : Nat → Int32) : va_E := .inl (z_cI G, len, .inl f)
abbrev z_ra (c : ClassId) (len : Nat) (f : Nat → Option Nat) : va_E := .inl (c, len, .inr (.inr (.inr (.inr f))))
abbrev z_ob (ci : Nat) (fs : List Value) : va_E := .inr (ci, fs)
def z_okl (L : List (Option Value)) (i : Nat) : Bool := Nat.ble (i + 1) L.length && z_ok L i
theorem z_okl_1 {L : List (Option Value)} {i : Nat} (h : z_okl L i = true) : i < L.length := by unfold z_okl at h; rw [Bool.and_eq_true] at h; exact Nat.le_of_ble_eq_true h.1
theorem z_okl_2 {L : List (Option Value)} {i : Nat} (h : z_okl L i = true) : z_ok L i = true := by unfold z_okl at h; rw [Bool.and_eq_true] at h; exact h.2
theorem z_one {G : z_G} {A : Nat → Prop} {h : z_H} {H : Heap} (hP : z_P G A h H) {a : Nat} {e : va_E} (ha : h a = some e) : va_P G.2.1 classes [(a, e)] H := fun k q hk => by
  have hz : k < 1 := (List.getElem?_eq_some_iff.mp hk).1
  rw [show k = 0 by omega] at hk
  cases hk
  exact (hP _ _ ha).1
section ZR
variable {G : z_G} {A : Nat → Prop} {x : z_X} {M : z_M} {mc ms k n pc pc' : Nat} {Post : z_T} {h : z_H} {L L' : List (Option Value)} {st : List Value}
theorem z_iconst (X : z_O G A x M mc ms Post) {i : Int} {v : Int32} (hd : decode M.2.1 pc = .ok (.iconst i, 1)) (hv : Int32.ofInt i = v) (hp : pc + 1 = pc') (kk : z_V G A x h k n pc' L (.int v :: st)) : z_V G A x h k n pc L (st) := by
  subst hp
  obtain ⟨p, e, R, s, m, args, below, meth, c, Q⟩ := x
  obtain ⟨hx, hb, hml, hown, hK, hR, hret, hnm, hlk, hA, hZ, hQ⟩ := X
  intro H locs ls hP hS hL
  exact lv_iconst hx hb hd hv (kk H locs ls hP hS hL)
theorem z_bipush (X : z_O G A x M mc ms Post) {i : Int} {v : Int32} (hd : decode M.2.1 pc = .ok (.bipush i, 2)) (hv : (Int8.ofInt i).toInt32 = v) (hp : pc + 2 = pc') (kk : z_V G A x h k n pc' L (.int v :: st)) : z_V G A x h k n pc L (st) := by
  subst hp
  obtain ⟨p, e, R, s, m, args, below, meth, c, Q⟩ := x
  obtain ⟨hx, hb, hml, hown, hK, hR, hret, hnm, hlk, hA, hZ, hQ⟩ := X
  intro H locs ls hP hS hL
  exact lv_bipush hx hb hd hv (kk H locs ls hP hS hL)
theorem z_sipush (X : z_O G A x M mc ms Post) {i : Int} {v : Int32} (hd : decode M.2.1 pc = .ok (.sipush i, 3)) (hv : (Int16.ofInt i).toInt32 = v) (hp : pc + 3 = pc') (kk : z_V G A x h k n pc' L (.int v :: st)) : z_V G A x h k n pc L (st) := by
  subst hp
  obtain ⟨p, e, R, s, m, args, below, meth, c, Q⟩ := x
  obtain ⟨hx, hb, hml, hown, hK, hR, hret, hnm, hlk, hA, hZ, hQ⟩ := X
  intro H locs ls hP hS hL
  exact lv_sipush hx hb hd hv (kk H locs ls hP hS hL)
theorem z_lconst (X : z_O G A x M mc ms Post) {i : Fin 2} {v : Int64} (hd : decode M.2.1 pc = .ok (.lconst i, 1)) (hv : Int64.ofNat (i : Nat) = v) (hp : pc + 1 = pc') (kk : z_V G A x h k n pc' L (.long v :: st)) : z_V G A x h k n pc L (st) := by
  subst hp
  obtain ⟨p, e, R, s, m, args, below, meth, c, Q⟩ := x
  obtain ⟨hx, hb, hml, hown, hK, hR, hret, hnm, hlk, hA, hZ, hQ⟩ := X
  intro H locs ls hP hS hL
  exact lv_lconst hx hb hd hv (kk H locs ls hP hS hL)
theorem z_ldc (X : z_O G A x M mc ms Post) {i : Nat} {v : Int32} (hd : decode M.2.1 pc = .ok (.ldc i, 2)) (hw : Cond.constant M.1.cls i v ∈ lw_tbl) (hp : pc + 2 = pc') (kk : z_V G A x h k n pc' L (.int v :: st)) : z_V G A x h k n pc L (st) := by
  subst hp
  obtain ⟨p, e, R, s, m, args, below, meth, c, Q⟩ := x
  obtain ⟨hx, hb, hml, hown, hK, hR, hret, hnm, hlk, hA, hZ, hQ⟩ := X
  intro H locs ls hP hS hL
  exact lv_ldc hx hb hown (hK.w hw rfl) hd (kk H locs ls hP hS hL)
theorem z_ldc2 (X : z_O G A x M mc ms Post) {i : Nat} {v : Int64} (hd : decode M.2.1 pc = .ok (.ldc2_w i, 3)) (hw : Cond.constantLong M.1.cls i v ∈ lw_tbl) (hp : pc + 3 = pc') (kk : z_V G A x h k n pc' L (.long v :: st)) : z_V G A x h k n pc L (st) := by
  subst hp
  obtain ⟨p, e, R, s, m, args, below, meth, c, Q⟩ := x
  obtain ⟨hx, hb, hml, hown, hK, hR, hret, hnm, hlk, hA, hZ, hQ⟩ := X
  intro H locs ls hP hS hL
  exact lv_ldc2 hx hb hown (hK.w hw rfl) hd (kk H locs ls hP hS hL)
theorem z_anull (X : z_O G A x M mc ms Post)  (hd : decode M.2.1 pc = .ok (.aconst_null, 1)) (hp : pc + 1 = pc') (kk : z_V G A x h k n pc' L (.null :: st)) : z_V G A x h k n pc L (st) := by
  subst hp
  obtain ⟨p, e, R, s, m, args, below, meth, c, Q⟩ := x
  obtain ⟨hx, hb, hml, hown, hK, hR, hret, hnm, hlk, hA, hZ, hQ⟩ := X
  intro H locs ls hP hS hL
  exact lv_null hx hb hd (kk H locs ls hP hS hL)
theorem z_iload_n (X : z_O G A x M mc ms Post) {i : Fin 4} {v : Int32} (hd : decode M.2.1 pc = .ok (.iload_n i, 1)) (hv : L[(i : Nat)]? = some (some (.int v))) (hp : pc + 1 = pc') (kk : z_V G A x h k n pc' L (.int v :: st)) : z_V G A x h k n pc L (st) := by
  subst hp
  obtain ⟨p, e, R, s, m, args, below, meth, c, Q⟩ := x
  obtain ⟨hx, hb, hml, hown, hK, hR, hret, hnm, hlk, hA, hZ, hQ⟩ := X
  intro H locs ls hP hS hL
  exact lv_iload_n hx hb hd rfl (hL.at hv) (kk H locs ls hP hS hL)
theorem z_iload (X : z_O G A x M mc ms Post) {i : Nat} {v : Int32} (hd : decode M.2.1 pc = .ok (.iload i, 2)) (hv : L[i]? = some (some (.int v))) (hp : pc + 2 = pc') (kk : z_V G A x h k n pc' L (.int v :: st)) : z_V G A x h k n pc L (st) := by
  subst hp
  obtain ⟨p, e, R, s, m, args, below, meth, c, Q⟩ := x
  obtain ⟨hx, hb, hml, hown, hK, hR, hret, hnm, hlk, hA, hZ, hQ⟩ := X
  intro H locs ls hP hS hL
  exact lv_iload hx hb hd (hL.at hv) (kk H locs ls hP hS hL)
theorem z_lload_n (X : z_O G A x M mc ms Post) {i : Fin 4} {v : Int64} (hd : decode M.2.1 pc = .ok (.lload_n i, 1)) (hv : L[(i : Nat)]? = some (some (.long v))) (hp : pc + 1 = pc') (kk : z_V G A x h k n pc' L (.long v :: st)) : z_V G A x h k n pc L (st) := by
  subst hp
  obtain ⟨p, e, R, s, m, args, below, meth, c, Q⟩ := x
  obtain ⟨hx, hb, hml, hown, hK, hR, hret, hnm, hlk, hA, hZ, hQ⟩ := X
  intro H locs ls hP hS hL
  exact lv_lload_n hx hb hd rfl (hL.at hv) (kk H locs ls hP hS hL)
theorem z_lload (X : z_O G A x M mc ms Post) {i : Nat} {v : Int64} (hd : decode M.2.1 pc = .ok (.lload i, 2)) (hv : L[i]? = some (some (.long v))) (hp : pc + 2 = pc') (kk : z_V G A x h k n pc' L (.long v :: st)) : z_V G A x h k n pc L (st) := by
  subst hp
  obtain ⟨p, e, R, s, m, args, below, meth, c, Q⟩ := x
  obtain ⟨hx, hb, hml, hown, hK, hR, hret, hnm, hlk, hA, hZ, hQ⟩ := X
  intro H locs ls hP hS hL
  exact lv_lload hx hb hd (hL.at hv) (kk H locs ls hP hS hL)
theorem z_aload_n (X : z_O G A x M mc ms Post) {i : Fin 4} {v : Nat} (hd : decode M.2.1 pc = .ok (.aload_n i, 1)) (hv : L[(i : Nat)]? = some (some (.ref v))) (hp : pc + 1 = pc') (kk : z_V G A x h k n pc' L (.ref v :: st)) : z_V G A x h k n pc L (st) := by
  subst hp
  obtain ⟨p, e, R, s, m, args, below, meth, c, Q⟩ := x
  obtain ⟨hx, hb, hml, hown, hK, hR, hret, hnm, hlk, hA, hZ, hQ⟩ := X
  intro H locs ls hP hS hL
  exact lv_aload_n hx hb hd rfl (hL.at hv) (kk H locs ls hP hS hL)
theorem z_aload (X : z_O G A x M mc ms Post) {i : Nat} {v : Nat} (hd : decode M.2.1 pc = .ok (.aload i, 2)) (hv : L[i]? = some (some (.ref v))) (hp : pc + 2 = pc') (kk : z_V G A x h k n pc' L (.ref v :: st)) : z_V G A x h k n pc L (st) := by
  subst hp
  obtain ⟨p, e, R, s, m, args, below, meth, c, Q⟩ := x
  obtain ⟨hx, hb, hml, hown, hK, hR, hret, hnm, hlk, hA, hZ, hQ⟩ := X
  intro H locs ls hP hS hL
  exact lv_aload hx hb hd (hL.at hv) (kk H locs ls hP hS hL)
theorem z_aload_nN (X : z_O G A x M mc ms Post) {i : Fin 4} (hd : decode M.2.1 pc = .ok (.aload_n i, 1)) (hv : L[(i : Nat)]? = some (some .null)) (hp : pc + 1 = pc') (kk : z_V G A x h k n pc' L (.null :: st)) : z_V G A x h k n pc L (st) := by
  subst hp
  obtain ⟨p, e, R, s, m, args, below, meth, c, Q⟩ := x
  obtain ⟨hx, hb, hml, hown, hK, hR, hret, hnm, hlk, hA, hZ, hQ⟩ := X
  intro H locs ls hP hS hL
  exact lv_aload_nN hx hb hd rfl (hL.at hv) (kk H locs ls hP hS hL)
theorem z_aloadN (X : z_O G A x M mc ms Post) {i : Nat} (hd : decode M.2.1 pc = .ok (.aload i, 2)) (hv : L[i]? = some (some .null)) (hp : pc + 2 = pc') (kk : z_V G A x h k n pc' L (.null :: st)) : z_V G A x h k n pc L (st) := by
  subst hp
  obtain ⟨p, e, R, s, m, args, below, meth, c, Q⟩ := x
  obtain ⟨hx, hb, hml, hown, hK, hR, hret, hnm, hlk, hA, hZ, hQ⟩ := X
  intro H locs ls hP hS hL
  exact lv_aloadN hx hb hd (hL.at hv) (kk H locs ls hP hS hL)
theorem z_istore_n (X : z_O G A x M mc ms Post) {i : Fin 4} {v : Int32} (hd : decode M.2.1 pc = .ok (.istore_n i, 1)) (hk : z_okl L (i : Nat) = true) (hl : (L.set (i : Nat) (some (.int v))) = L') (hp : pc + 1 = pc') (kk : z_V G A x h k n pc' L' st) : z_V G A x h k n pc L (.int v :: st) := by
  subst hp; subst hl
  obtain ⟨p, e, R, s, m, args, below, meth, c, Q⟩ := x
  obtain ⟨hx, hb, hml, hown, hK, hR, hret, hnm, hlk, hA, hZ, hQ⟩ := X
  intro H locs ls hP hS hL
  exact lv_istore_n hx hb hd rfl hL (z_okl_1 hk) rfl (fun ls' hl' => kk H locs ls' hP hS (z_L.st1 (ls := ls) (z_okl_2 hk) hl'))
theorem z_istore (X : z_O G A x M mc ms Post) {i : Nat} {v : Int32} (hd : decode M.2.1 pc = .ok (.istore i, 2)) (hk : z_okl L i = true) (hl : (L.set i (some (.int v))) = L') (hp : pc + 2 = pc') (kk : z_V G A x h k n pc' L' st) : z_V G A x h k n pc L (.int v :: st) := by
  subst hp; subst hl
  obtain ⟨p, e, R, s, m, args, below, meth, c, Q⟩ := x
  obtain ⟨hx, hb, hml, hown, hK, hR, hret, hnm, hlk, hA, hZ, hQ⟩ := X
  intro H locs ls hP hS hL
  exact lv_istore hx hb hd hL (z_okl_1 hk) rfl (fun ls' hl' => kk H locs ls' hP hS (z_L.st1 (ls := ls) (z_okl_2 hk) hl'))
theorem z_astore_n (X : z_O G A x M mc ms Post) {i : Fin 4} {v : Nat} (hd : decode M.2.1 pc = .ok (.astore_n i, 1)) (hk : z_okl L (i : Nat) = true) (hl : (L.set (i : Nat) (some (.ref v))) = L') (hp : pc + 1 = pc') (kk : z_V G A x h k n pc' L' st) : z_V G A x h k n pc L (.ref v :: st) := by
  subst hp; subst hl
  obtain ⟨p, e, R, s, m, args, below, meth, c, Q⟩ := x
  obtain ⟨hx, hb, hml, hown, hK, hR, hret, hnm, hlk, hA, hZ, hQ⟩ := X
  intro H locs ls hP hS hL
  exact lv_astore_n hx hb hd rfl hL (z_okl_1 hk) rfl (fun ls' hl' => kk H locs ls' hP hS (z_L.st1 (ls := ls) (z_okl_2 hk) hl'))
theorem z_astore (X : z_O G A x M mc ms Post) {i : Nat} {v : Nat} (hd : decode M.2.1 pc = .ok (.astore i, 2)) (hk : z_okl L i = true) (hl : (L.set i (some (.ref v))) = L') (hp : pc + 2 = pc') (kk : z_V G A x h k n pc' L' st) : z_V G A x h k n pc L (.ref v :: st) := by
  subst hp; subst hl
  obtain ⟨p, e, R, s, m, args, below, meth, c, Q⟩ := x
  obtain ⟨hx, hb, hml, hown, hK, hR, hret, hnm, hlk, hA, hZ, hQ⟩ := X
  intro H locs ls hP hS hL
  exact lv_astore hx hb hd hL (z_okl_1 hk) rfl (fun ls' hl' => kk H locs ls' hP hS (z_L.st1 (ls := ls) (z_okl_2 hk) hl'))
theorem z_astore_nN (X : z_O G A x M mc ms Post) {i : Fin 4} (hd : decode M.2.1 pc = .ok (.astore_n i, 1)) (hk : z_okl L (i : Nat) = true) (hl : (L.set (i : Nat) (some (.null))) = L') (hp : pc + 1 = pc') (kk : z_V G A x h k n pc' L' st) : z_V G A x h k n pc L (.null :: st) := by
  subst hp; subst hl
  obtain ⟨p, e, R, s, m, args, below, meth, c, Q⟩ := x
  obtain ⟨hx, hb, hml, hown, hK, hR, hret, hnm, hlk, hA, hZ, hQ⟩ := X
  intro H locs ls hP hS hL
  exact lv_astore_nN hx hb hd rfl hL (z_okl_1 hk) rfl (fun ls' hl' => kk H locs ls' hP hS (z_L.st1 (ls := ls) (z_okl_2 hk) hl'))
theorem z_astoreN (X : z_O G A x M mc ms Post) {i : Nat} (hd : decode M.2.1 pc = .ok (.astore i, 2)) (hk : z_okl L i = true) (hl : (L.set i (some (.null))) = L') (hp : pc + 2 = pc') (kk : z_V G A x h k n pc' L' st) : z_V G A x h k n pc L (.null :: st) := by
  subst hp; subst hl
  obtain ⟨p, e, R, s, m, args, below, meth, c, Q⟩ := x
  obtain ⟨hx, hb, hml, hown, hK, hR, hret, hnm, hlk, hA, hZ, hQ⟩ := X
  intro H locs ls hP hS hL
  exact lv_astoreN hx hb hd hL (z_okl_1 hk) rfl (fun ls' hl' => kk H locs ls' hP hS (z_L.st1 (ls := ls) (z_okl_2 hk) hl'))
theorem z_lstore (X : z_O G A x M mc ms Post) {i : Nat} {v : Int64} (hd : decode M.2.1 pc = .ok (.lstore i, 2)) (hk : z_okl L i = true) (hk2 : Nat.ble (i + 2) L.length = true) (hl : ((L.set i (some (.long v))).set (i + 1) none) = L') (hp : pc + 2 = pc') (kk : z_V G A x h k n pc' L' st) : z_V G A x h k n pc L (.long v :: st) := by
  subst hp; subst hl
  obtain ⟨p, e, R, s, m, args, below, meth, c, Q⟩ := x
  obtain ⟨hx, hb, hml, hown, hK, hR, hret, hnm, hlk, hA, hZ, hQ⟩ := X
  intro H locs ls hP hS hL
  exact lv_lstore hx hb hd hL (Nat.le_of_ble_eq_true hk2) rfl (fun ls' hl' => kk H locs ls' hP hS (z_L.st2 (ls := ls) (z_okl_2 hk) hl'))
theorem z_iinc (X : z_O G A x M mc ms Post) {i : Nat} {d : Int} {v w : Int32} (hd : decode M.2.1 pc = .ok (.iinc i d, 3)) (hv : L[i]? = some (some (.int v))) (hw : v + Int32.ofInt d = w) (hk : z_okl L i = true) (hl : L.set i (some (.int w)) = L') (hp : pc + 3 = pc') (kk : z_V G A x h k n pc' L' st) : z_V G A x h k n pc L st := by
  subst hp; subst hl
  obtain ⟨p, e, R, s, m, args, below, meth, c, Q⟩ := x
  obtain ⟨hx, hb, hml, hown, hK, hR, hret, hnm, hlk, hA, hZ, hQ⟩ := X
  intro H locs ls hP hS hL
  obtain ⟨j, hj⟩ := List.getElem?_of_mem ((z_al_mem L 0 (i, .int v)).mpr ⟨Nat.zero_le _, hv⟩)
  exact lv_iinc hx hb hd hL hj hw (z_okl_1 hk) rfl (fun ls' hl' => kk H locs ls' hP hS (z_L.st1 (ls := ls) (z_okl_2 hk) hl'))
theorem z_iadd (X : z_O G A x M mc ms Post) {a b : Int32} (hd : decode M.2.1 pc = .ok (.iadd, 1)) (hp : pc + 1 = pc') (kk : z_V G A x h k n pc' L (.int (a + b) :: st)) : z_V G A x h k n pc L (.int b :: .int a :: st) := by
  subst hp
  obtain ⟨p, e, R, s, m, args, below, meth, c, Q⟩ := x
  obtain ⟨hx, hb, hml, hown, hK, hR, hret, hnm, hlk, hA, hZ, hQ⟩ := X
  intro H locs ls hP hS hL
  exact lv_iadd hx hb hd (kk H locs ls hP hS hL)
theorem z_isub (X : z_O G A x M mc ms Post) {a b : Int32} (hd : decode M.2.1 pc = .ok (.isub, 1)) (hp : pc + 1 = pc') (kk : z_V G A x h k n pc' L (.int (a - b) :: st)) : z_V G A x h k n pc L (.int b :: .int a :: st) := by
  subst hp
  obtain ⟨p, e, R, s, m, args, below, meth, c, Q⟩ := x
  obtain ⟨hx, hb, hml, hown, hK, hR, hret, hnm, hlk, hA, hZ, hQ⟩ := X
  intro H locs ls hP hS hL
  exact lv_isub hx hb hd (kk H locs ls hP hS hL)
theorem z_imul (X : z_O G A x M mc ms Post) {a b : Int32} (hd : decode M.2.1 pc = .ok (.imul, 1)) (hp : pc + 1 = pc') (kk : z_V G A x h k n pc' L (.int (a * b) :: st)) : z_V G A x h k n pc L (.int b :: .int a :: st) := by
  subst hp
  obtain ⟨p, e, R, s, m, args, below, meth, c, Q⟩ := x
  obtain ⟨hx, hb, hml, hown, hK, hR, hret, hnm, hlk, hA, hZ, hQ⟩ := X
  intro H locs ls hP hS hL
  exact lv_imul hx hb hd (kk H locs ls hP hS hL)
theorem z_iand (X : z_O G A x M mc ms Post) {a b : Int32} (hd : decode M.2.1 pc = .ok (.iand, 1)) (hp : pc + 1 = pc') (kk : z_V G A x h k n pc' L (.int (a &&& b) :: st)) : z_V G A x h k n pc L (.int b :: .int a :: st) := by
  subst hp
  obtain ⟨p, e, R, s, m, args, below, meth, c, Q⟩ := x
  obtain ⟨hx, hb, hml, hown, hK, hR, hret, hnm, hlk, hA, hZ, hQ⟩ := X
  intro H locs ls hP hS hL
  exact lv_iand hx hb hd (kk H locs ls hP hS hL)
theorem z_ishr (X : z_O G A x M mc ms Post) {a b : Int32} (hd : decode M.2.1 pc = .ok (.ishr, 1)) (hp : pc + 1 = pc') (kk : z_V G A x h k n pc' L (.int (a >>> (b &&& 31)) :: st)) : z_V G A x h k n pc L (.int b :: .int a :: st) := by
  subst hp
  obtain ⟨p, e, R, s, m, args, below, meth, c, Q⟩ := x
  obtain ⟨hx, hb, hml, hown, hK, hR, hret, hnm, hlk, hA, hZ, hQ⟩ := X
  intro H locs ls hP hS hL
  exact lv_ishr hx hb hd (kk H locs ls hP hS hL)
theorem z_idiv (X : z_O G A x M mc ms Post) {a b : Int32} (hd : decode M.2.1 pc = .ok (.idiv, 1)) (hb0 : ¬ b = 0) (hp : pc + 1 = pc') (kk : z_V G A x h k n pc' L (.int (a / b) :: st)) : z_V G A x h k n pc L (.int b :: .int a :: st) := by
  subst hp
  obtain ⟨p, e, R, s, m, args, below, meth, c, Q⟩ := x
  obtain ⟨hx, hb, hml, hown, hK, hR, hret, hnm, hlk, hA, hZ, hQ⟩ := X
  intro H locs ls hP hS hL
  exact lv_idiv hx hb hd hb0 (kk H locs ls hP hS hL)
theorem z_irem (X : z_O G A x M mc ms Post) {a b : Int32} (hd : decode M.2.1 pc = .ok (.irem, 1)) (hb0 : ¬ b = 0) (hp : pc + 1 = pc') (kk : z_V G A x h k n pc' L (.int (a - a / b * b) :: st)) : z_V G A x h k n pc L (.int b :: .int a :: st) := by
  subst hp
  obtain ⟨p, e, R, s, m, args, below, meth, c, Q⟩ := x
  obtain ⟨hx, hb, hml, hown, hK, hR, hret, hnm, hlk, hA, hZ, hQ⟩ := X
  intro H locs ls hP hS hL
  exact lv_irem hx hb hd hb0 (kk H locs ls hP hS hL)
theorem z_ladd (X : z_O G A x M mc ms Post) {a b : Int64} (hd : decode M.2.1 pc = .ok (.ladd, 1)) (hp : pc + 1 = pc') (kk : z_V G A x h k n pc' L (.long (a + b) :: st)) : z_V G A x h k n pc L (.long b :: .long a :: st) := by
  subst hp
  obtain ⟨p, e, R, s, m, args, below, meth, c, Q⟩ := x
  obtain ⟨hx, hb, hml, hown, hK, hR, hret, hnm, hlk, hA, hZ, hQ⟩ := X
  intro H locs ls hP hS hL
  exact lv_ladd hx hb hd (kk H locs ls hP hS hL)
theorem z_lmul (X : z_O G A x M mc ms Post) {a b : Int64} (hd : decode M.2.1 pc = .ok (.lmul, 1)) (hp : pc + 1 = pc') (kk : z_V G A x h k n pc' L (.long (a * b) :: st)) : z_V G A x h k n pc L (.long b :: .long a :: st) := by
  subst hp
  obtain ⟨p, e, R, s, m, args, below, meth, c, Q⟩ := x
  obtain ⟨hx, hb, hml, hown, hK, hR, hret, hnm, hlk, hA, hZ, hQ⟩ := X
  intro H locs ls hP hS hL
  exact lv_lmul hx hb hd (kk H locs ls hP hS hL)
theorem z_land (X : z_O G A x M mc ms Post) {a b : Int64} (hd : decode M.2.1 pc = .ok (.land, 1)) (hp : pc + 1 = pc') (kk : z_V G A x h k n pc' L (.long (a &&& b) :: st)) : z_V G A x h k n pc L (.long b :: .long a :: st) := by
  subst hp
  obtain ⟨p, e, R, s, m, args, below, meth, c, Q⟩ := x
  obtain ⟨hx, hb, hml, hown, hK, hR, hret, hnm, hlk, hA, hZ, hQ⟩ := X
  intro H locs ls hP hS hL
  exact lv_land hx hb hd (kk H locs ls hP hS hL)
theorem z_lor (X : z_O G A x M mc ms Post) {a b : Int64} (hd : decode M.2.1 pc = .ok (.lor, 1)) (hp : pc + 1 = pc') (kk : z_V G A x h k n pc' L (.long (a ||| b) :: st)) : z_V G A x h k n pc L (.long b :: .long a :: st) := by
  subst hp
  obtain ⟨p, e, R, s, m, args, below, meth, c, Q⟩ := x
  obtain ⟨hx, hb, hml, hown, hK, hR, hret, hnm, hlk, hA, hZ, hQ⟩ := X
  intro H locs ls hP hS hL
  exact lv_lor hx hb hd (kk H locs ls hP hS hL)
theorem z_lshl (X : z_O G A x M mc ms Post) {a : Int64} {b : Int32} (hd : decode M.2.1 pc = .ok (.lshl, 1)) (hp : pc + 1 = pc') (kk : z_V G A x h k n pc' L (.long (a <<< (b.toInt64 &&& 63)) :: st)) : z_V G A x h k n pc L (.int b :: .long a :: st) := by
  subst hp
  obtain ⟨p, e, R, s, m, args, below, meth, c, Q⟩ := x
  obtain ⟨hx, hb, hml, hown, hK, hR, hret, hnm, hlk, hA, hZ, hQ⟩ := X
  intro H locs ls hP hS hL
  exact lv_lshl hx hb hd rfl (kk H locs ls hP hS hL)
theorem z_i2l (X : z_O G A x M mc ms Post) {a : Int32} (hd : decode M.2.1 pc = .ok (.i2l, 1)) (hp : pc + 1 = pc') (kk : z_V G A x h k n pc' L (.long a.toInt64 :: st)) : z_V G A x h k n pc L (.int a :: st) := by
  subst hp
  obtain ⟨p, e, R, s, m, args, below, meth, c, Q⟩ := x
  obtain ⟨hx, hb, hml, hown, hK, hR, hret, hnm, hlk, hA, hZ, hQ⟩ := X
  intro H locs ls hP hS hL
  exact lv_i2l hx hb hd rfl (kk H locs ls hP hS hL)
theorem z_lcmp (X : z_O G A x M mc ms Post) {a b : Int64} (hd : decode M.2.1 pc = .ok (.lcmp, 1)) (hp : pc + 1 = pc') (kk : z_V G A x h k n pc' L (.int (lg_cmp a b) :: st)) : z_V G A x h k n pc L (.long b :: .long a :: st) := by
  subst hp
  obtain ⟨p, e, R, s, m, args, below, meth, c, Q⟩ := x
  obtain ⟨hx, hb, hml, hown, hK, hR, hret, hnm, hlk, hA, hZ, hQ⟩ := X
  intro H locs ls hP hS hL
  exact W.lcmp hx hb hd (kk H locs ls hP hS hL)
theorem z_dup (X : z_O G A x M mc ms Post) {a : Value} (hd : decode M.2.1 pc = .ok (.dup, 1)) (h1 : a.category = 1) (hp : pc + 1 = pc') (kk : z_V G A x h k n pc' L (a :: a :: st)) : z_V G A x h k n pc L (a :: st) := by
  subst hp
  obtain ⟨p, e, R, s, m, args, below, meth, c, Q⟩ := x
  obtain ⟨hx, hb, hml, hown, hK, hR, hret, hnm, hlk, hA, hZ, hQ⟩ := X
  intro H locs ls hP hS hL
  exact lv_dup hx hb hd h1 (kk H locs ls hP hS hL)
theorem z_dup_x1 (X : z_O G A x M mc ms Post) {a b : Value} (hd : decode M.2.1 pc = .ok (.dup_x1, 1)) (h1 : a.category = 1) (h2 : b.category = 1) (hp : pc + 1 = pc') (kk : z_V G A x h k n pc' L (a :: b :: a :: st)) : z_V G A x h k n pc L (a :: b :: st) := by
  subst hp
  obtain ⟨p, e, R, s, m, args, below, meth, c, Q⟩ := x
  obtain ⟨hx, hb, hml, hown, hK, hR, hret, hnm, hlk, hA, hZ, hQ⟩ := X
  intro H locs ls hP hS hL
  exact lv_dup_x1 hx hb hd h1 h2 (kk H locs ls hP hS hL)
theorem z_dup2 (X : z_O G A x M mc ms Post) {a b : Value} (hd : decode M.2.1 pc = .ok (.dup2, 1)) (h1 : a.category = 1) (h2 : b.category = 1) (hp : pc + 1 = pc') (kk : z_V G A x h k n pc' L (a :: b :: a :: b :: st)) : z_V G A x h k n pc L (a :: b :: st) := by
  subst hp
  obtain ⟨p, e, R, s, m, args, below, meth, c, Q⟩ := x
  obtain ⟨hx, hb, hml, hown, hK, hR, hret, hnm, hlk, hA, hZ, hQ⟩ := X
  intro H locs ls hP hS hL
  exact lv_dup2_11 hx hb hd h1 h2 (kk H locs ls hP hS hL)
theorem z_pop (X : z_O G A x M mc ms Post) {a : Value} (hd : decode M.2.1 pc = .ok (.pop, 1)) (h1 : a.category = 1) (hp : pc + 1 = pc') (kk : z_V G A x h k n pc' L (st)) : z_V G A x h k n pc L (a :: st) := by
  subst hp
  obtain ⟨p, e, R, s, m, args, below, meth, c, Q⟩ := x
  obtain ⟨hx, hb, hml, hown, hK, hR, hret, hnm, hlk, hA, hZ, hQ⟩ := X
  intro H locs ls hP hS hL
  exact lv_pop hx hb hd h1 (kk H locs ls hP hS hL)
theorem z_goto (X : z_O G A x M mc ms Post) {off : Int} (hd : decode M.2.1 pc = .ok (.goto off, 3)) (hp : (pc : Int) + off = (pc' : Int)) (kk : z_V G A x h k n pc' L st) : z_V G A x h k n pc L st := by
  obtain ⟨p, e, R, s, m, args, below, meth, c, Q⟩ := x
  obtain ⟨hx, hb, hml, hown, hK, hR, hret, hnm, hlk, hA, hZ, hQ⟩ := X
  intro H locs ls hP hS hL
  exact lv_goto hx hb hd hp (kk H locs ls hP hS hL)
theorem z_if_eq (X : z_O G A x M mc ms Post) {x0 : Int32} {off : Int} {tgt : Nat} (hd : decode M.2.1 pc = .ok (.ifCond .eq off, 3)) (ht : (pc : Int) + off = (tgt : Int)) (hp : pc + 3 = pc') (kt : x0 = 0 → z_V G A x h k n tgt L st) (kf : ¬ x0 = 0 → z_V G A x h k n pc' L st) : z_V G A x h k n pc L (.int x0 :: st) := by
  subst hp
  obtain ⟨p, e, R, s, m, args, below, meth, c, Q⟩ := x
  obtain ⟨hx, hb, hml, hown, hK, hR, hret, hnm, hlk, hA, hZ, hQ⟩ := X
  intro H locs ls hP hS hL
  exact lv_if_eq hx hb hd ht (fun q => kt q H locs ls hP hS hL) (fun q => kf q H locs ls hP hS hL)
theorem z_icmp_eq (X : z_O G A x M mc ms Post) {x0 y0 : Int32} {off : Int} {tgt : Nat} (hd : decode M.2.1 pc = .ok (.if_icmp .eq off, 3)) (ht : (pc : Int) + off = (tgt : Int)) (hp : pc + 3 = pc') (kt : x0 = y0 → z_V G A x h k n tgt L st) (kf : ¬ x0 = y0 → z_V G A x h k n pc' L st) : z_V G A x h k n pc L (.int y0 :: .int x0 :: st) := by
  subst hp
  obtain ⟨p, e, R, s, m, args, below, meth, c, Q⟩ := x
  obtain ⟨hx, hb, hml, hown, hK, hR, hret, hnm, hlk, hA, hZ, hQ⟩ := X
  intro H locs ls hP hS hL
  exact lv_icmp_eq hx hb hd ht (fun q => kt q H locs ls hP hS hL) (fun q => kf q H locs ls hP hS hL)
theorem z_if_ne (X : z_O G A x M mc ms Post) {x0 : Int32} {off : Int} {tgt : Nat} (hd : decode M.2.1 pc = .ok (.ifCond .ne off, 3)) (ht : (pc : Int) + off = (tgt : Int)) (hp : pc + 3 = pc') (kt : ¬ x0 = 0 → z_V G A x h k n tgt L st) (kf : x0 = 0 → z_V G A x h k n pc' L st) : z_V G A x h k n pc L (.int x0 :: st) := by
  subst hp
  obtain ⟨p, e, R, s, m, args, below, meth, c, Q⟩ := x
  obtain ⟨hx, hb, hml, hown, hK, hR, hret, hnm, hlk, hA, hZ, hQ⟩ := X
  intro H locs ls hP hS hL
  exact lv_if_ne hx hb hd ht (fun q => kt q H locs ls hP hS hL) (fun q => kf q H locs ls hP hS hL)
theorem z_icmp_ne (X : z_O G A x M mc ms Post) {x0 y0 : Int32} {off : Int} {tgt : Nat} (hd : decode M.2.1 pc = .ok (.if_icmp .ne off, 3)) (ht : (pc : Int) + off = (tgt : Int)) (hp : pc + 3 = pc') (kt : ¬ x0 = y0 → z_V G A x h k n tgt L st) (kf : x0 = y0 → z_V G A x h k n pc' L st) : z_V G A x h k n pc L (.int y0 :: .int x0 :: st) := by
  subst hp
  obtain ⟨p, e, R, s, m, args, below, meth, c, Q⟩ := x
  obtain ⟨hx, hb, hml, hown, hK, hR, hret, hnm, hlk, hA, hZ, hQ⟩ := X
  intro H locs ls hP hS hL
  exact lv_icmp_ne hx hb hd ht (fun q => kt q H locs ls hP hS hL) (fun q => kf q H locs ls hP hS hL)
theorem z_if_lt (X : z_O G A x M mc ms Post) {x0 : Int32} {off : Int} {tgt : Nat} (hd : decode M.2.1 pc = .ok (.ifCond .lt off, 3)) (ht : (pc : Int) + off = (tgt : Int)) (hp : pc + 3 = pc') (kt : x0 < 0 → z_V G A x h k n tgt L st) (kf : ¬ x0 < 0 → z_V G A x h k n pc' L st) : z_V G A x h k n pc L (.int x0 :: st) := by
  subst hp
  obtain ⟨p, e, R, s, m, args, below, meth, c, Q⟩ := x
  obtain ⟨hx, hb, hml, hown, hK, hR, hret, hnm, hlk, hA, hZ, hQ⟩ := X
  intro H locs ls hP hS hL
  exact lv_if_lt hx hb hd ht (fun q => kt q H locs ls hP hS hL) (fun q => kf q H locs ls hP hS hL)
theorem z_icmp_lt (X : z_O G A x M mc ms Post) {x0 y0 : Int32} {off : Int} {tgt : Nat} (hd : decode M.2.1 pc = .ok (.if_icmp .lt off, 3)) (ht : (pc : Int) + off = (tgt : Int)) (hp : pc + 3 = pc') (kt : x0 < y0 → z_V G A x h k n tgt L st) (kf : ¬ x0 < y0 → z_V G A x h k n pc' L st) : z_V G A x h k n pc L (.int y0 :: .int x0 :: st) := by
  subst hp
  obtain ⟨p, e, R, s, m, args, below, meth, c, Q⟩ := x
  obtain ⟨hx, hb, hml, hown, hK, hR, hret, hnm, hlk, hA, hZ, hQ⟩ := X
  intro H locs ls hP hS hL
  exact lv_icmp_lt hx hb hd ht (fun q => kt q H locs ls hP hS hL) (fun q => kf q H locs ls hP hS hL)
theorem z_if_ge (X : z_O G A x M mc ms Post) {x0 : Int32} {off : Int} {tgt : Nat} (hd : decode M.2.1 pc = .ok (.ifCond .ge off, 3)) (ht : (pc : Int) + off = (tgt : Int)) (hp : pc + 3 = pc') (kt : 0 ≤ x0 → z_V G A x h k n tgt L st) (kf : ¬ 0 ≤ x0 → z_V G A x h k n pc' L st) : z_V G A x h k n pc L (.int x0 :: st) := by
  subst hp
  obtain ⟨p, e, R, s, m, args, below, meth, c, Q⟩ := x
  obtain ⟨hx, hb, hml, hown, hK, hR, hret, hnm, hlk, hA, hZ, hQ⟩ := X
  intro H locs ls hP hS hL
  exact lv_if_ge hx hb hd ht (fun q => kt q H locs ls hP hS hL) (fun q => kf q H locs ls hP hS hL)
theorem z_icmp_ge (X : z_O G A x M mc ms Post) {x0 y0 : Int32} {off : Int} {tgt : Nat} (hd : decode M.2.1 pc = .ok (.if_icmp .ge off, 3)) (ht : (pc : Int) + off = (tgt : Int)) (hp : pc + 3 = pc') (kt : y0 ≤ x0 → z_V G A x h k n tgt L st) (kf : ¬ y0 ≤ x0 → z_V G A x h k n pc' L st) : z_V G A x h k n pc L (.int y0 :: .int x0 :: st) := by
  subst hp
  obtain ⟨p, e, R, s, m, args, below, meth, c, Q⟩ := x
  obtain ⟨hx, hb, hml, hown, hK, hR, hret, hnm, hlk, hA, hZ, hQ⟩ := X
  intro H locs ls hP hS hL
  exact lv_icmp_ge hx hb hd ht (fun q => kt q H locs ls hP hS hL) (fun q => kf q H locs ls hP hS hL)
theorem z_if_gt (X : z_O G A x M mc ms Post) {x0 : Int32} {off : Int} {tgt : Nat} (hd : decode M.2.1 pc = .ok (.ifCond .gt off, 3)) (ht : (pc : Int) + off = (tgt : Int)) (hp : pc + 3 = pc') (kt : 0 < x0 → z_V G A x h k n tgt L st) (kf : ¬ 0 < x0 → z_V G A x h k n pc' L st) : z_V G A x h k n pc L (.int x0 :: st) := by
  subst hp
  obtain ⟨p, e, R, s, m, args, below, meth, c, Q⟩ := x
  obtain ⟨hx, hb, hml, hown, hK, hR, hret, hnm, hlk, hA, hZ, hQ⟩ := X
  intro H locs ls hP hS hL
  exact lv_if_gt hx hb hd ht (fun q => kt q H locs ls hP hS hL) (fun q => kf q H locs ls hP hS hL)
theorem z_icmp_gt (X : z_O G A x M mc ms Post) {x0 y0 : Int32} {off : Int} {tgt : Nat} (hd : decode M.2.1 pc = .ok (.if_icmp .gt off, 3)) (ht : (pc : Int) + off = (tgt : Int)) (hp : pc + 3 = pc') (kt : y0 < x0 → z_V G A x h k n tgt L st) (kf : ¬ y0 < x0 → z_V G A x h k n pc' L st) : z_V G A x h k n pc L (.int y0 :: .int x0 :: st) := by
  subst hp
  obtain ⟨p, e, R, s, m, args, below, meth, c, Q⟩ := x
  obtain ⟨hx, hb, hml, hown, hK, hR, hret, hnm, hlk, hA, hZ, hQ⟩ := X
  intro H locs ls hP hS hL
  exact lv_icmp_gt hx hb hd ht (fun q => kt q H locs ls hP hS hL) (fun q => kf q H locs ls hP hS hL)
theorem z_if_le (X : z_O G A x M mc ms Post) {x0 : Int32} {off : Int} {tgt : Nat} (hd : decode M.2.1 pc = .ok (.ifCond .le off, 3)) (ht : (pc : Int) + off = (tgt : Int)) (hp : pc + 3 = pc') (kt : x0 ≤ 0 → z_V G A x h k n tgt L st) (kf : ¬ x0 ≤ 0 → z_V G A x h k n pc' L st) : z_V G A x h k n pc L (.int x0 :: st) := by
  subst hp
  obtain ⟨p, e, R, s, m, args, below, meth, c, Q⟩ := x
  obtain ⟨hx, hb, hml, hown, hK, hR, hret, hnm, hlk, hA, hZ, hQ⟩ := X
  intro H locs ls hP hS hL
  exact lv_if_le hx hb hd ht (fun q => kt q H locs ls hP hS hL) (fun q => kf q H locs ls hP hS hL)
theorem z_icmp_le (X : z_O G A x M mc ms Post) {x0 y0 : Int32} {off : Int} {tgt : Nat} (hd : decode M.2.1 pc = .ok (.if_icmp .le off, 3)) (ht : (pc : Int) + off = (tgt : Int)) (hp : pc + 3 = pc') (kt : x0 ≤ y0 → z_V G A x h k n tgt L st) (kf : ¬ x0 ≤ y0 → z_V G A x h k n pc' L st) : z_V G A x h k n pc L (.int y0 :: .int x0 :: st) := by
  subst hp
  obtain ⟨p, e, R, s, m, args, below, meth, c, Q⟩ := x
  obtain ⟨hx, hb, hml, hown, hK, hR, hret, hnm, hlk, hA, hZ, hQ⟩ := X
  intro H locs ls hP hS hL
  exact lv_icmp_le hx hb hd ht (fun q => kt q H locs ls hP hS hL) (fun q => kf q H locs ls hP hS hL)
theorem z_ifnullR (X : z_O G A x M mc ms Post) {a : Nat} {off : Int} (hd : decode M.2.1 pc = .ok (.ifnull off, 3)) (hp : pc + 3 = pc') (kk : z_V G A x h k n pc' L st) : z_V G A x h k n pc L (.ref a :: st) := by
  subst hp
  obtain ⟨p, e, R, s, m, args, below, meth, c, Q⟩ := x
  obtain ⟨hx, hb, hml, hown, hK, hR, hret, hnm, hlk, hA, hZ, hQ⟩ := X
  intro H locs ls hP hS hL
  exact lv_ifnull hx hb hd (kk H locs ls hP hS hL)
theorem z_ifnullN (X : z_O G A x M mc ms Post) {off : Int} (hd : decode M.2.1 pc = .ok (.ifnull off, 3)) (hp : (pc : Int) + off = (pc' : Int)) (kk : z_V G A x h k n pc' L st) : z_V G A x h k n pc L (.null :: st) := by
  obtain ⟨p, e, R, s, m, args, below, meth, c, Q⟩ := x
  obtain ⟨hx, hb, hml, hown, hK, hR, hret, hnm, hlk, hA, hZ, hQ⟩ := X
  intro H locs ls hP hS hL
  exact lv_ifnullN hx hb hd hp (kk H locs ls hP hS hL)
theorem z_ifnonnullR (X : z_O G A x M mc ms Post) {a : Nat} {off : Int} (hd : decode M.2.1 pc = .ok (.ifnonnull off, 3)) (hp : (pc : Int) + off = (pc' : Int)) (kk : z_V G A x h k n pc' L st) : z_V G A x h k n pc L (.ref a :: st) := by
  obtain ⟨p, e, R, s, m, args, below, meth, c, Q⟩ := x
  obtain ⟨hx, hb, hml, hown, hK, hR, hret, hnm, hlk, hA, hZ, hQ⟩ := X
  intro H locs ls hP hS hL
  exact lv_ifnonnull hx hb hd hp (kk H locs ls hP hS hL)
theorem z_ifnonnullN (X : z_O G A x M mc ms Post) {off : Int} (hd : decode M.2.1 pc = .ok (.ifnonnull off, 3)) (hp : pc + 3 = pc') (kk : z_V G A x h k n pc' L st) : z_V G A x h k n pc L (.null :: st) := by
  subst hp
  obtain ⟨p, e, R, s, m, args, below, meth, c, Q⟩ := x
  obtain ⟨hx, hb, hml, hown, hK, hR, hret, hnm, hlk, hA, hZ, hQ⟩ := X
  intro H locs ls hP hS hL
  exact lv_ifnonnullN hx hb hd (kk H locs ls hP hS hL)
theorem z_acmp_eq (X : z_O G A x M mc ms Post) {a b : Nat} {off : Int} {tgt : Nat} (hd : decode M.2.1 pc = .ok (.if_acmp .eq off, 3)) (ht : (pc : Int) + off = (tgt : Int)) (hp : pc + 3 = pc') (kt : a = b → z_V G A x h k n tgt L st) (kf : ¬ a = b → z_V G A x h k n pc' L st) : z_V G A x h k n pc L (.ref b :: .ref a :: st) := by
  subst hp
  obtain ⟨p, e, R, s, m, args, below, meth, c, Q⟩ := x
  obtain ⟨hx, hb, hml, hown, hK, hR, hret, hnm, hlk, hA, hZ, hQ⟩ := X
  intro H locs ls hP hS hL
  exact lv_acmp_eq (rx := some a) (ry := some b) hx hb hd ht (fun q => kt (by simpa using q) H locs ls hP hS hL) (fun q => kf (by simpa using q) H locs ls hP hS hL)
theorem z_acmp_ne (X : z_O G A x M mc ms Post) {a b : Nat} {off : Int} {tgt : Nat} (hd : decode M.2.1 pc = .ok (.if_acmp .ne off, 3)) (ht : (pc : Int) + off = (tgt : Int)) (hp : pc + 3 = pc') (kt : ¬ a = b → z_V G A x h k n tgt L st) (kf : a = b → z_V G A x h k n pc' L st) : z_V G A x h k n pc L (.ref b :: .ref a :: st) := by
  subst hp
  obtain ⟨p, e, R, s, m, args, below, meth, c, Q⟩ := x
  obtain ⟨hx, hb, hml, hown, hK, hR, hret, hnm, hlk, hA, hZ, hQ⟩ := X
  intro H locs ls hP hS hL
  exact lv_acmp_ne (rx := some a) (ry := some b) hx hb hd ht (fun q => kt (by simpa using q) H locs ls hP hS hL) (fun q => kf (by simpa using q) H locs ls hP hS hL)
theorem z_tabOut (X : z_O G A x M mc ms Post) {dflt lo hi : Int} {offs : Array Int} {len : Nat} {v : Int32} (hd : decode M.2.1 pc = .ok (.tableswitch dflt lo hi offs, len)) (hv : v.toInt < lo ∨ hi < v.toInt) (hp : (pc : Int) + dflt = (pc' : Int)) (kk : z_V G A x h k n pc' L st) : z_V G A x h k n pc L (.int v :: st) := by
  obtain ⟨p, e, R, s, m, args, below, meth, c, Q⟩ := x
  obtain ⟨hx, hb, hml, hown, hK, hR, hret, hnm, hlk, hA, hZ, hQ⟩ := X
  intro H locs ls hP hS hL
  exact lv_tableOut hx hb hd hv hp (kk H locs ls hP hS hL)
theorem z_tabIn (X : z_O G A x M mc ms Post) {dflt lo hi off : Int} {offs : Array Int} {len : Nat} {v : Int32} (hd : decode M.2.1 pc = .ok (.tableswitch dflt lo hi offs, len)) (h1 : ¬ v.toInt < lo) (h2 : ¬ hi < v.toInt) (ho : offs[(v.toInt - lo).toNat]? = some off) (hp : (pc : Int) + off = (pc' : Int)) (kk : z_V G A x h k n pc' L st) : z_V G A x h k n pc L (.int v :: st) := by
  obtain ⟨p, e, R, s, m, args, below, meth, c, Q⟩ := x
  obtain ⟨hx, hb, hml, hown, hK, hR, hret, hnm, hlk, hA, hZ, hQ⟩ := X
  intro H locs ls hP hS hL
  exact lv_tableIn hx hb hd h1 h2 ho hp (kk H locs ls hP hS hL)
theorem z_top {a b : Value} (he : a = b) (kk : z_V G A x h k n pc L (b :: st)) : z_V G A x h k n pc L (a :: st) := he ▸ kk
theorem z_hp {h' : z_H} (he : h = h') (kk : z_V G A x h' k n pc L st) : z_V G A x h k n pc L st := he ▸ kk
theorem z_wid {k2 n2 : Nat} (h1 : k ≤ k2) (h2 : n ≤ n2) (kk : z_V G A x h k2 n2 pc L st) : z_V G A x h k n pc L st := by
  obtain ⟨p, e, R, s, m, args, below, meth, c, Q⟩ := x
  intro H locs ls hP hS hL
  exact W.widen h1 h2 (kk H locs ls hP hS hL)
theorem z_less (hl : ∀ (i : Nat) (v : Value), L'[i]? = some (some v) → L[i]? = some (some v)) (hn : L.length = L'.length) (kk : z_V G A x h k n pc L' st) : z_V G A x h k n pc L st := by
  obtain ⟨p, e, R, s, m, args, below, meth, c, Q⟩ := x
  intro H locs ls hP hS hL
  refine kk H locs ls hP hS ⟨by rw [← hn]; exact hL.1, hL.2.1, fun q hq => ?_⟩
  obtain ⟨-, h2⟩ := (z_al_mem L' 0 q).mp hq
  rw [Nat.sub_zero] at h2
  exact hL.at (hl _ _ h2)
/-- per class: its words, types, names -/
theorem z_cls : ∀ (ci : Nat) (q : vw_C), classes[ci]? = some q → (∀ w ∈ u_ws q.1 q.2.1 q.2.2, w ∈ lw_tbl) ∧ ∃ ty : Nat → FieldType, (∀ k, k < q.2.2 → parseFieldDescriptor (q.2.1 k).2.2.1 = some (ty k)) ∧ (∀ a, a < q.2.2 → ∀ b, b < q.2.2 → a ≠ b → (q.2.1 a).2.1 ≠ (q.2.1 b).2.1)
  | 0, _, hq => by cases hq; exact ⟨iw_TC, t_TC, tk_TC, nd_TC⟩
  | 1, _, hq => by cases hq; exact ⟨iw_Mg, t_Mg, tk_Mg, nd_Mg⟩
  | 2, _, hq => by cases hq; exact ⟨iw_Tb, t_Tb, tk_Tb, nd_Tb⟩
  | 3, _, hq => by cases hq; exact ⟨iw_Mt, t_Mt, tk_Mt, nd_Mt⟩
  | 4, _, hq => by cases hq; exact ⟨iw_Ta, t_Ta, tk_Ta, nd_Ta⟩
  | 5, _, hq => by cases hq; exact ⟨iw_En, t_En, tk_En, nd_En⟩
  | 6, _, hq => by cases hq; exact ⟨iw_AL, t_AL, tk_AL, nd_AL⟩
  | 7, _, hq => by cases hq; exact ⟨iw_Mo, t_Mo, tk_Mo, nd_Mo⟩
  | k + 8, _, hq => by simp [classes] at hq
/-- field entry idx of class own is field j of class number ci -/
def z_fl (own : String) (idx ci j : Nat) : Prop := ∃ (q : vw_C) (ref : String), classes[ci]? = some q ∧ j < q.2.2 ∧ (Cond.fieldLink own idx ref (q.2.1 j).2.1 (q.2.1 j).2.2.1 ∈ lw_tbl ∨ ∃ host, Cond.fieldLinkNest own idx ref (q.2.1 j).2.1 (q.2.1 j).2.2.1 host ∈ lw_tbl) ∧ (ref = (q.2.1 j).1 ∨ Cond.sameField ref (q.2.1 j).1 (q.2.1 j).2.1 (q.2.1 j).2.2.1 ∈ lw_tbl)
/-- and it may be written: not final, or in a constructor of its own class; of type ty -/
def z_fw (own nm : String) (idx ci j : Nat) (ty : FieldType) : Prop := ∃ q : vw_C, classes[ci]? = some q ∧ parseFieldDescriptor (q.2.1 j).2.2.1 = some ty ∧ ((q.2.1 j).2.2.2 = false ∨ ((q.2.1 j).2.2.2 = true ∧ nm = "<init>" ∧ (q.2.1 j).1 = own ∧ Cond.fieldLink own idx (q.2.1 j).1 (q.2.1 j).2.1 (q.2.1 j).2.2.1 ∈ lw_tbl))
theorem z_same {G : z_G} {s : State} (hK : z_K G s) {ref : String} {d : String × String × String × Bool} (hr : ref = d.1 ∨ Cond.sameField ref d.1 d.2.1 d.2.2.1 ∈ lw_tbl) : ∀ x, s.fieldFound? d.1 d.2.1 d.2.2.1 = some x → s.fieldFound? ref d.2.1 d.2.2.1 = some x := by
  intro x hx
  rcases hr with rfl | hr
  · exact hx
  · exact u_same (args := #[]) (hK.w hr rfl) x hx
theorem z_tw {G : z_G} {s : State} {args : Array Value} (hK : z_K G s) {q : vw_C} (hi : ∀ w ∈ u_ws q.1 q.2.1 q.2.2, w ∈ lw_tbl) : ∀ w ∈ u_ws q.1 q.2.1 q.2.2, w.before args s = true := by
  intro w hw
  obtain ⟨j, hj, rfl⟩ := List.mem_map.mp hw
  refine hK.w (hi _ hw) ?_
  unfold u_lay
  split <;> rfl
theorem z_get (X : z_O G A x M mc ms Post) {a idx ci : Nat} {fs : List Value} {v : Value} (j : Nat) (F : z_fl M.1.cls idx ci j) (hd : decode M.2.1 pc = .ok (.getfield idx, 3)) (ha : h a = some (z_ob ci fs)) (hv : fs[j]? = some v) (hp : pc + 3 = pc') (kk : z_V G A x h k n pc' L (v :: st)) : z_V G A x h k n pc L (.ref a :: st) := by
  subst hp
  obtain ⟨p, e, R, s, m, args, below, meth, c, Q⟩ := x
  obtain ⟨hx, hb, hml, hown, hK, hR, hret, hnm, hlk, hA, hZ, hQ⟩ := X
  intro H locs ls hP hS hL
  obtain ⟨q, ref, hc, hj, hl, hs⟩ := F
  obtain ⟨hi, -⟩ := z_cls ci q hc
  rcases hl with hl | ⟨host, hl⟩
  · exact va_get hx hb (z_tw hK hi) (fun _ hw => hw) hown hK.2.2.2.2.2.1 (z_one hP ha) 0 rfl hc j hj (hK.w hl rfl) (z_same hK hs) hv hd (kk H locs ls hP hS hL)
  · exact va_getN hx hb (z_tw hK hi) (fun _ hw => hw) hown hK.2.2.2.2.2.1 (z_one hP ha) 0 rfl hc j hj (hK.w hl rfl) (z_same hK hs) hv hd (kk H locs ls hP hS hL)
theorem z_put (X : z_O G A x M mc ms Post) {a idx ci : Nat} {fs fs' : List Value} {v : Value} {ty : FieldType} (j : Nat) (F : z_fl M.1.cls idx ci j) (Fw : z_fw M.1.cls M.1.name idx ci j ty) (hd : decode M.2.1 pc = .ok (.putfield idx, 3)) (ha : h a = some (z_ob ci fs)) (hj' : Nat.ble (j + 1) fs.length = true) (hfs : fs.set j v = fs') (hnr : narrow ty v = v) (hft : fits ty v = true) (hp : pc + 3 = pc') (kk : z_V G A x (z_up h a (z_ob ci fs')) k n pc' L st) : z_V G A x h k n pc L (v :: .ref a :: st) := by
  subst hp; subst hfs
  obtain ⟨p, e, R, s, m, args, below, meth, c, Q⟩ := x
  obtain ⟨hx, hb, hml, hown, hK, hR, hret, hnm, hlk, hA, hZ, hQ⟩ := X
  intro H locs ls hP hS hL
  obtain ⟨q, ref, hc, hj, hl, hs⟩ := F
  obtain ⟨q', hc', hty, hfw⟩ := Fw
  cases hc.symm.trans hc'
  obtain ⟨hi, ty0, t1, t2⟩ := z_cls ci q hc
  obtain ⟨ws, wP, wD, wE⟩ := z_lift hP
  obtain ⟨q0, hq0⟩ := (wE a _).mp ha
  have hlen := Nat.le_of_ble_eq_true hj'
  rcases hfw with hfw | ⟨hfw, hin, hdc, hl⟩
  · rcases hl with hl | ⟨host, hl⟩
    · exact va_put hx hb (z_tw hK hi) (fun _ hw => hw) ty0 t1 t2 hown hK.2.2.2.2.2.1 wP wD hS q0 hq0 hc j hj (hK.w hl rfl) (z_same hK hs) hfw hty hnr hft hlen hd (fun H1 locs1 p1 d1 s1 => kk H1 locs1 ls (z_set wE hq0 p1 d1) s1 hL)
    · exact va_putN hx hb (z_tw hK hi) (fun _ hw => hw) ty0 t1 t2 hown hK.2.2.2.2.2.1 wP wD hS q0 hq0 hc j hj (hK.w hl rfl) (z_same hK hs) hfw hty hnr hft hlen hd (fun H1 locs1 p1 d1 s1 => kk H1 locs1 ls (z_set wE hq0 p1 d1) s1 hL)
  · exact va_putF hx hb (z_tw hK hi) (fun _ hw => hw) ty0 t1 t2 hown hK.2.2.2.2.2.1 wP wD hS q0 hq0 hc j hj (hK.w hl rfl) (fun _ h9 => h9) hfw (hnm.trans hin) hdc hty hnr hft hlen hd (fun H1 locs1 p1 d1 s1 => kk H1 locs1 ls (z_set wE hq0 p1 d1) s1 hL)
theorem z_iaload (X : z_O G A x M mc ms Post) {a len i : Nat} {f : Nat → Int32} (hd : decode M.2.1 pc = .ok (.iaload, 1)) (ha : h a = some (z_ia G len f)) (hi : i < len) (hl : len < 2 ^ 31) (hp : pc + 1 = pc') (kk : z_V G A x h k n pc' L (.int (f i) :: st)) : z_V G A x h k n pc L (.int (nI i) :: .ref a :: st) := by
  subst hp
  obtain ⟨p, e, R, s, m, args, below, meth, c, Q⟩ := x
  obtain ⟨hx, hb, hml, hown, hK, hR, hret, hnm, hlk, hA, hZ, hQ⟩ := X
  intro H locs ls hP hS hL
  refine va_iald hx hb hK.2.2.2.2.2.1 (z_one hP ha) 0 0 rfl rfl (vp_in_nI hi hl) hd ?_
  rw [nI_clamp (Nat.lt_trans hi hl)]
  exact (kk H locs ls hP hS hL)
theorem z_iastore (X : z_O G A x M mc ms Post) {a len i : Nat} {f f' : Nat → Int32} {v : Int32} (hd : decode M.2.1 pc = .ok (.iastore, 1)) (ha : h a = some (z_ia G len f)) (hi : i < len) (hl : len < 2 ^ 31) (hf : upd f i v = f') (hp : pc + 1 = pc') (kk : z_V G A x (z_up h a (z_ia G len f')) k n pc' L st) : z_V G A x h k n pc L (.int v :: .int (nI i) :: .ref a :: st) := by
  subst hp; subst hf
  obtain ⟨p, e, R, s, m, args, below, meth, c, Q⟩ := x
  obtain ⟨hx, hb, hml, hown, hK, hR, hret, hnm, hlk, hA, hZ, hQ⟩ := X
  intro H locs ls hP hS hL
  obtain ⟨ws, wP, wD, wE⟩ := z_lift hP
  obtain ⟨q0, hq0⟩ := (wE a _).mp ha
  refine va_iast hx hb hK.2.2.2.2.2.1 wP wD hS q0 0 hq0 rfl (vp_in_nI hi hl) hd (fun H1 locs1 p1 d1 s1 => ?_)
  rw [nI_clamp (Nat.lt_trans hi hl)] at p1 d1
  exact kk H1 locs1 ls (z_set wE hq0 p1 d1) s1 hL
theorem z_alen (X : z_O G A x M mc ms Post) {a : Nat} {c : ClassId} {y : vp_A} {ty : FieldType} (t0 : Nat) (hd : decode M.2.1 pc = .ok (.arraylength, 1)) (ha : h a = some (.inl (c, y))) (ht : (z_tys G)[t0]? = some (c, ty)) (hp : pc + 1 = pc') (kk : z_V G A x h k n pc' L (.int (nI y.1) :: st)) : z_V G A x h k n pc L (.ref a :: st) := by
  subst hp
  obtain ⟨p, e, R, s, m, args, below, meth, cc, Q⟩ := x
  obtain ⟨hx, hb, hml, hown, hK, hR, hret, hnm, hlk, hA, hZ, hQ⟩ := X
  intro H locs ls hP hS hL
  exact va_alen hx hb hK.2.2.2.2.2.1 (z_one hP ha) 0 t0 rfl ht rfl hd (kk H locs ls hP hS hL)
theorem z_alen0 (X : z_O G A x M mc ms Post) (hd : decode M.2.1 pc = .ok (.arraylength, 1)) (hp : pc + 1 = pc') (kk : z_V G A x h k n pc' L (.int 0 :: st)) : z_V G A x h k n pc L (.ref (z_d0 G) :: st) := by
  subst hp
  obtain ⟨p, e, R, s, m, args, below, meth, c, Q⟩ := x
  obtain ⟨hx, hb, hml, hown, hK, hR, hret, hnm, hlk, hA, hZ, hQ⟩ := X
  intro H locs ls hP hS hL
  exact va_tlen hx hb hZ.2 hS rfl hd (kk H locs ls hP hS hL)
theorem z_gets (X : z_O G A x M mc ms Post) {idx : Nat} (hw : Cond.fieldLink M.1.cls idx "java/util/ArrayList" "DEFAULTCAPACITY_EMPTY_ELEMENTDATA" "[Ljava/lang/Object;" ∈ lw_tbl) (hd : decode M.2.1 pc = .ok (.getstatic idx, 3)) (hp : pc + 3 = pc') (kk : z_V G A x h k n pc' L (.ref (z_d0 G) :: st)) : z_V G A x h k n pc L st := by
  subst hp
  obtain ⟨p, e, R, s, m, args, below, meth, c, Q⟩ := x
  obtain ⟨hx, hb, hml, hown, hK, hR, hret, hnm, hlk, hA, hZ, hQ⟩ := X
  intro H locs ls hP hS hL
  exact va_gets hx hb hZ.1 hS hown (hK.w hw rfl) (fun _ h9 => h9) hd (kk H locs ls hP hS hL)
theorem z_aaload (X : z_O G A x M mc ms Post) {a b len i : Nat} {f : Nat → Option Nat} {c : ClassId} {C : String} (t0 : Nat) (hd : decode M.2.1 pc = .ok (.aaload, 1)) (ha : h a = some (z_ra c len f)) (ht : (z_tys G)[t0]? = some (c, .object C)) (hi : i < len) (hl : len < 2 ^ 31) (hf : f i = some b) (hp : pc + 1 = pc') (kk : z_V G A x h k n pc' L (.ref b :: st)) : z_V G A x h k n pc L (.int (nI i) :: .ref a :: st) := by
  subst hp
  obtain ⟨p, e, R, s, m, args, below, meth, cc, Q⟩ := x
  obtain ⟨hx, hb, hml, hown, hK, hR, hret, hnm, hlk, hA, hZ, hQ⟩ := X
  intro H locs ls hP hS hL
  refine va_aldq hx hb hK.2.2.2.2.2.1 (z_one hP ha) 0 t0 rfl ht (vp_in_nI hi hl) hd ?_
  rw [nI_clamp (Nat.lt_trans hi hl), hf]
  exact (kk H locs ls hP hS hL)
theorem z_any {s : State} {H : Heap} {b ci : Nat} {fs : List Value} {q : vw_C} {E : String} (hK : z_K G s) (hP : z_P G A h H) (hb : h b = some (z_ob ci fs)) (hc : classes[ci]? = some q) (hw : Cond.castable q.1 E ∈ lw_tbl) : va_Any E s H b := by
  refine va_rAny (q0 := 0) hK.2.2.2.2.2.1 (z_one hP hb) rfl hc (fun comp c0 h1 h2 => ?_)
  obtain ⟨c1, t1, f1, f2, f3⟩ := Cond.castable_spec (args := #[]) (hK.w hw rfl)
  cases h1.symm.trans f2
  cases h2.symm.trans f1
  exact f3
theorem z_aastore (X : z_O G A x M mc ms Post) {a b ci len i : Nat} {fs : List Value} {q : vw_C} {f f' : Nat → Option Nat} {c : ClassId} {C : String} (t0 : Nat) (hd : decode M.2.1 pc = .ok (.aastore, 1)) (ha : h a = some (z_ra c len f)) (ht : (z_tys G)[t0]? = some (c, .object C)) (hbo : h b = some (z_ob ci fs)) (hc : classes[ci]? = some q) (hw : Cond.castable q.1 C ∈ lw_tbl) (hi : i < len) (hl : len < 2 ^ 31) (hf : va_up f i (some b) = f') (hp : pc + 1 = pc') (kk : z_V G A x (z_up h a (z_ra c len f')) k n pc' L st) : z_V G A x h k n pc L (.ref b :: .int (nI i) :: .ref a :: st) := by
  subst hp; subst hf
  obtain ⟨p, e, R, s, m, args, below, meth, cc, Q⟩ := x
  obtain ⟨hx, hb, hml, hown, hK, hR, hret, hnm, hlk, hA, hZ, hQ⟩ := X
  intro H locs ls hP hS hL
  obtain ⟨ws, wP, wD, wE⟩ := z_lift hP
  obtain ⟨q0, hq0⟩ := (wE a _).mp ha
  refine va_astqM hx hb hK.2.2.2.2.2.1 wP wD hS q0 t0 hq0 ht (z_any hK hP hbo hc hw) (vp_in_nI hi hl) hd (fun H1 locs1 p1 d1 s1 => ?_)
  rw [nI_clamp (Nat.lt_trans hi hl)] at p1 d1
  exact kk H1 locs1 ls (z_set wE hq0 p1 d1) s1 hL
theorem z_aastoreN (X : z_O G A x M mc ms Post) {a len i : Nat} {f f' : Nat → Option Nat} {c : ClassId} {C : String} (t0 : Nat) (hd : decode M.2.1 pc = .ok (.aastore, 1)) (ha : h a = some (z_ra c len f)) (ht : (z_tys G)[t0]? = some (c, .object C)) (hi : i < len) (hl : len < 2 ^ 31) (hf : va_up f i none = f') (hp : pc + 1 = pc') (kk : z_V G A x (z_up h a (z_ra c len f')) k n pc' L st) : z_V G A x h k n pc L (.null :: .int (nI i) :: .ref a :: st) := by
  subst hp; subst hf
  obtain ⟨p, e, R, s, m, args, below, meth, cc, Q⟩ := x
  obtain ⟨hx, hb, hml, hown, hK, hR, hret, hnm, hlk, hA, hZ, hQ⟩ := X
  intro H locs ls hP hS hL
  obtain ⟨ws, wP, wD, wE⟩ := z_lift hP
  obtain ⟨q0, hq0⟩ := (wE a _).mp ha
  refine va_astqN hx hb hK.2.2.2.2.2.1 wP wD hS q0 t0 hq0 ht (vp_in_nI hi hl) hd (fun H1 locs1 p1 d1 s1 => ?_)
  rw [nI_clamp (Nat.lt_trans hi hl)] at p1 d1
  exact kk H1 locs1 ls (z_set wE hq0 p1 d1) s1 hL
theorem z_copy (X : z_O G A x M mc ms Post) {a0 a1 n0 n1 i j w idx : Nat} {f g f' : Nat → Option Nat} (hl0 : Cond.methodLink M.1.cls idx arraycopyName ∈ lw_tbl) (hl1 : Cond.native arraycopyName ∈ lw_tbl) (hl2 : Cond.static arraycopyName ∈ lw_tbl) (hl3 : Cond.initialized "java/lang/System" ∈ lw_tbl) (hd : decode M.2.1 pc = .ok (.invokestatic idx, 3)) (ha0 : h a0 = some (z_ra (z_cO G) n0 f)) (ha1 : h a1 = some (z_ra (z_cO G) n1 g)) (hi : i + w ≤ n0) (hj : j + w ≤ n1) (hn0 : n0 < 2 ^ 31) (hn1 : n1 < 2 ^ 31)
    (hel : ∀ t : Nat, t < w → ∀ y : Nat, f (i + t) = some y → ∃ (ci : Nat) (q : vw_C) (fs : List Value), h y = some (z_ob ci fs) ∧ classes[ci]? = some q ∧ Cond.castable q.1 "java/lang/Object" ∈ lw_tbl) (hll : L.length = M.2.2.1) (hrm : 1 ≤ M.2.2.2.2.1 ∧ 40 ≤ M.2.2.2.2.2) (hrest : (st.map fun v => v.category).sum ≤ 8) (hf : va_cpy f g i j w = f') (hp : pc + 3 = pc') (kk : z_V G A x (z_up h a1 (z_ra (z_cO G) n1 f')) k n pc' L st) : z_V G A x h k n pc L (.int (nI w) :: .int (nI j) :: .ref a1 :: .int (nI i) :: .ref a0 :: st) := by
  subst hp; subst hf
  obtain ⟨p, e, R, s, m, args, below, meth, c, Q⟩ := x
  obtain ⟨hx, hb, hml, hown, hK, hR, hret, hnm, hlk, hA, hZ, hQ⟩ := X
  intro H locs ls hP hS hL
  subst hR
  obtain ⟨ws, wP, wD, wE⟩ := z_lift hP
  obtain ⟨q0, hq0⟩ := (wE a0 _).mp ha0
  obtain ⟨q1, hq1⟩ := (wE a1 _).mp ha1
  have c1 : (nI i).toNatClampNeg = i := nI_clamp (by omega)
  have c2 : (nI j).toNatClampNeg = j := nI_clamp (by omega)
  have c3 : (nI w).toNatClampNeg = w := nI_clamp (by omega)
  have hnf : nativeFrameWords "java/lang/System" "arraycopy" 5 + 11 ≤ 32 := by decide
  refine va_copyM hx hb (by rw [hml, ← hll, hL.1]) hown (hK.w hl0 rfl) (hK.w hl1 rfl) (hK.w hl2 rfl) (hK.w hl3 rfl) hK.2.2.2.2.2.1 wP wD hS q0 q1 1 1 hq0 hq1 rfl rfl (nI_pos (by omega)) (nI_pos (by omega)) (nI_pos (by omega)) (by rw [c1, c3]; exact hi) (by rw [c2, c3]; exact hj) (fun t ht y hy => ?_) hrm.1 (by show _ ≤ M.2.2.2.2.2; omega) hd (fun H1 locs1 p1 d1 s1 => ?_)
  · rw [c3] at ht
    rw [c1] at hy
    obtain ⟨ci, q, fs, g1, g2, g3⟩ := hel t ht y hy
    exact z_any hK hP g1 g2 g3
  · rw [c1, c2, c3] at p1 d1
    exact kk H1 locs1 ls (z_set wE hq1 p1 d1) s1 hL
def z_nw (own : String) (idx ci : Nat) (fs : List Value) (N : Nat) : Prop := ∃ q : vw_C, classes[ci]? = some q ∧ q.2.2 = N ∧ Cond.classLink own idx q.1 ∈ lw_tbl ∧ Cond.instantiable q.1 q.2.2 ∈ lw_tbl ∧ Cond.initialized q.1 ∈ lw_tbl ∧ ∀ ty : Nat → FieldType, (∀ k, k < q.2.2 → parseFieldDescriptor (q.2.1 k).2.2.1 = some (ty k)) → ∀ j, j < q.2.2 → defaultValue (ty j) = vp_V fs j
theorem z_new (X : z_O G A x M mc ms Post) {idx ci N : Nat} {fs : List Value} (F : z_nw M.1.cls idx ci fs N) (hd : decode M.2.1 pc = .ok (.new idx, 3)) (hk : k + 1 ≤ mc ∧ n + N ≤ ms) (hp : pc + 3 = pc') (kk : ∀ a : Nat, h a = none → a ≠ z_d0 G → z_V G A x (z_up h a (z_ob ci fs)) (k + 1) (n + N) pc' L (.ref a :: st)) : z_V G A x h k n pc L st := by
  subst hp
  obtain ⟨p, e, R, s, m, args, below, meth, c, Q⟩ := x
  obtain ⟨hx, hb, hml, hown, hK, hR, hret, hnm, hlk, hA, hZ, hQ⟩ := X
  intro H locs ls hP hS hL
  subst hR
  obtain ⟨q, hc, rfl, w1, w2, w3, w4⟩ := F
  obtain ⟨hi, ty0, t1, t2⟩ := z_cls ci q hc
  obtain ⟨ws, wP, wD, wE⟩ := z_lift hP
  have hZ2 := hZ.2.kept hS.2.1
  refine va_new (A := fun q => A q ∧ q ≠ z_d0 G) hx hb (z_tw hK hi) (fun _ hw => hw) ty0 t1 hown (hK.w w1 rfl) (hK.w w2 rfl) (hK.w w3 rfl) hK.2.2.2.2.2.1 wP ⟨wD.1, fun k q hk => ⟨wD.2 k q hk, fun e => hZ2.out (e ▸ wD.2 k q hk)⟩⟩ (H0 := s.heap) ⟨hS.1, fun q h1 h2 => ?_, fun l hl => ⟨hS.2.2 l hl, fun e => hZ2.out (e ▸ hS.2.2 l hl)⟩⟩ ?_ hc (w4 ty0 t1) hk.1 hk.2 hd (fun a H1 p1 d1 s1 => ?_)
  · by_cases hA' : A q
    · have hq : q = z_d0 G := Classical.byContradiction fun hne => h2 ⟨hA', hne⟩
      exact absurd (hq ▸ hA') hZ2.out
    · exact hS.2.1 q h1 hA'
  · intro q hq
    refine ⟨hA q hq, fun e => ?_⟩
    exact hZ2.out (e ▸ hA q hq)
  · have d2 : va_D A (ws ++ [(a, z_ob ci fs)]) := ⟨d1.1, fun k q hk => (d1.2 k q hk).1⟩
    obtain ⟨g1, g2⟩ := z_push wE p1 d2
    have g3 : a ≠ z_d0 G := (d1.2 ws.length (a, z_ob ci fs) (by simp)).2
    exact kk a g1 g3 H1 locs ls g2 ⟨s1.1, fun q h1 h2 => s1.2.1 q h1 (fun z => h2 z.1), fun l hl => (s1.2.2 l hl).1⟩ hL
end ZR
