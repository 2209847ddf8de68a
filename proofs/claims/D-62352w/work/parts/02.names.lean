def F_TC : u_T := fun k => match k with
  | 0 => ("TabletCells", "numbers", "[I", true)
  | 1 => ("TabletCells", "ages", "[I", true)
  | 2 => ("TabletCells", "tablets", "Ljava/util/ArrayList;", true)
  | 3 => ("TabletCells", "batch", "Ljava/util/ArrayList;", true)
  | 4 => ("TabletCells", "expects", "Z", false)
  | 5 => ("TabletCells", "some", "Z", false)
  | 6 => ("TabletCells", "expectedRow", "I", false)
  | 7 => ("TabletCells", "expectedColumn", "I", false)
  | 8 => ("TabletCells", "expectedValue", "I", false)
  | 9 => ("TabletCells", "merger", "LTabletCells$Merger;", true)
  | 10 => ("TabletCells", "kept", "Ljava/util/ArrayList;", true)
  | 11 => ("TabletCells", "result", "Ljava/util/ArrayList;", true)
  | 12 => ("TabletCells", "waiting", "[I", true)
  | 13 => ("TabletCells", "batches", "I", false)
  | 14 => ("TabletCells", "logged", "I", false)
  | 15 => ("TabletCells", "sequence", "I", false)
  | 16 => ("TabletCells", "clock", "I", false)
  | 17 => ("TabletCells", "looked", "I", false)
  | _ => ("TabletCells", "torn", "Z", false)
def t_TC : Nat → FieldType := fun k => match k with
  | 0 => .array (.int)
  | 1 => .array (.int)
  | 2 => .object "java/util/ArrayList"
  | 3 => .object "java/util/ArrayList"
  | 4 => .boolean
  | 5 => .boolean
  | 6 => .int
  | 7 => .int
  | 8 => .int
  | 9 => .object "TabletCells$Merger"
  | 10 => .object "java/util/ArrayList"
  | 11 => .object "java/util/ArrayList"
  | 12 => .array (.int)
  | 13 => .int
  | 14 => .int
  | 15 => .int
  | 16 => .int
  | 17 => .int
  | _ => .boolean
theorem nd_TC : ∀ a, a < 19 → ∀ b, b < 19 → a ≠ b → (F_TC a).2.1 ≠ (F_TC b).2.1 := by decide +kernel
theorem tk_TC : ∀ k, k < 19 → parseFieldDescriptor (F_TC k).2.2.1 = some (t_TC k) := by decide +kernel
theorem iw_TC : ∀ w ∈ u_ws "TabletCells" F_TC 19, w ∈ lw_tbl := by
  have h : ∀ k, k < 19 → u_lay "TabletCells" F_TC k ∈ tables_1 := by
    intro k hk
    match k, hk with
    | 0, _ => exact List.mem_of_getElem? (i := 205) (by decide +kernel)
    | 1, _ => exact List.mem_of_getElem? (i := 207) (by decide +kernel)
    | 2, _ => exact List.mem_of_getElem? (i := 209) (by decide +kernel)
    | 3, _ => exact List.mem_of_getElem? (i := 211) (by decide +kernel)
    | 4, _ => exact List.mem_of_getElem? (i := 213) (by decide +kernel)
    | 5, _ => exact List.mem_of_getElem? (i := 215) (by decide +kernel)
    | 6, _ => exact List.mem_of_getElem? (i := 217) (by decide +kernel)
    | 7, _ => exact List.mem_of_getElem? (i := 219) (by decide +kernel)
    | 8, _ => exact List.mem_of_getElem? (i := 221) (by decide +kernel)
    | 9, _ => exact List.mem_of_getElem? (i := 223) (by decide +kernel)
    | 10, _ => exact List.mem_of_getElem? (i := 225) (by decide +kernel)
    | 11, _ => exact List.mem_of_getElem? (i := 227) (by decide +kernel)
    | 12, _ => exact List.mem_of_getElem? (i := 229) (by decide +kernel)
    | 13, _ => exact List.mem_of_getElem? (i := 231) (by decide +kernel)
    | 14, _ => exact List.mem_of_getElem? (i := 233) (by decide +kernel)
    | 15, _ => exact List.mem_of_getElem? (i := 235) (by decide +kernel)
    | 16, _ => exact List.mem_of_getElem? (i := 237) (by decide +kernel)
    | 17, _ => exact List.mem_of_getElem? (i := 239) (by decide +kernel)
    | 18, _ => exact List.mem_of_getElem? (i := 241) (by decide +kernel)
    | k + 19, hk => exact absurd hk (by omega)
  intro w hw
  obtain ⟨k, hk, rfl⟩ := List.mem_map.mp hw
  exact List.mem_append_right _ (h k (List.mem_range.mp hk))
def F_Mg : u_T := fun k => match k with
  | 0 => ("TabletCells$Merger", "sources", "Ljava/util/ArrayList;", true)
  | 1 => ("TabletCells$Merger", "at", "[I", true)
  | 2 => ("TabletCells$Merger", "out", "Ljava/util/ArrayList;", true)
  | 3 => ("TabletCells$Merger", "row", "I", false)
  | 4 => ("TabletCells$Merger", "rowErased", "I", false)
  | 5 => ("TabletCells$Merger", "column", "I", false)
  | 6 => ("TabletCells$Merger", "columnErased", "I", false)
  | _ => ("TabletCells$Merger", "time", "I", false)
def t_Mg : Nat → FieldType := fun k => match k with
  | 0 => .object "java/util/ArrayList"
  | 1 => .array (.int)
  | 2 => .object "java/util/ArrayList"
  | 3 => .int
  | 4 => .int
  | 5 => .int
  | 6 => .int
  | _ => .int
theorem nd_Mg : ∀ a, a < 8 → ∀ b, b < 8 → a ≠ b → (F_Mg a).2.1 ≠ (F_Mg b).2.1 := by decide +kernel
theorem tk_Mg : ∀ k, k < 8 → parseFieldDescriptor (F_Mg k).2.2.1 = some (t_Mg k) := by decide +kernel
theorem iw_Mg : ∀ w ∈ u_ws "TabletCells$Merger" F_Mg 8, w ∈ lw_tbl := by
  have h : ∀ k, k < 8 → u_lay "TabletCells$Merger" F_Mg k ∈ tables_1 := by
    intro k hk
    match k, hk with
    | 0, _ => exact List.mem_of_getElem? (i := 76) (by decide +kernel)
    | 1, _ => exact List.mem_of_getElem? (i := 78) (by decide +kernel)
    | 2, _ => exact List.mem_of_getElem? (i := 80) (by decide +kernel)
    | 3, _ => exact List.mem_of_getElem? (i := 82) (by decide +kernel)
    | 4, _ => exact List.mem_of_getElem? (i := 84) (by decide +kernel)
    | 5, _ => exact List.mem_of_getElem? (i := 86) (by decide +kernel)
    | 6, _ => exact List.mem_of_getElem? (i := 88) (by decide +kernel)
    | 7, _ => exact List.mem_of_getElem? (i := 90) (by decide +kernel)
    | k + 8, hk => exact absurd hk (by omega)
  intro w hw
  obtain ⟨k, hk, rfl⟩ := List.mem_map.mp hw
  exact List.mem_append_right _ (h k (List.mem_range.mp hk))
def F_Tb : u_T := fun k => match k with
  | 0 => ("TabletCells$Tablet", "first", "I", false)
  | 1 => ("TabletCells$Tablet", "last", "I", false)
  | 2 => ("TabletCells$Tablet", "memtable", "LTabletCells$Memtable;", false)
  | _ => ("TabletCells$Tablet", "tables", "Ljava/util/ArrayList;", true)
def t_Tb : Nat → FieldType := fun k => match k with
  | 0 => .int
  | 1 => .int
  | 2 => .object "TabletCells$Memtable"
  | _ => .object "java/util/ArrayList"
theorem nd_Tb : ∀ a, a < 4 → ∀ b, b < 4 → a ≠ b → (F_Tb a).2.1 ≠ (F_Tb b).2.1 := by decide +kernel
theorem tk_Tb : ∀ k, k < 4 → parseFieldDescriptor (F_Tb k).2.2.1 = some (t_Tb k) := by decide +kernel
theorem iw_Tb : ∀ w ∈ u_ws "TabletCells$Tablet" F_Tb 4, w ∈ lw_tbl := by
  have h : ∀ k, k < 4 → u_lay "TabletCells$Tablet" F_Tb k ∈ tables_1 := by
    intro k hk
    match k, hk with
    | 0, _ => exact List.mem_of_getElem? (i := 128) (by decide +kernel)
    | 1, _ => exact List.mem_of_getElem? (i := 130) (by decide +kernel)
    | 2, _ => exact List.mem_of_getElem? (i := 132) (by decide +kernel)
    | 3, _ => exact List.mem_of_getElem? (i := 134) (by decide +kernel)
    | k + 4, hk => exact absurd hk (by omega)
  intro w hw
  obtain ⟨k, hk, rfl⟩ := List.mem_map.mp hw
  exact List.mem_append_right _ (h k (List.mem_range.mp hk))
def F_Mt : u_T := fun k => match k with
  | _ => ("TabletCells$Memtable", "entries", "Ljava/util/ArrayList;", true)
def t_Mt : Nat → FieldType := fun k => match k with
  | _ => .object "java/util/ArrayList"
theorem nd_Mt : ∀ a, a < 1 → ∀ b, b < 1 → a ≠ b → (F_Mt a).2.1 ≠ (F_Mt b).2.1 := by decide +kernel
theorem tk_Mt : ∀ k, k < 1 → parseFieldDescriptor (F_Mt k).2.2.1 = some (t_Mt k) := by decide +kernel
theorem iw_Mt : ∀ w ∈ u_ws "TabletCells$Memtable" F_Mt 1, w ∈ lw_tbl := by
  have h : ∀ k, k < 1 → u_lay "TabletCells$Memtable" F_Mt k ∈ tables_1 := by
    intro k hk
    match k, hk with
    | 0, _ => exact List.mem_of_getElem? (i := 115) (by decide +kernel)
    | k + 1, hk => exact absurd hk (by omega)
  intro w hw
  obtain ⟨k, hk, rfl⟩ := List.mem_map.mp hw
  exact List.mem_append_right _ (h k (List.mem_range.mp hk))
def F_Ta : u_T := fun k => match k with
  | 0 => ("TabletCells$Table", "entries", "[LTabletCells$Entry;", true)
  | 1 => ("TabletCells$Table", "filter", "J", false)
  | _ => ("TabletCells$Table", "erasures", "I", false)
def t_Ta : Nat → FieldType := fun k => match k with
  | 0 => .array (.object "TabletCells$Entry")
  | 1 => .long
  | _ => .int
theorem nd_Ta : ∀ a, a < 3 → ∀ b, b < 3 → a ≠ b → (F_Ta a).2.1 ≠ (F_Ta b).2.1 := by decide +kernel
theorem tk_Ta : ∀ k, k < 3 → parseFieldDescriptor (F_Ta k).2.2.1 = some (t_Ta k) := by decide +kernel
theorem iw_Ta : ∀ w ∈ u_ws "TabletCells$Table" F_Ta 3, w ∈ lw_tbl := by
  have h : ∀ k, k < 3 → u_lay "TabletCells$Table" F_Ta k ∈ tables_1 := by
    intro k hk
    match k, hk with
    | 0, _ => exact List.mem_of_getElem? (i := 498) (by decide +kernel)
    | 1, _ => exact List.mem_of_getElem? (i := 500) (by decide +kernel)
    | 2, _ => exact List.mem_of_getElem? (i := 502) (by decide +kernel)
    | k + 3, hk => exact absurd hk (by omega)
  intro w hw
  obtain ⟨k, hk, rfl⟩ := List.mem_map.mp hw
  exact List.mem_append_right _ (h k (List.mem_range.mp hk))
def F_En : u_T := fun k => match k with
  | 0 => ("TabletCells$Entry", "row", "I", true)
  | 1 => ("TabletCells$Entry", "column", "I", true)
  | 2 => ("TabletCells$Entry", "time", "I", true)
  | 3 => ("TabletCells$Entry", "cell", "Z", true)
  | 4 => ("TabletCells$Entry", "value", "I", true)
  | 5 => ("TabletCells$Entry", "sequence", "I", false)
  | _ => ("TabletCells$Entry", "batch", "I", false)
def t_En : Nat → FieldType := fun k => match k with
  | 0 => .int
  | 1 => .int
  | 2 => .int
  | 3 => .boolean
  | 4 => .int
  | 5 => .int
  | _ => .int
theorem nd_En : ∀ a, a < 7 → ∀ b, b < 7 → a ≠ b → (F_En a).2.1 ≠ (F_En b).2.1 := by decide +kernel
theorem tk_En : ∀ k, k < 7 → parseFieldDescriptor (F_En k).2.2.1 = some (t_En k) := by decide +kernel
theorem iw_En : ∀ w ∈ u_ws "TabletCells$Entry" F_En 7, w ∈ lw_tbl := by
  have h : ∀ k, k < 7 → u_lay "TabletCells$Entry" F_En k ∈ tables_1 := by
    intro k hk
    match k, hk with
    | 0, _ => exact List.mem_of_getElem? (i := 279) (by decide +kernel)
    | 1, _ => exact List.mem_of_getElem? (i := 281) (by decide +kernel)
    | 2, _ => exact List.mem_of_getElem? (i := 283) (by decide +kernel)
    | 3, _ => exact List.mem_of_getElem? (i := 285) (by decide +kernel)
    | 4, _ => exact List.mem_of_getElem? (i := 287) (by decide +kernel)
    | 5, _ => exact List.mem_of_getElem? (i := 289) (by decide +kernel)
    | 6, _ => exact List.mem_of_getElem? (i := 291) (by decide +kernel)
    | k + 7, hk => exact absurd hk (by omega)
  intro w hw
  obtain ⟨k, hk, rfl⟩ := List.mem_map.mp hw
  exact List.mem_append_right _ (h k (List.mem_range.mp hk))
def F_AL : u_T := fun k => match k with
  | 0 => ("java/util/AbstractList", "modCount", "I", false)
  | 1 => ("java/util/ArrayList", "elementData", "[Ljava/lang/Object;", false)
  | _ => ("java/util/ArrayList", "size", "I", false)
def t_AL : Nat → FieldType := fun k => match k with
  | 0 => .int
  | 1 => .array (.object "java/lang/Object")
  | _ => .int
theorem nd_AL : ∀ a, a < 3 → ∀ b, b < 3 → a ≠ b → (F_AL a).2.1 ≠ (F_AL b).2.1 := by decide +kernel
theorem tk_AL : ∀ k, k < 3 → parseFieldDescriptor (F_AL k).2.2.1 = some (t_AL k) := by decide +kernel
theorem iw_AL : ∀ w ∈ u_ws "java/util/ArrayList" F_AL 3, w ∈ lw_tbl := by
  have h : ∀ k, k < 3 → u_lay "java/util/ArrayList" F_AL k ∈ tables_1 := by
    intro k hk
    match k, hk with
    | 0, _ => exact List.mem_of_getElem? (i := 49) (by decide +kernel)
    | 1, _ => exact List.mem_of_getElem? (i := 45) (by decide +kernel)
    | 2, _ => exact List.mem_of_getElem? (i := 47) (by decide +kernel)
    | k + 3, hk => exact absurd hk (by omega)
  intro w hw
  obtain ⟨k, hk, rfl⟩ := List.mem_map.mp hw
  exact List.mem_append_right _ (h k (List.mem_range.mp hk))
def F_Mo : u_T := fun k => match k with
  | 0 => ("TabletCellsModel", "many", "I", false)
  | 1 => ("TabletCellsModel", "kinds", "[I", false)
  | 2 => ("TabletCellsModel", "rows", "[I", false)
  | 3 => ("TabletCellsModel", "columns", "[I", false)
  | 4 => ("TabletCellsModel", "times", "[I", false)
  | 5 => ("TabletCellsModel", "values", "[I", false)
  | 6 => ("TabletCellsModel", "batches", "[I", false)
  | 7 => ("TabletCellsModel", "tabletOf", "[I", false)
  | 8 => ("TabletCellsModel", "tableOf", "[I", false)
  | 9 => ("TabletCellsModel", "tablets", "I", false)
  | 10 => ("TabletCellsModel", "firstRow", "[I", false)
  | 11 => ("TabletCellsModel", "tableCount", "[I", false)
  | 12 => ("TabletCellsModel", "numbers", "[I", false)
  | 13 => ("TabletCellsModel", "ages", "[I", false)
  | 14 => ("TabletCellsModel", "clock", "I", false)
  | 15 => ("TabletCellsModel", "changes", "I", false)
  | 16 => ("TabletCellsModel", "changeKind", "[I", false)
  | 17 => ("TabletCellsModel", "batchRow", "I", false)
  | 18 => ("TabletCellsModel", "changeColumn", "[I", false)
  | 19 => ("TabletCellsModel", "changeTime", "[I", false)
  | 20 => ("TabletCellsModel", "changeValue", "[I", false)
  | 21 => ("TabletCellsModel", "expects", "Z", false)
  | 22 => ("TabletCellsModel", "expectRow", "I", false)
  | 23 => ("TabletCellsModel", "expectColumn", "I", false)
  | 24 => ("TabletCellsModel", "expectSome", "Z", false)
  | 25 => ("TabletCellsModel", "expectValue", "I", false)
  | 26 => ("TabletCellsModel", "torn", "Z", false)
  | 27 => ("TabletCellsModel", "applied", "I", false)
  | 28 => ("TabletCellsModel", "found", "I", false)
  | 29 => ("TabletCellsModel", "foundPlace", "[I", false)
  | 30 => ("TabletCellsModel", "foundValue", "[I", false)
  | _ => ("TabletCellsModel", "lookedAt", "I", false)
def t_Mo : Nat → FieldType := fun k => match k with
  | 0 => .int
  | 1 => .array (.int)
  | 2 => .array (.int)
  | 3 => .array (.int)
  | 4 => .array (.int)
  | 5 => .array (.int)
  | 6 => .array (.int)
  | 7 => .array (.int)
  | 8 => .array (.int)
  | 9 => .int
  | 10 => .array (.int)
  | 11 => .array (.int)
  | 12 => .array (.int)
  | 13 => .array (.int)
  | 14 => .int
  | 15 => .int
  | 16 => .array (.int)
  | 17 => .int
  | 18 => .array (.int)
  | 19 => .array (.int)
  | 20 => .array (.int)
  | 21 => .boolean
  | 22 => .int
  | 23 => .int
  | 24 => .boolean
  | 25 => .int
  | 26 => .boolean
  | 27 => .int
  | 28 => .int
  | 29 => .array (.int)
  | 30 => .array (.int)
  | _ => .int
theorem nd_Mo : ∀ a, a < 32 → ∀ b, b < 32 → a ≠ b → (F_Mo a).2.1 ≠ (F_Mo b).2.1 := by decide +kernel
theorem tk_Mo : ∀ k, k < 32 → parseFieldDescriptor (F_Mo k).2.2.1 = some (t_Mo k) := by decide +kernel
theorem iw_Mo : ∀ w ∈ u_ws "TabletCellsModel" F_Mo 32, w ∈ lw_tbl := by
  have h : ∀ k, k < 32 → u_lay "TabletCellsModel" F_Mo k ∈ tables_1 := by
    intro k hk
    match k, hk with
    | 0, _ => exact List.mem_of_getElem? (i := 658) (by decide +kernel)
    | 1, _ => exact List.mem_of_getElem? (i := 660) (by decide +kernel)
    | 2, _ => exact List.mem_of_getElem? (i := 662) (by decide +kernel)
    | 3, _ => exact List.mem_of_getElem? (i := 664) (by decide +kernel)
    | 4, _ => exact List.mem_of_getElem? (i := 666) (by decide +kernel)
    | 5, _ => exact List.mem_of_getElem? (i := 668) (by decide +kernel)
    | 6, _ => exact List.mem_of_getElem? (i := 670) (by decide +kernel)
    | 7, _ => exact List.mem_of_getElem? (i := 672) (by decide +kernel)
    | 8, _ => exact List.mem_of_getElem? (i := 674) (by decide +kernel)
    | 9, _ => exact List.mem_of_getElem? (i := 676) (by decide +kernel)
    | 10, _ => exact List.mem_of_getElem? (i := 678) (by decide +kernel)
    | 11, _ => exact List.mem_of_getElem? (i := 680) (by decide +kernel)
    | 12, _ => exact List.mem_of_getElem? (i := 682) (by decide +kernel)
    | 13, _ => exact List.mem_of_getElem? (i := 684) (by decide +kernel)
    | 14, _ => exact List.mem_of_getElem? (i := 686) (by decide +kernel)
    | 15, _ => exact List.mem_of_getElem? (i := 688) (by decide +kernel)
    | 16, _ => exact List.mem_of_getElem? (i := 690) (by decide +kernel)
    | 17, _ => exact List.mem_of_getElem? (i := 692) (by decide +kernel)
    | 18, _ => exact List.mem_of_getElem? (i := 694) (by decide +kernel)
    | 19, _ => exact List.mem_of_getElem? (i := 696) (by decide +kernel)
    | 20, _ => exact List.mem_of_getElem? (i := 698) (by decide +kernel)
    | 21, _ => exact List.mem_of_getElem? (i := 700) (by decide +kernel)
    | 22, _ => exact List.mem_of_getElem? (i := 702) (by decide +kernel)
    | 23, _ => exact List.mem_of_getElem? (i := 704) (by decide +kernel)
    | 24, _ => exact List.mem_of_getElem? (i := 706) (by decide +kernel)
    | 25, _ => exact List.mem_of_getElem? (i := 708) (by decide +kernel)
    | 26, _ => exact List.mem_of_getElem? (i := 710) (by decide +kernel)
    | 27, _ => exact List.mem_of_getElem? (i := 712) (by decide +kernel)
    | 28, _ => exact List.mem_of_getElem? (i := 714) (by decide +kernel)
    | 29, _ => exact List.mem_of_getElem? (i := 716) (by decide +kernel)
    | 30, _ => exact List.mem_of_getElem? (i := 718) (by decide +kernel)
    | 31, _ => exact List.mem_of_getElem? (i := 720) (by decide +kernel)
    | k + 32, hk => exact absurd hk (by omega)
  intro w hw
  obtain ⟨k, hk, rfl⟩ := List.mem_map.mp hw
  exact List.mem_append_right _ (h k (List.mem_range.mp hk))
abbrev classes : List vw_C := [("TabletCells", F_TC, 19), ("TabletCells$Merger", F_Mg, 8), ("TabletCells$Tablet", F_Tb, 4), ("TabletCells$Memtable", F_Mt, 1), ("TabletCells$Table", F_Ta, 3), ("TabletCells$Entry", F_En, 7), ("java/util/ArrayList", F_AL, 3), ("TabletCellsModel", F_Mo, 32)]
