/-! the system: small private methods -/
def z_ir (r : Int32) : Bool := decide (¬ r < 0) && decide (r < 64)
def z_ic (c : Int32) : Bool := decide (¬ c < 0) && decide (c < 8)
theorem z_ofnat {y : Int32} (hy : 0 ≤ y.toInt) : y = nI y.toInt.toNat := by
  have h1 : y.toInt < 2 ^ 31 := Int32.toInt_lt y
  refine Int32.toInt_inj.mp ?_
  rw [nI_toInt (by omega)]
  omega
def z_cx (e : z_E7) : Nat := if eC e = -1 then 0 else (eC e).toInt.toNat / 4
def z_yg (ag : Nat → Int32) (ck : Int32) (e : z_E7) : Bool := decide (¬ eL e = 0) && (decide (ag (z_cx e) = 0) || decide (ck < eT e + ag (z_cx e)))
def z_tof (tb : Nat → z_TB) : List Nat → Int32 → Nat
  | [], _ => 0
  | [t], _ => t
  | t :: u :: r, row => if bL (tb t) < row then z_tof tb (u :: r) row else t
theorem z_tof_mem (tb : Nat → z_TB) : ∀ (T : List Nat) (row : Int32), T ≠ [] → z_tof tb T row ∈ T
  | [], _, h => absurd rfl h
  | [t], _, _ => by simp [z_tof]
  | t :: u :: r, row, _ => by
    unfold z_tof
    split
    · exact List.mem_cons_of_mem _ (z_tof_mem tb (u :: r) row (by simp))
    · exact List.mem_cons_self
theorem z_sumtk {f : Nat → Nat} {l : List Nat} {i a : Nat} (hg : l[i]? = some a) : ((l.take (i + 1)).map f).sum = ((l.take i).map f).sum + f a := by
  rw [List.take_add_one, hg, Option.toList_some, List.map_append, List.sum_append, List.map_cons, List.map_nil, List.sum_cons, List.sum_nil, Nat.add_zero]
section TC1
variable {G : z_G} {A : Nat → Prop} {h : z_H} {o : Nat} {K : z_KA} {v : z_VS} {La : z_LA} {en : Nat → z_E7} {sc tt : Nat → List Nat} {tb : Nat → z_TB} {T B R : List Nat} {nu ag wa : Nat → Int32}
theorem c_isRow {r : Int32} : z_C G A m_TC_isRow 0 0 [.int r] h (z_pu (some (.int (bI (z_ir r)))) h) := by
  refine z_C.of (by decide +kernel) rfl (Nat.le_of_ble_eq_true rfl) ?_
  intro x X
  refine z_iload_n (pc' := 1) X d_TC_isRow_0 rfl rfl ?_
  refine z_if_lt (tgt := 14) (pc' := 4) X d_TC_isRow_1 (by decide) rfl (fun c_1 => ?_) (fun c_1 => ?_)
  · refine z_iconst (pc' := 15) (v := 0) X d_TC_isRow_14 (by decide) rfl ?_
    exact z_zret X rfl (by first | decide | simp | assumption | omega) d_TC_isRow_15 (⟨by simp [z_ir, c_1, bI], rfl, rfl, rfl⟩)
  · refine z_iload_n (pc' := 5) X d_TC_isRow_4 rfl rfl ?_
    refine z_bipush (pc' := 7) (v := 64) X d_TC_isRow_5 (by decide) rfl ?_
    refine z_icmp_ge (tgt := 14) (pc' := 10) X d_TC_isRow_7 (by decide) rfl (fun c_7 => ?_) (fun c_7 => ?_)
    · refine z_iconst (pc' := 15) (v := 0) X d_TC_isRow_14 (by decide) rfl ?_
      exact z_zret X rfl (by first | decide | simp | assumption | omega) d_TC_isRow_15 (⟨by simp [z_ir, Int32.not_lt.mpr c_7, bI], rfl, rfl, rfl⟩)
    · refine z_iconst (pc' := 11) (v := 1) X d_TC_isRow_10 (by decide) rfl ?_
      refine z_goto (pc' := 15) X d_TC_isRow_11 (by decide) ?_
      exact z_zret X rfl (by first | decide | simp | assumption | omega) d_TC_isRow_15 (⟨by simp [z_ir, Int32.not_lt.mp c_1, Int32.not_le.mp c_7, bI], rfl, rfl, rfl⟩)
theorem c_isColumn {r : Int32} : z_C G A m_TC_isColumn 0 0 [.int r] h (z_pu (some (.int (bI (z_ic r)))) h) := by
  refine z_C.of (by decide +kernel) rfl (Nat.le_of_ble_eq_true rfl) ?_
  intro x X
  refine z_iload_n (pc' := 1) X d_TC_isColumn_0 rfl rfl ?_
  refine z_if_lt (tgt := 14) (pc' := 4) X d_TC_isColumn_1 (by decide) rfl (fun c_1 => ?_) (fun c_1 => ?_)
  · refine z_iconst (pc' := 15) (v := 0) X d_TC_isColumn_14 (by decide) rfl ?_
    exact z_zret X rfl (by first | decide | simp | assumption | omega) d_TC_isColumn_15 (⟨by simp [z_ic, c_1, bI], rfl, rfl, rfl⟩)
  · refine z_iload_n (pc' := 5) X d_TC_isColumn_4 rfl rfl ?_
    refine z_bipush (pc' := 7) (v := 8) X d_TC_isColumn_5 (by decide) rfl ?_
    refine z_icmp_ge (tgt := 14) (pc' := 10) X d_TC_isColumn_7 (by decide) rfl (fun c_7 => ?_) (fun c_7 => ?_)
    · refine z_iconst (pc' := 15) (v := 0) X d_TC_isColumn_14 (by decide) rfl ?_
      exact z_zret X rfl (by first | decide | simp | assumption | omega) d_TC_isColumn_15 (⟨by simp [z_ic, Int32.not_lt.mpr c_7, bI], rfl, rfl, rfl⟩)
    · refine z_iconst (pc' := 11) (v := 1) X d_TC_isColumn_10 (by decide) rfl ?_
      refine z_goto (pc' := 15) X d_TC_isColumn_11 (by decide) ?_
      exact z_zret X rfl (by first | decide | simp | assumption | omega) d_TC_isColumn_15 (⟨by simp [z_ic, Int32.not_lt.mp c_1, Int32.not_le.mp c_7, bI], rfl, rfl, rfl⟩)
theorem c_tabletAt {d c i t : Nat} {f : List Value} (hp : z_pool G h La) (h1 : h o = some (z_ob 0 (z_tcf K v))) (h2 : La (kTa K) = some (d, T, c)) (hi : T[i]? = some t) (ht : h t = some (z_ob 2 f)) : z_C G A m_TC_tabletAt 0 0 [.ref o, .int (nI i)] h (z_pu (some (.ref t)) h) := by
  have hl := P_lt hp h2
  have hil : i < T.length := (List.getElem?_eq_some_iff.mp hi).1
  obtain ⟨fs, g1⟩ := P_ob hp h2
  refine z_C.of (by decide +kernel) rfl (Nat.le_of_ble_eq_true rfl) ?_
  intro x X
  refine z_iload_n (pc' := 1) X d_TC_tabletAt_0 rfl rfl ?_
  refine z_if_lt (tgt := 15) (pc' := 4) X d_TC_tabletAt_1 (by decide) rfl (fun c_1 => ?_) (fun c_1 => ?_)
  · exact absurd c_1 (nI_pos (by omega))
  · refine z_iload_n (pc' := 5) X d_TC_tabletAt_4 rfl rfl ?_
    refine z_aload_n (pc' := 6) X d_TC_tabletAt_5 rfl rfl ?_
    refine z_get (pc' := 9) X 2 f_TC_35 d_TC_tabletAt_6 (by assumption) rfl rfl ?_
    refine z_callV X (P_size hp h2) k_TC_79 d_TC_tabletAt_9 (by assumption) (show classes[6]? = some _ from rfl) rfl rfl rfl (by decide) (Nat.le_of_ble_eq_true rfl) ⟨by omega, by omega⟩ (z_kp ?_)
    refine z_icmp_lt (tgt := 19) (pc' := 15) X d_TC_tabletAt_12 (by decide) rfl (fun c_12 => ?_) (fun c_12 => ?_)
    · refine z_aload_n (pc' := 20) X d_TC_tabletAt_19 rfl rfl ?_
      refine z_get (pc' := 23) X 2 f_TC_35 d_TC_tabletAt_20 (by assumption) rfl rfl ?_
      refine z_iload_n (pc' := 24) X d_TC_tabletAt_23 rfl rfl ?_
      refine z_callV X (P_get hp h2 hi) k_TC_80 d_TC_tabletAt_24 (by assumption) (show classes[6]? = some _ from rfl) rfl rfl rfl (by decide) (Nat.le_of_ble_eq_true rfl) ⟨by omega, by omega⟩ (z_kp ?_)
      refine z_cast (pc' := 30) X cl_TC_70 ca_Tablet d_TC_tabletAt_27 (by assumption) rfl rfl ?_
      exact z_aret X rfl (Or.inl ⟨_, rfl⟩) (by first | exact Or.inr ⟨_, rfl⟩ | exact Or.inl rfl) d_TC_tabletAt_30 (⟨rfl, rfl, rfl, rfl⟩)
    · exact absurd (nI_lt hil (by omega)) c_12
theorem c_tabletAtN {d c : Nat} {t : Int32} (hp : z_pool G h La) (h1 : h o = some (z_ob 0 (z_tcf K v))) (h2 : La (kTa K) = some (d, T, c)) (ht : t < 0 ∨ nI T.length ≤ t) : z_C G A m_TC_tabletAt 0 0 [.ref o, .int t] h (z_pu (some .null) h) := by
  obtain ⟨fs, g1⟩ := P_ob hp h2
  refine z_C.of (by decide +kernel) rfl (Nat.le_of_ble_eq_true rfl) ?_
  intro x X
  refine z_iload_n (pc' := 1) X d_TC_tabletAt_0 rfl rfl ?_
  refine z_if_lt (tgt := 15) (pc' := 4) X d_TC_tabletAt_1 (by decide) rfl (fun c_1 => ?_) (fun c_1 => ?_)
  · refine z_anull (pc' := 16) X d_TC_tabletAt_15 rfl ?_
    refine z_goto (pc' := 30) X d_TC_tabletAt_16 (by decide) ?_
    exact z_aret X rfl (Or.inl ⟨_, rfl⟩) (by first | exact Or.inr ⟨_, rfl⟩ | exact Or.inl rfl) d_TC_tabletAt_30 (⟨rfl, rfl, rfl, rfl⟩)
  · refine z_iload_n (pc' := 5) X d_TC_tabletAt_4 rfl rfl ?_
    refine z_aload_n (pc' := 6) X d_TC_tabletAt_5 rfl rfl ?_
    refine z_get (pc' := 9) X 2 f_TC_35 d_TC_tabletAt_6 (by assumption) rfl rfl ?_
    refine z_callV X (P_size hp h2) k_TC_79 d_TC_tabletAt_9 (by assumption) (show classes[6]? = some _ from rfl) rfl rfl rfl (by decide) (Nat.le_of_ble_eq_true rfl) ⟨by omega, by omega⟩ (z_kp ?_)
    refine z_icmp_lt (tgt := 19) (pc' := 15) X d_TC_tabletAt_12 (by decide) rfl (fun c_12 => ?_) (fun c_12 => ?_)
    · rcases ht with ht | ht
      · exact absurd ht c_1
      · exact absurd ht (Int32.not_le.mpr c_12)
    · refine z_anull (pc' := 16) X d_TC_tabletAt_15 rfl ?_
      refine z_goto (pc' := 30) X d_TC_tabletAt_16 (by decide) ?_
      exact z_aret X rfl (Or.inl ⟨_, rfl⟩) (by first | exact Or.inr ⟨_, rfl⟩ | exact Or.inl rfl) d_TC_tabletAt_30 (⟨rfl, rfl, rfl, rfl⟩)
theorem c_tabletOf {d c : Nat} {row : Int32} (hp : z_pool G h La) (h1 : h o = some (z_ob 0 (z_tcf K v))) (h2 : La (kTa K) = some (d, T, c)) (hT : T ≠ []) (ht : ∀ t ∈ T, h t = some (z_ob 2 [.int (bF (tb t)), .int (bL (tb t)), .ref (bM (tb t)), .ref (bT (tb t))])) : z_C G A m_TC_tabletOf 0 0 [.ref o, .int row] h (z_pu (some (.ref (z_tof tb T row))) h) := by
  have hl := P_lt hp h2
  obtain ⟨fs, g1⟩ := P_ob hp h2
  have hpos : 0 < T.length := List.length_pos_iff.mpr hT
  refine z_C.of (by decide +kernel) rfl (Nat.le_of_ble_eq_true rfl) ?_
  intro x X
  have fin : ∀ (i t : Nat), T[i]? = some t → z_tof tb T row = t → z_V G A x h 0 0 39 [some (.ref o), some (.int row), some (.int (nI i))] [] := by
    intro i t hi hz
    have hto := ht t (List.mem_of_getElem? hi)
    refine z_aload_n (pc' := 40) X d_TC_tabletOf_39 rfl rfl ?_
    refine z_get (pc' := 43) X 2 f_TC_35 d_TC_tabletOf_40 (by assumption) rfl rfl ?_
    refine z_iload_n (pc' := 44) X d_TC_tabletOf_43 rfl rfl ?_
    refine z_callV X (P_get hp h2 hi) k_TC_80 d_TC_tabletOf_44 (by assumption) (show classes[6]? = some _ from rfl) rfl rfl rfl (by decide) (Nat.le_of_ble_eq_true rfl) ⟨by omega, by omega⟩ (z_kp ?_)
    refine z_cast (pc' := 50) X cl_TC_70 ca_Tablet d_TC_tabletOf_47 (by assumption) rfl rfl ?_
    exact z_aret X rfl (Or.inl ⟨_, rfl⟩) (by first | exact Or.inr ⟨_, rfl⟩ | exact Or.inl rfl) d_TC_tabletOf_50 (⟨by rw [hz], rfl, rfl, rfl⟩)
  have loop : ∀ (m i : Nat), m + i + 1 = T.length → z_tof tb T row = z_tof tb (T.drop i) row → z_V G A x h 0 0 2 [some (.ref o), some (.int row), some (.int (nI i))] [] := by
    intro m
    induction m with
    | zero =>
      intro i hi hz
      have hil : i < T.length := by omega
      refine z_iload_n (pc' := 3) X d_TC_tabletOf_2 rfl rfl ?_
      refine z_aload_n (pc' := 4) X d_TC_tabletOf_3 rfl rfl ?_
      refine z_get (pc' := 7) X 2 f_TC_35 d_TC_tabletOf_4 (by assumption) rfl rfl ?_
      refine z_callV X (P_size hp h2) k_TC_79 d_TC_tabletOf_7 (by assumption) (show classes[6]? = some _ from rfl) rfl rfl rfl (by decide) (Nat.le_of_ble_eq_true rfl) ⟨by omega, by omega⟩ (z_kp ?_)
      refine z_iconst (pc' := 11) (v := 1) X d_TC_tabletOf_10 (by decide) rfl ?_
      refine z_isub (pc' := 12) X d_TC_tabletOf_11 rfl ?_
      refine z_top (b := .int (nI (T.length - 1))) (by rw [← pk_sub (b := 1) (by omega)]; rfl) ?_
      refine z_icmp_ge (tgt := 39) (pc' := 15) X d_TC_tabletOf_12 (by decide) rfl (fun c_12 => ?_) (fun c_12 => ?_)
      · refine fin i T[i] (List.getElem?_eq_getElem hil) ?_
        rw [hz, List.drop_eq_getElem_cons hil, List.drop_eq_nil_of_le (by omega)]
        rfl
      · exact absurd (nI_le (by omega) (by omega)) c_12
    | succ m ih =>
      intro i hi hz
      have hil : i < T.length := by omega
      have hil2 : i + 1 < T.length := by omega
      have hg := List.getElem?_eq_getElem hil
      have hto := ht T[i] (List.getElem_mem hil)
      have hcons : T.drop i = T[i] :: T[i + 1] :: T.drop (i + 2) := by rw [List.drop_eq_getElem_cons hil, List.drop_eq_getElem_cons hil2]
      refine z_iload_n (pc' := 3) X d_TC_tabletOf_2 rfl rfl ?_
      refine z_aload_n (pc' := 4) X d_TC_tabletOf_3 rfl rfl ?_
      refine z_get (pc' := 7) X 2 f_TC_35 d_TC_tabletOf_4 (by assumption) rfl rfl ?_
      refine z_callV X (P_size hp h2) k_TC_79 d_TC_tabletOf_7 (by assumption) (show classes[6]? = some _ from rfl) rfl rfl rfl (by decide) (Nat.le_of_ble_eq_true rfl) ⟨by omega, by omega⟩ (z_kp ?_)
      refine z_iconst (pc' := 11) (v := 1) X d_TC_tabletOf_10 (by decide) rfl ?_
      refine z_isub (pc' := 12) X d_TC_tabletOf_11 rfl ?_
      refine z_top (b := .int (nI (T.length - 1))) (by rw [← pk_sub (b := 1) (by omega)]; rfl) ?_
      refine z_icmp_ge (tgt := 39) (pc' := 15) X d_TC_tabletOf_12 (by decide) rfl (fun c_12 => ?_) (fun c_12 => ?_)
      · exact absurd c_12 (nI_ge (by omega) (by omega))
      · refine z_aload_n (pc' := 16) X d_TC_tabletOf_15 rfl rfl ?_
        refine z_get (pc' := 19) X 2 f_TC_35 d_TC_tabletOf_16 (by assumption) rfl rfl ?_
        refine z_iload_n (pc' := 20) X d_TC_tabletOf_19 rfl rfl ?_
        refine z_callV X (P_get hp h2 hg) k_TC_80 d_TC_tabletOf_20 (by assumption) (show classes[6]? = some _ from rfl) rfl rfl rfl (by decide) (Nat.le_of_ble_eq_true rfl) ⟨by omega, by omega⟩ (z_kp ?_)
        refine z_cast (pc' := 26) X cl_TC_70 ca_Tablet d_TC_tabletOf_23 (by assumption) rfl rfl ?_
        refine z_get (pc' := 29) X 1 f_TC_84 d_TC_tabletOf_26 (by assumption) rfl rfl ?_
        refine z_iload_n (pc' := 30) X d_TC_tabletOf_29 rfl rfl ?_
        refine z_icmp_ge (tgt := 39) (pc' := 33) X d_TC_tabletOf_30 (by decide) rfl (fun c_30 => ?_) (fun c_30 => ?_)
        · refine fin i T[i] hg ?_
          rw [hz, hcons]
          unfold z_tof
          rw [if_neg (Int32.not_lt.mpr c_30)]
        · refine z_iinc (pc' := 36) (w := nI (i + 1)) X d_TC_tabletOf_33 rfl (z_i1 _) rfl rfl rfl ?_
          refine z_goto (pc' := 2) X d_TC_tabletOf_36 (by decide) ?_
          refine ih (i + 1) (by omega) ?_
          rw [hz, hcons, List.drop_eq_getElem_cons hil2]
          conv => lhs; unfold z_tof
          rw [if_pos (Int32.not_le.mp c_30)]
  refine z_iconst (pc' := 1) (v := 0) X d_TC_tabletOf_0 (by decide) rfl ?_
  refine z_istore_n (pc' := 2) X d_TC_tabletOf_1 rfl rfl rfl ?_
  exact loop (T.length - 1) 0 (by omega) (by rw [List.drop_zero])
theorem c_young {a : Nat} {e : z_E7} (h1 : h o = some (z_ob 0 (z_tcf K v))) (h2 : h (kAg K) = some (z_ia G 2 ag)) (h3 : h a = some (z_ob 5 (z_ef e))) (hv : z_va e) : z_C G A m_TC_young 0 0 [.ref o, .ref a] h (z_pu (some (.int (bI (z_yg ag (vCk v) e)))) h) := by
  obtain ⟨-, -, v3, v4, -⟩ := hv
  refine z_C.of (by decide +kernel) rfl (Nat.le_of_ble_eq_true rfl) ?_
  intro x X
  have next : ∀ (g : Int32), g = ag (z_cx e) → z_V G A x h 0 0 23 [some (.ref o), some (.ref a), none] [.int g] := by
    intro g hg
    refine z_istore_n (pc' := 24) X d_TC_young_23 rfl rfl rfl ?_
    refine z_aload_n (pc' := 25) X d_TC_young_24 rfl rfl ?_
    refine z_get (pc' := 28) X 3 f_TC_90 d_TC_young_25 (by assumption) rfl rfl ?_
    refine z_if_eq (tgt := 52) (pc' := 31) X d_TC_young_28 (by decide) rfl (fun c_28 => ?_) (fun c_28 => ?_)
    · refine z_iconst (pc' := 53) (v := 0) X d_TC_young_52 (by decide) rfl ?_
      exact z_zret X rfl (by first | decide | simp | assumption | omega) d_TC_young_53 (⟨by simp [z_yg, c_28, bI], rfl, rfl, rfl⟩)
    · refine z_iload_n (pc' := 32) X d_TC_young_31 rfl rfl ?_
      refine z_if_eq (tgt := 48) (pc' := 35) X d_TC_young_32 (by decide) rfl (fun c_32 => ?_) (fun c_32 => ?_)
      · refine z_iconst (pc' := 49) (v := 1) X d_TC_young_48 (by decide) rfl ?_
        refine z_goto (pc' := 53) X d_TC_young_49 (by decide) ?_
        exact z_zret X rfl (by first | decide | simp | assumption | omega) d_TC_young_53 (⟨by rw [hg] at c_32; simp [z_yg, c_28, c_32, bI], rfl, rfl, rfl⟩)
      · refine z_aload_n (pc' := 36) X d_TC_young_35 rfl rfl ?_
        refine z_get (pc' := 39) X 2 f_TC_94 d_TC_young_36 (by assumption) rfl rfl ?_
        refine z_iload_n (pc' := 40) X d_TC_young_39 rfl rfl ?_
        refine z_iadd (pc' := 41) X d_TC_young_40 rfl ?_
        refine z_aload_n (pc' := 42) X d_TC_young_41 rfl rfl ?_
        refine z_get (pc' := 45) X 16 f_TC_97 d_TC_young_42 (by assumption) rfl rfl ?_
        refine z_icmp_le (tgt := 52) (pc' := 48) X d_TC_young_45 (by decide) rfl (fun c_45 => ?_) (fun c_45 => ?_)
        · refine z_iconst (pc' := 53) (v := 0) X d_TC_young_52 (by decide) rfl ?_
          exact z_zret X rfl (by first | decide | simp | assumption | omega) d_TC_young_53 (⟨by rw [hg] at c_32 c_45; simp [z_yg, c_28, c_32, Int32.not_lt.mpr c_45, bI], rfl, rfl, rfl⟩)
        · refine z_iconst (pc' := 49) (v := 1) X d_TC_young_48 (by decide) rfl ?_
          refine z_goto (pc' := 53) X d_TC_young_49 (by decide) ?_
          exact z_zret X rfl (by first | decide | simp | assumption | omega) d_TC_young_53 (⟨by rw [hg] at c_32 c_45; simp [z_yg, c_28, c_32, Int32.not_le.mp c_45, bI], rfl, rfl, rfl⟩)
  refine z_aload_n (pc' := 1) X d_TC_young_0 rfl rfl ?_
  refine z_get (pc' := 4) X 1 f_TC_29 d_TC_young_1 (by assumption) rfl rfl ?_
  refine z_aload_n (pc' := 5) X d_TC_young_4 rfl rfl ?_
  refine z_get (pc' := 8) X 1 f_TC_87 d_TC_young_5 (by assumption) rfl rfl ?_
  refine z_iconst (pc' := 9) (v := (-1)) X d_TC_young_8 (by decide) rfl ?_
  refine z_icmp_ne (tgt := 16) (pc' := 12) X d_TC_young_9 (by decide) rfl (fun c_9 => ?_) (fun c_9 => ?_)
  · refine z_aload_n (pc' := 17) X d_TC_young_16 rfl rfl ?_
    refine z_get (pc' := 20) X 1 f_TC_87 d_TC_young_17 (by assumption) rfl rfl ?_
    refine z_iconst (pc' := 21) (v := 4) X d_TC_young_20 (by decide) rfl ?_
    refine z_idiv (pc' := 22) X d_TC_young_21 (by decide) rfl ?_
    have hpos : 0 ≤ (eC e).toInt := by
      have : (eC e).toInt ≠ -1 := fun q => c_9 (Int32.toInt_inj.mp (by rw [q]; rfl))
      omega
    refine z_top (b := .int (nI ((eC e).toInt.toNat / 4))) (by rw [z_ofnat hpos, show (4 : Int32) = nI 4 from rfl, pk_div (by omega) (by omega) (by omega), ← z_ofnat hpos]) ?_
    refine z_iaload (pc' := 23) X d_TC_young_22 h2 (by omega) (by omega) rfl ?_
    exact next _ (by unfold z_cx; rw [if_neg c_9])
  · refine z_iconst (pc' := 13) (v := 0) X d_TC_young_12 (by decide) rfl ?_
    refine z_goto (pc' := 22) X d_TC_young_13 (by decide) ?_
    refine z_iaload (pc' := 23) (i := 0) X d_TC_young_22 h2 (by omega) (by omega) rfl ?_
    exact next _ (by unfold z_cx; rw [if_pos c_9])
theorem c_Tb_size {t : Nat} (hp : z_pool G h La) (hi : z_I1 G h en sc tt tb t) (h1 : ∃ d c, La (bA (tb t)) = some (d, sc (bM (tb t)), c)) (h2 : ∃ d c, La (bT (tb t)) = some (d, tt t, c)) : z_C G A m_Tb_size 0 0 [.ref t] h (z_pu (some (.int (nI (z_tsz sc tt tb t)))) h) := by
  obtain ⟨i1, i2, i3, i4⟩ := hi
  obtain ⟨d1, c1, l1⟩ := h1
  obtain ⟨d2, c2, l2⟩ := h2
  obtain ⟨fs, g1⟩ := P_ob hp l2
  have hl := P_lt hp l2
  refine z_C.of (by decide +kernel) rfl (Nat.le_of_ble_eq_true rfl) ?_
  intro x X
  have loop : ∀ (m i : Nat), m + i = (tt t).length → z_V G A x h 0 0 10 [some (.ref t), some (.int (nI ((sc (bM (tb t))).length + (((tt t).take i).map (fun s => (sc s).length)).sum))), some (.int (nI i))] [] := by
    intro m
    induction m with
    | zero =>
      intro i hi
      have hi : i = (tt t).length := by omega
      subst hi
      rw [List.take_length]
      refine z_iload_n (pc' := 11) X d_Tb_size_10 rfl rfl ?_
      refine z_aload_n (pc' := 12) X d_Tb_size_11 rfl rfl ?_
      refine z_get (pc' := 15) X 3 f_Tb_19 d_Tb_size_12 (by assumption) rfl rfl ?_
      refine z_callV X (P_size hp l2) k_Tb_34 d_Tb_size_15 (by assumption) (show classes[6]? = some _ from rfl) rfl rfl rfl (by decide) (Nat.le_of_ble_eq_true rfl) ⟨by omega, by omega⟩ (z_kp ?_)
      refine z_icmp_ge (tgt := 44) (pc' := 21) X d_Tb_size_18 (by decide) rfl (fun c_18 => ?_) (fun c_18 => ?_)
      · refine z_iload_n (pc' := 45) X d_Tb_size_44 rfl rfl ?_
        exact z_iret X rfl d_Tb_size_45 (⟨rfl, rfl, rfl, rfl⟩)
      · exact absurd (nI_le (Nat.le_refl _) (by omega)) c_18
    | succ m ih =>
      intro i hi
      have hil : i < (tt t).length := by omega
      have hg := List.getElem?_eq_getElem hil
      obtain ⟨⟨arr, f, s1, s2, s3⟩, -⟩ := i4 _ (List.getElem_mem hil)
      refine z_iload_n (pc' := 11) X d_Tb_size_10 rfl rfl ?_
      refine z_aload_n (pc' := 12) X d_Tb_size_11 rfl rfl ?_
      refine z_get (pc' := 15) X 3 f_Tb_19 d_Tb_size_12 (by assumption) rfl rfl ?_
      refine z_callV X (P_size hp l2) k_Tb_34 d_Tb_size_15 (by assumption) (show classes[6]? = some _ from rfl) rfl rfl rfl (by decide) (Nat.le_of_ble_eq_true rfl) ⟨by omega, by omega⟩ (z_kp ?_)
      refine z_icmp_ge (tgt := 44) (pc' := 21) X d_Tb_size_18 (by decide) rfl (fun c_18 => ?_) (fun c_18 => ?_)
      · exact absurd c_18 (nI_ge hil (by omega))
      · refine z_iload_n (pc' := 22) X d_Tb_size_21 rfl rfl ?_
        refine z_aload_n (pc' := 23) X d_Tb_size_22 rfl rfl ?_
        refine z_get (pc' := 26) X 3 f_Tb_19 d_Tb_size_23 (by assumption) rfl rfl ?_
        refine z_iload_n (pc' := 27) X d_Tb_size_26 rfl rfl ?_
        refine z_callV X (P_get hp l2 hg) k_Tb_35 d_Tb_size_27 (by assumption) (show classes[6]? = some _ from rfl) rfl rfl rfl (by decide) (Nat.le_of_ble_eq_true rfl) ⟨by omega, by omega⟩ (z_kp ?_)
        refine z_cast (pc' := 33) X cl_Tb_39 ca_Table d_Tb_size_30 (by assumption) rfl rfl ?_
        refine z_callV X (c_Ta_size s1 s2) k_Tb_41 d_Tb_size_33 (by assumption) (show classes[4]? = some _ from rfl) rfl rfl rfl (by decide) (Nat.le_of_ble_eq_true rfl) ⟨by omega, by omega⟩ (z_kp ?_)
        refine z_iadd (pc' := 37) X d_Tb_size_36 rfl ?_
        refine z_top (b := .int (nI ((sc (bM (tb t))).length + (((tt t).take (i + 1)).map (fun s => (sc s).length)).sum))) ?_ ?_
        · rw [nI_add, z_sumtk hg, Nat.add_assoc]
        refine z_istore_n (pc' := 38) X d_Tb_size_37 rfl rfl rfl ?_
        refine z_iinc (pc' := 41) (w := nI (i + 1)) X d_Tb_size_38 rfl (z_i1 _) rfl rfl rfl ?_
        refine z_goto (pc' := 10) X d_Tb_size_41 (by decide) ?_
        exact ih (i + 1) (by omega)
  refine z_aload_n (pc' := 1) X d_Tb_size_0 rfl rfl ?_
  refine z_get (pc' := 4) X 2 f_Tb_10 d_Tb_size_1 (by assumption) rfl rfl ?_
  refine z_callV X (c_Mt_size hp i2 l1) k_Tb_30 d_Tb_size_4 (by assumption) (show classes[3]? = some _ from rfl) rfl rfl rfl (by decide) (Nat.le_of_ble_eq_true rfl) ⟨by omega, by omega⟩ (z_kp ?_)
  refine z_istore_n (pc' := 8) X d_Tb_size_7 rfl rfl rfl ?_
  refine z_iconst (pc' := 9) (v := 0) X d_Tb_size_8 (by decide) rfl ?_
  refine z_istore_n (pc' := 10) X d_Tb_size_9 rfl rfl rfl ?_
  exact loop (tt t).length 0 (by omega)
theorem c_entries (hI : z_I G h o K v La en sc tt tb T B R nu ag wa) : z_C G A m_TC_entries 0 0 [.ref o] h (z_pu (some (.int (nI (z_tot sc tt tb T)))) h) := by
  obtain ⟨hp, ⟨j1, -⟩, ⟨⟨d1, c1, l1, m1⟩, -, -, -, -, -, l7, l8⟩, hT, -⟩ := hI
  obtain ⟨fs, g1⟩ := P_ob hp l1
  have hl := P_lt hp l1
  refine z_C.of (by decide +kernel) rfl (Nat.le_of_ble_eq_true rfl) ?_
  intro x X
  have loop : ∀ (m i : Nat), m + i = T.length → z_V G A x h 0 0 4 [some (.ref o), some (.int (nI ((T.take i).map (z_tsz sc tt tb)).sum)), some (.int (nI i))] [] := by
    intro m
    induction m with
    | zero =>
      intro i hi
      have hi : i = T.length := by omega
      subst hi
      rw [List.take_length]
      refine z_iload_n (pc' := 5) X d_TC_entries_4 rfl rfl ?_
      refine z_aload_n (pc' := 6) X d_TC_entries_5 rfl rfl ?_
      refine z_get (pc' := 9) X 2 f_TC_35 d_TC_entries_6 (by assumption) rfl rfl ?_
      refine z_callV X (P_size hp l1) k_TC_79 d_TC_entries_9 (by assumption) (show classes[6]? = some _ from rfl) rfl rfl rfl (by decide) (Nat.le_of_ble_eq_true rfl) ⟨by omega, by omega⟩ (z_kp ?_)
      refine z_icmp_ge (tgt := 38) (pc' := 15) X d_TC_entries_12 (by decide) rfl (fun c_12 => ?_) (fun c_12 => ?_)
      · refine z_iload_n (pc' := 39) X d_TC_entries_38 rfl rfl ?_
        exact z_iret X rfl d_TC_entries_39 (⟨rfl, rfl, rfl, rfl⟩)
      · exact absurd (nI_le (Nat.le_refl _) (by omega)) c_12
    | succ m ih =>
      intro i hi
      have hil : i < T.length := by omega
      have hg := List.getElem?_eq_getElem hil
      have hit := hT _ (List.getElem_mem hil)
      have hto := hit.1
      obtain ⟨⟨da, ca, q1, q2⟩, ⟨db, cb, q3, q4⟩⟩ := l7 _ (List.getElem_mem hil)
      refine z_iload_n (pc' := 5) X d_TC_entries_4 rfl rfl ?_
      refine z_aload_n (pc' := 6) X d_TC_entries_5 rfl rfl ?_
      refine z_get (pc' := 9) X 2 f_TC_35 d_TC_entries_6 (by assumption) rfl rfl ?_
      refine z_callV X (P_size hp l1) k_TC_79 d_TC_entries_9 (by assumption) (show classes[6]? = some _ from rfl) rfl rfl rfl (by decide) (Nat.le_of_ble_eq_true rfl) ⟨by omega, by omega⟩ (z_kp ?_)
      refine z_icmp_ge (tgt := 38) (pc' := 15) X d_TC_entries_12 (by decide) rfl (fun c_12 => ?_) (fun c_12 => ?_)
      · exact absurd c_12 (nI_ge hil (by omega))
      · refine z_iload_n (pc' := 16) X d_TC_entries_15 rfl rfl ?_
        refine z_aload_n (pc' := 17) X d_TC_entries_16 rfl rfl ?_
        refine z_get (pc' := 20) X 2 f_TC_35 d_TC_entries_17 (by assumption) rfl rfl ?_
        refine z_iload_n (pc' := 21) X d_TC_entries_20 rfl rfl ?_
        refine z_callV X (P_get hp l1 hg) k_TC_80 d_TC_entries_21 (by assumption) (show classes[6]? = some _ from rfl) rfl rfl rfl (by decide) (Nat.le_of_ble_eq_true rfl) ⟨by omega, by omega⟩ (z_kp ?_)
        refine z_cast (pc' := 27) X cl_TC_70 ca_Tablet d_TC_entries_24 (by assumption) rfl rfl ?_
        refine z_callV X (c_Tb_size hp hit ⟨da, ca, q1⟩ ⟨db, cb, q3⟩) k_TC_179 d_TC_entries_27 (by assumption) (show classes[2]? = some _ from rfl) rfl rfl rfl (by decide) (Nat.le_of_ble_eq_true rfl) ⟨by omega, by omega⟩ (z_kp ?_)
        refine z_iadd (pc' := 31) X d_TC_entries_30 rfl ?_
        refine z_top (b := .int (nI ((T.take (i + 1)).map (z_tsz sc tt tb)).sum)) ?_ ?_
        · rw [nI_add, z_sumtk hg]
        refine z_istore_n (pc' := 32) X d_TC_entries_31 rfl rfl rfl ?_
        refine z_iinc (pc' := 35) (w := nI (i + 1)) X d_TC_entries_32 rfl (z_i1 _) rfl rfl rfl ?_
        refine z_goto (pc' := 4) X d_TC_entries_35 (by decide) ?_
        exact ih (i + 1) (by omega)
  refine z_iconst (pc' := 1) (v := 0) X d_TC_entries_0 (by decide) rfl ?_
  refine z_istore_n (pc' := 2) X d_TC_entries_1 rfl rfl rfl ?_
  refine z_iconst (pc' := 3) (v := 0) X d_TC_entries_2 (by decide) rfl ?_
  refine z_istore_n (pc' := 4) X d_TC_entries_3 rfl rfl rfl ?_
  exact loop T.length 0 (by omega)
end TC1
