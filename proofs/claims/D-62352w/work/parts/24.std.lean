/-! what stands in a row -/
def z_WS (en : Nat → z_E7) (sc tt : Nat → List Nat) (tb : Nat → z_TB) (T : List Nat) : Prop := (∀ t ∈ T, z_rs en (sc (bM (tb t))) ∧ ∀ s ∈ tt t, z_rs en (sc s) ∧ sc s ≠ []) ∧ z_tot sc tt tb T ≤ 255
/-- the sources that aren't empty -/
def z_ne (sc : Nat → List Nat) (l : List Nat) : List Nat := l.filter (fun s => !(sc s).isEmpty)
/-- what a merge of the sources ss gives, rows fm to nd -/
def z_mo (en : Nat → z_E7) (sc : Nat → List Nat) (ss : List Nat) (fm nd : Int32) (q : z_Q5) : List Nat := z_run en sc ss nd (z_rem sc ss (fun k => z_fo en (sc (ss.getD k 0)) fm) ss.length) (fun k => z_fo en (sc (ss.getD k 0)) fm) q
theorem z_rem_le (cs : Nat → List Nat) (ss : List Nat) (ps : Nat → Nat) : ∀ K, K ≤ ss.length → z_rem cs ss ps K ≤ ((ss.take K).map (fun s => (cs s).length)).sum
  | 0, _ => Nat.zero_le _
  | K + 1, hk => by
    have ih := z_rem_le cs ss ps K (by omega)
    have hg : ss[K]? = some (ss.getD K 0) := by
      rw [List.getD_eq_getElem?_getD, List.getElem?_eq_getElem (by omega)]
      rfl
    rw [z_sumtk hg]
    show z_rem cs ss ps K + _ ≤ _
    omega
theorem z_ne_sum (sc : Nat → List Nat) : ∀ l : List Nat, ((z_ne sc l).map (fun s => (sc s).length)).sum = (l.map (fun s => (sc s).length)).sum
  | [] => rfl
  | a :: l => by
    have ih := z_ne_sum sc l
    unfold z_ne at ih ⊢
    rw [List.filter_cons]
    split
    · rw [List.map_cons, List.sum_cons, ih, List.map_cons, List.sum_cons]
    · rename_i hn
      have : (sc a).length = 0 := by
        simp at hn
        rw [hn]
        rfl
      rw [ih, List.map_cons, List.sum_cons, this, Nat.zero_add]
theorem z_len_sum {sc : Nat → List Nat} : ∀ l : List Nat, (∀ s ∈ l, sc s ≠ []) → l.length ≤ (l.map (fun s => (sc s).length)).sum
  | [], _ => Nat.zero_le _
  | a :: l, h => by
    have ih := z_len_sum l (fun s hs => h s (List.mem_cons_of_mem _ hs))
    have : 0 < (sc a).length := List.length_pos_iff.mpr (h a List.mem_cons_self)
    rw [List.length_cons, List.map_cons, List.sum_cons]
    omega
theorem z_le_sum {f : Nat → Nat} : ∀ (l : List Nat) (a : Nat), a ∈ l → f a ≤ (l.map f).sum
  | [], a, h => absurd h List.not_mem_nil
  | b :: l, a, h => by
    rw [List.map_cons, List.sum_cons]
    rcases List.mem_cons.mp h with rfl | h
    · omega
    · have := z_le_sum (f := f) l a h
      omega
theorem z_WS_t {en : Nat → z_E7} {sc tt : Nat → List Nat} {tb : Nat → z_TB} {T : List Nat} {t : Nat} (hw : z_WS en sc tt tb T) (ht : t ∈ T) : z_tsz sc tt tb t ≤ 255 ∧ (tt t).length ≤ 255 ∧ (sc (bM (tb t))).length ≤ 255 ∧ ∀ s ∈ tt t, (sc s).length ≤ 255 := by
  have h1 : z_tsz sc tt tb t ≤ 255 := Nat.le_trans (z_le_sum T t ht) hw.2
  have h2 := z_len_sum (tt t) (fun s hs => ((hw.1 t ht).2 s hs).2)
  have h3 : z_tsz sc tt tb t = (sc (bM (tb t))).length + ((tt t).map (fun s => (sc s).length)).sum := rfl
  refine ⟨h1, by omega, by omega, fun s hs => ?_⟩
  have := z_le_sum (f := fun s => (sc s).length) (tt t) s hs
  have e : (fun s => (sc s).length) s = (sc s).length := rfl
  omega
theorem z_ne_app (sc : Nat → List Nat) (l : List Nat) (s : Nat) : z_ne sc (l ++ [s]) = if sc s = [] then z_ne sc l else z_ne sc l ++ [s] := by
  unfold z_ne
  rw [List.filter_append]
  by_cases hs : sc s = []
  · simp [hs]
  · rw [if_neg hs]
    congr 1
    simp [hs]
theorem z_so2 {La La2 : z_LA} {a a' : Nat} {r1 r2 : Nat × List Nat × Nat} (hs : ∀ b, b ≠ a → b ≠ a' → La2 b = La b) (h1 : La2 a = some r1) (h2 : La2 a' = some r2) : La2 = z_lu (z_lu La a r1) a' r2 := by
  funext b
  unfold z_lu
  by_cases h3 : b = a'
  · rw [if_pos h3, h3, h2]
  · rw [if_neg h3]
    by_cases h4 : b = a
    · rw [if_pos h4, h4, h1]
    · rw [if_neg h4, hs b h4 h3]
/-- what a reading costs -/
def z_cu (P P' k n : Nat) : Prop := z_ct P P' k n 0 0 ∧ k ≤ 2000 ∧ n ≤ 8000
section STD
variable {G : z_G} {A : Nat → Prop} {h : z_H} {o : Nat} {K : z_KA} {v : z_VS} {La : z_LA} {en : Nat → z_E7} {sc tt : Nat → List Nat} {tb : Nat → z_TB} {T B R : List Nat} {nu ag wa : Nat → Int32}
theorem z_K6 (hn : (z_lst K tb T).Nodup) : kSr K ≠ kOu K ∧ kTa K ≠ kSr K ∧ kTa K ≠ kOu K ∧ (∀ t ∈ T, bA (tb t) ≠ kSr K ∧ bA (tb t) ≠ kOu K ∧ bT (tb t) ≠ kSr K ∧ bT (tb t) ≠ kOu K) ∧ kSr K ∈ z_lst K tb T ∧ kOu K ∈ z_lst K tb T := by
  obtain ⟨n1, n2, n3⟩ := z_lst_nd hn
  simp only [List.nodup_cons, List.mem_cons, not_or, List.not_mem_nil] at n1
  exact ⟨n1.2.2.2.2.1.1, n1.1.2.2.2.1, n1.1.2.2.2.2.1, fun t ht => ⟨(n3 t ht _ (by simp)).1.symm, (n3 t ht _ (by simp)).1.symm, (n3 t ht _ (by simp)).2.symm, (n3 t ht _ (by simp)).2.symm⟩, by simp [z_lst], by simp [z_lst]⟩
/-- the lists behind a merge -/
theorem z_LL_so {La2 : z_LA} (hl : z_LL La K tb tt sc T B R) (hs : ∀ b, b ≠ kSr K → b ≠ kOu K → La2 b = La b) {d1 d2 c1 c2 : Nat} {x1 x2 : List Nat} (h1 : La2 (kSr K) = some (d1, x1, c1)) (h2 : La2 (kOu K) = some (d2, x2, c2)) (m1 : c1 ≤ 1000) (m2 : c2 ≤ 1000) : z_LL La2 K tb tt sc T B R ∧ z_Phi La2 (z_lst K tb T) + z_cp La (kSr K) + z_cp La (kOu K) = z_Phi La (z_lst K tb T) + c1 + c2 := by
  have hn := hl.2.2.2.2.2.2.2
  obtain ⟨k1, k2, k3, k4, k5, k6⟩ := z_K6 hn
  rw [z_so2 hs h1 h2]
  refine ⟨z_LL_scr (z_LL_scr hl (Or.inr (Or.inl rfl)) m1) (Or.inr (Or.inr rfl)) m2, ?_⟩
  have e1 := z_Phi_lu (La := z_lu La (kSr K) (d1, x1, c1)) (r := (d2, x2, c2)) (a := kOu K) _ hn k6
  have e2 := z_Phi_lu (La := La) (r := (d1, x1, c1)) (a := kSr K) _ hn k5
  have e3 : z_cp (z_lu La (kSr K) (d1, x1, c1)) (kOu K) = z_cp La (kOu K) := by unfold z_cp; rw [z_lu_n _ _ (Ne.symm k1)]
  rw [e3] at e1
  simp only at e1 e2
  omega
theorem z_I0_fm {h' : z_H} {q : z_Q5} {f : Nat → Int32} (hi : z_I0 G h o K v nu ag wa) (hf : z_fm G (kMg K) (kAt K) h h') (h1 : h' (kMg K) = some (z_ob 1 (z_mgf (kSr K) (kAt K) (kOu K) q))) (h2 : h' (kAt K) = some (z_ia G 300 f)) : z_I0 G h' o K v nu ag wa := by
  obtain ⟨j1, ⟨q0, j2⟩, ⟨f0, j3⟩, j4, j5, j6, j7⟩ := hi
  have n := j7
  simp only [List.nodup_cons, List.mem_cons, not_or, List.not_mem_nil] at n
  refine ⟨hf _ _ j1 (z_isl_ob (by decide)) (fun e => by rw [e, j2] at j1; cases j1) (fun e => by rw [e, j3] at j1; cases j1), ⟨q, h1⟩, ⟨f, h2⟩, hf _ _ j4 z_isl_ia (fun e => by rw [e, j2] at j4; cases j4) n.1.2.2.1, hf _ _ j5 z_isl_ia (fun e => by rw [e, j2] at j5; cases j5) n.2.1.2.1, hf _ _ j6 z_isl_ia (fun e => by rw [e, j2] at j6; cases j6) n.2.2.1.1, j7⟩
theorem c_standing {row : Int32} (hI : z_I G h o K v La en sc tt tb T B R nu ag wa) (hT : T ≠ []) (hw : z_WS en sc tt tb T) : z_C G A m_TC_standing 2100 10100 [.ref o, .int row] h (fun val h' k n => val = some (.ref (kOu K)) ∧ ∃ (La2 : z_LA) (d c : Nat) (q : z_Q5), z_I G h' o K v La2 en sc tt tb T B R nu ag wa ∧ La2 (kOu K) = some (d, z_mo en sc (z_ne sc (bM (tb (z_tof tb T row)) :: tt (z_tof tb T row))) row (row + 1) (-1, q.2), c) ∧ z_ff G K h h' ∧ (∀ b, b ≠ kSr K → b ≠ kOu K → La2 b = La b) ∧ z_cu (z_Phi La (z_lst K tb T)) (z_Phi La2 (z_lst K tb T)) k n) := by
  have hI0 := hI
  obtain ⟨hp, hi0, hll, hi1, hB, hR⟩ := hI
  obtain ⟨j1, ⟨q0, j2⟩, ⟨f0, j3⟩, j4, j5, j6, j7⟩ := id hi0
  obtain ⟨⟨d1, c1, l1, m1⟩, l2, l3, l4, ⟨d5, x5, c5, l5, m5⟩, ⟨d6, x6, c6, l6, m6⟩, l7, l8⟩ := id hll
  obtain ⟨k1, k2, k3, k4, k5, k6⟩ := z_K6 l8
  have htm := z_tof_mem tb T row hT
  generalize htd : z_tof tb T row = t at htm
  obtain ⟨t1, t2, t3, t4⟩ := hi1 t htm
  obtain ⟨⟨da, ca, la, ma⟩, ⟨db, cb, lb, mb⟩⟩ := l7 t htm
  obtain ⟨w1, w2, w3, w4⟩ := z_WS_t hw htm
  obtain ⟨n1, n2, n3, n4⟩ := k4 t htm
  refine z_C.of (by decide +kernel) rfl (Nat.le_of_ble_eq_true rfl) ?_
  intro x X
  have hcn := z_cne X
  have cast : ∀ (hh : z_H) (k n s : Nat) (w : List Value) (L : List (Option Value)) (st : List Value), hh s = some (z_ob 4 w) → z_V G A x hh k n 52 L (.ref s :: st) → z_V G A x hh k n 49 L (.ref s :: st) := by
    intro hh k n s w L st hs kk
    exact z_cast X cl_TC_2 cs_Table d_TC_standing_49 hs rfl rfl kk
  have hoM : o ≠ kMg K := fun e => by rw [e, j2] at j1; cases j1
  have hoA : o ≠ kAt K := fun e => by rw [e, j3] at j1; cases j1
  have loop : ∀ (m i : Nat) (hh : z_H) (La1 : z_LA) (q : z_Q5) (d c k n : Nat), m + i = (tt t).length → z_pool G hh La1 → hh (kMg K) = some (z_ob 1 (z_mgf (kSr K) (kAt K) (kOu K) (-1, q.2))) → z_fm G (kMg K) (kAt K) h hh → hh (kAt K) = some (z_ia G 300 f0) → La1 (kSr K) = some (d, z_ne sc (bM (tb t) :: (tt t).take i), c) → La1 (kOu K) = some (d6, [], c6) → (∀ b, b ≠ kSr K → b ≠ kOu K → La1 b = La b) → z_cs c5 c k n → c ≤ 1000 → z_V G A x hh k n 26 [some (.ref o), some (.int row), some (.ref t), some (.int (nI i))] [] := by
    intro m
    induction m with
    | zero =>
      intro i hh La1 q d c k n hi p1 p2 p3 p4 p5 p6 p7 p8 p9
      have hi : i = (tt t).length := by omega
      subst hi
      rw [List.take_length] at p5
      have lb1 : La1 (bT (tb t)) = some (db, tt t, cb) := by rw [p7 _ n3 n4]; exact lb
      have la1 : La1 (bA (tb t)) = some (da, sc (bM (tb t)), ca) := by rw [p7 _ n1 n2]; exact la
      have hff := z_ff_fm hcn j2 j3 p3
      obtain ⟨u1, u2, u3, u4⟩ := z_I1_ff hff (hi1 t htm)
      have ho : hh o = some (z_ob 0 (z_tcf K v)) := p3 _ _ j1 (z_isl_ob (by decide)) hoM hoA
      obtain ⟨fs, g1⟩ := P_ob p1 lb1
      have hlt := P_lt p1 lb1
      have p80 := p8.1
      have p81 := p8.2.1
      have p82 := p8.2.2
      have hsub : ∀ s ∈ z_ne sc (bM (tb t) :: tt t), s = bM (tb t) ∨ s ∈ tt t := fun s hs => List.mem_cons.mp (List.mem_filter.mp hs).1
      have hlen : (z_ne sc (bM (tb t) :: tt t)).length ≤ 300 := by
        have := List.length_filter_le (fun s => !(sc s).isEmpty) (bM (tb t) :: tt t)
        rw [List.length_cons] at this
        unfold z_ne
        omega
      have hsr : ∀ s ∈ z_ne sc (bM (tb t) :: tt t), z_src G hh La1 s (sc s) ∧ z_ens hh en (sc s) ∧ (sc s).length < 2 ^ 20 ∧ z_rs en (sc s) ∧ ∀ al, hh s = some (z_ob 3 [.ref al]) → al ≠ kOu K := by
        intro s hs
        rcases hsub s hs with rfl | hs
        · refine ⟨Or.inl ⟨_, da, ca, u2, la1⟩, u3, by omega, (hw.1 t htm).1, fun al hal => ?_⟩
          rw [u2] at hal
          cases hal
          exact n2
        · obtain ⟨arr, f, s1, s2, s3⟩ := (u4 s hs).1
          refine ⟨Or.inr ⟨arr, _, _, f, s1, s2, s3⟩, (u4 s hs).2, by have := w4 s hs; omega, ((hw.1 t htm).2 s hs).1, fun al hal => ?_⟩
          rw [s1] at hal
          cases hal
      have htot : z_rem sc (z_ne sc (bM (tb t) :: tt t)) (fun k => z_fo en (sc ((z_ne sc (bM (tb t) :: tt t)).getD k 0)) row) (z_ne sc (bM (tb t) :: tt t)).length ≤ 400 := by
        have e1 := z_rem_le sc (z_ne sc (bM (tb t) :: tt t)) (fun k => z_fo en (sc ((z_ne sc (bM (tb t) :: tt t)).getD k 0)) row) _ (Nat.le_refl _)
        rw [List.take_length, z_ne_sum, List.map_cons, List.sum_cons] at e1
        have e2 : z_tsz sc tt tb t = (sc (bM (tb t))).length + ((tt t).map (fun s => (sc s).length)).sum := rfl
        omega
      refine z_iload_n (pc' := 27) X d_TC_standing_26 rfl rfl ?_
      refine z_aload_n (pc' := 28) X d_TC_standing_27 rfl rfl ?_
      refine z_get (pc' := 31) X 3 f_TC_114 d_TC_standing_28 (by assumption) rfl rfl ?_
      refine z_callV X (P_size p1 lb1) k_TC_79 d_TC_standing_31 (by assumption) (show classes[6]? = some _ from rfl) rfl rfl rfl (by decide) (Nat.le_of_ble_eq_true rfl) ⟨by omega, by omega⟩ (z_kp ?_)
      refine z_icmp_ge (tgt := 61) (pc' := 37) X d_TC_standing_34 (by decide) rfl (fun c_34 => ?_) (fun c_34 => ?_)
      · refine z_aload_n (pc' := 62) X d_TC_standing_61 rfl rfl ?_
        refine z_get (pc' := 65) X 9 f_TC_48 d_TC_standing_62 (by assumption) rfl rfl ?_
        refine z_iload_n (pc' := 66) X d_TC_standing_65 rfl rfl ?_
        refine z_iload_n (pc' := 67) X d_TC_standing_66 rfl rfl ?_
        refine z_iconst (pc' := 68) (v := 1) X d_TC_standing_67 (by decide) rfl ?_
        refine z_iadd (pc' := 69) X d_TC_standing_68 rfl ?_
        refine z_callV X (c_merge (nd := row + 1) p1 p2 p5 p4 p6 k1 m6 hlen hsr htot) k_TC_117 d_TC_standing_69 (by assumption) (show classes[1]? = some _ from rfl) rfl rfl rfl (by decide) (Nat.le_of_ble_eq_true rfl) ⟨by omega, by omega⟩ (fun v_69 h_69 k_69 n_69 p_69 => ?_)
        obtain ⟨rfl, d', cap', q', f', r1, r2, r3, r4, r5, r6⟩ := p_69
        have r1 : z_pool G h_69 (z_lu La1 (kOu K) (d', z_mo en sc (z_ne sc (bM (tb t) :: tt t)) row (row + 1) (-1, q.2), cap')) := r1
        have r7 : z_fm G (kMg K) (kAt K) h h_69 := z_fm_tr p3 r4
        have r8 : ∀ b, b ≠ kSr K → b ≠ kOu K → z_lu La1 (kOu K) (d', z_mo en sc (z_ne sc (bM (tb t) :: tt t)) row (row + 1) (-1, q.2), cap') b = La b := fun b e1 e2 => by rw [z_lu_n _ _ e2]; exact p7 b e1 e2
        have r9 : z_lu La1 (kOu K) (d', z_mo en sc (z_ne sc (bM (tb t) :: tt t)) row (row + 1) (-1, q.2), cap') (kSr K) = some (d, z_ne sc (bM (tb t) :: tt t), c) := by rw [z_lu_n _ _ k1]; exact p5
        obtain ⟨e1, e2⟩ := z_LL_so hll r8 r9 (z_lu_s _ _ _) p9 r6
        rw [z_cp_of l5, z_cp_of l6] at e2
        have hff2 := z_ff_fm hcn j2 j3 r7
        have r50 := r5.1
        have r51 := r5.2.1
        have r52 := r5.2.2
        refine z_aret X rfl (Or.inl ⟨_, rfl⟩) (Or.inr ⟨_, rfl⟩) d_TC_standing_72 ⟨rfl, _, d', cap', q, ⟨r1, z_I0_fm hi0 r7 r2 r3, e1, fun t ht => z_I1_ff hff2 (hi1 t ht), z_ens_ff hff2 hB, z_ens_ff hff2 hR⟩, z_lu_s _ _ _, hff2, r8, ⟨?_, ?_⟩, ?_, ?_⟩
        · omega
        · omega
        · omega
        · omega
      · exact absurd (nI_le (Nat.le_refl _) (by omega)) c_34
    | succ m ih =>
      intro i hh La1 q d c k n hi p1 p2 p3 p4 p5 p6 p7 p8 p9
      have hil : i < (tt t).length := by omega
      have hg := List.getElem?_eq_getElem hil
      have lb1 : La1 (bT (tb t)) = some (db, tt t, cb) := by rw [p7 _ n3 n4]; exact lb
      have hff := z_ff_fm hcn j2 j3 p3
      obtain ⟨u1, u2, u3, u4⟩ := z_I1_ff hff (hi1 t htm)
      have ho : hh o = some (z_ob 0 (z_tcf K v)) := p3 _ _ j1 (z_isl_ob (by decide)) hoM hoA
      obtain ⟨fs, g1⟩ := P_ob p1 lb1
      have p80 := p8.1
      have p81 := p8.2.1
      have p82 := p8.2.2
      obtain ⟨arr, f, s1, s2, s3⟩ := (u4 _ (List.getElem_mem hil)).1
      have hsl := w4 _ (List.getElem_mem hil)
      have hnl : (z_ne sc (bM (tb t) :: (tt t).take i)).length ≤ 400 := by
        have := List.length_filter_le (fun s => !(sc s).isEmpty) (bM (tb t) :: (tt t).take i)
        rw [List.length_cons, List.length_take] at this
        unfold z_ne
        omega
      refine z_iload_n (pc' := 27) X d_TC_standing_26 rfl rfl ?_
      refine z_aload_n (pc' := 28) X d_TC_standing_27 rfl rfl ?_
      refine z_get (pc' := 31) X 3 f_TC_114 d_TC_standing_28 (by assumption) rfl rfl ?_
      refine z_callV X (P_size p1 lb1) k_TC_79 d_TC_standing_31 (by assumption) (show classes[6]? = some _ from rfl) rfl rfl rfl (by decide) (Nat.le_of_ble_eq_true rfl) ⟨by omega, by omega⟩ (z_kp ?_)
      refine z_icmp_ge (tgt := 61) (pc' := 37) X d_TC_standing_34 (by decide) rfl (fun c_34 => ?_) (fun c_34 => ?_)
      · exact absurd c_34 (nI_ge hil (by omega))
      · refine z_aload_n (pc' := 38) X d_TC_standing_37 rfl rfl ?_
        refine z_get (pc' := 41) X 9 f_TC_48 d_TC_standing_38 (by assumption) rfl rfl ?_
        refine z_aload_n (pc' := 42) X d_TC_standing_41 rfl rfl ?_
        refine z_get (pc' := 45) X 3 f_TC_114 d_TC_standing_42 (by assumption) rfl rfl ?_
        refine z_iload_n (pc' := 46) X d_TC_standing_45 rfl rfl ?_
        refine z_callV X (P_get p1 lb1 hg) k_TC_80 d_TC_standing_46 (by assumption) (show classes[6]? = some _ from rfl) rfl rfl rfl (by decide) (Nat.le_of_ble_eq_true rfl) ⟨by omega, by omega⟩ (z_kp ?_)
        refine cast hh _ _ _ _ _ _ s1 ?_
        refine z_callV X (c_Mg_add p1 p2 p5 (Or.inr ⟨arr, _, _, f, s1, s2, s3⟩) (by omega) (by omega)) k_TC_111 d_TC_standing_52 (by assumption) (show classes[1]? = some _ from rfl) rfl rfl rfl (by decide) (Nat.le_of_ble_eq_true rfl) ⟨by omega, by omega⟩ (fun v_52 h_52 k_52 n_52 p_52 => ?_)
        obtain ⟨rfl, d', cap', r1, r2, r3⟩ := p_52
        have hcb := z_gw_b r3 p9 hnl
        obtain ⟨r31, r32, r33, -⟩ := r3
        refine z_iinc (pc' := 58) (w := nI (i + 1)) X d_TC_standing_55 rfl (z_i1 _) rfl rfl rfl ?_
        refine z_goto (pc' := 26) X d_TC_standing_58 (by decide) ?_
        refine ih (i + 1) _ _ q d' cap' _ _ (by omega) r1 (r2 _ _ p2 (z_isl_ob (by decide))) (z_fm_tr p3 (z_fm_nl r2)) (r2 _ _ p4 z_isl_ia) ?_ (by rw [z_lu_n _ _ (Ne.symm k1)]; exact p6) (fun b e1 e2 => by rw [z_lu_n _ _ e1]; exact p7 b e1 e2) ⟨by omega, by omega, by omega⟩ hcb
        rw [z_lu_s]
        have : bM (tb t) :: (tt t).take (i + 1) = (bM (tb t) :: (tt t).take i) ++ [(tt t)[i]] := by rw [List.take_add_one, hg]; rfl
        rw [this, z_ne_app]
  refine z_aload_n (pc' := 1) X d_TC_standing_0 rfl rfl ?_
  refine z_iload_n (pc' := 2) X d_TC_standing_1 rfl rfl ?_
  refine z_callV X (c_tabletOf hp j1 l1 hT (fun t ht => (hi1 t ht).1)) k_TC_100 d_TC_standing_2 (by assumption) (show classes[0]? = some _ from rfl) rfl rfl rfl (by decide) (Nat.le_of_ble_eq_true rfl) ⟨by omega, by omega⟩ (z_kp ?_)
  rw [htd]
  refine z_astore_n (pc' := 6) X d_TC_standing_5 rfl rfl rfl ?_
  refine z_aload_n (pc' := 7) X d_TC_standing_6 rfl rfl ?_
  refine z_get (pc' := 10) X 9 f_TC_48 d_TC_standing_7 (by assumption) rfl rfl ?_
  refine z_callV X (c_Mg_begin hp j2 l5 l6 k1) k_TC_104 d_TC_standing_10 (by assumption) (show classes[1]? = some _ from rfl) rfl rfl rfl (by decide) (Nat.le_of_ble_eq_true rfl) ⟨by omega, by omega⟩ (fun v_10 h_10 k_10 n_10 p_10 => ?_)
  obtain ⟨rfl, rfl, rfl, p1, p2, p3, p4⟩ := p_10
  have hff := z_ff_fm hcn j2 j3 p3
  obtain ⟨u1, u2, u3, u4⟩ := z_I1_ff hff (hi1 t htm)
  have ho : h_10 o = some (z_ob 0 (z_tcf K v)) := p3 _ _ j1 (z_isl_ob (by decide)) hoM hoA
  have ha : h_10 (kAt K) = some (z_ia G 300 f0) := p4 _ _ j3 z_isl_ia (fun e => by rw [e, j2] at j3; cases j3)
  have lu : ∀ b, b ≠ kSr K → b ≠ kOu K → z_lu (z_lu La (kSr K) (d5, [], c5)) (kOu K) (d6, [], c6) b = La b := fun b e1 e2 => by rw [z_lu_n _ _ e2, z_lu_n _ _ e1]
  have ls : z_lu (z_lu La (kSr K) (d5, [], c5)) (kOu K) (d6, [], c6) (kSr K) = some (d5, [], c5) := by rw [z_lu_n _ _ k1, z_lu_s]
  have lo : z_lu (z_lu La (kSr K) (d5, [], c5)) (kOu K) (d6, [], c6) (kOu K) = some (d6, [], c6) := z_lu_s _ _ _
  have la1 : z_lu (z_lu La (kSr K) (d5, [], c5)) (kOu K) (d6, [], c6) (bA (tb t)) = some (da, sc (bM (tb t)), ca) := by rw [lu _ n1 n2]; exact la
  generalize z_lu (z_lu La (kSr K) (d5, [], c5)) (kOu K) (d6, [], c6) = La1 at p1 lu ls lo la1
  refine z_aload_n (pc' := 14) X d_TC_standing_13 rfl rfl ?_
  refine z_get (pc' := 17) X 9 f_TC_48 d_TC_standing_14 (by assumption) rfl rfl ?_
  refine z_aload_n (pc' := 18) X d_TC_standing_17 rfl rfl ?_
  refine z_get (pc' := 21) X 2 f_TC_107 d_TC_standing_18 (by assumption) rfl rfl ?_
  refine z_callV X (c_Mg_add p1 p2 ls (Or.inl ⟨_, da, ca, u2, la1⟩) (by omega) (by omega)) k_TC_111 d_TC_standing_21 (by assumption) (show classes[1]? = some _ from rfl) rfl rfl rfl (by decide) (Nat.le_of_ble_eq_true rfl) ⟨by omega, by omega⟩ (fun v_21 h_21 k_21 n_21 p_21 => ?_)
  obtain ⟨rfl, d', cap', r1, r2, r3⟩ := p_21
  have hcb := z_gw_b r3 m5 (by simp)
  obtain ⟨r31, r32, r33, -⟩ := r3
  refine z_iconst (pc' := 25) (v := 0) X d_TC_standing_24 (by decide) rfl ?_
  refine z_istore_n (pc' := 26) X d_TC_standing_25 rfl rfl rfl ?_
  refine loop (tt t).length 0 _ _ q0 d' cap' _ _ (by omega) r1 (r2 _ _ p2 (z_isl_ob (by decide))) (z_fm_tr p3 (z_fm_nl r2)) (r2 _ _ ha z_isl_ia) ?_ (by rw [z_lu_n _ _ (Ne.symm k1)]; exact lo) (fun b e1 e2 => by rw [z_lu_n _ _ e1]; exact lu b e1 e2) ⟨by omega, by omega, by omega⟩ hcb
  rw [z_lu_s]
  have := z_ne_app sc [] (bM (tb t))
  rw [List.take_zero, show [bM (tb t)] = [] ++ [bM (tb t)] from rfl, this]
  rfl
end STD
