/-! split -/
theorem z_sum_le {g : Nat → Nat} {c : Nat} : ∀ (l : List Nat), (∀ u ∈ l, g u ≤ c) → (l.map g).sum ≤ c * l.length
  | [], _ => Nat.zero_le _
  | a :: l, h => by
    have ih := z_sum_le (g := g) l (fun u hu => h u (List.mem_cons_of_mem _ hu))
    have := h a List.mem_cons_self
    rw [List.map_cons, List.sum_cons, List.length_cons, Nat.mul_succ]
    omega
theorem z_ins2 {T : List Nat} {i t lo hi : Nat} (ht : T[i]? = some t) : (T.set i lo).take (i + 1) ++ hi :: (T.set i lo).drop (i + 1) = T.take i ++ lo :: hi :: T.drop (i + 1) := by
  obtain ⟨hi', -⟩ := List.getElem?_eq_some_iff.mp ht
  rw [List.take_add_one, List.getElem?_set_self hi', List.take_set_of_le (Nat.le_refl _), List.drop_set_of_lt (by omega)]
  simp
theorem z_ins2p {T : List Nat} {i t lo hi : Nat} (ht : T[i]? = some t) : (T.take i ++ lo :: hi :: T.drop (i + 1)).Perm ((T ++ [lo] ++ [hi]).eraseIdx i) := by
  obtain ⟨hi', -⟩ := List.getElem?_eq_some_iff.mp ht
  rw [List.append_assoc, List.eraseIdx_append_of_lt_length hi', List.eraseIdx_eq_take_drop_succ, List.append_assoc]
  refine List.Perm.append_left _ ?_
  have : (lo :: hi :: T.drop (i + 1)) = [lo, hi] ++ T.drop (i + 1) := rfl
  rw [this]
  exact List.perm_append_comm
section SPL
variable {G : z_G} {A : Nat → Prop} {h : z_H} {o : Nat} {K : z_KA} {v : z_VS} {La : z_LA} {en : Nat → z_E7} {sc tt : Nat → List Nat} {tb : Nat → z_TB} {T E B R : List Nat} {nu ag wa : Nat → Int32}
theorem z_Phi_max (hl : z_LJ La K tb tt sc T E B R) : z_Phi La (z_lst K tb E) ≤ 45000 + 2000 * E.length := by
  obtain ⟨n8, l7, ⟨d3, x3, c3, l3, m3⟩, nt, nk⟩ := z_LJ_7 hl
  obtain ⟨⟨d1, c1, l1, m1⟩, l2⟩ := hl
  obtain ⟨-, ⟨e2, f2, g2, p2⟩, -, ⟨e4, f4, g4, p4⟩, ⟨e5, x5, f5, g5, p5⟩, ⟨e6, x6, f6, g6, p6⟩, -, -⟩ := l2 d1 c1 m1
  obtain ⟨n1, n2, n3⟩ := z_lst_nd n8
  simp only [List.nodup_cons, List.mem_cons, not_or, List.not_mem_nil] at n1
  rw [z_lu_n _ _ (Ne.symm n1.1.1)] at g2
  rw [z_lu_n _ _ (Ne.symm n1.1.2.2.1)] at g4
  rw [z_lu_n _ _ (Ne.symm n1.1.2.2.2.1)] at g5
  rw [z_lu_n _ _ (Ne.symm n1.1.2.2.2.2.1)] at g6
  rw [z_Phi_T]
  have e1 : z_Phi La [kTa K, kBa K, kKe K, kRe K, kSr K, kOu K] ≤ 45000 := by
    unfold z_Phi
    simp only [List.map_cons, List.map_nil, List.sum_cons, List.sum_nil]
    rw [z_cp_of l1, z_cp_of g2, z_cp_of l3, z_cp_of g4, z_cp_of g5, z_cp_of g6]
    omega
  have e2 := z_sum_le (g := fun u => z_cp La (bA (tb u)) + z_cp La (bT (tb u))) (c := 2000) E (fun u hu => by
    obtain ⟨⟨da, ca, q1, q2⟩, ⟨db, cb, q3, q4⟩⟩ := l7 u hu
    show z_cp La (bA (tb u)) + z_cp La (bT (tb u)) ≤ 2000
    rw [z_cp_of q1, z_cp_of q3]
    omega)
  omega
theorem z_J_Ta {h' : z_H} {d c : Nat} {T' : List Nat} (hcn : z_cE G ≠ z_cO G) (hJ : z_J G h o K v La en sc tt tb T E B R nu ag wa) (hp : z_pool G h' (z_lu La (kTa K) (d, T', c))) (hn : z_nl G h h') (hc : c ≤ 1000) : z_J G h' o K v (z_lu La (kTa K) (d, T', c)) en sc tt tb T' E B R nu ag wa := by
  have hff := z_ff_nl (K := K) hcn hn
  exact ⟨hp, z_I0_nl hJ.2.1 hn, ⟨⟨d, c, z_lu_s _ _ _, hc⟩, fun d0 c0 h0 => by rw [z_lulu]; exact hJ.2.2.1.2 d0 c0 h0⟩, fun u hu => z_I1_ff hff (hJ.2.2.2.1 u hu), z_ens_ff hff hJ.2.2.2.2.1, z_ens_ff hff hJ.2.2.2.2.2⟩
/-- the sources of the tablets T are as they were -/
def z_SA (sc sc1 tt : Nat → List Nat) (tb : Nat → z_TB) (T : List Nat) : Prop := ∀ u ∈ T, sc1 (bM (tb u)) = sc (bM (tb u)) ∧ ∀ z ∈ tt u, sc1 z = sc z
/-- the tables' parts, of which those without entries are none -/
def z_prs (en : Nat → z_E7) (sc : Nat → List Nat) (l : List Nat) (lo hi : Int32) : List (List Nat) := (l.map (fun s => z_pt en (sc s) lo hi)).filter (fun q => !q.isEmpty)
theorem z_prs_app (en : Nat → z_E7) (sc : Nat → List Nat) (l : List Nat) (s : Nat) (lo hi : Int32) : z_prs en sc (l ++ [s]) lo hi = z_prs en sc l lo hi ++ (if z_pt en (sc s) lo hi = [] then [] else [z_pt en (sc s) lo hi]) := by
  unfold z_prs
  rw [List.map_append, List.filter_append]
  congr 1
  by_cases hs : z_pt en (sc s) lo hi = []
  · simp [hs]
  · simp [hs]
/-- behind a split of tablet t at place i -/
def z_SP (G : z_G) (h : z_H) (o : Nat) (K : z_KA) (v : z_VS) (La : z_LA) (en : Nat → z_E7) (sc tt : Nat → List Nat) (tb : Nat → z_TB) (T B R : List Nat) (nu ag wa : Nat → Int32) (t i : Nat) (row : Int32) (h' : z_H) (k n : Nat) : Prop :=
  ∃ (sc1 tt1 : Nat → List Nat) (tb1 : Nat → z_TB) (lo hi : Nat) (La1 : z_LA), lo ∉ T ∧ hi ∉ T ∧ lo ≠ hi ∧ (∀ u ∈ T, tb1 u = tb u ∧ tt1 u = tt u) ∧ z_SA sc sc1 tt tb T ∧
    bF (tb1 lo) = bF (tb t) ∧ bL (tb1 lo) = row - 1 ∧ bF (tb1 hi) = row ∧ bL (tb1 hi) = bL (tb t) ∧
    z_srt en (sc1 (bM (tb1 lo))) ∧ (sc1 (bM (tb1 lo))).Perm ((sc (bM (tb t))).filter (fun a => decide (eR (en a) < row))) ∧
    z_srt en (sc1 (bM (tb1 hi))) ∧ (sc1 (bM (tb1 hi))).Perm ((sc (bM (tb t))).filter (fun a => !decide (eR (en a) < row))) ∧
    (tt1 lo).map sc1 = z_prs en sc (tt t) (bF (tb t)) (row - 1) ∧ (tt1 hi).map sc1 = z_prs en sc (tt t) row (bL (tb t)) ∧
    z_I G h' o K v La1 en sc1 tt1 tb1 (T.take i ++ lo :: hi :: T.drop (i + 1)) B R nu ag wa ∧ z_ct (z_Phi La (z_lst K tb T)) (z_Phi La1 (z_lst K tb1 (T.take i ++ lo :: hi :: T.drop (i + 1)))) k n 3100 13000
theorem c_splitN {i row : Int32} (hI : z_I G h o K v La en sc tt tb T B R nu ag wa) (hi : z_out T i) : z_C G A m_TC_split 75000 320000 [.ref o, .int i, .int row] h (z_pu (some (.int 0)) h) := by
  obtain ⟨⟨d1, c1, l1, m1⟩, -⟩ := hI.2.2.1
  have ho := hI.2.1.1
  refine z_C.of (by decide +kernel) rfl (Nat.le_of_ble_eq_true rfl) ?_
  intro x X
  refine z_aload_n (pc' := 1) X d_TC_split_0 rfl rfl ?_
  refine z_iload_n (pc' := 2) X d_TC_split_1 rfl rfl ?_
  refine z_callV X (c_tabletAtN hI.1 ho l1 hi) k_TC_245 d_TC_split_2 (by assumption) (show classes[0]? = some _ from rfl) rfl rfl rfl (by decide) (Nat.le_of_ble_eq_true rfl) ⟨by omega, by omega⟩ (z_kp ?_)
  refine z_astore_nN (pc' := 6) X d_TC_split_5 rfl rfl rfl ?_
  refine z_aload_nN (pc' := 7) X d_TC_split_6 rfl rfl ?_
  refine z_ifnullN (pc' := 38) X d_TC_split_7 (by decide) ?_
  refine z_iconst (pc' := 39) (v := 0) X d_TC_split_38 (by decide) rfl ?_
  exact z_zret X rfl (by first | decide | simp | assumption | omega) d_TC_split_39 (⟨rfl, rfl, rfl, rfl⟩)
theorem c_splitB {i t : Nat} {row : Int32} (hI : z_I G h o K v La en sc tt tb T B R nu ag wa) (hi : T[i]? = some t) (hb : row ≤ bF (tb t) ∨ bL (tb t) < row ∨ 8 ≤ T.length) : z_C G A m_TC_split 75000 320000 [.ref o, .int (nI i), .int row] h (z_pu (some (.int 0)) h) := by
  obtain ⟨⟨d1, c1, l1, m1⟩, -⟩ := hI.2.2.1
  have ho := hI.2.1.1
  have ht := List.mem_of_getElem? hi
  have hto := (hI.2.2.2.1 t ht).1
  obtain ⟨fs, g1⟩ := P_ob hI.1 l1
  have hlt := P_lt hI.1 l1
  refine z_C.of (by decide +kernel) rfl (Nat.le_of_ble_eq_true rfl) ?_
  intro x X
  refine z_aload_n (pc' := 1) X d_TC_split_0 rfl rfl ?_
  refine z_iload_n (pc' := 2) X d_TC_split_1 rfl rfl ?_
  refine z_callV X (c_tabletAt hI.1 ho l1 hi hto) k_TC_245 d_TC_split_2 (by assumption) (show classes[0]? = some _ from rfl) rfl rfl rfl (by decide) (Nat.le_of_ble_eq_true rfl) ⟨by omega, by omega⟩ (z_kp ?_)
  refine z_astore_n (pc' := 6) X d_TC_split_5 rfl rfl rfl ?_
  refine z_aload_n (pc' := 7) X d_TC_split_6 rfl rfl ?_
  refine z_ifnullR (pc' := 10) X d_TC_split_7 rfl ?_
  refine z_iload_n (pc' := 11) X d_TC_split_10 rfl rfl ?_
  refine z_aload_n (pc' := 12) X d_TC_split_11 rfl rfl ?_
  refine z_get (pc' := 15) X 0 f_TC_261 d_TC_split_12 (by assumption) rfl rfl ?_
  refine z_icmp_le (tgt := 38) (pc' := 18) X d_TC_split_15 (by decide) rfl (fun c_15 => ?_) (fun c_15 => ?_)
  · refine z_iconst (pc' := 39) (v := 0) X d_TC_split_38 (by decide) rfl ?_
    exact z_zret X rfl (by first | decide | simp | assumption | omega) d_TC_split_39 (⟨rfl, rfl, rfl, rfl⟩)
  · refine z_iload_n (pc' := 19) X d_TC_split_18 rfl rfl ?_
    refine z_aload_n (pc' := 20) X d_TC_split_19 rfl rfl ?_
    refine z_get (pc' := 23) X 1 f_TC_84 d_TC_split_20 (by assumption) rfl rfl ?_
    refine z_icmp_gt (tgt := 38) (pc' := 26) X d_TC_split_23 (by decide) rfl (fun c_23 => ?_) (fun c_23 => ?_)
    · refine z_iconst (pc' := 39) (v := 0) X d_TC_split_38 (by decide) rfl ?_
      exact z_zret X rfl (by first | decide | simp | assumption | omega) d_TC_split_39 (⟨rfl, rfl, rfl, rfl⟩)
    · refine z_aload_n (pc' := 27) X d_TC_split_26 rfl rfl ?_
      refine z_get (pc' := 30) X 2 f_TC_35 d_TC_split_27 (by assumption) rfl rfl ?_
      refine z_callV X (P_size hI.1 l1) k_TC_79 d_TC_split_30 (by assumption) (show classes[6]? = some _ from rfl) rfl rfl rfl (by decide) (Nat.le_of_ble_eq_true rfl) ⟨by omega, by omega⟩ (z_kp ?_)
      refine z_bipush (pc' := 35) (v := 8) X d_TC_split_33 (by decide) rfl ?_
      refine z_icmp_lt (tgt := 40) (pc' := 38) X d_TC_split_35 (by decide) rfl (fun c_35 => ?_) (fun c_35 => ?_)
      · rcases hb with hb | hb | hb
        · exact absurd hb c_15
        · exact absurd hb c_23
        · exact absurd c_35 (Int32.not_lt.mpr (nI_le (a := 8) hb (by omega)))
      · refine z_iconst (pc' := 39) (v := 0) X d_TC_split_38 (by decide) rfl ?_
        exact z_zret X rfl (by first | decide | simp | assumption | omega) d_TC_split_39 (⟨rfl, rfl, rfl, rfl⟩)
theorem c_split {i t : Nat} {row : Int32} (hI : z_I G h o K v La en sc tt tb T B R nu ag wa) (hi : T[i]? = some t) (hb1 : ¬ row ≤ bF (tb t)) (hb2 : ¬ bL (tb t) < row) (hb3 : T.length < 8) (hw : z_WS en sc tt tb T) (hok : ∀ a ∈ sc (bM (tb t)), z_vk (en a)) (hsr : z_srt en (sc (bM (tb t)))) : z_C G A m_TC_split 75000 320000 [.ref o, .int (nI i), .int row] h (fun val h' k n => val = some (.int 1) ∧ z_SP G h o K v La en sc tt tb T B R nu ag wa t i row h' k n ∧ z_fx G K h h' ∧ k ≤ 75000 ∧ n ≤ 320000) := by
  obtain ⟨⟨d1, c1, l1, m1⟩, -⟩ := hI.2.2.1
  have ho := hI.2.1.1
  have ht := List.mem_of_getElem? hi
  have hto := (hI.2.2.2.1 t ht).1
  obtain ⟨fs, g1⟩ := P_ob hI.1 l1
  have hlt := P_lt hI.1 l1
  have hil : i < T.length := (List.getElem?_eq_some_iff.mp hi).1
  have wt := z_WS_t hw ht
  obtain ⟨M, hM⟩ : ∃ M, sc (bM (tb t)) = M := ⟨_, rfl⟩
  rw [hM] at hok hsr wt
  have hsum : ((tt t).map (fun s => (sc s).length)).sum ≤ 255 := by
    have e2 : z_tsz sc tt tb t = (sc (bM (tb t))).length + ((tt t).map (fun s => (sc s).length)).sum := rfl
    omega
  refine z_C.of (by decide +kernel) rfl (Nat.le_of_ble_eq_true rfl) ?_
  intro x X
  have hcn := z_cne X
  refine z_aload_n (pc' := 1) X d_TC_split_0 rfl rfl ?_
  refine z_iload_n (pc' := 2) X d_TC_split_1 rfl rfl ?_
  refine z_callV X (c_tabletAt hI.1 ho l1 hi hto) k_TC_245 d_TC_split_2 (by assumption) (show classes[0]? = some _ from rfl) rfl rfl rfl (by decide) (Nat.le_of_ble_eq_true rfl) ⟨by omega, by omega⟩ (z_kp ?_)
  refine z_astore_n (pc' := 6) X d_TC_split_5 rfl rfl rfl ?_
  refine z_aload_n (pc' := 7) X d_TC_split_6 rfl rfl ?_
  refine z_ifnullR (pc' := 10) X d_TC_split_7 rfl ?_
  refine z_iload_n (pc' := 11) X d_TC_split_10 rfl rfl ?_
  refine z_aload_n (pc' := 12) X d_TC_split_11 rfl rfl ?_
  refine z_get (pc' := 15) X 0 f_TC_261 d_TC_split_12 (by assumption) rfl rfl ?_
  refine z_icmp_le (tgt := 38) (pc' := 18) X d_TC_split_15 (by decide) rfl (fun c_15 => ?_) (fun c_15 => ?_)
  · exact absurd c_15 hb1
  refine z_iload_n (pc' := 19) X d_TC_split_18 rfl rfl ?_
  refine z_aload_n (pc' := 20) X d_TC_split_19 rfl rfl ?_
  refine z_get (pc' := 23) X 1 f_TC_84 d_TC_split_20 (by assumption) rfl rfl ?_
  refine z_icmp_gt (tgt := 38) (pc' := 26) X d_TC_split_23 (by decide) rfl (fun c_23 => ?_) (fun c_23 => ?_)
  · exact absurd c_23 hb2
  refine z_aload_n (pc' := 27) X d_TC_split_26 rfl rfl ?_
  refine z_get (pc' := 30) X 2 f_TC_35 d_TC_split_27 (by assumption) rfl rfl ?_
  refine z_callV X (P_size hI.1 l1) k_TC_79 d_TC_split_30 (by assumption) (show classes[6]? = some _ from rfl) rfl rfl rfl (by decide) (Nat.le_of_ble_eq_true rfl) ⟨by omega, by omega⟩ (z_kp ?_)
  refine z_bipush (pc' := 35) (v := 8) X d_TC_split_33 (by decide) rfl ?_
  refine z_icmp_lt (tgt := 40) (pc' := 38) X d_TC_split_35 (by decide) rfl (fun _ => ?_) (fun c => absurd (nI_lt (b := 8) hb3 (by omega)) c)
  have hJ0 := z_J_of hI
  refine z_new (pc' := 43) X nw_TC_70 d_TC_split_40 ⟨by omega, by omega⟩ rfl (fun a_40 n_40 e_40 => ?_)
  refine z_dup (pc' := 44) X d_TC_split_43 rfl rfl ?_
  have hto1 : z_up h a_40 (z_ob 2 n_Tb) t = some (z_ob 2 [.int (bF (tb t)), .int (bL (tb t)), .ref (bM (tb t)), .ref (bT (tb t))]) := by rw [z_up_n _ _ (z_nb n_40 hto)]; exact hto
  refine z_aload_n (pc' := 45) X d_TC_split_44 rfl rfl ?_
  refine z_get (pc' := 48) X 0 f_TC_261 d_TC_split_45 (by assumption) rfl rfl ?_
  refine z_iload_n (pc' := 49) X d_TC_split_48 rfl rfl ?_
  refine z_iconst (pc' := 50) (v := 1) X d_TC_split_49 (by decide) rfl ?_
  refine z_isub (pc' := 51) X d_TC_split_50 rfl ?_
  refine z_callI X (c_Tb_init (z_up_s _ _ _)) k_TC_72 d_TC_split_51 rfl rfl rfl (by decide) (Nat.le_of_ble_eq_true rfl) ⟨by omega, by omega⟩ (fun v_51 h_51 k_51 n_51 p_51 => ?_)
  obtain ⟨rfl, rfl, rfl, mm1, al1, ta1, hN1⟩ := p_51
  refine z_nd0 X (fun hd1 => ?_)
  obtain ⟨ext1, hE1, fs1, ph1, hJ1⟩ := z_J_new hJ0 n_40 hN1 hd1
  have hto2 := ext1 _ _ hto
  have ho2 := ext1 _ _ ho
  refine z_astore (pc' := 56) X d_TC_split_54 rfl rfl rfl ?_
  refine z_new (pc' := 59) X nw_TC_70 d_TC_split_56 ⟨by omega, by omega⟩ rfl (fun a_56 n_56 e_56 => ?_)
  refine z_dup (pc' := 60) X d_TC_split_59 rfl rfl ?_
  have hto3 : z_up h_51 a_56 (z_ob 2 n_Tb) t = some (z_ob 2 [.int (bF (tb t)), .int (bL (tb t)), .ref (bM (tb t)), .ref (bT (tb t))]) := by rw [z_up_n _ _ (z_nb n_56 hto2)]; exact hto2
  refine z_iload_n (pc' := 61) X d_TC_split_60 rfl rfl ?_
  refine z_aload_n (pc' := 62) X d_TC_split_61 rfl rfl ?_
  refine z_get (pc' := 65) X 1 f_TC_84 d_TC_split_62 (by assumption) rfl rfl ?_
  refine z_callI X (c_Tb_init (z_up_s _ _ _)) k_TC_72 d_TC_split_65 rfl rfl rfl (by decide) (Nat.le_of_ble_eq_true rfl) ⟨by omega, by omega⟩ (fun v_65 h_65 k_65 n_65 p_65 => ?_)
  obtain ⟨rfl, rfl, rfl, mm2, al2, ta2, hN2⟩ := p_65
  refine z_nd0 X (fun hd2 => ?_)
  obtain ⟨ext2, hE2, fs2, ph2, hJ2⟩ := z_J_new hJ1 n_56 hN2 hd2
  rw [ph1] at ph2
  generalize z_lu (z_lu (z_lu (z_lu La al1 (z_d0 G, [], 0)) ta1 (z_d0 G, [], 0)) al2 (z_d0 G, [], 0)) ta2 (z_d0 G, [], 0) = La2 at hJ2 ph2
  obtain ⟨lo, hlo⟩ : ∃ lo, a_40 = lo := ⟨_, rfl⟩
  obtain ⟨hh, hhh⟩ : ∃ hh, a_56 = hh := ⟨_, rfl⟩
  rw [hlo] at hE1 hJ2 ph2 hE2 fs2
  rw [hhh] at hJ2 ph2 hE2
  rw [hlo, hhh]
  have hloh : lo ≠ hh := fun e => hE2 (by rw [← e]; simp)
  have hhT : hh ∉ T := fun e => hE2 (List.mem_append_left _ e)
  have tbl : z_tu (z_tu tb lo (bF (tb t), row - 1, mm1, al1, ta1)) hh (row, bL (tb t), mm2, al2, ta2) lo = (bF (tb t), row - 1, mm1, al1, ta1) := by rw [z_tu_n _ _ hloh, z_tu_s]
  have tbh : z_tu (z_tu tb lo (bF (tb t), row - 1, mm1, al1, ta1)) hh (row, bL (tb t), mm2, al2, ta2) hh = (row, bL (tb t), mm2, al2, ta2) := z_tu_s _ _ _
  have tbu : ∀ u ∈ T, z_tu (z_tu tb lo (bF (tb t), row - 1, mm1, al1, ta1)) hh (row, bL (tb t), mm2, al2, ta2) u = tb u := fun u hu => by
    rw [z_tu_n _ _ (fun e => hhT (by rw [← e]; exact hu)), z_tu_n _ _ (fun e => hE1 (by rw [← e]; exact hu))]
  have htl : z_su (z_su tt lo []) hh [] lo = [] := by rw [z_su_n _ _ hloh, z_su_s]
  have hth : z_su (z_su tt lo []) hh [] hh = [] := z_su_s _ _ _
  have htu : ∀ u ∈ T, z_su (z_su tt lo []) hh [] u = tt u := fun u hu => by
    rw [z_su_n _ _ (fun e => hhT (by rw [← e]; exact hu)), z_su_n _ _ (fun e => hE1 (by rw [← e]; exact hu))]
  have fs2T : ∀ u ∈ T, mm2 ≠ bM (tb u) ∧ ∀ z ∈ tt u, mm2 ≠ z := fun u hu => by
    have hul : u ≠ lo := fun e => hE1 (by rw [← e]; exact hu)
    have := fs2 u (List.mem_append_left _ hu)
    rw [z_tu_n _ _ hul, z_su_n _ _ hul] at this
    exact this
  have hm12 : mm2 ≠ mm1 := by
    have := (fs2 lo (by simp)).1
    rw [z_tu_s] at this
    exact this
  have hsa0 : z_SA sc (z_su (z_su sc mm1 []) mm2 []) tt tb T := fun u hu => ⟨by rw [z_su_n _ _ (fs2T u hu).1.symm, z_su_n _ _ (fs1 u hu).1.symm], fun z hz => by rw [z_su_n _ _ ((fs2T u hu).2 z hz).symm, z_su_n _ _ ((fs1 u hu).2 z hz).symm]⟩
  have hs1 : z_su (z_su sc mm1 []) mm2 [] mm1 = [] := by rw [z_su_n _ _ (Ne.symm hm12), z_su_s]
  have hs2 : z_su (z_su sc mm1 []) mm2 [] mm2 = [] := z_su_s _ _ _
  generalize z_su (z_su sc mm1 []) mm2 [] = sc2 at hJ2 hsa0 hs1 hs2
  generalize z_su (z_su tt lo []) hh [] = tt2 at hJ2 htl hth htu
  generalize z_tu (z_tu tb lo (bF (tb t), row - 1, mm1, al1, ta1)) hh (row, bL (tb t), mm2, al2, ta2) = tb1 at hJ2 tbl tbh tbu ph2
  have hfx2 : z_fx G K h h_65 := fun b e hb _ => ext2 b e (ext1 b e hb)
  have hEl : (T ++ [lo] ++ [hh]).length ≤ 10 := by rw [List.length_append, List.length_append]; simp; omega
  have htE : t ∈ T ++ [lo] ++ [hh] := by simp [ht]
  have hloE : lo ∈ T ++ [lo] ++ [hh] := by simp
  have hhE : hh ∈ T ++ [lo] ++ [hh] := by simp
  have hTE : ∀ u ∈ T, u ∈ T ++ [lo] ++ [hh] := fun u hu => by simp [hu]
  -- the list of tablets
  have fin : ∀ (sc3 tt3 : Nat → List Nat) (h3 : z_H) (La3 : z_LA) (ml mh : List Nat) (k n : Nat) (o6 o7 : Option Value), z_J G h3 o K v La3 en sc3 tt3 tb1 T (T ++ [lo] ++ [hh]) B R nu ag wa → z_fx G K h h3 → z_SA sc sc3 tt tb T → (∀ u ∈ T, tt3 u = tt u) → sc3 mm1 = ml → sc3 mm2 = mh → z_srt en ml → z_srt en mh → ml.Perm (M.filter (fun a => decide (eR (en a) < row))) → mh.Perm (M.filter (fun a => !decide (eR (en a) < row))) → (tt3 lo).map sc3 = z_prs en sc (tt t) (bF (tb t)) (row - 1) → (tt3 hh).map sc3 = z_prs en sc (tt t) row (bL (tb t)) → z_ct (z_Phi La (z_lst K tb T)) (z_Phi La3 (z_lst K tb1 (T ++ [lo] ++ [hh]))) k n 1030 4800 → z_V G A x h3 k n 203 [some (.ref o), some (.int (nI i)), some (.int row), some (.ref t), some (.ref lo), some (.ref hh), o6, o7] [] := by
    intro sc3 tt3 h3 La3 ml mh k n o6 o7 hJ3 hfx3 hsa3 htt3 e1 e2 q1 q2 q3 q4 q5 q6 hct
    obtain ⟨⟨d3, c3, l3, m3⟩, -⟩ := hJ3.2.2.1
    have hnd3 := (z_LJ_7 hJ3.2.2.1).1
    have hph3 := z_Phi_max hJ3.2.2.1
    have hct1 := hct.1
    have hct2 := hct.2
    have ho3 := hJ3.2.1.1
    obtain ⟨fs3, g3⟩ := P_ob hJ3.1 l3
    have hlo3 := (hJ3.2.2.2.1 lo hloE).1
    have hhh3 := (hJ3.2.2.2.1 hh hhE).1
    refine z_aload_n (pc' := 204) X d_TC_split_203 rfl rfl ?_
    refine z_get (pc' := 207) X 2 f_TC_35 d_TC_split_204 (by assumption) rfl rfl ?_
    refine z_iload_n (pc' := 208) X d_TC_split_207 rfl rfl ?_
    refine z_aload (pc' := 210) X d_TC_split_208 rfl rfl ?_
    refine z_callV X (P_set hJ3.1 l3 hi ⟨2, _, hlo3, Or.inl (by decide)⟩) k_TC_268 d_TC_split_210 (by assumption) (show classes[6]? = some _ from rfl) rfl rfl rfl (by decide) (Nat.le_of_ble_eq_true rfl) ⟨by omega, by omega⟩ (fun v_210 h_210 k_210 n_210 p_210 => ?_)
    obtain ⟨rfl, rfl, rfl, r1, r2⟩ := p_210
    have hJ4 := z_J_Ta hcn hJ3 r1 r2 m3
    have ho4 := hJ4.2.1.1
    have l4 := z_lu_s La3 (kTa K) (d3, T.set i lo, c3)
    obtain ⟨fs4, g4⟩ := P_ob hJ4.1 l4
    have hhh4 := (hJ4.2.2.2.1 hh hhE).1
    refine z_pop (pc' := 214) X d_TC_split_213 rfl rfl ?_
    refine z_aload_n (pc' := 215) X d_TC_split_214 rfl rfl ?_
    refine z_get (pc' := 218) X 2 f_TC_35 d_TC_split_215 (by assumption) rfl rfl ?_
    refine z_iload_n (pc' := 219) X d_TC_split_218 rfl rfl ?_
    refine z_iconst (pc' := 220) (v := 1) X d_TC_split_219 (by decide) rfl ?_
    refine z_iadd (pc' := 221) X d_TC_split_220 rfl ?_
    refine z_top (b := .int (nI (i + 1))) (by rw [nI_1]) ?_
    refine z_aload (pc' := 223) X d_TC_split_221 rfl rfl ?_
    refine z_callV X (P_addAt hJ4.1 l4 (i := i + 1) (by rw [List.length_set]; omega) ⟨2, _, hhh4, Or.inl (by decide)⟩ (by omega)) k_TC_272 d_TC_split_223 (by assumption) (show classes[6]? = some _ from rfl) rfl rfl rfl (by decide) (Nat.le_of_ble_eq_true rfl) ⟨by omega, by omega⟩ (fun v_223 h_223 k_223 n_223 p_223 => ?_)
    obtain ⟨rfl, d', cap', r3, r4, r5⟩ := p_223
    have hcb := z_gw_b r5 m3 (by rw [List.length_set]; omega)
    obtain ⟨r51, r52, r53, -⟩ := r5
    rw [z_ins2 hi] at r3
    have hJ5 := z_J_Ta hcn hJ4 r3 r4 hcb
    rw [z_lulu] at hJ5
    have hpm := z_ins2p (lo := lo) (hi := hh) hi
    have hge : (T ++ [lo] ++ [hh])[i]? = some t := by rw [List.append_assoc, List.getElem?_append_left hil]; exact hi
    have hfmp : (z_lst K tb1 (T.take i ++ lo :: hh :: T.drop (i + 1))).Perm (z_lst K tb1 ((T ++ [lo] ++ [hh]).eraseIdx i)) := List.Perm.append_left _ (List.Perm.flatMap_right _ hpm)
    have hsub : (z_lst K tb1 ((T ++ [lo] ++ [hh]).eraseIdx i)).Sublist (z_lst K tb1 (T ++ [lo] ++ [hh])) := List.Sublist.append (List.Sublist.refl _) (z_fm_sub (List.eraseIdx_sublist _ i))
    have hndf : (z_lst K tb1 (T.take i ++ lo :: hh :: T.drop (i + 1))).Nodup := hfmp.nodup_iff.mpr (hnd3.sublist hsub)
    have hI5 := z_J_to hJ5 (fun u hu => z_eraseIdx_mem (hpm.mem_iff.mp hu)) hndf
    have hphi : z_Phi La3 (z_lst K tb1 (T ++ [lo] ++ [hh])) + cap' ≤ z_Phi (z_lu La3 (kTa K) (d', T.take i ++ lo :: hh :: T.drop (i + 1), cap')) (z_lst K tb1 (T.take i ++ lo :: hh :: T.drop (i + 1))) + c3 + 2000 := by
      have y1 := z_Phi_lu (La := La3) (r := (d', T.take i ++ lo :: hh :: T.drop (i + 1), cap')) (a := kTa K) _ hndf (by simp [z_lst])
      rw [z_cp_of l3] at y1
      simp only at y1
      have y2 : z_Phi La3 (z_lst K tb1 (T.take i ++ lo :: hh :: T.drop (i + 1))) = z_Phi La3 (z_lst K tb1 ((T ++ [lo] ++ [hh]).eraseIdx i)) := by
        unfold z_Phi
        exact (hfmp.map _).sum_nat
      have y3 := z_sum_erase (f := fun u => z_cp La3 (bA (tb1 u)) + z_cp La3 (bT (tb1 u))) _ i t hge
      rw [z_Phi_T La3 K tb1 ((T ++ [lo] ++ [hh]).eraseIdx i)] at y2
      rw [z_Phi_T La3 K tb1 (T ++ [lo] ++ [hh]), y3]
      obtain ⟨⟨da, ca, z1, z2⟩, ⟨db, cb, z3, z4⟩⟩ := (z_LJ_7 hJ3.2.2.1).2.1 t htE
      rw [z_cp_of z1, z_cp_of z3]
      omega
    refine z_iconst (pc' := 227) (v := 1) X d_TC_split_226 (by decide) rfl ?_
    refine z_zret X rfl (Or.inr rfl) d_TC_split_227 ⟨rfl, ⟨sc3, tt3, tb1, lo, hh, _, hE1, hhT, hloh, fun u hu => ⟨tbu u hu, htt3 u hu⟩, hsa3, by rw [tbl], by rw [tbl], by rw [tbh], by rw [tbh], ?_, ?_, ?_, ?_, q5, q6, hI5, ?_, ?_⟩, z_fx_tr hfx3 (z_fx_tr (z_fx_nl r2) (z_fx_nl r4)), ?_, ?_⟩
    · rw [tbl]; show z_srt en (sc3 mm1); rw [e1]; exact q1
    · rw [tbl, hM]; show (sc3 mm1).Perm _; rw [e1]; exact q3
    · rw [tbh]; show z_srt en (sc3 mm2); rw [e2]; exact q2
    · rw [tbh, hM]; show (sc3 mm2).Perm _; rw [e2]; exact q4
    · omega
    · omega
    · omega
    · omega
  have loop2 : ∀ (mm j : Nat) (sc3 tt3 : Nat → List Nat) (h3 : z_H) (La3 : z_LA) (ml mh : List Nat) (k n : Nat) (o7 : Option Value), mm + j = (tt t).length → z_J G h3 o K v La3 en sc3 tt3 tb1 T (T ++ [lo] ++ [hh]) B R nu ag wa → z_fx G K h h3 → z_SA sc sc3 tt tb T → (∀ u ∈ T, tt3 u = tt u) → sc3 mm1 = ml → sc3 mm2 = mh → z_srt en ml → z_srt en mh → ml.Perm (M.filter (fun a => decide (eR (en a) < row))) → mh.Perm (M.filter (fun a => !decide (eR (en a) < row))) → (tt3 lo).map sc3 = z_prs en sc ((tt t).take j) (bF (tb t)) (row - 1) → (tt3 hh).map sc3 = z_prs en sc ((tt t).take j) row (bL (tb t)) → (tt3 lo).length ≤ j → (tt3 hh).length ≤ j → z_ct (z_Phi La (z_lst K tb T)) (z_Phi La3 (z_lst K tb1 (T ++ [lo] ++ [hh]))) k n (8 + 4 * j) (22 + 16 * j + 2 * (((tt t).take j).map (fun s => (sc s).length)).sum) → z_V G A x h3 k n 129 [some (.ref o), some (.int (nI i)), some (.int row), some (.ref t), some (.ref lo), some (.ref hh), some (.int (nI j)), o7] [] := by
    intro mm
    induction mm with
    | zero =>
      intro j sc3 tt3 h3 La3 ml mh k n o7 hj hJ3 hfx3 hsa3 htt3 e1 e2 q1 q2 q3 q4 q5 q6 q7 q8 hct
      have hj : j = (tt t).length := by omega
      subst hj
      rw [List.take_length] at q5 q6 hct
      have hto3 := (hJ3.2.2.2.1 t htE).1
      rw [tbu t ht] at hto3
      obtain ⟨-, ⟨db, cb, lb, mb⟩⟩ := (z_LJ_7 hJ3.2.2.1).2.1 t htE
      rw [tbu t ht, htt3 t ht] at lb
      obtain ⟨fs3, g3⟩ := P_ob hJ3.1 lb
      have hct1 := hct.1
      have hct2 := hct.2
      have hph3 := z_Phi_max hJ3.2.2.1
      refine z_iload (pc' := 131) X d_TC_split_129 rfl rfl ?_
      refine z_aload_n (pc' := 132) X d_TC_split_131 rfl rfl ?_
      refine z_get (pc' := 135) X 3 f_TC_114 d_TC_split_132 (by assumption) rfl rfl ?_
      refine z_callV X (P_size hJ3.1 lb) k_TC_79 d_TC_split_135 (by assumption) (show classes[6]? = some _ from rfl) rfl rfl rfl (by decide) (Nat.le_of_ble_eq_true rfl) ⟨by omega, by omega⟩ (z_kp ?_)
      refine z_icmp_ge (tgt := 203) (pc' := 141) X d_TC_split_138 (by decide) rfl (fun c_138 => ?_) (fun c_138 => ?_)
      · exact fin sc3 tt3 h3 La3 ml mh k n _ _ hJ3 hfx3 hsa3 htt3 e1 e2 q1 q2 q3 q4 q5 q6 ⟨by omega, by omega⟩
      · exact absurd (nI_le (Nat.le_refl _) (by omega)) c_138
    | succ mm ih =>
      intro j sc3 tt3 h3 La3 ml mh k n o7 hj hJ3 hfx3 hsa3 htt3 e1 e2 q1 q2 q3 q4 q5 q6 q7 q8 hct
      have hjl : j < (tt t).length := by omega
      have hg := List.getElem?_eq_getElem hjl
      have hsm := List.getElem_mem hjl
      have hto3 := (hJ3.2.2.2.1 t htE).1
      rw [tbu t ht] at hto3
      obtain ⟨-, ⟨db, cb, lb, mb⟩⟩ := (z_LJ_7 hJ3.2.2.1).2.1 t htE
      rw [tbu t ht, htt3 t ht] at lb
      obtain ⟨fs3, g3⟩ := P_ob hJ3.1 lb
      have ho3 := hJ3.2.1.1
      have hlo3 := (hJ3.2.2.2.1 lo hloE).1
      rw [tbl] at hlo3
      have hct1 := hct.1
      have hct2 := hct.2
      have hph3 := z_Phi_max hJ3.2.2.1
      have hs4 := (hJ3.2.2.2.1 t htE).2.2.2
      rw [htt3 t ht] at hs4
      obtain ⟨y1, y2⟩ := hs4 _ hsm
      have hsc3 := (hsa3 t ht).2 _ hsm
      rw [hsc3] at y1 y2
      obtain ⟨arr, f, s1, s2, s3⟩ := id y1
      have hsl := wt.2.2.2 _ hsm
      obtain ⟨hws1, hws2⟩ := (hw.1 t ht).2 _ hsm
      have hsmt : ((((tt t).take (j + 1)).map (fun s => (sc s).length)).sum = (((tt t).take j).map (fun s => (sc s).length)).sum + (sc (tt t)[j]).length) := by
        have := z_sumtk (f := fun s => (sc s).length) hg
        exact this
      have hsms : (((tt t).take (j + 1)).map (fun s => (sc s).length)).sum ≤ 255 := by
        have z1 : ((tt t).map (fun s => (sc s).length)).sum = (((tt t).take (j + 1)).map (fun s => (sc s).length)).sum + (((tt t).drop (j + 1)).map (fun s => (sc s).length)).sum := by
          rw [← List.sum_append, ← List.map_append, List.take_append_drop]
        omega
      refine z_iload (pc' := 131) X d_TC_split_129 rfl rfl ?_
      refine z_aload_n (pc' := 132) X d_TC_split_131 rfl rfl ?_
      refine z_get (pc' := 135) X 3 f_TC_114 d_TC_split_132 (by assumption) rfl rfl ?_
      refine z_callV X (P_size hJ3.1 lb) k_TC_79 d_TC_split_135 (by assumption) (show classes[6]? = some _ from rfl) rfl rfl rfl (by decide) (Nat.le_of_ble_eq_true rfl) ⟨by omega, by omega⟩ (z_kp ?_)
      refine z_icmp_ge (tgt := 203) (pc' := 141) X d_TC_split_138 (by decide) rfl (fun c_138 => ?_) (fun c_138 => ?_)
      · exact absurd c_138 (nI_ge hjl (by omega))
      · refine z_aload_n (pc' := 142) X d_TC_split_141 rfl rfl ?_
        refine z_aload (pc' := 144) X d_TC_split_142 rfl rfl ?_
        refine z_aload_n (pc' := 145) X d_TC_split_144 rfl rfl ?_
        refine z_get (pc' := 148) X 3 f_TC_114 d_TC_split_145 (by assumption) rfl rfl ?_
        refine z_iload (pc' := 150) X d_TC_split_148 rfl rfl ?_
        refine z_callV X (P_get hJ3.1 lb hg) k_TC_80 d_TC_split_150 (by assumption) (show classes[6]? = some _ from rfl) rfl rfl rfl (by decide) (Nat.le_of_ble_eq_true rfl) ⟨by omega, by omega⟩ (z_kp ?_)
        refine z_cast (pc' := 156) X cl_TC_214 ca_Table d_TC_split_153 (by assumption) rfl rfl ?_
        refine z_aload (pc' := 158) X d_TC_split_156 rfl rfl ?_
        refine z_get (pc' := 161) X 0 f_TC_261 d_TC_split_158 (by assumption) rfl rfl ?_
        refine z_aload (pc' := 163) X d_TC_split_161 rfl rfl ?_
        refine z_get (pc' := 166) X 1 f_TC_84 d_TC_split_163 (by assumption) rfl rfl ?_
        refine z_callV X (c_addPart (t := lo) (lo := bF (tb t)) (hi := row - 1) hJ3 hloE y1 y2 hws1 hsl hws2 hsc3 (by omega)) k_TC_264 d_TC_split_166 (by assumption) (show classes[0]? = some _ from rfl) rfl rfl rfl (by decide) (Nat.le_of_ble_eq_true rfl) ⟨by omega, by omega⟩ (fun v_166 h_166 k_166 n_166 p_166 => ?_)
        obtain ⟨rfl, ⟨sc4, w4, La4, r1, r2, r3, hJ4, r5⟩, r6, r7, r8, r9⟩ := p_166
        have r51 := r5.1
        have r52 := r5.2
        have hph4 := z_Phi_max hJ4.2.2.1
        have ho4 := hJ4.2.1.1
        have hto4 := (hJ4.2.2.2.1 t htE).1
        rw [tbu t ht] at hto4
        have htlo : t ≠ lo := fun e => hE1 (by rw [← e]; exact ht)
        have hthh : t ≠ hh := fun e => hhT (by rw [← e]; exact ht)
        have htt4 : ∀ u ∈ T, z_su tt3 lo (tt3 lo ++ w4) u = tt u := fun u hu => by
          rw [z_su_n _ _ (fun e => hE1 (by rw [← e]; exact hu))]
          exact htt3 u hu
        have hsa4 : z_SA sc sc4 tt tb T := fun u hu => by
          have z1 := r1 u (hTE u hu)
          rw [tbu u hu, htt3 u hu] at z1
          exact ⟨z1.1.trans (hsa3 u hu).1, fun z hz => (z1.2 z hz).trans ((hsa3 u hu).2 z hz)⟩
        obtain ⟨-, ⟨db4, cb4, lb4, mb4⟩⟩ := (z_LJ_7 hJ4.2.2.1).2.1 t htE
        rw [tbu t ht, htt4 t ht] at lb4
        obtain ⟨fs4, g4⟩ := P_ob hJ4.1 lb4
        have hhh4 := (hJ4.2.2.2.1 hh hhE).1
        rw [tbh] at hhh4
        have hs44 := (hJ4.2.2.2.1 t htE).2.2.2
        rw [htt4 t ht] at hs44
        obtain ⟨y41, y42⟩ := hs44 _ hsm
        have hsc4 := (hsa4 t ht).2 _ hsm
        rw [hsc4] at y41 y42
        obtain ⟨arr4, f4, s41, s42, s43⟩ := id y41
        have hmap4 : (tt3 lo ++ w4).map sc4 = z_prs en sc ((tt t).take (j + 1)) (bF (tb t)) (row - 1) := by
          have z1 : (tt3 lo).map sc4 = (tt3 lo).map sc3 := List.map_congr_left (r1 lo hloE).2
          rw [List.map_append, z1, q5, r2, List.take_add_one, hg, Option.toList_some, z_prs_app]
        refine z_aload_n (pc' := 170) X d_TC_split_169 rfl rfl ?_
        refine z_aload (pc' := 172) X d_TC_split_170 rfl rfl ?_
        refine z_aload_n (pc' := 173) X d_TC_split_172 rfl rfl ?_
        refine z_get (pc' := 176) X 3 f_TC_114 d_TC_split_173 (by assumption) rfl rfl ?_
        refine z_iload (pc' := 178) X d_TC_split_176 rfl rfl ?_
        refine z_callV X (P_get hJ4.1 lb4 hg) k_TC_80 d_TC_split_178 (by assumption) (show classes[6]? = some _ from rfl) rfl rfl rfl (by decide) (Nat.le_of_ble_eq_true rfl) ⟨by omega, by omega⟩ (z_kp ?_)
        refine z_cast (pc' := 184) X cl_TC_214 ca_Table d_TC_split_181 (by assumption) rfl rfl ?_
        refine z_aload (pc' := 186) X d_TC_split_184 rfl rfl ?_
        refine z_get (pc' := 189) X 0 f_TC_261 d_TC_split_186 (by assumption) rfl rfl ?_
        refine z_aload (pc' := 191) X d_TC_split_189 rfl rfl ?_
        refine z_get (pc' := 194) X 1 f_TC_84 d_TC_split_191 (by assumption) rfl rfl ?_
        refine z_callV X (c_addPart (t := hh) (lo := row) (hi := bL (tb t)) hJ4 hhE y41 y42 hws1 hsl hws2 hsc4 (by rw [z_su_n _ _ (Ne.symm hloh)]; omega)) k_TC_264 d_TC_split_194 (by assumption) (show classes[0]? = some _ from rfl) rfl rfl rfl (by decide) (Nat.le_of_ble_eq_true rfl) ⟨by omega, by omega⟩ (fun v_194 h_194 k_194 n_194 p_194 => ?_)
        obtain ⟨rfl, ⟨sc5, w5, La5, u1, u2, u3, hJ5, u5⟩, u6, u7, u8, u9⟩ := p_194
        have u51 := u5.1
        have u52 := u5.2
        rw [z_su_n _ _ (Ne.symm hloh)] at hJ5
        have htt5 : ∀ u ∈ T, z_su (z_su tt3 lo (tt3 lo ++ w4)) hh (tt3 hh ++ w5) u = tt u := fun u hu => by
          rw [z_su_n _ _ (fun e => hhT (by rw [← e]; exact hu))]
          exact htt4 u hu
        have hsa5 : z_SA sc sc5 tt tb T := fun u hu => by
          have z1 := u1 u (hTE u hu)
          rw [tbu u hu, htt4 u hu] at z1
          exact ⟨z1.1.trans (hsa4 u hu).1, fun z hz => (z1.2 z hz).trans ((hsa4 u hu).2 z hz)⟩
        have ulo := u1 lo hloE
        rw [tbl, z_su_s] at ulo
        have uhh := u1 hh hhE
        rw [tbh, z_su_n _ _ (Ne.symm hloh)] at uhh
        have rlo := r1 lo hloE
        rw [tbl] at rlo
        have rhh := r1 hh hhE
        rw [tbh] at rhh
        refine z_iinc (pc' := 200) (w := nI (j + 1)) X d_TC_split_197 rfl (z_i1 _) rfl rfl rfl ?_
        refine z_goto (pc' := 129) X d_TC_split_200 (by decide) ?_
        refine ih (j + 1) sc5 _ h_194 La5 ml mh _ _ _ (by omega) hJ5 (z_fx_tr hfx3 (z_fx_tr r6 u6)) hsa5 htt5 ?_ ?_ q1 q2 q3 q4 ?_ ?_ ?_ ?_ ⟨?_, ?_⟩
        · exact (ulo.1.trans rlo.1).trans e1
        · exact (uhh.1.trans rhh.1).trans e2
        · rw [z_su_n _ _ hloh, z_su_s, ← hmap4]
          exact List.map_congr_left ulo.2
        · have z1 : (tt3 hh).map sc5 = (tt3 hh).map sc3 := by
            rw [List.map_congr_left uhh.2]
            exact List.map_congr_left rhh.2
          rw [z_su_s, List.map_append, z1, q6, u2, List.take_add_one, hg, Option.toList_some, z_prs_app]
        · rw [z_su_n _ _ hloh, z_su_s, List.length_append]
          omega
        · rw [z_su_s, List.length_append]
          omega
        · omega
        · omega
  have loop1 : ∀ (mm j : Nat) (sc3 : Nat → List Nat) (h3 : z_H) (La3 : z_LA) (ml mh : List Nat) (k n : Nat) (o7 : Option Value), mm + j = M.length → z_J G h3 o K v La3 en sc3 tt2 tb1 T (T ++ [lo] ++ [hh]) B R nu ag wa → z_fx G K h h3 → z_SA sc sc3 tt tb T → sc3 mm1 = ml → sc3 mm2 = mh → z_srt en ml → z_srt en mh → ml.Perm ((M.take j).filter (fun a => decide (eR (en a) < row))) → mh.Perm ((M.take j).filter (fun a => !decide (eR (en a) < row))) → z_ct (z_Phi La (z_lst K tb T)) (z_Phi La3 (z_lst K tb1 (T ++ [lo] ++ [hh]))) k n 8 22 → z_V G A x h3 k n 73 [some (.ref o), some (.int (nI i)), some (.int row), some (.ref t), some (.ref lo), some (.ref hh), some (.int (nI j)), o7] [] := by
    intro mm
    induction mm with
    | zero =>
      intro j sc3 h3 La3 ml mh k n o7 hj hJ3 hfx3 hsa3 e1 e2 q1 q2 q3 q4 hct
      have hj : j = M.length := by omega
      subst hj
      rw [List.take_length] at q3 q4
      have hto3 := (hJ3.2.2.2.1 t htE).1
      have hmo3 := (hJ3.2.2.2.1 t htE).2.1
      rw [tbu t ht] at hto3 hmo3
      obtain ⟨⟨da, ca, la, ma⟩, -⟩ := (z_LJ_7 hJ3.2.2.1).2.1 t htE
      rw [tbu t ht, (hsa3 t ht).1, hM] at la
      have hct1 := hct.1
      have hct2 := hct.2
      have hph3 := z_Phi_max hJ3.2.2.1
      refine z_iload (pc' := 75) X d_TC_split_73 rfl rfl ?_
      refine z_aload_n (pc' := 76) X d_TC_split_75 rfl rfl ?_
      refine z_get (pc' := 79) X 2 f_TC_107 d_TC_split_76 (by assumption) rfl rfl ?_
      refine z_callV X (c_Mt_size hJ3.1 hmo3 la) k_TC_203 d_TC_split_79 (by assumption) (show classes[3]? = some _ from rfl) rfl rfl rfl (by decide) (Nat.le_of_ble_eq_true rfl) ⟨by omega, by omega⟩ (z_kp ?_)
      refine z_icmp_ge (tgt := 126) (pc' := 85) X d_TC_split_82 (by decide) rfl (fun c_82 => ?_) (fun c_82 => ?_)
      · refine z_iconst (pc' := 127) (v := 0) X d_TC_split_126 (by decide) rfl ?_
        refine z_istore (pc' := 129) X d_TC_split_127 rfl rfl rfl ?_
        exact loop2 (tt t).length 0 sc3 tt2 h3 La3 ml mh k n _ (by omega) hJ3 hfx3 hsa3 htu e1 e2 q1 q2 q3 q4 (by rw [htl]; rfl) (by rw [hth]; rfl) (by rw [htl]; exact Nat.le_refl _) (by rw [hth]; exact Nat.le_refl _) ⟨by omega, by omega⟩
      · exact absurd (nI_le (Nat.le_refl _) (by omega)) c_82
    | succ mm ih =>
      intro j sc3 h3 La3 ml mh k n o7 hj hJ3 hfx3 hsa3 e1 e2 q1 q2 q3 q4 hct
      have hjl : j < M.length := by omega
      have hg := List.getElem?_eq_getElem hjl
      obtain ⟨hto3, hmo3, hme3, -⟩ := hJ3.2.2.2.1 t htE
      rw [tbu t ht] at hto3 hmo3 hme3
      rw [(hsa3 t ht).1, hM] at hme3
      obtain ⟨⟨da, ca, la, ma⟩, -⟩ := (z_LJ_7 hJ3.2.2.1).2.1 t htE
      rw [tbu t ht, (hsa3 t ht).1, hM] at la
      have hnd3 := (z_LJ_7 hJ3.2.2.1).1
      have hct1 := hct.1
      have hct2 := hct.2
      have hph3 := z_Phi_max hJ3.2.2.1
      have hyo := hme3 _ (List.getElem_mem hjl)
      have hyk := hok _ (List.getElem_mem hjl)
      have htk : M.take (j + 1) = M.take j ++ [M[j]] := by rw [List.take_add_one, hg]; rfl
      have hkey : ∀ a ∈ M.take j, z_key (en a) ≠ z_key (en M[j]) := fun a ha => by
        obtain ⟨z, hz, e⟩ := List.getElem_of_mem ha
        rw [List.length_take] at hz
        rw [List.getElem_take] at e
        have := List.pairwise_iff_getElem.mp hsr z j (by omega) hjl (by omega)
        rw [e] at this
        omega
      -- one of the two memtables takes it
      have ins : ∀ (u m al ta : Nat) (f l : Int32) (pr : Nat → Bool) (ms : List Nat) (L : List (Option Value)), L = [some (.ref o), some (.int (nI i)), some (.int row), some (.ref t), some (.ref lo), some (.ref hh), some (.int (nI j)), some (.ref M[j])] → u ∈ T ++ [lo] ++ [hh] → tb1 u = (f, l, m, al, ta) → sc3 m = ms → z_srt en ms → ms.Perm ((M.take j).filter pr) → pr M[j] = true →
        (∀ (h4 : z_H) (La4 : z_LA) (ms' : List Nat) (k4 n4 : Nat), z_J G h4 o K v La4 en (z_su sc3 m ms') tt2 tb1 T (T ++ [lo] ++ [hh]) B R nu ag wa → z_fx G K h h4 → z_srt en ms' → ms'.Perm ((M.take (j + 1)).filter pr) → z_ct (z_Phi La (z_lst K tb T)) (z_Phi La4 (z_lst K tb1 (T ++ [lo] ++ [hh]))) k4 n4 8 22 → z_V G A x h4 k4 n4 120 L []) → z_V G A x h3 k n 112 L [.ref u] := by
        intro u m al ta f l pr ms L hL hu hbu hms p1 p2 p3 kk
        subst hL
        obtain ⟨w1, w2, w3, -⟩ := hJ3.2.2.2.1 u hu
        rw [hbu] at w1 w2 w3
        have w3 : z_ens h3 en ms := by rw [← hms]; exact w3
        obtain ⟨⟨du, cu, lu, mu⟩, -⟩ := (z_LJ_7 hJ3.2.2.1).2.1 u hu
        rw [hbu] at lu
        have lu : La3 al = some (du, ms, cu) := by rw [← hms]; exact lu
        have hmsub : ∀ a ∈ ms, a ∈ M.take j := fun a ha => (List.mem_filter.mp (p2.mem_iff.mp ha)).1
        have hmok : ∀ a ∈ ms, z_vk (en a) := fun a ha => hok a (List.mem_of_mem_take (hmsub a ha))
        have hml : ms.length ≤ 255 := by
          rw [p2.length_eq]
          refine Nat.le_trans (List.length_filter_le _ _) ?_
          rw [List.length_take]
          omega
        have hum := (z_bAm (K := K) (tb := tb1) hu).1
        rw [hbu] at hum
        refine z_get (pc' := 115) X 2 f_TC_107 d_TC_split_112 (by assumption) rfl rfl ?_
        refine z_aload (pc' := 117) X d_TC_split_115 rfl rfl ?_
        refine z_callV X (c_Mt_insert hJ3.1 w2 lu w3 hyo (by omega) (z_srt_mo p1 hmok hyk (fun _ _ => rfl))) k_TC_173 d_TC_split_117 (by assumption) (show classes[3]? = some _ from rfl) rfl rfl rfl (by decide) (Nat.le_of_ble_eq_true rfl) ⟨by omega, by omega⟩ (fun v_117 h_117 k_117 n_117 p_117 => ?_)
        obtain ⟨rfl, p, d', cap', r1, r2, r3, r4, r5, r6⟩ := p_117
        have hcb := z_gw_b r6 mu (by omega)
        obtain ⟨r61, r62, r63, -⟩ := r6
        obtain ⟨s1, s2⟩ := z_srt_insK p1 hmok hyk (fun a ha => hkey a (hmsub a ha)) r2 r3
        have hJ4 := z_J_mem (t := u) hcn hJ3 hu (by rw [hbu]; exact r4) r5 hcb (fun c hc => by
          rcases List.mem_cons.mp (s2.mem_iff.mp hc) with q | q
          · rw [q]; exact hyo
          · exact w3 c q)
        rw [hbu] at hJ4
        have e := z_Phi_lu (La := La3) (r := (d', ms.take p ++ M[j] :: ms.drop p, cap')) (a := al) _ hnd3 hum
        rw [z_cp_of lu] at e
        simp only at e
        refine kk h_117 (z_lu La3 al (d', ms.take p ++ M[j] :: ms.drop p, cap')) _ _ _ hJ4 (z_fx_tr hfx3 (z_fx_nl r5)) s1 ?_ ⟨?_, ?_⟩
        · rw [htk, List.filter_append, List.filter_cons, if_pos p3]
          refine s2.trans ?_
          refine ((List.perm_append_singleton M[j] ms).symm).trans ?_
          exact p2.append_right _
        · omega
        · omega
      have hsaU : ∀ (m : Nat) (ms : List Nat), z_fs tt tb T m → z_SA sc (z_su sc3 m ms) tt tb T := fun m ms hf u hu => ⟨by rw [z_su_n _ _ (hf u hu).1.symm]; exact (hsa3 u hu).1, fun z hz => by rw [z_su_n _ _ ((hf u hu).2 z hz).symm]; exact (hsa3 u hu).2 z hz⟩
      refine z_iload (pc' := 75) X d_TC_split_73 rfl rfl ?_
      refine z_aload_n (pc' := 76) X d_TC_split_75 rfl rfl ?_
      refine z_get (pc' := 79) X 2 f_TC_107 d_TC_split_76 (by assumption) rfl rfl ?_
      refine z_callV X (c_Mt_size hJ3.1 hmo3 la) k_TC_203 d_TC_split_79 (by assumption) (show classes[3]? = some _ from rfl) rfl rfl rfl (by decide) (Nat.le_of_ble_eq_true rfl) ⟨by omega, by omega⟩ (z_kp ?_)
      refine z_icmp_ge (tgt := 126) (pc' := 85) X d_TC_split_82 (by decide) rfl (fun c_82 => ?_) (fun c_82 => ?_)
      · exact absurd c_82 (nI_ge hjl (by omega))
      · refine z_aload_n (pc' := 86) X d_TC_split_85 rfl rfl ?_
        refine z_get (pc' := 89) X 2 f_TC_107 d_TC_split_86 (by assumption) rfl rfl ?_
        refine z_iload (pc' := 91) X d_TC_split_89 rfl rfl ?_
        refine z_callV X (c_Mt_at hJ3.1 hmo3 la hme3 hg) k_TC_235 d_TC_split_91 (by assumption) (show classes[3]? = some _ from rfl) rfl rfl rfl (by decide) (Nat.le_of_ble_eq_true rfl) ⟨by omega, by omega⟩ (z_kp ?_)
        refine z_astore (pc' := 96) X d_TC_split_94 rfl rfl rfl ?_
        refine z_aload (pc' := 98) X d_TC_split_96 rfl rfl ?_
        refine z_get (pc' := 101) X 0 f_TC_11 d_TC_split_98 (by assumption) rfl rfl ?_
        refine z_iload_n (pc' := 102) X d_TC_split_101 rfl rfl ?_
        refine z_icmp_ge (tgt := 110) (pc' := 105) X d_TC_split_102 (by decide) rfl (fun c_102 => ?_) (fun c_102 => ?_)
        · have hnr : ¬ eR (en M[j]) < row := Int32.not_lt.mpr c_102
          refine z_aload (pc' := 112) X d_TC_split_110 rfl rfl ?_
          refine ins hh mm2 al2 ta2 row (bL (tb t)) (fun a => !decide (eR (en a) < row)) mh _ rfl hhE tbh e2 q2 q4 (by simp [hnr]) (fun h4 La4 ms' k4 n4 f1 f2 f3 f4 f5 => ?_)
          refine z_iinc (pc' := 123) (w := nI (j + 1)) X d_TC_split_120 rfl (z_i1 _) rfl rfl rfl ?_
          refine z_goto (pc' := 73) X d_TC_split_123 (by decide) ?_
          refine ih (j + 1) _ h4 La4 ml ms' k4 n4 _ (by omega) f1 f2 (hsaU mm2 ms' fs2T) (by rw [z_su_n _ _ (Ne.symm hm12)]; exact e1) (z_su_s _ _ _) q1 f3 ?_ f4 f5
          rw [htk, List.filter_append, List.filter_cons, if_neg (by simp; exact c_102), List.filter_nil, List.append_nil]
          exact q3
        · have hnr : eR (en M[j]) < row := Int32.not_le.mp c_102
          refine z_aload (pc' := 107) X d_TC_split_105 rfl rfl ?_
          refine z_goto (pc' := 112) X d_TC_split_107 (by decide) ?_
          refine ins lo mm1 al1 ta1 (bF (tb t)) (row - 1) (fun a => decide (eR (en a) < row)) ml _ rfl hloE tbl e1 q1 q3 (by simp [hnr]) (fun h4 La4 ms' k4 n4 f1 f2 f3 f4 f5 => ?_)
          refine z_iinc (pc' := 123) (w := nI (j + 1)) X d_TC_split_120 rfl (z_i1 _) rfl rfl rfl ?_
          refine z_goto (pc' := 73) X d_TC_split_123 (by decide) ?_
          refine ih (j + 1) _ h4 La4 ms' mh k4 n4 _ (by omega) f1 f2 (hsaU mm1 ms' fs1) (z_su_s _ _ _) (by rw [z_su_n _ _ hm12]; exact e2) f3 q2 f4 ?_ f5
          rw [htk, List.filter_append, List.filter_cons, if_neg (by simp; exact hnr), List.filter_nil, List.append_nil]
          exact q4
  refine z_astore (pc' := 70) X d_TC_split_68 rfl rfl rfl ?_
  refine z_iconst (pc' := 71) (v := 0) X d_TC_split_70 (by decide) rfl ?_
  refine z_istore (pc' := 73) X d_TC_split_71 rfl rfl rfl ?_
  refine loop1 M.length 0 sc2 h_65 La2 [] [] _ _ _ (by omega) hJ2 hfx2 hsa0 hs1 hs2 List.Pairwise.nil List.Pairwise.nil (List.Perm.refl _) (List.Perm.refl _) ⟨?_, ?_⟩
  · omega
  · omega
end SPL
