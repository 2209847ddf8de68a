/-! scan -/
section SCAN
variable {G : z_G} {A : Nat → Prop} {h : z_H} {o : Nat} {K : z_KA} {v : z_VS} {La : z_LA} {en : Nat → z_E7} {sc tt : Nat → List Nat} {tb : Nat → z_TB} {T B R : List Nat} {nu ag wa : Nat → Int32}
/-- a row's share of a scan; of its looks -/
def z_sF (en : Nat → z_E7) (sc tt : Nat → List Nat) (tb : Nat → z_TB) (T : List Nat) (ag : Nat → Int32) (ck lo hi col fm to : Int32) (r : Nat) : List Nat := if lo ≤ nI r ∧ nI r ≤ hi then (z_row en sc tt tb T (nI r)).filter (z_ps1 en ag ck col fm to) else []
def z_sK (en : Nat → z_E7) (sc tt : Nat → List Nat) (tb : Nat → z_TB) (T : List Nat) (lo hi : Int32) (r : Nat) : Nat := if lo ≤ nI r ∧ nI r ≤ hi then z_lok en sc (tt (z_tof tb T (nI r))) (nI r) else 0
theorem z_LL_R {R' : List Nat} {d c : Nat} (hl : z_LL La K tb tt sc T B R) (hc : c ≤ 40000) : z_LL (z_lu La (kRe K) (d, R', c)) K tb tt sc T B R' := by
  obtain ⟨⟨d1, c1, l1, m1⟩, ⟨d2, c2, l2, m2⟩, ⟨d3, x3, c3, l3, m3⟩, ⟨d4, c4, l4, m4⟩, ⟨d5, x5, c5, l5, m5⟩, ⟨d6, x6, c6, l6, m6⟩, l7, l8⟩ := hl
  obtain ⟨n1, n2, n3⟩ := z_lst_nd l8
  have nt : ∀ t ∈ T, bA (tb t) ≠ kRe K ∧ bT (tb t) ≠ kRe K := fun t ht => ⟨(n3 t ht (kRe K) (by simp)).1.symm, (n3 t ht (kRe K) (by simp)).2.symm⟩
  simp only [List.nodup_cons, List.mem_cons, not_or, List.not_mem_nil] at n1
  refine ⟨⟨d1, c1, by rw [z_lu_n _ _ n1.1.2.2.1]; exact l1, m1⟩, ⟨d2, c2, by rw [z_lu_n _ _ n1.2.1.2.1]; exact l2, m2⟩, ⟨d3, x3, c3, by rw [z_lu_n _ _ n1.2.2.1.1]; exact l3, m3⟩, ⟨d, c, z_lu_s _ _ _, hc⟩, ⟨d5, x5, c5, by rw [z_lu_n _ _ (Ne.symm n1.2.2.2.1.1)]; exact l5, m5⟩, ⟨d6, x6, c6, by rw [z_lu_n _ _ (Ne.symm n1.2.2.2.1.2.1)]; exact l6, m6⟩, fun t ht => ?_, l8⟩
  obtain ⟨⟨da, ca, q1, q2⟩, ⟨db, cb, q3, q4⟩⟩ := l7 t ht
  exact ⟨⟨da, ca, by rw [z_lu_n _ _ (nt t ht).1]; exact q1, q2⟩, ⟨db, cb, by rw [z_lu_n _ _ (nt t ht).2]; exact q3, q4⟩⟩
/-- how far the rooms of the three can have grown -/
theorem z_Phi3 {La' : z_LA} {R' : List Nat} (hl : z_LL La K tb tt sc T B R) (hl' : z_LL La' K tb tt sc T B R') (hs : ∀ b, b ≠ kSr K → b ≠ kOu K → b ≠ kRe K → La' b = La b) : z_Phi La' (z_lst K tb T) ≤ z_Phi La (z_lst K tb T) + 42000 := by
  obtain ⟨-, -, -, ⟨d4, c4, l4, m4⟩, ⟨d5, x5, c5, l5, m5⟩, ⟨d6, x6, c6, l6, m6⟩, l7, l8⟩ := hl'
  obtain ⟨n1, n2, n3⟩ := z_lst_nd l8
  simp only [List.nodup_cons, List.mem_cons, not_or, List.not_mem_nil] at n1
  have e : La' = z_lu (z_lu (z_lu La (kSr K) (d5, x5, c5)) (kOu K) (d6, x6, c6)) (kRe K) (d4, R', c4) := by
    funext b
    unfold z_lu
    by_cases h1 : b = kRe K
    · rw [if_pos h1, h1, l4]
    · rw [if_neg h1]
      by_cases h2 : b = kOu K
      · rw [if_pos h2, h2, l6]
      · rw [if_neg h2]
        by_cases h3 : b = kSr K
        · rw [if_pos h3, h3, l5]
        · rw [if_neg h3, hs b h3 h2 h1]
  have k1 : kSr K ∈ z_lst K tb T := by simp [z_lst]
  have k2 : kOu K ∈ z_lst K tb T := by simp [z_lst]
  have k3 : kRe K ∈ z_lst K tb T := by simp [z_lst]
  have e1 := z_Phi_lu (La := La) (r := (d5, x5, c5)) _ l8 k1
  have e2 := z_Phi_lu (La := z_lu La (kSr K) (d5, x5, c5)) (r := (d6, x6, c6)) _ l8 k2
  have e3 := z_Phi_lu (La := z_lu (z_lu La (kSr K) (d5, x5, c5)) (kOu K) (d6, x6, c6)) (r := (d4, R', c4)) _ l8 k3
  rw [← e] at e3
  simp only at e1 e2 e3
  omega
theorem z_gw_b4 {cap len cap' k n : Nat} (h : z_gw cap len cap' k n) (hc : cap ≤ 40000) (hl : len ≤ 16400) : cap' ≤ 40000 := by
  obtain ⟨h1, h2, h3, h4⟩ := h
  rcases h4 with h4 | ⟨h4, h5⟩
  · omega
  · have := (z_grow_lt cap).2.1
    omega
theorem z_fml {f : Nat → List Nat} (n : Nat) : (List.range (n + 1)).flatMap f = (List.range n).flatMap f ++ f n := by
  rw [List.range_succ, List.flatMap_append, List.flatMap_cons, List.flatMap_nil, List.append_nil]
theorem z_fml0 {f : Nat → List Nat} : ∀ (m n : Nat), (∀ r, n ≤ r → r < n + m → f r = []) → (List.range (n + m)).flatMap f = (List.range n).flatMap f
  | 0, n, _ => rfl
  | m + 1, n, h => by
    rw [show n + (m + 1) = (n + m) + 1 from rfl, z_fml, h (n + m) (by omega) (by omega), List.append_nil]
    exact z_fml0 m n (fun r h1 h2 => h r h1 (by omega))
theorem z_sml {f : Nat → Nat} (n : Nat) : ((List.range (n + 1)).map f).sum = ((List.range n).map f).sum + f n := by
  rw [List.range_succ, List.map_append, List.sum_append, List.map_cons, List.map_nil, List.sum_cons, List.sum_nil, Nat.add_zero]
theorem z_sml0 {f : Nat → Nat} : ∀ (m n : Nat), (∀ r, n ≤ r → r < n + m → f r = 0) → ((List.range (n + m)).map f).sum = ((List.range n).map f).sum
  | 0, n, _ => rfl
  | m + 1, n, h => by
    rw [show n + (m + 1) = (n + m) + 1 from rfl, z_sml, h (n + m) (by omega) (by omega), Nat.add_zero]
    exact z_sml0 m n (fun r h1 h2 => h r h1 (by omega))
theorem z_sF_len {n : Nat} {ck lo hi col fm to : Int32} (hw : z_WS en sc tt tb T) (hT : T ≠ []) : ((List.range n).flatMap (z_sF en sc tt tb T ag ck lo hi col fm to)).length ≤ 255 * n := by
  induction n with
  | zero => simp
  | succ n ih =>
    rw [z_fml, List.length_append]
    have : (z_sF en sc tt tb T ag ck lo hi col fm to n).length ≤ 255 := by
      unfold z_sF
      split
      · exact Nat.le_trans (List.length_filter_le _ _) (z_row_len hw hT)
      · exact Nat.zero_le _
    omega
theorem c_scanN {lo hi col fm to : Int32} (hcol : col < -1 ∨ 8 ≤ col) : z_C G A m_TC_scan 45000 270000 [.ref o, .int lo, .int hi, .int col, .int fm, .int to] h (z_pu (some (.int (-1))) h) := by
  refine z_C.of (by decide +kernel) rfl (Nat.le_of_ble_eq_true rfl) ?_
  intro x X
  refine z_iload_n (pc' := 1) X d_TC_scan_0 rfl rfl ?_
  refine z_iconst (pc' := 2) (v := (-1)) X d_TC_scan_1 (by decide) rfl ?_
  refine z_icmp_lt (tgt := 11) (pc' := 5) X d_TC_scan_2 (by decide) rfl (fun c_2 => ?_) (fun c_2 => ?_)
  · refine z_iconst (pc' := 12) (v := (-1)) X d_TC_scan_11 (by decide) rfl ?_
    exact z_iret X rfl d_TC_scan_12 (⟨rfl, rfl, rfl, rfl⟩)
  · refine z_iload_n (pc' := 6) X d_TC_scan_5 rfl rfl ?_
    refine z_bipush (pc' := 8) (v := 8) X d_TC_scan_6 (by decide) rfl ?_
    refine z_icmp_lt (tgt := 13) (pc' := 11) X d_TC_scan_8 (by decide) rfl (fun c_8 => ?_) (fun c_8 => ?_)
    · rcases hcol with q | q
      · exact absurd q c_2
      · exact absurd q (Int32.not_le.mpr c_8)
    · refine z_iconst (pc' := 12) (v := (-1)) X d_TC_scan_11 (by decide) rfl ?_
      exact z_iret X rfl d_TC_scan_12 (⟨rfl, rfl, rfl, rfl⟩)
theorem c_scan {lo hi col fm to : Int32} (hI : z_I G h o K v La en sc tt tb T B R nu ag wa) (hT : T ≠ []) (hw : z_WS en sc tt tb T) (hv : z_WV en sc tt tb T) (hcol : ¬ (col < -1 ∨ 8 ≤ col)) : z_C G A m_TC_scan 45000 270000 [.ref o, .int lo, .int hi, .int col, .int fm, .int to] h (fun val h' k n => val = some (.int (nI ((List.range 64).flatMap (z_sF en sc tt tb T ag (vCk v) lo hi col fm to)).length)) ∧ ∃ (La2 : z_LA), z_I G h' o K (z_vl v (vLk v + nI ((List.range 64).map (z_sK en sc tt tb T lo hi)).sum)) La2 en sc tt tb T B ((List.range 64).flatMap (z_sF en sc tt tb T ag (vCk v) lo hi col fm to)) nu ag wa ∧ z_ff G K h h' ∧ z_ct (z_Phi La (z_lst K tb T)) (z_Phi La2 (z_lst K tb T)) k n 0 0 ∧ k ≤ 42000 ∧ n ≤ 168000) := by
  obtain ⟨-, -, -, ⟨d4, c4, l4, m4⟩, -, -, -, l8⟩ := id hI.2.2.1
  have ho := hI.2.1.1
  obtain ⟨fs, g1⟩ := P_ob hI.1 l4
  have hnd := z_lst_nd l8
  have n1 := hnd.1
  simp only [List.nodup_cons, List.mem_cons, not_or, List.not_mem_nil] at n1
  have nRS : kRe K ≠ kSr K := n1.2.2.2.1.1
  have nRO : kRe K ≠ kOu K := n1.2.2.2.1.2.1
  have kRm : kRe K ∈ z_lst K tb T := by simp [z_lst]
  refine z_C.of (by decide +kernel) rfl (Nat.le_of_ble_eq_true rfl) ?_
  intro x X
  have hcn := z_cne X
  obtain ⟨F, hF⟩ : ∃ F, z_sF en sc tt tb T ag (vCk v) lo hi col fm to = F := ⟨_, rfl⟩
  obtain ⟨LK, hLK⟩ : ∃ LK, z_sK en sc tt tb T lo hi = LK := ⟨_, rfl⟩
  have hFl : ∀ n, ((List.range n).flatMap F).length ≤ 255 * n := fun n => by rw [← hF]; exact z_sF_len hw hT
  rw [hF, hLK] at X
  have fin : ∀ (hh : z_H) (La1 : z_LA) (k n : Nat) (o6 o7 o8 o9 : Option Value), z_I G hh o K (z_vl v (vLk v + nI ((List.range 64).map LK).sum)) La1 en sc tt tb T B ((List.range 64).flatMap F) nu ag wa → z_ff G K h hh → z_ct (z_Phi La (z_lst K tb T)) (z_Phi La1 (z_lst K tb T)) k n 0 0 → z_Phi La1 (z_lst K tb T) ≤ z_Phi La (z_lst K tb T) + 42000 → z_V G A x hh k n 142 [some (.ref o), some (.int lo), some (.int hi), some (.int col), some (.int fm), some (.int to), o6, o7, o8, o9] [] := by
    intro hh La1 k n o6 o7 o8 o9 q1 q2 q3 q4
    have ho1 := q1.2.1.1
    obtain ⟨-, -, -, ⟨e4, f4, t4, u4⟩, -⟩ := q1.2.2.1
    obtain ⟨fs1, g2⟩ := P_ob q1.1 t4
    have q31 := q3.1
    have q32 := q3.2
    refine z_aload_n (pc' := 143) X d_TC_scan_142 rfl rfl ?_
    refine z_get (pc' := 146) X 11 f_TC_55 d_TC_scan_143 (by assumption) rfl rfl ?_
    refine z_callV X (P_size q1.1 t4) k_TC_79 d_TC_scan_146 (by assumption) (show classes[6]? = some _ from rfl) rfl rfl rfl (by decide) (Nat.le_of_ble_eq_true rfl) ⟨by omega, by omega⟩ (z_kp ?_)
    exact z_iret X rfl d_TC_scan_149 (⟨rfl, La1, q1, q2, q3, by omega, by omega⟩)
  have outer : ∀ (m j : Nat) (hh : z_H) (La1 : z_LA) (k n : Nat) (o7 o8 o9 : Option Value), m + j = 64 → lo ≤ nI j → z_I G hh o K (z_vl v (vLk v + nI ((List.range j).map LK).sum)) La1 en sc tt tb T B ((List.range j).flatMap F) nu ag wa → z_ff G K h hh → (∀ b, b ≠ kSr K → b ≠ kOu K → b ≠ kRe K → La1 b = La b) → z_ct (z_Phi La (z_lst K tb T)) (z_Phi La1 (z_lst K tb T)) k n 0 0 → z_V G A x hh k n 27 [some (.ref o), some (.int lo), some (.int hi), some (.int col), some (.int fm), some (.int to), some (.int (nI j)), o7, o8, o9] [] := by
    intro m
    induction m with
    | zero =>
      intro j hh La1 k n o7 o8 o9 hj hlo hI1 hff hso hct
      have hj : j = 64 := by omega
      subst hj
      have hphi := z_Phi3 hI.2.2.1 hI1.2.2.1 hso
      have q31 := hct.1
      have q32 := hct.2
      refine z_iload (pc' := 29) X d_TC_scan_27 rfl rfl ?_
      refine z_bipush (pc' := 31) (v := 63) X d_TC_scan_29 (by decide) rfl ?_
      refine z_iload_n (pc' := 32) X d_TC_scan_31 rfl rfl ?_
      refine z_mmin (pc' := 35) X l_TC_61 ms_min mi_Math mc_min d_TC_scan_32 rfl (by decide) (Nat.le_of_ble_eq_true rfl) ⟨by omega, by omega⟩ rfl ?_
      refine z_icmp_gt (tgt := 142) (pc' := 38) X d_TC_scan_35 (by decide) rfl (fun c_35 => ?_) (fun c_35 => ?_)
      · exact fin hh La1 k n _ _ _ _ hI1 hff hct hphi
      · exfalso
        apply c_35
        split
        · rename_i hlt
          exact Int32.lt_trans hlt (by decide)
        · decide
    | succ m ih =>
      intro j hh La1 k n o7 o8 o9 hj hlo hI1 hff hso hct
      have hphi := z_Phi3 hI.2.2.1 hI1.2.2.1 hso
      have q31 := hct.1
      have q32 := hct.2
      have hj64 : j < 64 := by omega
      have hjlt : nI j < 64 := nI_lt (b := 64) hj64 (by omega)
      have hj0 : (0 : Int32) ≤ nI j := nI_pos' (by omega)
      refine z_iload (pc' := 29) X d_TC_scan_27 rfl rfl ?_
      refine z_bipush (pc' := 31) (v := 63) X d_TC_scan_29 (by decide) rfl ?_
      refine z_iload_n (pc' := 32) X d_TC_scan_31 rfl rfl ?_
      refine z_mmin (pc' := 35) X l_TC_61 ms_min mi_Math mc_min d_TC_scan_32 rfl (by decide) (Nat.le_of_ble_eq_true rfl) ⟨by omega, by omega⟩ rfl ?_
      refine z_icmp_gt (tgt := 142) (pc' := 38) X d_TC_scan_35 (by decide) rfl (fun c_35 => ?_) (fun c_35 => ?_)
      · have hhi : hi < nI j := by
          split at c_35
          · exact c_35
          · exact absurd (nI_lt (a := 63) (b := j) ((nI_ltI (by omega) (by omega)).mp c_35) (by omega)) (nI_nlt (by omega) (by omega))
        have hnr : ∀ r, j ≤ r → r < j + (m + 1) → ¬ (lo ≤ nI r ∧ nI r ≤ hi) := fun r h1 h2 q => absurd (Int32.lt_of_lt_of_le hhi (nI_le h1 (by omega))) (Int32.not_lt.mpr q.2)
        have e1 : (List.range 64).flatMap F = (List.range j).flatMap F := by
          have := z_fml0 (f := F) (m + 1) j (fun r h1 h2 => by rw [← hF]; unfold z_sF; rw [if_neg (hnr r h1 h2)])
          rw [show j + (m + 1) = 64 by omega] at this
          exact this
        have e2 : ((List.range 64).map LK).sum = ((List.range j).map LK).sum := by
          have := z_sml0 (f := LK) (m + 1) j (fun r h1 h2 => by rw [← hLK]; unfold z_sK; rw [if_neg (hnr r h1 h2)])
          rw [show j + (m + 1) = 64 by omega] at this
          exact this
        exact fin hh La1 k n _ _ _ _ (by rw [e1, e2]; exact hI1) hff hct hphi
      · have hhi : nI j ≤ hi := by
          split at c_35
          · exact Int32.not_lt.mp c_35
          · rename_i hge
            exact Int32.le_trans (Int32.not_lt.mp c_35) (Int32.not_lt.mp hge)
        have hFj : F j = (z_row en sc tt tb T (nI j)).filter (z_ps1 en ag (vCk v) col fm to) := by rw [← hF]; unfold z_sF; rw [if_pos ⟨hlo, hhi⟩]
        have hKj : LK j = z_lok en sc (tt (z_tof tb T (nI j))) (nI j) := by rw [← hLK]; unfold z_sK; rw [if_pos ⟨hlo, hhi⟩]
        have ho1 := hI1.2.1.1
        refine z_aload_n (pc' := 39) X d_TC_scan_38 rfl rfl ?_
        refine z_iload (pc' := 41) X d_TC_scan_39 rfl rfl ?_
        refine z_callV X (c_look hI1 hT hw hj0 hjlt) k_TC_222 d_TC_scan_41 (by assumption) (show classes[0]? = some _ from rfl) rfl rfl rfl (by decide) (Nat.le_of_ble_eq_true rfl) ⟨by omega, by omega⟩ (fun v_41 h_41 k_41 n_41 p_41 => ?_)
        obtain ⟨rfl, rfl, rfl, hI2, hff2⟩ := p_41
        have hlk : vLk v + nI ((List.range j).map LK).sum + nI (z_lok en sc (tt (z_tof tb T (nI j))) (nI j)) = vLk v + nI ((List.range (j + 1)).map LK).sum := by rw [z_sml, hKj, ← nI_add, Int32.add_assoc]
        have hI2 : z_I G h_41 o K (z_vl v (vLk v + nI ((List.range (j + 1)).map LK).sum)) La1 en sc tt tb T B ((List.range j).flatMap F) nu ag wa := by
          rw [← hlk]
          exact hI2
        have ho2 := hI2.2.1.1
        refine z_aload_n (pc' := 45) X d_TC_scan_44 rfl rfl ?_
        refine z_iload (pc' := 47) X d_TC_scan_45 rfl rfl ?_
        refine z_callV X (c_std hI2 hT hw hv) k_TC_154 d_TC_scan_47 (by assumption) (show classes[0]? = some _ from rfl) rfl rfl rfl (by decide) (Nat.le_of_ble_eq_true rfl) ⟨by omega, by omega⟩ (fun v_47 h_47 k_47 n_47 p_47 => ?_)
        obtain ⟨rfl, La2, d, c, r1, r2, r3, r4, r5⟩ := p_47
        have hok := z_row_ok (row := nI j) r1 hv hT
        have hrl := z_row_len (en := en) (row := nI j) hw hT
        obtain ⟨L, hL⟩ : ∃ L, z_row en sc tt tb T (nI j) = L := ⟨_, rfl⟩
        rw [hL] at r2 hok hFj hrl
        have r50 := r5.1.1
        have r53 := r5.1.2
        have hFlj := hFl j
        have inner : ∀ (m2 i : Nat) (h3 : z_H) (La3 : z_LA) (k3 n3 : Nat) (o9 : Option Value), m2 + i = L.length → z_I G h3 o K (z_vl v (vLk v + nI ((List.range (j + 1)).map LK).sum)) La3 en sc tt tb T B ((List.range j).flatMap F ++ (L.take i).filter (z_ps1 en ag (vCk v) col fm to)) nu ag wa → z_ff G K h h3 → (∀ b, b ≠ kSr K → b ≠ kOu K → b ≠ kRe K → La3 b = La b) → La3 (kOu K) = some (d, L, c) → z_ct (z_Phi La (z_lst K tb T)) (z_Phi La3 (z_lst K tb T)) k3 n3 0 0 → (∀ a ∈ L, h3 a = some (z_ob 5 (z_ef (en a)))) → z_V G A x h3 k3 n3 55 [some (.ref o), some (.int lo), some (.int hi), some (.int col), some (.int fm), some (.int to), some (.int (nI j)), some (.ref (kOu K)), some (.int (nI i)), o9] [] := by
          intro m2
          induction m2 with
          | zero =>
            intro i h3 La3 k3 n3 o9 hi2 hI3 hff3 hso3 hou hct3 hob
            have hi2 : i = L.length := by omega
            subst hi2
            rw [List.take_length] at hI3
            have hphi3 := z_Phi3 hI.2.2.1 hI3.2.2.1 hso3
            have q31' := hct3.1
            have q32' := hct3.2
            obtain ⟨fs3, g3⟩ := P_ob hI3.1 hou
            refine z_iload (pc' := 57) X d_TC_scan_55 rfl rfl ?_
            refine z_aload (pc' := 59) X d_TC_scan_57 rfl rfl ?_
            refine z_callV X (P_size hI3.1 hou) k_TC_79 d_TC_scan_59 (by assumption) (show classes[6]? = some _ from rfl) rfl rfl rfl (by decide) (Nat.le_of_ble_eq_true rfl) ⟨by omega, by omega⟩ (z_kp ?_)
            refine z_icmp_ge (tgt := 136) (pc' := 65) X d_TC_scan_62 (by decide) rfl (fun c_62 => ?_) (fun c_62 => ?_)
            · refine z_iinc (pc' := 139) (w := nI (j + 1)) X d_TC_scan_136 rfl (z_i1 _) rfl rfl rfl ?_
              refine z_goto (pc' := 27) X d_TC_scan_139 (by decide) ?_
              refine ih (j + 1) h3 La3 k3 n3 _ _ _ (by omega) (Int32.le_trans hlo (nI_le (by omega) (by omega))) ?_ hff3 hso3 hct3
              rw [z_fml, hFj]
              exact hI3
            · exact absurd (nI_le (Nat.le_refl _) (by omega)) c_62
          | succ m2 ih2 =>
            intro i h3 La3 k3 n3 o9 hi2 hI3 hff3 hso3 hou hct3 hob
            have hil : i < L.length := by omega
            have hg := List.getElem?_eq_getElem hil
            have hbo := hob _ (List.getElem_mem hil)
            have hbv := (hok _ (List.getElem_mem hil)).2
            have hphi3 := z_Phi3 hI.2.2.1 hI3.2.2.1 hso3
            have q31' := hct3.1
            have q32' := hct3.2
            have k1 := hI3.2.1.1
            have k5 := hI3.2.1.2.2.2.2.1
            obtain ⟨fs3, g3⟩ := P_ob hI3.1 hou
            have htk : L.take (i + 1) = L.take i ++ [L[i]] := by rw [List.take_add_one, hg]; rfl
            have skip : z_ps1 en ag (vCk v) col fm to L[i] = false → z_V G A x h3 k3 n3 130 [some (.ref o), some (.int lo), some (.int hi), some (.int col), some (.int fm), some (.int to), some (.int (nI j)), some (.ref (kOu K)), some (.int (nI i)), some (.ref L[i])] [] := by
              intro hp
              refine z_iinc (pc' := 133) (w := nI (i + 1)) X d_TC_scan_130 rfl (z_i1 _) rfl rfl rfl ?_
              refine z_goto (pc' := 55) X d_TC_scan_133 (by decide) ?_
              refine ih2 (i + 1) h3 La3 k3 n3 _ (by omega) ?_ hff3 hso3 hou hct3 hob
              rw [htk, List.filter_append, List.filter_cons_of_neg (by rw [hp]; decide), List.filter_nil, List.append_nil]
              exact hI3
            have hrest : z_yg ag (vCk v) (en L[i]) = true → (col = -1 ∨ eC (en L[i]) = col) → z_V G A x h3 k3 n3 100 [some (.ref o), some (.int lo), some (.int hi), some (.int col), some (.int fm), some (.int to), some (.int (nI j)), some (.ref (kOu K)), some (.int (nI i)), some (.ref L[i])] [] := by
              intro hy hcc
              refine z_aload (pc' := 102) X d_TC_scan_100 rfl rfl ?_
              refine z_get (pc' := 105) X 2 f_TC_94 d_TC_scan_102 (by assumption) rfl rfl ?_
              refine z_iload (pc' := 107) X d_TC_scan_105 rfl rfl ?_
              refine z_icmp_lt (tgt := 130) (pc' := 110) X d_TC_scan_107 (by decide) rfl (fun c_107 => ?_) (fun c_107 => ?_)
              · exact skip (by unfold z_ps1; simp [Int32.not_le.mpr c_107])
              · refine z_aload (pc' := 112) X d_TC_scan_110 rfl rfl ?_
                refine z_get (pc' := 115) X 2 f_TC_94 d_TC_scan_112 (by assumption) rfl rfl ?_
                refine z_iload (pc' := 117) X d_TC_scan_115 rfl rfl ?_
                refine z_icmp_gt (tgt := 130) (pc' := 120) X d_TC_scan_117 (by decide) rfl (fun c_117 => ?_) (fun c_117 => ?_)
                · exact skip (by unfold z_ps1; simp [Int32.not_le.mpr c_117])
                · have hp : z_ps1 en ag (vCk v) col fm to L[i] = true := by
                    unfold z_ps1
                    rw [hy]
                    simp [hcc, Int32.not_lt.mp c_107, Int32.not_lt.mp c_117]
                  obtain ⟨-, -, -, ⟨e4, f4, t4, u4⟩, -, -, -, -⟩ := id hI3.2.2.1
                  obtain ⟨fs4, g4⟩ := P_ob hI3.1 t4
                  have hlen : ((List.range j).flatMap F ++ (L.take i).filter (z_ps1 en ag (vCk v) col fm to)).length ≤ 16400 := by
                    rw [List.length_append]
                    have e1 := List.length_filter_le (z_ps1 en ag (vCk v) col fm to) (L.take i)
                    rw [List.length_take] at e1
                    omega
                  refine z_aload_n (pc' := 121) X d_TC_scan_120 rfl rfl ?_
                  refine z_get (pc' := 124) X 11 f_TC_55 d_TC_scan_121 (by assumption) rfl rfl ?_
                  refine z_aload (pc' := 126) X d_TC_scan_124 rfl rfl ?_
                  refine z_callV X (P_add hI3.1 t4 ⟨5, _, hbo, Or.inl (by decide)⟩ (by omega)) k_TC_75 d_TC_scan_126 (by assumption) (show classes[6]? = some _ from rfl) rfl rfl rfl (by decide) (Nat.le_of_ble_eq_true rfl) ⟨by omega, by omega⟩ (fun v_126 h_126 k_126 n_126 p_126 => ?_)
                  obtain ⟨rfl, d', cap', s1, s2, s3⟩ := p_126
                  have hcb := z_gw_b4 s3 u4 hlen
                  obtain ⟨s31, s32, s33, -⟩ := s3
                  have hff4 := z_ff_nl (K := K) hcn s2
                  have e := z_Phi_lu (La := La3) (r := (d', (List.range j).flatMap F ++ (L.take i).filter (z_ps1 en ag (vCk v) col fm to) ++ [L[i]], cap')) (a := kRe K) _ l8 kRm
                  rw [z_cp_of t4] at e
                  simp only at e
                  refine z_pop (pc' := 130) X d_TC_scan_129 rfl rfl ?_
                  refine z_iinc (pc' := 133) (w := nI (i + 1)) X d_TC_scan_130 rfl (z_i1 _) rfl rfl rfl ?_
                  refine z_goto (pc' := 55) X d_TC_scan_133 (by decide) ?_
                  refine ih2 (i + 1) h_126 (z_lu La3 (kRe K) (d', (List.range j).flatMap F ++ (L.take i).filter (z_ps1 en ag (vCk v) col fm to) ++ [L[i]], cap')) (k3 + k_126) (n3 + n_126) _ (by omega) ?_ (z_ff_tr hff3 hff4) (fun b e1 e2 e3 => by rw [z_lu_n _ _ e3]; exact hso3 b e1 e2 e3) (by rw [z_lu_n _ _ (Ne.symm nRO)]; exact hou) ?_ (fun a ha => hff4 _ _ (hob a ha) (Or.inl ⟨5, _, rfl, by decide, by decide⟩))
                  · rw [htk, List.filter_append, List.filter_cons_of_pos hp, List.filter_nil, ← List.append_assoc]
                    refine ⟨s1, z_I0_nl hI3.2.1 s2, z_LL_R hI3.2.2.1 hcb, fun t ht => z_I1_ff hff4 (hI3.2.2.2.1 t ht), z_ens_ff hff4 hI3.2.2.2.2.1, ?_⟩
                    intro b hb
                    rcases List.mem_append.mp hb with q | q
                    · exact z_ens_ff hff4 hI3.2.2.2.2.2 b q
                    · rw [List.mem_singleton.mp q]
                      exact hff4 _ _ hbo (Or.inl ⟨5, _, rfl, by decide, by decide⟩)
                  · exact ⟨by omega, by omega⟩
            refine z_iload (pc' := 57) X d_TC_scan_55 rfl rfl ?_
            refine z_aload (pc' := 59) X d_TC_scan_57 rfl rfl ?_
            refine z_callV X (P_size hI3.1 hou) k_TC_79 d_TC_scan_59 (by assumption) (show classes[6]? = some _ from rfl) rfl rfl rfl (by decide) (Nat.le_of_ble_eq_true rfl) ⟨by omega, by omega⟩ (z_kp ?_)
            refine z_icmp_ge (tgt := 136) (pc' := 65) X d_TC_scan_62 (by decide) rfl (fun c_62 => ?_) (fun c_62 => ?_)
            · exact absurd c_62 (nI_ge hil (by omega))
            · refine z_aload (pc' := 67) X d_TC_scan_65 rfl rfl ?_
              refine z_iload (pc' := 69) X d_TC_scan_67 rfl rfl ?_
              refine z_callV X (P_get hI3.1 hou hg) k_TC_80 d_TC_scan_69 (by assumption) (show classes[6]? = some _ from rfl) rfl rfl rfl (by decide) (Nat.le_of_ble_eq_true rfl) ⟨by omega, by omega⟩ (z_kp ?_)
              refine z_cast (pc' := 75) X cl_TC_12 ca_Entry d_TC_scan_72 (by assumption) rfl rfl ?_
              refine z_astore (pc' := 77) X d_TC_scan_75 rfl rfl rfl ?_
              refine z_aload_n (pc' := 78) X d_TC_scan_77 rfl rfl ?_
              refine z_aload (pc' := 80) X d_TC_scan_78 rfl rfl ?_
              refine z_callV X (c_young k1 k5 hbo hbv) k_TC_158 d_TC_scan_80 (by assumption) (show classes[0]? = some _ from rfl) rfl rfl rfl (by decide) (Nat.le_of_ble_eq_true rfl) ⟨by omega, by omega⟩ (z_kp ?_)
              cases hy : z_yg ag (vCk v) (en L[i]) with
              | false =>
                refine z_if_eq (tgt := 130) (pc' := 86) X d_TC_scan_83 (by decide) rfl (fun _ => ?_) (fun q => absurd rfl q)
                exact skip (by unfold z_ps1; rw [hy]; simp)
              | true =>
                refine z_if_eq (tgt := 130) (pc' := 86) X d_TC_scan_83 (by decide) rfl (fun q => absurd q (by decide)) (fun _ => ?_)
                refine z_iload_n (pc' := 87) X d_TC_scan_86 rfl rfl ?_
                refine z_iconst (pc' := 88) (v := (-1)) X d_TC_scan_87 (by decide) rfl ?_
                refine z_icmp_eq (tgt := 100) (pc' := 91) X d_TC_scan_88 (by decide) rfl (fun c_88 => ?_) (fun c_88 => ?_)
                · exact hrest hy (Or.inl c_88)
                · refine z_aload (pc' := 93) X d_TC_scan_91 rfl rfl ?_
                  refine z_get (pc' := 96) X 1 f_TC_87 d_TC_scan_93 (by assumption) rfl rfl ?_
                  refine z_iload_n (pc' := 97) X d_TC_scan_96 rfl rfl ?_
                  refine z_icmp_ne (tgt := 130) (pc' := 100) X d_TC_scan_97 (by decide) rfl (fun c_97 => ?_) (fun c_97 => ?_)
                  · exact skip (by unfold z_ps1; simp [c_88, c_97])
                  · exact hrest hy (Or.inr c_97)
        refine z_astore (pc' := 52) X d_TC_scan_50 rfl rfl rfl ?_
        refine z_iconst (pc' := 53) (v := 0) X d_TC_scan_52 (by decide) rfl ?_
        refine z_istore (pc' := 55) X d_TC_scan_53 rfl rfl rfl ?_
        refine inner L.length 0 h_47 La2 (k + 0 + k_47) (n + 0 + n_47) _ (by omega) ?_ (z_ff_tr (z_ff_tr hff hff2) r3) (fun b e1 e2 e3 => by rw [r4 b e1 e2]; exact hso b e1 e2 e3) r2 ⟨by omega, by omega⟩ (fun a ha => (hok a ha).1)
        rw [List.take_zero, List.filter_nil, List.append_nil]
        exact r1
  have hc2 : ¬ col < -1 := fun q => hcol (Or.inl q)
  have hc8 : col < 8 := Int32.not_le.mp (fun q => hcol (Or.inr q))
  have begin' : z_V G A x h 0 0 13 [some (.ref o), some (.int lo), some (.int hi), some (.int col), some (.int fm), some (.int to), none, none, none, none] [] := by
    refine z_aload_n (pc' := 14) X d_TC_scan_13 rfl rfl ?_
    refine z_get (pc' := 17) X 11 f_TC_55 d_TC_scan_14 (by assumption) rfl rfl ?_
    refine z_callV X (P_clear hI.1 l4) k_TC_208 d_TC_scan_17 (by assumption) (show classes[6]? = some _ from rfl) rfl rfl rfl (by decide) (Nat.le_of_ble_eq_true rfl) ⟨by omega, by omega⟩ (fun v_17 h_17 k_17 n_17 p_17 => ?_)
    obtain ⟨rfl, rfl, rfl, s1, s2⟩ := p_17
    have hff1 := z_ff_nl (K := K) hcn s2
    have e := z_Phi_lu (La := La) (r := (d4, [], c4)) (a := kRe K) _ l8 kRm
    rw [z_cp_of l4] at e
    simp only at e
    have hI1 : z_I G h_17 o K v (z_lu La (kRe K) (d4, [], c4)) en sc tt tb T B [] nu ag wa := ⟨s1, z_I0_nl hI.2.1 s2, z_LL_R hI.2.2.1 m4, fun t ht => z_I1_ff hff1 (hI.2.2.2.1 t ht), z_ens_ff hff1 hI.2.2.2.2.1, fun b hb => absurd hb List.not_mem_nil⟩
    have hso1 : ∀ b, b ≠ kSr K → b ≠ kOu K → b ≠ kRe K → z_lu La (kRe K) (d4, [], c4) b = La b := fun b _ _ e3 => z_lu_n _ _ e3
    refine z_iconst (pc' := 21) (v := 0) X d_TC_scan_20 (by decide) rfl ?_
    refine z_iload_n (pc' := 22) X d_TC_scan_21 rfl rfl ?_
    refine z_mmax (pc' := 25) X l_TC_67 ms_max mi_Math mc_max d_TC_scan_22 rfl (by decide) (Nat.le_of_ble_eq_true rfl) ⟨by omega, by omega⟩ rfl ?_
    obtain ⟨y, hy⟩ : ∃ y : Int32, (if 0 < lo then lo else 0) = y := ⟨_, rfl⟩
    have hy0 : 0 ≤ y.toInt := by
      rw [← hy]
      split
      · rename_i hl
        have := Int32.lt_iff_toInt_lt.mp hl
        have h0 : (0 : Int32).toInt = 0 := rfl
        omega
      · decide
    have hyl : lo ≤ y := by
      rw [← hy]
      split
      · exact Int32.le_refl _
      · rename_i hl
        exact Int32.not_lt.mp hl
    rw [hy]
    by_cases hy64 : y.toInt < 64
    · have hyn := z_ofnat hy0
      obtain ⟨j, hjd⟩ : ∃ j, y.toInt.toNat = j := ⟨_, rfl⟩
      rw [hjd] at hyn
      have hj64 : j < 64 := by omega
      subst hyn
      have hnr : ∀ r, 0 ≤ r → r < 0 + j → ¬ (lo ≤ nI r ∧ nI r ≤ hi) := by
        intro r _ hr q
        have hlo : ¬ (0 : Int32) < lo → False := fun hl => by
          rw [if_neg hl] at hy
          have : j = 0 := ((nI_eq (a := 0) (b := j) (by omega) (by omega)).mp hy).symm
          omega
        have hl : (0 : Int32) < lo := Classical.byContradiction hlo
        rw [if_pos hl] at hy
        rw [hy] at q
        exact absurd (nI_lt (show r < j by omega) (by omega)) (Int32.not_lt.mpr q.1)
      have e1 : (List.range j).flatMap F = [] := by
        have := z_fml0 (f := F) j 0 (fun r h1 h2 => by rw [← hF]; unfold z_sF; rw [if_neg (hnr r h1 h2)])
        rw [Nat.zero_add] at this
        rw [this]
        rfl
      have e2 : ((List.range j).map LK).sum = 0 := by
        have := z_sml0 (f := LK) j 0 (fun r h1 h2 => by rw [← hLK]; unfold z_sK; rw [if_neg (hnr r h1 h2)])
        rw [Nat.zero_add] at this
        rw [this]
        rfl
      refine z_istore (pc' := 27) X d_TC_scan_25 rfl rfl rfl ?_
      refine outer (64 - j) j h_17 _ 0 0 none none none (by omega) hyl ?_ hff1 hso1 ⟨by omega, by omega⟩
      rw [e1, e2, nI_0, Int32.add_zero]
      exact hI1
    · have hlo63 : ∀ r, 0 ≤ r → r < 0 + 64 → ¬ (lo ≤ nI r ∧ nI r ≤ hi) := by
        intro r _ hr q
        have hl : (0 : Int32) < lo := Classical.byContradiction (fun hl => by
          rw [if_neg hl] at hy
          rw [← hy] at hy64
          exact hy64 (by decide))
        rw [if_pos hl] at hy
        have h1 := Int32.le_iff_toInt_le.mp q.1
        rw [hy, nI_toInt (by omega)] at h1
        omega
      have e1 : (List.range 64).flatMap F = [] := by
        have := z_fml0 (f := F) 64 0 (fun r h1 h2 => by rw [← hF]; unfold z_sF; rw [if_neg (hlo63 r h1 h2)])
        rw [Nat.zero_add] at this
        rw [this]
        rfl
      have e2 : ((List.range 64).map LK).sum = 0 := by
        have := z_sml0 (f := LK) 64 0 (fun r h1 h2 => by rw [← hLK]; unfold z_sK; rw [if_neg (hlo63 r h1 h2)])
        rw [Nat.zero_add] at this
        rw [this]
        rfl
      have hphi := z_Phi3 hI.2.2.1 hI1.2.2.1 hso1
      refine z_istore (pc' := 27) X d_TC_scan_25 rfl rfl rfl ?_
      refine z_iload (pc' := 29) X d_TC_scan_27 rfl rfl ?_
      refine z_bipush (pc' := 31) (v := 63) X d_TC_scan_29 (by decide) rfl ?_
      refine z_iload_n (pc' := 32) X d_TC_scan_31 rfl rfl ?_
      refine z_mmin (pc' := 35) X l_TC_61 ms_min mi_Math mc_min d_TC_scan_32 rfl (by decide) (Nat.le_of_ble_eq_true rfl) ⟨by omega, by omega⟩ rfl ?_
      refine z_icmp_gt (tgt := 142) (pc' := 38) X d_TC_scan_35 (by decide) rfl (fun c_35 => ?_) (fun c_35 => ?_)
      · refine fin h_17 _ 0 0 _ _ _ _ ?_ hff1 ⟨by omega, by omega⟩ hphi
        rw [e1, e2, nI_0, Int32.add_zero]
        exact hI1
      · exfalso
        apply c_35
        rw [Int32.lt_iff_toInt_lt]
        have h63 : (63 : Int32).toInt = 63 := rfl
        split
        · rename_i hlt
          have := Int32.lt_iff_toInt_lt.mp hlt
          omega
        · omega
  refine z_iload_n (pc' := 1) X d_TC_scan_0 rfl rfl ?_
  refine z_iconst (pc' := 2) (v := (-1)) X d_TC_scan_1 (by decide) rfl ?_
  refine z_icmp_lt (tgt := 11) (pc' := 5) X d_TC_scan_2 (by decide) rfl (fun c_2 => ?_) (fun c_2 => ?_)
  · exact absurd c_2 hc2
  · refine z_iload_n (pc' := 6) X d_TC_scan_5 rfl rfl ?_
    refine z_bipush (pc' := 8) (v := 8) X d_TC_scan_6 (by decide) rfl ?_
    refine z_icmp_lt (tgt := 13) (pc' := 11) X d_TC_scan_8 (by decide) rfl (fun c_8 => ?_) (fun c_8 => ?_)
    · exact begin'
    · exact absurd hc8 c_8
end SCAN
