/-! reading: get, found, scan -/
def z_pg (en : Nat → z_E7) (ag : Nat → Int32) (ck col at' : Int32) (a : Nat) : Bool := decide (eC (en a) = col) && z_yg ag ck (en a) && decide (eT (en a) ≤ at')
def z_gt (en : Nat → z_E7) (ag : Nat → Int32) (ck col at' : Int32) : List Nat → Int32 → Int64
  | [], _ => -1
  | a :: L, lf => if lf < 0 then -1 else if z_pg en ag ck col at' a then (if lf = 0 then 4294967296 * (eT (en a)).toInt64 + ((eV (en a)).toInt64 &&& 4294967295) else z_gt en ag ck col at' L (lf + Int32.ofInt (-1))) else z_gt en ag ck col at' L lf
def z_fnd (e : z_E7) : Int64 := 4294967296 * (80000 * (eR e).toInt64 + 10000 * (eC e).toInt64 + (eT e).toInt64) + ((eV e).toInt64 &&& 4294967295)
def z_ps1 (en : Nat → z_E7) (ag : Nat → Int32) (ck col fm to : Int32) (a : Nat) : Bool := z_yg ag ck (en a) && (decide (col = -1) || decide (eC (en a) = col)) && decide (fm ≤ eT (en a)) && decide (eT (en a) ≤ to)
theorem z_run_len {en : Nat → z_E7} {cs : Nat → List Nat} {ss : List Nat} {nd : Int32} : ∀ (n : Nat) (ps : Nat → Nat) (q : z_Q5), (z_run en cs ss nd n ps q).length ≤ n
  | 0, _, _ => Nat.le_refl _
  | n + 1, ps, q => by
    unfold z_run
    cases hb : z_bst en cs ss ps nd ss.length with
    | none => exact Nat.zero_le _
    | some c =>
      have ih := z_run_len (en := en) (cs := cs) (ss := ss) (nd := nd) n (z_p1 ps c.2) (z_st5 q (en c.1)).1
      show ((if (z_st5 q (en c.1)).2 = true then [c.1] else []) ++ _).length ≤ n + 1
      rw [List.length_append]
      split
      · show 1 + _ ≤ n + 1
        omega
      · show 0 + _ ≤ n + 1
        omega
section GET
variable {G : z_G} {A : Nat → Prop} {h : z_H} {o : Nat} {K : z_KA} {v : z_VS} {La : z_LA} {en : Nat → z_E7} {sc tt : Nat → List Nat} {tb : Nat → z_TB} {T B R : List Nat} {nu ag wa : Nat → Int32}
abbrev z_vl (v : z_VS) (d : Int32) : z_VS := (vEx v, vSo v, vER v, vEC v, vEV v, vBs v, vLg v, vSq v, vCk v, d, vTo v)
theorem z_row_len {row : Int32} (hw : z_WS en sc tt tb T) (hT : T ≠ []) : (z_row en sc tt tb T row).length ≤ 255 := by
  have htm := z_tof_mem tb T row hT
  have h1 := z_run_len (en := en) (cs := sc) (ss := z_ne sc (bM (tb (z_tof tb T row)) :: tt (z_tof tb T row))) (nd := row + 1) (z_rem sc (z_ne sc (bM (tb (z_tof tb T row)) :: tt (z_tof tb T row))) (fun k => z_fo en (sc ((z_ne sc (bM (tb (z_tof tb T row)) :: tt (z_tof tb T row))).getD k 0)) row) (z_ne sc (bM (tb (z_tof tb T row)) :: tt (z_tof tb T row))).length) (fun k => z_fo en (sc ((z_ne sc (bM (tb (z_tof tb T row)) :: tt (z_tof tb T row))).getD k 0)) row) (-1, 0, 0, 0, 0)
  have h2 := z_rem_le sc (z_ne sc (bM (tb (z_tof tb T row)) :: tt (z_tof tb T row))) (fun k => z_fo en (sc ((z_ne sc (bM (tb (z_tof tb T row)) :: tt (z_tof tb T row))).getD k 0)) row) _ (Nat.le_refl _)
  rw [List.take_length, z_ne_sum, List.map_cons, List.sum_cons] at h2
  have h3 := (z_WS_t hw htm).1
  have e2 : z_tsz sc tt tb (z_tof tb T row) = (sc (bM (tb (z_tof tb T row)))).length + ((tt (z_tof tb T row)).map (fun s => (sc s).length)).sum := rfl
  exact Nat.le_trans h1 (by omega)
theorem c_get {row col at' nn : Int32} (hI : z_I G h o K v La en sc tt tb T B R nu ag wa) (hT : T ≠ []) (hw : z_WS en sc tt tb T) (hv : z_WV en sc tt tb T) : z_C G A m_TC_get 2100 10100 [.ref o, .int row, .int col, .int at', .int nn] h (fun val h' k n => val = some (.long (if z_ir row && z_ic col then z_gt en ag (vCk v) col at' (z_row en sc tt tb T row) nn else -1)) ∧ ∃ (La2 : z_LA), z_I G h' o K (if z_ir row && z_ic col then z_vl v (vLk v + nI (z_lok en sc (tt (z_tof tb T row)) row)) else v) La2 en sc tt tb T B R nu ag wa ∧ z_ff G K h h' ∧ z_cu (z_Phi La (z_lst K tb T)) (z_Phi La2 (z_lst K tb T)) k n) := by
  refine z_C.of (by decide +kernel) rfl (Nat.le_of_ble_eq_true rfl) ?_
  intro x X
  have no : (z_ir row && z_ic col) = false → z_V G A x h 0 0 14 [some (.ref o), some (.int row), some (.int col), some (.int at'), some (.int nn), none, none, none, none] [] := by
    intro hz
    refine z_ldc2 (pc' := 17) X d_TC_get_14 lc_TC_220 rfl ?_
    refine z_lret X rfl d_TC_get_17 ⟨by rw [hz]; rfl, La, by rw [hz]; exact hI, z_ff_rf, ⟨by omega, by omega⟩, by omega, by omega⟩
  refine z_iload_n (pc' := 1) X d_TC_get_0 rfl rfl ?_
  refine z_callS X (c_isRow) k_TC_125 d_TC_get_1 rfl rfl rfl (by decide) (Nat.le_of_ble_eq_true rfl) ⟨by omega, by omega⟩ (z_kp ?_)
  cases hr : z_ir row with
  | false =>
    refine z_if_eq (tgt := 14) (pc' := 7) X d_TC_get_4 (by decide) rfl (fun _ => ?_) (fun q => absurd rfl q)
    exact no (by rw [hr]; rfl)
  | true =>
    refine z_if_eq (tgt := 14) (pc' := 7) X d_TC_get_4 (by decide) rfl (fun q => absurd q (by decide)) (fun _ => ?_)
    refine z_iload_n (pc' := 8) X d_TC_get_7 rfl rfl ?_
    refine z_callS X (c_isColumn) k_TC_129 d_TC_get_8 rfl rfl rfl (by decide) (Nat.le_of_ble_eq_true rfl) ⟨by omega, by omega⟩ (z_kp ?_)
    cases hc : z_ic col with
    | false =>
      refine z_if_ne (tgt := 18) (pc' := 14) X d_TC_get_11 (by decide) rfl (fun q => absurd rfl q) (fun _ => ?_)
      exact no (by rw [hr, hc]; rfl)
    | true =>
      refine z_if_ne (tgt := 18) (pc' := 14) X d_TC_get_11 (by decide) rfl (fun _ => ?_) (fun q => absurd q (by decide))
      have hr' := hr
      unfold z_ir at hr'
      simp at hr'
      have ho := hI.2.1.1
      refine z_aload_n (pc' := 19) X d_TC_get_18 rfl rfl ?_
      refine z_iload_n (pc' := 20) X d_TC_get_19 rfl rfl ?_
      refine z_callV X (c_look hI hT hw hr'.1 hr'.2) k_TC_222 d_TC_get_20 (by assumption) (show classes[0]? = some _ from rfl) rfl rfl rfl (by decide) (Nat.le_of_ble_eq_true rfl) ⟨by omega, by omega⟩ (fun v_20 h_20 k_20 n_20 p_20 => ?_)
      obtain ⟨rfl, rfl, rfl, hI1, hff1⟩ := p_20
      have ho1 := hI1.2.1.1
      refine z_aload_n (pc' := 24) X d_TC_get_23 rfl rfl ?_
      refine z_iload_n (pc' := 25) X d_TC_get_24 rfl rfl ?_
      refine z_callV X (c_std hI1 hT hw hv) k_TC_154 d_TC_get_25 (by assumption) (show classes[0]? = some _ from rfl) rfl rfl rfl (by decide) (Nat.le_of_ble_eq_true rfl) ⟨by omega, by omega⟩ (fun v_25 h_25 k_25 n_25 p_25 => ?_)
      obtain ⟨rfl, La2, d, c, r1, r2, r3, r4, r5⟩ := p_25
      have hok := z_row_ok (row := row) r1 hv hT
      have k1 := r1.2.1.1
      have k5 := r1.2.1.2.2.2.2.1
      have r51 := r5.2.1
      have r52 := r5.2.2
      obtain ⟨fs, g1⟩ := P_ob r1.1 r2
      have hlt := P_lt r1.1 r2
      obtain ⟨L, hL⟩ : ∃ L, z_row en sc tt tb T row = L := ⟨_, rfl⟩
      rw [hL] at r2 hok hlt
      have hend : ∀ w : Int64, z_gt en ag (vCk v) col at' L nn = w → (some (Value.long w) = some (Value.long (if z_ir row && z_ic col then z_gt en ag (vCk v) col at' (z_row en sc tt tb T row) nn else -1)) ∧ ∃ (La2 : z_LA), z_I G h_25 o K (if z_ir row && z_ic col then z_vl v (vLk v + nI (z_lok en sc (tt (z_tof tb T row)) row)) else v) La2 en sc tt tb T B R nu ag wa ∧ z_ff G K h h_25 ∧ z_cu (z_Phi La (z_lst K tb T)) (z_Phi La2 (z_lst K tb T)) (0 + k_25) (0 + n_25)) := by
        intro w hw
        refine ⟨by rw [hr, hc, hL, ← hw]; rfl, La2, by rw [hr, hc]; exact r1, z_ff_tr hff1 r3, by rw [Nat.zero_add, Nat.zero_add]; exact r5⟩
      have loop : ∀ (m i : Nat) (lf : Int32) (o8 : Option Value), m + i = L.length → z_gt en ag (vCk v) col at' L nn = z_gt en ag (vCk v) col at' (L.drop i) lf → z_V G A x h_25 (0 + k_25) (0 + n_25) 37 [some (.ref o), some (.int row), some (.int col), some (.int at'), some (.int nn), some (.ref (kOu K)), some (.int lf), some (.int (nI i)), o8] [] := by
        intro m
        induction m with
        | zero =>
          intro i lf o8 hi hz
          have hi : i = L.length := by omega
          subst hi
          rw [List.drop_length] at hz
          refine z_iload (pc' := 39) X d_TC_get_37 rfl rfl ?_
          refine z_aload (pc' := 41) X d_TC_get_39 rfl rfl ?_
          refine z_callV X (P_size r1.1 r2) k_TC_79 d_TC_get_41 (by assumption) (show classes[6]? = some _ from rfl) rfl rfl rfl (by decide) (Nat.le_of_ble_eq_true rfl) ⟨by omega, by omega⟩ (z_kp ?_)
          refine z_icmp_ge (tgt := 122) (pc' := 47) X d_TC_get_44 (by decide) rfl (fun c_44 => ?_) (fun c_44 => ?_)
          · refine z_ldc2 (pc' := 125) X d_TC_get_122 lc_TC_220 rfl ?_
            exact z_lret X rfl d_TC_get_125 (hend _ hz)
          · exact absurd (nI_le (Nat.le_refl _) (by omega)) c_44
        | succ m ih =>
          intro i lf o8 hi hz
          have hil : i < L.length := by omega
          have hg := List.getElem?_eq_getElem hil
          obtain ⟨hbo, hbv⟩ := hok _ (List.getElem_mem hil)
          have hdr : L.drop i = L[i] :: L.drop (i + 1) := List.drop_eq_getElem_cons hil
          rw [hdr, z_gt] at hz
          refine z_iload (pc' := 39) X d_TC_get_37 rfl rfl ?_
          refine z_aload (pc' := 41) X d_TC_get_39 rfl rfl ?_
          refine z_callV X (P_size r1.1 r2) k_TC_79 d_TC_get_41 (by assumption) (show classes[6]? = some _ from rfl) rfl rfl rfl (by decide) (Nat.le_of_ble_eq_true rfl) ⟨by omega, by omega⟩ (z_kp ?_)
          refine z_icmp_ge (tgt := 122) (pc' := 47) X d_TC_get_44 (by decide) rfl (fun c_44 => ?_) (fun c_44 => ?_)
          · exact absurd c_44 (nI_ge hil (by omega))
          · refine z_iload (pc' := 49) X d_TC_get_47 rfl rfl ?_
            refine z_if_lt (tgt := 122) (pc' := 52) X d_TC_get_49 (by decide) rfl (fun c_49 => ?_) (fun c_49 => ?_)
            · rw [if_pos c_49] at hz
              refine z_ldc2 (pc' := 125) X d_TC_get_122 lc_TC_220 rfl ?_
              exact z_lret X rfl d_TC_get_125 (hend _ hz)
            · rw [if_neg c_49] at hz
              have skip : z_pg en ag (vCk v) col at' L[i] = false → z_V G A x h_25 (0 + k_25) (0 + n_25) 116 [some (.ref o), some (.int row), some (.int col), some (.int at'), some (.int nn), some (.ref (kOu K)), some (.int lf), some (.int (nI i)), some (.ref L[i])] [] := by
                intro hp
                rw [hp] at hz
                refine z_iinc (pc' := 119) (w := nI (i + 1)) X d_TC_get_116 rfl (z_i1 _) rfl rfl rfl ?_
                refine z_goto (pc' := 37) X d_TC_get_119 (by decide) ?_
                exact ih (i + 1) lf _ (by omega) hz
              refine z_aload (pc' := 54) X d_TC_get_52 rfl rfl ?_
              refine z_iload (pc' := 56) X d_TC_get_54 rfl rfl ?_
              refine z_callV X (P_get r1.1 r2 hg) k_TC_80 d_TC_get_56 (by assumption) (show classes[6]? = some _ from rfl) rfl rfl rfl (by decide) (Nat.le_of_ble_eq_true rfl) ⟨by omega, by omega⟩ (z_kp ?_)
              refine z_cast (pc' := 62) X cl_TC_12 ca_Entry d_TC_get_59 (by assumption) rfl rfl ?_
              refine z_astore (pc' := 64) X d_TC_get_62 rfl rfl rfl ?_
              refine z_aload (pc' := 66) X d_TC_get_64 rfl rfl ?_
              refine z_get (pc' := 69) X 1 f_TC_87 d_TC_get_66 (by assumption) rfl rfl ?_
              refine z_iload_n (pc' := 70) X d_TC_get_69 rfl rfl ?_
              refine z_icmp_ne (tgt := 116) (pc' := 73) X d_TC_get_70 (by decide) rfl (fun c_70 => ?_) (fun c_70 => ?_)
              · exact skip (by unfold z_pg; simp [c_70])
              · refine z_aload_n (pc' := 74) X d_TC_get_73 rfl rfl ?_
                refine z_aload (pc' := 76) X d_TC_get_74 rfl rfl ?_
                refine z_callV X (c_young k1 k5 hbo hbv) k_TC_158 d_TC_get_76 (by assumption) (show classes[0]? = some _ from rfl) rfl rfl rfl (by decide) (Nat.le_of_ble_eq_true rfl) ⟨by omega, by omega⟩ (z_kp ?_)
                cases hy : z_yg ag (vCk v) (en L[i]) with
                | false =>
                  refine z_if_eq (tgt := 116) (pc' := 82) X d_TC_get_79 (by decide) rfl (fun _ => ?_) (fun q => absurd rfl q)
                  exact skip (by unfold z_pg; rw [hy]; simp)
                | true =>
                  refine z_if_eq (tgt := 116) (pc' := 82) X d_TC_get_79 (by decide) rfl (fun q => absurd q (by decide)) (fun _ => ?_)
                  refine z_aload (pc' := 84) X d_TC_get_82 rfl rfl ?_
                  refine z_get (pc' := 87) X 2 f_TC_94 d_TC_get_84 (by assumption) rfl rfl ?_
                  refine z_iload_n (pc' := 88) X d_TC_get_87 rfl rfl ?_
                  refine z_icmp_gt (tgt := 116) (pc' := 91) X d_TC_get_88 (by decide) rfl (fun c_88 => ?_) (fun c_88 => ?_)
                  · exact skip (by unfold z_pg; simp [Int32.not_le.mpr c_88])
                  · have hp : z_pg en ag (vCk v) col at' L[i] = true := by unfold z_pg; rw [hy]; simp [c_70, Int32.not_lt.mp c_88]
                    rw [hp] at hz
                    refine z_iload (pc' := 93) X d_TC_get_91 rfl rfl ?_
                    refine z_if_ne (tgt := 113) (pc' := 96) X d_TC_get_93 (by decide) rfl (fun c_93 => ?_) (fun c_93 => ?_)
                    · rw [if_pos rfl, if_neg c_93] at hz
                      refine z_iinc (pc' := 116) X d_TC_get_113 rfl rfl rfl rfl rfl ?_
                      refine z_iinc (pc' := 119) (w := nI (i + 1)) X d_TC_get_116 rfl (z_i1 _) rfl rfl rfl ?_
                      refine z_goto (pc' := 37) X d_TC_get_119 (by decide) ?_
                      exact ih (i + 1) _ _ (by omega) hz
                    · rw [if_pos rfl, if_pos c_93] at hz
                      refine z_ldc2 (pc' := 99) X d_TC_get_96 lc_TC_225 rfl ?_
                      refine z_aload (pc' := 101) X d_TC_get_99 rfl rfl ?_
                      refine z_get (pc' := 104) X 2 f_TC_94 d_TC_get_101 (by assumption) rfl rfl ?_
                      refine z_i2l (pc' := 105) X d_TC_get_104 rfl ?_
                      refine z_lmul (pc' := 106) X d_TC_get_105 rfl ?_
                      refine z_aload (pc' := 108) X d_TC_get_106 rfl rfl ?_
                      refine z_callV X (c_packed hbo) k_TC_227 d_TC_get_108 (by assumption) (show classes[5]? = some _ from rfl) rfl rfl rfl (by decide) (Nat.le_of_ble_eq_true rfl) ⟨by omega, by omega⟩ (z_kp ?_)
                      refine z_ladd (pc' := 112) X d_TC_get_111 rfl ?_
                      exact z_lret X rfl d_TC_get_112 (hend _ hz)
      refine z_astore (pc' := 30) X d_TC_get_28 rfl rfl rfl ?_
      refine z_iload (pc' := 32) X d_TC_get_30 rfl rfl ?_
      refine z_istore (pc' := 34) X d_TC_get_32 rfl rfl rfl ?_
      refine z_iconst (pc' := 35) (v := 0) X d_TC_get_34 (by decide) rfl ?_
      refine z_istore (pc' := 37) X d_TC_get_35 rfl rfl rfl ?_
      exact loop L.length 0 nn none (by omega) (by rw [List.drop_zero])
theorem c_found {i : Nat} (hI : z_I G h o K v La en sc tt tb T B R nu ag wa) (hi : i < R.length) : z_C G A m_TC_found 0 0 [.ref o, .int (nI i)] h (z_pu (some (.long (z_fnd (en (R.getD i 0))))) h) := by
  obtain ⟨-, -, -, ⟨d4, c4, l4, m4⟩, -⟩ := hI.2.2.1
  have ho := hI.2.1.1
  obtain ⟨fs, g1⟩ := P_ob hI.1 l4
  have hlt := P_lt hI.1 l4
  have hg : R[i]? = some (R.getD i 0) := by
    rw [List.getD_eq_getElem?_getD, List.getElem?_eq_getElem hi]
    rfl
  have hbo := hI.2.2.2.2.2 _ (List.mem_of_getElem? hg)
  refine z_C.of (by decide +kernel) rfl (Nat.le_of_ble_eq_true rfl) ?_
  intro x X
  refine z_iload_n (pc' := 1) X d_TC_found_0 rfl rfl ?_
  refine z_if_lt (tgt := 15) (pc' := 4) X d_TC_found_1 (by decide) rfl (fun c_1 => ?_) (fun c_1 => ?_)
  · exact absurd c_1 (nI_pos (by omega))
  · refine z_iload_n (pc' := 5) X d_TC_found_4 rfl rfl ?_
    refine z_aload_n (pc' := 6) X d_TC_found_5 rfl rfl ?_
    refine z_get (pc' := 9) X 11 f_TC_55 d_TC_found_6 (by assumption) rfl rfl ?_
    refine z_callV X (P_size hI.1 l4) k_TC_79 d_TC_found_9 (by assumption) (show classes[6]? = some _ from rfl) rfl rfl rfl (by decide) (Nat.le_of_ble_eq_true rfl) ⟨by omega, by omega⟩ (z_kp ?_)
    refine z_icmp_lt (tgt := 19) (pc' := 15) X d_TC_found_12 (by decide) rfl (fun c_12 => ?_) (fun c_12 => ?_)
    · refine z_aload_n (pc' := 20) X d_TC_found_19 rfl rfl ?_
      refine z_get (pc' := 23) X 11 f_TC_55 d_TC_found_20 (by assumption) rfl rfl ?_
      refine z_iload_n (pc' := 24) X d_TC_found_23 rfl rfl ?_
      refine z_callV X (P_get hI.1 l4 hg) k_TC_80 d_TC_found_24 (by assumption) (show classes[6]? = some _ from rfl) rfl rfl rfl (by decide) (Nat.le_of_ble_eq_true rfl) ⟨by omega, by omega⟩ (z_kp ?_)
      refine z_cast (pc' := 30) X cl_TC_12 ca_Entry d_TC_found_27 (by assumption) rfl rfl ?_
      refine z_astore_n (pc' := 31) X d_TC_found_30 rfl rfl rfl ?_
      refine z_ldc2 (pc' := 34) X d_TC_found_31 lc_TC_225 rfl ?_
      refine z_ldc2 (pc' := 37) X d_TC_found_34 lc_TC_231 rfl ?_
      refine z_aload_n (pc' := 38) X d_TC_found_37 rfl rfl ?_
      refine z_get (pc' := 41) X 0 f_TC_11 d_TC_found_38 (by assumption) rfl rfl ?_
      refine z_i2l (pc' := 42) X d_TC_found_41 rfl ?_
      refine z_lmul (pc' := 43) X d_TC_found_42 rfl ?_
      refine z_ldc2 (pc' := 46) X d_TC_found_43 lc_TC_233 rfl ?_
      refine z_aload_n (pc' := 47) X d_TC_found_46 rfl rfl ?_
      refine z_get (pc' := 50) X 1 f_TC_87 d_TC_found_47 (by assumption) rfl rfl ?_
      refine z_i2l (pc' := 51) X d_TC_found_50 rfl ?_
      refine z_lmul (pc' := 52) X d_TC_found_51 rfl ?_
      refine z_ladd (pc' := 53) X d_TC_found_52 rfl ?_
      refine z_aload_n (pc' := 54) X d_TC_found_53 rfl rfl ?_
      refine z_get (pc' := 57) X 2 f_TC_94 d_TC_found_54 (by assumption) rfl rfl ?_
      refine z_i2l (pc' := 58) X d_TC_found_57 rfl ?_
      refine z_ladd (pc' := 59) X d_TC_found_58 rfl ?_
      refine z_lmul (pc' := 60) X d_TC_found_59 rfl ?_
      refine z_aload_n (pc' := 61) X d_TC_found_60 rfl rfl ?_
      refine z_callV X (c_packed hbo) k_TC_227 d_TC_found_61 (by assumption) (show classes[5]? = some _ from rfl) rfl rfl rfl (by decide) (Nat.le_of_ble_eq_true rfl) ⟨by omega, by omega⟩ (z_kp ?_)
      refine z_ladd (pc' := 65) X d_TC_found_64 rfl ?_
      exact z_lret X rfl d_TC_found_65 (⟨rfl, rfl, rfl, rfl⟩)
    · exact absurd (nI_lt hi (by omega)) c_12
theorem c_foundN {i : Int32} (hI : z_I G h o K v La en sc tt tb T B R nu ag wa) (hi : i < 0 ∨ nI R.length ≤ i) : z_C G A m_TC_found 0 0 [.ref o, .int i] h (z_pu (some (.long (-1))) h) := by
  obtain ⟨-, -, -, ⟨d4, c4, l4, m4⟩, -⟩ := hI.2.2.1
  have ho := hI.2.1.1
  obtain ⟨fs, g1⟩ := P_ob hI.1 l4
  refine z_C.of (by decide +kernel) rfl (Nat.le_of_ble_eq_true rfl) ?_
  intro x X
  refine z_iload_n (pc' := 1) X d_TC_found_0 rfl rfl ?_
  refine z_if_lt (tgt := 15) (pc' := 4) X d_TC_found_1 (by decide) rfl (fun c_1 => ?_) (fun c_1 => ?_)
  · refine z_ldc2 (pc' := 18) X d_TC_found_15 lc_TC_220 rfl ?_
    exact z_lret X rfl d_TC_found_18 (⟨rfl, rfl, rfl, rfl⟩)
  · refine z_iload_n (pc' := 5) X d_TC_found_4 rfl rfl ?_
    refine z_aload_n (pc' := 6) X d_TC_found_5 rfl rfl ?_
    refine z_get (pc' := 9) X 11 f_TC_55 d_TC_found_6 (by assumption) rfl rfl ?_
    refine z_callV X (P_size hI.1 l4) k_TC_79 d_TC_found_9 (by assumption) (show classes[6]? = some _ from rfl) rfl rfl rfl (by decide) (Nat.le_of_ble_eq_true rfl) ⟨by omega, by omega⟩ (z_kp ?_)
    refine z_icmp_lt (tgt := 19) (pc' := 15) X d_TC_found_12 (by decide) rfl (fun c_12 => ?_) (fun c_12 => ?_)
    · rcases hi with hi | hi
      · exact absurd hi c_1
      · exact absurd hi (Int32.not_le.mpr c_12)
    · refine z_ldc2 (pc' := 18) X d_TC_found_15 lc_TC_220 rfl ?_
      exact z_lret X rfl d_TC_found_18 (⟨rfl, rfl, rfl, rfl⟩)
end GET
