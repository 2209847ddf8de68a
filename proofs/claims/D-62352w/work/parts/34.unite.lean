/-! flush, unite, compact, major -/
/-- whether a uniting keeps an entry -/
def z_kpt (en : Nat → z_E7) (ag : Nat → Int32) (ck co : Int32) (a : Nat) : Bool := if eL (en a) = 0 then decide (co = 0) else z_yg ag ck (en a)
/-- what a uniting of the tables ts keeps -/
def z_un (en : Nat → z_E7) (sc : Nat → List Nat) (ag : Nat → Int32) (ck co : Int32) (ts : List Nat) : List Nat := (z_mo en sc (z_ne sc ts) 0 64 (-1, 0, 0, 0, 0)).filter (z_kpt en ag ck co)
theorem z_lulu (La : z_LA) (a : Nat) (r r' : Nat × List Nat × Nat) : z_lu (z_lu La a r) a r' = z_lu La a r' := by
  funext b
  unfold z_lu
  split <;> rfl
theorem z_lu_id {G : z_G} {h : z_H} {La : z_LA} {a : Nat} {r : Nat × List Nat × Nat} (ha : La a = some r) (hp : z_pool G h La) : z_pool G h (z_lu La a r) := by
  have : z_lu La a r = La := by
    funext b
    unfold z_lu
    split
    · rename_i e
      rw [e, ha]
    · rfl
  rw [this]
  exact hp
theorem nI_sub1 (i : Nat) : nI (i + 1) - 1 = nI i := by
  rw [show nI (i + 1) = nI i + 1 from by have := z_i1 i; simpa using this.symm]
  exact Int32.add_sub_cancel _ _
theorem nI_subn {i j : Nat} (h : j ≤ i) : nI i - nI j = nI (i - j) := by
  have : nI i = nI (i - j) + nI j := by
    rw [nI_add]
    congr 1
    omega
  rw [this]
  exact Int32.add_sub_cancel _ _
theorem nI_m1 (i : Nat) : nI i + Int32.ofInt (-1) = nI i - 1 := by
  rw [Int32.sub_eq_add_neg]
  rfl
theorem nI_m1lt {i : Nat} (hi : i < 2 ^ 30) : nI i - 1 < nI i := by
  rcases Nat.eq_zero_or_pos i with q | q
  · subst q
    decide
  · obtain ⟨j, rfl⟩ : ∃ j, i = j + 1 := ⟨i - 1, by omega⟩
    rw [nI_sub1]
    exact nI_lt (by omega) (by omega)
theorem z_eraseLast (l : List Nat) {j : Nat} (hj : j < l.length) : (l.take (j + 1)).eraseIdx j = l.take j := by
  have h1 : l.take (j + 1) = l.take j ++ [l[j]] := by rw [List.take_add_one, List.getElem?_eq_getElem hj]; rfl
  have h2 : (l.take j).length = j := by rw [List.length_take]; omega
  rw [h1, List.eraseIdx_append_of_length_le (by omega), h2, Nat.sub_self]
  simp
section UNI
variable {G : z_G} {A : Nat → Prop} {h : z_H} {o : Nat} {K : z_KA} {v : z_VS} {La : z_LA} {en : Nat → z_E7} {sc tt : Nat → List Nat} {tb : Nat → z_TB} {T B R : List Nat} {nu ag wa : Nat → Int32}
theorem z_I_scr {h' : z_H} {a d c : Nat} {xs : List Nat} (hcn : z_cE G ≠ z_cO G) (hI : z_I G h o K v La en sc tt tb T B R nu ag wa) (ha : a = kKe K ∨ a = kSr K ∨ a = kOu K) (hp : z_pool G h' (z_lu La a (d, xs, c))) (hn : z_nl G h h') (hc : c ≤ 1000) : z_I G h' o K v (z_lu La a (d, xs, c)) en sc tt tb T B R nu ag wa := by
  have hff := z_ff_nl (K := K) hcn hn
  exact ⟨hp, z_I0_nl hI.2.1 hn, z_LL_scr hI.2.2.1 ha hc, fun u hu => z_I1_ff hff (hI.2.2.2.1 u hu), z_ens_ff hff hI.2.2.2.2.1, z_ens_ff hff hI.2.2.2.2.2⟩
theorem z_kKe (hn : (z_lst K tb T).Nodup) : kKe K ∈ z_lst K tb T ∧ kKe K ≠ kSr K ∧ kKe K ≠ kOu K ∧ ∀ t ∈ T, kKe K ≠ bA (tb t) ∧ kKe K ≠ bT (tb t) := by
  obtain ⟨n1, n2, n3⟩ := z_lst_nd hn
  simp only [List.nodup_cons, List.mem_cons, not_or, List.not_mem_nil] at n1
  exact ⟨by simp [z_lst], n1.2.2.1.2.1, n1.2.2.1.2.2.1, fun t ht => n3 t ht _ (by simp)⟩
/-- as z_I_tab, the tables being told of behind -/
theorem z_I_tabN {h' : z_H} {t d c : Nat} {ts : List Nat} {sc' : Nat → List Nat} (hcn : z_cE G ≠ z_cO G) (hI : z_I G h o K v La en sc tt tb T B R nu ag wa) (ht : t ∈ T) (hp : z_pool G h' (z_lu La (bT (tb t)) (d, ts, c))) (hn : z_nl G h h') (hc : c ≤ 1000) (hs : ∀ u ∈ T, sc' (bM (tb u)) = sc (bM (tb u)) ∧ ∀ s ∈ tt u, sc' s = sc s) (hts : ∀ s ∈ ts, z_tab G h' en s (sc' s) ∧ z_ens h' en (sc' s)) : z_I G h' o K v (z_lu La (bT (tb t)) (d, ts, c)) en sc' (z_su tt t ts) tb T B R nu ag wa := by
  have hff := z_ff_nl (K := K) hcn hn
  have hl1 := z_LL_T (d := d) (ts := ts) hI.2.2.1 ht hc
  obtain ⟨l1, l2, l3, l4, l5, l6, l7, l8⟩ := hl1
  refine ⟨hp, z_I0_nl hI.2.1 hn, ⟨l1, l2, l3, l4, l5, l6, fun u hu => ?_, l8⟩, fun u hu => ?_, z_ens_ff hff hI.2.2.2.2.1, z_ens_ff hff hI.2.2.2.2.2⟩
  · rw [(hs u hu).1]
    exact l7 u hu
  · obtain ⟨i1, i2, i3, i4⟩ := z_I1_ff hff (hI.2.2.2.1 u hu)
    refine ⟨i1, i2, by rw [(hs u hu).1]; exact i3, fun s hs' => ?_⟩
    by_cases hut : u = t
    · subst hut
      rw [z_su_s] at hs'
      exact hts s hs'
    · rw [z_su_n _ _ hut] at hs'
      rw [(hs u hu).2 s hs']
      exact i4 s hs'
/-- behind a uniting -/
def z_UN (G : z_G) (h : z_H) (o : Nat) (K : z_KA) (v : z_VS) (La : z_LA) (en : Nat → z_E7) (sc tt : Nat → List Nat) (tb : Nat → z_TB) (T B R : List Nat) (nu ag wa : Nat → Int32) (t fr : Nat) (co : Int32) (h' : z_H) (k n : Nat) : Prop :=
  ∃ (s : Nat) (La' : z_LA), z_fs tt tb T s ∧ z_I G h' o K v La' en (z_su sc s (z_un en sc ag (vCk v) co ((tt t).drop fr))) (z_su tt t ((tt t).take fr ++ if z_un en sc ag (vCk v) co ((tt t).drop fr) = [] then [] else [s])) tb T B R nu ag wa ∧ z_fx G K h h' ∧ z_ct (z_Phi La (z_lst K tb T)) (z_Phi La' (z_lst K tb T)) k n 2 300
theorem c_unite {t m : Nat} {co : Int32} (hco : co = 0 ∨ co = 1) (hI : z_I G h o K v La en sc tt tb T B R nu ag wa) (ht : t ∈ T) (hw : z_WS en sc tt tb T) (hv : z_WV en sc tt tb T) (hm : m ≤ (tt t).length) : z_C G A m_TC_unite 5000 30000 [.ref o, .ref t, .int (nI m), .int co] h (fun val h' k n => val = some (.int (nI (z_un en sc ag (vCk v) co ((tt t).drop ((tt t).length - m))).length)) ∧ z_UN G h o K v La en sc tt tb T B R nu ag wa t ((tt t).length - m) co h' k n ∧ k ≤ 4500 ∧ n ≤ 18500) := by
  have hI0 := hI
  obtain ⟨hp, hi0, hll, hi1, hB, hR⟩ := hI
  obtain ⟨j1, ⟨q0, j2⟩, ⟨f0, j3⟩, j4, j5, j6, j7⟩ := id hi0
  obtain ⟨⟨d1, c1, l1, m1⟩, l2, ⟨d3, x3, c3, l3, m3⟩, l4, ⟨d5, x5, c5, l5, m5⟩, ⟨d6, x6, c6, l6, m6⟩, l7, l8⟩ := id hll
  obtain ⟨k1, k2, k3, k4, k5, k6⟩ := z_K6 l8
  obtain ⟨e1, e2, e3, e4⟩ := z_kKe l8
  obtain ⟨t1, t2, t3, t4⟩ := hi1 t ht
  obtain ⟨⟨da, ca, la, ma⟩, ⟨db, cb, lb, mb⟩⟩ := l7 t ht
  obtain ⟨w1, w2, w3, w4⟩ := z_WS_t hw ht
  obtain ⟨n1, n2, n3, n4⟩ := k4 t ht
  obtain ⟨fs0, g0⟩ := P_ob hp lb
  obtain ⟨fr, hfr⟩ : ∃ fr, (tt t).length - m = fr := ⟨_, rfl⟩
  have hvq : ∀ s ∈ z_ne sc ((tt t).drop fr), ∀ a ∈ sc s, eR (en a) ≠ -1 := fun s hs a ha => z_va_r ((hv t ht).2 s (List.mem_of_mem_drop (List.mem_filter.mp hs).1) a ha)
  obtain ⟨U, hU⟩ : ∃ U, z_mo en sc (z_ne sc ((tt t).drop fr)) 0 64 (-1, 0, 0, 0, 0) = U := ⟨_, rfl⟩
  have hUq : ∀ q : z_Q5, z_mo en sc (z_ne sc ((tt t).drop fr)) 0 64 (-1, q.2) = U := fun q => by
    rw [← hU]
    unfold z_mo
    exact z_run_q hvq _ _ _ _
  have htot : z_rem sc (z_ne sc ((tt t).drop fr)) (fun k => z_fo en (sc ((z_ne sc ((tt t).drop fr)).getD k 0)) 0) (z_ne sc ((tt t).drop fr)).length ≤ 255 := by
    have e1 := z_rem_le sc (z_ne sc ((tt t).drop fr)) (fun k => z_fo en (sc ((z_ne sc ((tt t).drop fr)).getD k 0)) 0) _ (Nat.le_refl _)
    rw [List.take_length, z_ne_sum] at e1
    have e2 : z_tsz sc tt tb t = (sc (bM (tb t))).length + ((tt t).map (fun s => (sc s).length)).sum := rfl
    have e3 : ((tt t).map (fun s => (sc s).length)).sum = (((tt t).take fr).map (fun s => (sc s).length)).sum + (((tt t).drop fr).map (fun s => (sc s).length)).sum := by
      rw [← List.sum_append, ← List.map_append, List.take_append_drop]
    omega
  have hUl : U.length ≤ 255 := by
    rw [← hU]
    exact Nat.le_trans (z_run_len _ _ _) htot
  have hUn : z_un en sc ag (vCk v) co ((tt t).drop fr) = U.filter (z_kpt en ag (vCk v) co) := by unfold z_un; rw [hU]
  rw [hfr, hUn]
  refine z_C.of (by decide +kernel) rfl (Nat.le_of_ble_eq_true rfl) ?_
  intro x X
  have hcn := z_cne X
  have hoM : o ≠ kMg K := fun e => by rw [e, j2] at j1; cases j1
  have hoA : o ≠ kAt K := fun e => by rw [e, j3] at j1; cases j1
  have cast : ∀ (hh : z_H) (k n s : Nat) (w : List Value) (L : List (Option Value)) (st : List Value), hh s = some (z_ob 4 w) → z_V G A x hh k n 50 L (.ref s :: st) → z_V G A x hh k n 47 L (.ref s :: st) := by
    intro hh k n s w L st hs kk
    exact z_cast X cl_TC_2 cs_Table d_TC_unite_47 hs rfl rfl kk
  -- behind the merge
  have after : ∀ (hh : z_H) (La1 : z_LA) (d c k n : Nat) (o6 o7 : Option Value), z_I G hh o K v La1 en sc tt tb T B R nu ag wa → z_fx G K h hh → La1 (kOu K) = some (d, U, c) → La1 (kKe K) = some (d3, x3, c3) → z_ct (z_Phi La (z_lst K tb T)) (z_Phi La1 (z_lst K tb T)) k n 0 0 → k ≤ 2000 → n ≤ 8000 → z_V G A x hh k n 71 [some (.ref o), some (.ref t), some (.int (nI m)), some (.int co), some (.int (nI fr)), some (.ref (kOu K)), o6, o7] [] := by
    intro hh La1 d c k n o6 o7 hI1 hfx1 hou hke hct hk hn
    have ho := hI1.2.1.1
    obtain ⟨-, ⟨db1, cb1, lb1, mb1⟩⟩ := hI1.2.2.1.2.2.2.2.2.2.1 t ht
    have hok : ∀ a ∈ U, hh a = some (z_ob 5 (z_ef (en a))) ∧ z_va (en a) := by
      rw [← hU]
      exact z_mo_ok (hI1.2.2.2.1 t ht) (hv t ht) (fun s hs => Or.inr (List.mem_of_mem_drop (List.mem_filter.mp hs).1))
    have hfl : (U.filter (z_kpt en ag (vCk v) co)).length ≤ 255 := Nat.le_trans (List.length_filter_le _ _) hUl
    have hphi : ∀ (La2 : z_LA) (dd : Nat) (xx : List Nat) (cc : Nat), La2 = z_lu La1 (kKe K) (dd, xx, cc) → z_Phi La2 (z_lst K tb T) + c3 = z_Phi La1 (z_lst K tb T) + cc := fun La2 dd xx cc e => by
      have := z_Phi_lu (La := La1) (r := (dd, xx, cc)) (a := kKe K) _ l8 e1
      rw [z_cp_of hke] at this
      rw [e]
      exact this
    -- the tables are taken off, one by one; then the new one
    have tail : ∀ (h3 : z_H) (dk ck' k3 n3 : Nat) (o7 : Option Value), z_I G h3 o K v (z_lu La1 (kKe K) (dk, U.filter (z_kpt en ag (vCk v) co), ck')) en sc tt tb T B R nu ag wa → z_fx G K h h3 → ck' ≤ 1000 → c3 ≤ ck' → k3 ≤ k + (ck' - c3) → n3 ≤ n + 4 * (ck' - c3) → ∀ (mm j : Nat) (h4 : z_H), j = fr + mm → j ≤ (tt t).length → z_pool G h4 (z_lu (z_lu La1 (kKe K) (dk, U.filter (z_kpt en ag (vCk v) co), ck')) (bT (tb t)) (db1, (tt t).take j, cb1)) → z_nl G h3 h4 → z_V G A x h4 k3 n3 154 [some (.ref o), some (.ref t), some (.int (nI m)), some (.int co), some (.int (nI fr)), some (.ref (kOu K)), some (.int (nI j - 1)), o7] [] := by
      intro h3 dk ck' k3 n3 o7 hI3 hfx3 hck hc3 hk3 hn3
      obtain ⟨kp, hkp⟩ : ∃ kp, U.filter (z_kpt en ag (vCk v) co) = kp := ⟨_, rfl⟩
      rw [hkp] at hI3 hfl ⊢
      rw [hkp] at X
      have hkens : z_ens h3 en kp := by
        rw [← hkp]
        intro a ha
        have hmo := z_mo_ok (fm := 0) (nd := 64) (q := (-1, 0, 0, 0, 0)) (hI3.2.2.2.1 t ht) (hv t ht) (ss := z_ne sc ((tt t).drop fr)) (fun s hs => Or.inr (List.mem_of_mem_drop (List.mem_filter.mp hs).1))
        rw [hU] at hmo
        exact (hmo a (List.mem_filter.mp ha).1).1
      have hph := hphi _ dk kp ck' rfl
      obtain ⟨La3, hLa3⟩ : ∃ La3, z_lu La1 (kKe K) (dk, kp, ck') = La3 := ⟨_, rfl⟩
      have hke3 : La3 (kKe K) = some (dk, kp, ck') := by rw [← hLa3]; exact z_lu_s _ _ _
      have lb3 : La3 (bT (tb t)) = some (db1, tt t, cb1) := by rw [← hLa3, z_lu_n _ _ (e4 t ht).2.symm]; exact lb1
      rw [hLa3] at hI3 hph ⊢
      have hct1 := hct.1
      have hct2 := hct.2
      have hct' : k3 + z_Phi La (z_lst K tb T) ≤ z_Phi La3 (z_lst K tb T) ∧ n3 + 4 * z_Phi La (z_lst K tb T) ≤ 4 * z_Phi La3 (z_lst K tb T) := ⟨by omega, by omega⟩
      have hbm := (z_bAm (K := K) (tb := tb) ht).2
      intro mm
      induction mm with
      | zero =>
        intro j h4 hj hjl hp4 hn4
        have hj : j = fr := by omega
        subst hj
        have hke4 : z_lu La3 (bT (tb t)) (db1, (tt t).take j, cb1) (kKe K) = some (dk, kp, ck') := by rw [z_lu_n _ _ (e4 t ht).2]; exact hke3
        have hte4 := z_lu_s La3 (bT (tb t)) (db1, (tt t).take j, cb1)
        have ho4 := hn4 _ _ hI3.2.1.1 (z_isl_ob (by decide))
        have ht4 := hn4 _ _ (hI3.2.2.2.1 t ht).1 (z_isl_ob (by decide))
        obtain ⟨fs, g1⟩ := P_ob hp4 hke4
        obtain ⟨fs', g1'⟩ := P_ob hp4 hte4
        have hph4 := z_Phi_lu (La := La3) (r := (db1, (tt t).take j, cb1)) (a := bT (tb t)) _ l8 hbm
        rw [z_cp_of lb3] at hph4
        simp only at hph4
        refine z_iload (pc' := 156) X d_TC_unite_154 rfl rfl ?_
        refine z_iload (pc' := 158) X d_TC_unite_156 rfl rfl ?_
        refine z_icmp_lt (tgt := 177) (pc' := 161) X d_TC_unite_158 (by decide) rfl (fun c_158 => ?_) (fun c_158 => ?_)
        · refine z_aload_n (pc' := 178) X d_TC_unite_177 rfl rfl ?_
          refine z_get (pc' := 181) X 10 f_TC_52 d_TC_unite_178 (by assumption) rfl rfl ?_
          refine z_callV X (P_isEmpty hp4 hke4) k_TC_121 d_TC_unite_181 (by assumption) (show classes[6]? = some _ from rfl) rfl rfl rfl (by decide) (Nat.le_of_ble_eq_true rfl) ⟨by omega, by omega⟩ (z_kp ?_)
          by_cases hk0 : kp.length = 0
          · have hk0 : kp = [] := List.length_eq_zero_iff.mp hk0
            subst hk0
            refine z_top (b := .int 1) rfl ?_
            refine z_if_ne (tgt := 206) (pc' := 187) X d_TC_unite_184 (by decide) rfl (fun _ => ?_) (fun q => absurd q (by decide))
            have hfso : z_fs tt tb T o := fun u hu => by
              obtain ⟨i1, i2, i3, i4⟩ := hi1 u hu
              refine ⟨(fun e => by rw [← e, j1] at i2; cases i2), fun z hz e => ?_⟩
              obtain ⟨arr, f, s1, -⟩ := (i4 z hz).1
              rw [← e, j1] at s1
              cases s1
            have hss : ∀ u ∈ T, z_su sc o [] (bM (tb u)) = sc (bM (tb u)) ∧ ∀ s ∈ tt u, z_su sc o [] s = sc s := fun u hu => ⟨z_su_n _ _ (hfso u hu).1.symm, fun s hs => z_su_n _ _ ((hfso u hu).2 s hs).symm⟩
            have hI4 := z_I_tab (sc' := z_su sc o []) hcn hI3 ht hp4 hn4 mb1 hss (fun s hs => by
              have hs := List.mem_of_mem_take hs
              rw [(hss t ht).2 s hs]
              exact (hI3.2.2.2.1 t ht).2.2.2 s hs)
            refine z_aload_n (pc' := 207) X d_TC_unite_206 rfl rfl ?_
            refine z_get (pc' := 210) X 10 f_TC_52 d_TC_unite_207 (by assumption) rfl rfl ?_
            refine z_callV X (P_size hp4 hke4) k_TC_79 d_TC_unite_210 (by assumption) (show classes[6]? = some _ from rfl) rfl rfl rfl (by decide) (Nat.le_of_ble_eq_true rfl) ⟨by omega, by omega⟩ (z_kp ?_)
            refine z_iret X rfl d_TC_unite_213 ⟨rfl, ⟨o, z_lu La3 (bT (tb t)) (db1, (tt t).take j, cb1), hfso, ?_, z_fx_tr hfx3 (z_fx_nl hn4), ?_, ?_⟩, ?_, ?_⟩
            · rw [hUn, hkp, if_pos rfl, List.append_nil]
              exact hI4
            · omega
            · omega
            · omega
            · omega
          · have hkn : kp ≠ [] := fun e => hk0 (by rw [e]; rfl)
            rw [if_neg hk0]
            refine z_if_ne (tgt := 206) (pc' := 187) X d_TC_unite_184 (by decide) rfl (fun q => absurd rfl q) (fun _ => ?_)
            refine z_aload_n (pc' := 188) X d_TC_unite_187 rfl rfl ?_
            refine z_get (pc' := 191) X 3 f_TC_114 d_TC_unite_188 (by assumption) rfl rfl ?_
            refine z_new (pc' := 194) X nw_TC_214 d_TC_unite_191 ⟨by omega, by omega⟩ rfl (fun a_191 n_191 e_191 => ?_)
            refine z_dup (pc' := 195) X d_TC_unite_194 rfl rfl ?_
            have ho5 : z_up h4 a_191 (z_ob 4 n_Ta) o = some (z_ob 0 (z_tcf K v)) := by rw [z_up_n _ _ (z_nb n_191 ho4)]; exact ho4
            refine z_aload_n (pc' := 196) X d_TC_unite_195 rfl rfl ?_
            refine z_get (pc' := 199) X 10 f_TC_52 d_TC_unite_196 (by assumption) rfl rfl ?_
            refine z_callI X (c_Ta_init (en := en) (z_pool_new hp4 n_191) (z_up_s _ _ _) hke4 (fun a ha => by rw [z_up_n _ _ (z_nb n_191 (z_ens_nl hn4 hkens a ha))]; exact z_ens_nl hn4 hkens a ha)) k_TC_241 d_TC_unite_199 rfl rfl rfl (by decide) (Nat.le_of_ble_eq_true rfl) ⟨by omega, by omega⟩ (fun v_199 hB k_199 n_199 p_199 => ?_)
            obtain ⟨rfl, rfl, rfl, s1, s2⟩ := p_199
            have ext2 : ∀ (b : Nat) (e : va_E), h4 b = some e → hB b = some e := fun b e hb' => s2 b e (z_ext_new n_191 b e hb') (by simpa using z_nb n_191 hb')
            have hso : z_isob hB a_191 := by
              obtain ⟨arr, f, g1, -⟩ := s1
              exact ⟨4, _, g1, Or.inl (by decide)⟩
            have hp5 : z_pool G hB (z_lu La3 (bT (tb t)) (db1, (tt t).take j, cb1)) := z_pool_fr hp4 (fun b e hb _ => ext2 b e hb) (fun y ⟨ci, fs, g1, g2⟩ => ⟨ci, fs, ext2 _ _ g1, g2⟩)
            have hfs : z_fs tt tb T a_191 := fun u hu => by
              obtain ⟨i1, i2, i3, i4⟩ := hI3.2.2.2.1 u hu
              refine ⟨z_nb' n_191 (hn4 _ _ i2 (z_isl_ob (by decide))), fun z hz => ?_⟩
              obtain ⟨arr, f, s1, -⟩ := (i4 z hz).1
              exact z_nb' n_191 (hn4 _ _ s1 (z_isl_ob (by decide)))
            have g2' := ext2 _ _ g1'
            refine z_callV X (P_add hp5 hte4 hso (by omega)) k_TC_75 d_TC_unite_202 (by assumption) (show classes[6]? = some _ from rfl) rfl rfl rfl (by decide) (Nat.le_of_ble_eq_true rfl) ⟨by omega, by omega⟩ (fun v_202 h_202 k_202 n_202 p_202 => ?_)
            obtain ⟨rfl, d', cap', r1, r2, r3⟩ := p_202
            have hcb := z_gw_b r3 mb1 (by rw [List.length_take]; omega)
            obtain ⟨r31, r32, r33, -⟩ := r3
            rw [z_lulu] at r1
            have hnl5 : z_nl G h3 hB := z_nl_tr hn4 (fun b e hb _ => ext2 b e hb)
            have hss : ∀ u ∈ T, z_su sc a_191 kp (bM (tb u)) = sc (bM (tb u)) ∧ ∀ s ∈ tt u, z_su sc a_191 kp s = sc s := fun u hu => ⟨z_su_n _ _ (hfs u hu).1.symm, fun s hs => z_su_n _ _ ((hfs u hu).2 s hs).symm⟩
            have hnl6 : z_nl G h3 h_202 := z_nl_tr hnl5 r2
            have hff5 := z_ff_nl (K := K) hcn hnl6
            have hff6 := z_ff_nl (K := K) hcn r2
            have hI6 := z_I_tabN (sc' := z_su sc a_191 kp) hcn hI3 ht r1 hnl6 hcb hss (fun s hs => by
              rcases List.mem_append.mp hs with q | q
              · have q := List.mem_of_mem_take q
                rw [(hss t ht).2 s q]
                have y := (hI3.2.2.2.1 t ht).2.2.2 s q
                exact ⟨z_tab_ff hff5 y.1, z_ens_ff hff5 y.2⟩
              · rw [List.mem_singleton.mp q, z_su_s]
                exact ⟨z_tab_ff hff6 s1, z_ens_ff hff5 hkens⟩)
            have hph6 := z_Phi_lu (La := La3) (r := (d', (tt t).take j ++ [a_191], cap')) (a := bT (tb t)) _ l8 hbm
            rw [z_cp_of lb3] at hph6
            simp only at hph6
            have ho6 := hI6.2.1.1
            have hke6 : z_lu La3 (bT (tb t)) (d', (tt t).take j ++ [a_191], cap') (kKe K) = some (dk, kp, ck') := by rw [z_lu_n _ _ (e4 t ht).2]; exact hke3
            obtain ⟨fs6, g6⟩ := P_ob r1 hke6
            refine z_pop (pc' := 206) X d_TC_unite_205 rfl rfl ?_
            refine z_aload_n (pc' := 207) X d_TC_unite_206 rfl rfl ?_
            refine z_get (pc' := 210) X 10 f_TC_52 d_TC_unite_207 (by assumption) rfl rfl ?_
            refine z_callV X (P_size r1 hke6) k_TC_79 d_TC_unite_210 (by assumption) (show classes[6]? = some _ from rfl) rfl rfl rfl (by decide) (Nat.le_of_ble_eq_true rfl) ⟨by omega, by omega⟩ (z_kp ?_)
            refine z_iret X rfl d_TC_unite_213 ⟨rfl, ⟨a_191, z_lu La3 (bT (tb t)) (d', (tt t).take j ++ [a_191], cap'), hfs, ?_, z_fx_tr hfx3 (z_fx_nl hnl6), ?_, ?_⟩, ?_, ?_⟩
            · rw [hUn, hkp, if_neg hkn]
              exact hI6
            · omega
            · omega
            · omega
            · omega
        · exact absurd (nI_m1lt (by omega)) c_158
      | succ mm ih =>
        intro j h4 hj hjl hp4 hn4
        have hj : j = fr + mm + 1 := by omega
        subst hj
        have hte4 := z_lu_s La3 (bT (tb t)) (db1, (tt t).take (fr + mm + 1), cb1)
        have ht4 := hn4 _ _ (hI3.2.2.2.1 t ht).1 (z_isl_ob (by decide))
        obtain ⟨fs', g1'⟩ := P_ob hp4 hte4
        have hgt : ((tt t).take (fr + mm + 1))[fr + mm]? = some (tt t)[fr + mm] := by
          rw [List.getElem?_take, if_pos (by omega), List.getElem?_eq_getElem (by omega)]
        rw [nI_sub1]
        refine z_iload (pc' := 156) X d_TC_unite_154 rfl rfl ?_
        refine z_iload (pc' := 158) X d_TC_unite_156 rfl rfl ?_
        refine z_icmp_lt (tgt := 177) (pc' := 161) X d_TC_unite_158 (by decide) rfl (fun c_158 => ?_) (fun c_158 => ?_)
        · exact absurd c_158 (Int32.not_lt.mpr (nI_le (by omega) (by omega)))
        · refine z_aload_n (pc' := 162) X d_TC_unite_161 rfl rfl ?_
          refine z_get (pc' := 165) X 3 f_TC_114 d_TC_unite_162 (by assumption) rfl rfl ?_
          refine z_iload (pc' := 167) X d_TC_unite_165 rfl rfl ?_
          refine z_callV X (P_remove hp4 hte4 hgt) k_TC_248 d_TC_unite_167 (by assumption) (show classes[6]? = some _ from rfl) rfl rfl rfl (by decide) (Nat.le_of_ble_eq_true rfl) ⟨by omega, by omega⟩ (fun v_167 h_167 k_167 n_167 p_167 => ?_)
          obtain ⟨rfl, rfl, rfl, r1, r2⟩ := p_167
          rw [z_lulu, z_eraseLast _ (by omega)] at r1
          refine z_pop (pc' := 171) X d_TC_unite_170 rfl rfl ?_
          refine z_iinc (pc' := 174) (w := nI (fr + mm) - 1) X d_TC_unite_171 rfl (nI_m1 _) rfl rfl rfl ?_
          refine z_goto (pc' := 154) X d_TC_unite_174 (by decide) ?_
          exact ih (fr + mm) h_167 rfl (by omega) r1 (z_nl_tr hn4 r2)
    have loop2 : ∀ (mm i : Nat) (h2 : z_H) (acc : List Nat) (dk ck' k2 n2 : Nat) (o7 : Option Value), mm + i = U.length → acc = (U.take i).filter (z_kpt en ag (vCk v) co) → z_I G h2 o K v (z_lu La1 (kKe K) (dk, acc, ck')) en sc tt tb T B R nu ag wa → z_ff G K hh h2 → c3 ≤ ck' → ck' ≤ 1000 → k2 ≤ k + (ck' - c3) → n2 ≤ n + 4 * (ck' - c3) → z_V G A x h2 k2 n2 81 [some (.ref o), some (.ref t), some (.int (nI m)), some (.int co), some (.int (nI fr)), some (.ref (kOu K)), some (.int (nI i)), o7] [] := by
      intro mm
      induction mm with
      | zero =>
        intro i h2 acc dk ck' k2 n2 o7 hi hacc hI2 hff2 hc3 hck hk2 hn2
        have hi : i = U.length := by omega
        subst hi
        rw [List.take_length] at hacc
        subst hacc
        have hou2 : z_lu La1 (kKe K) (dk, U.filter (z_kpt en ag (vCk v) co), ck') (kOu K) = some (d, U, c) := by rw [z_lu_n _ _ (Ne.symm e3)]; exact hou
        have lb2 : z_lu La1 (kKe K) (dk, U.filter (z_kpt en ag (vCk v) co), ck') (bT (tb t)) = some (db1, tt t, cb1) := by rw [z_lu_n _ _ (e4 t ht).2.symm]; exact lb1
        obtain ⟨fs, g1⟩ := P_ob hI2.1 hou2
        obtain ⟨fs', g1'⟩ := P_ob hI2.1 lb2
        obtain ⟨u1, u2, u3, u4⟩ := hI2.2.2.2.1 t ht
        refine z_iload (pc' := 83) X d_TC_unite_81 rfl rfl ?_
        refine z_aload (pc' := 85) X d_TC_unite_83 rfl rfl ?_
        refine z_callV X (P_size hI2.1 hou2) k_TC_79 d_TC_unite_85 (by assumption) (show classes[6]? = some _ from rfl) rfl rfl rfl (by decide) (Nat.le_of_ble_eq_true rfl) ⟨by omega, by omega⟩ (z_kp ?_)
        refine z_icmp_ge (tgt := 143) (pc' := 91) X d_TC_unite_88 (by decide) rfl (fun c_88 => ?_) (fun c_88 => ?_)
        · refine z_aload_n (pc' := 144) X d_TC_unite_143 rfl rfl ?_
          refine z_get (pc' := 147) X 3 f_TC_114 d_TC_unite_144 (by assumption) rfl rfl ?_
          refine z_callV X (P_size hI2.1 lb2) k_TC_79 d_TC_unite_147 (by assumption) (show classes[6]? = some _ from rfl) rfl rfl rfl (by decide) (Nat.le_of_ble_eq_true rfl) ⟨by omega, by omega⟩ (z_kp ?_)
          refine z_iconst (pc' := 151) (v := 1) X d_TC_unite_150 (by decide) rfl ?_
          refine z_isub (pc' := 152) X d_TC_unite_151 rfl ?_
          refine z_istore (pc' := 154) X d_TC_unite_152 rfl rfl rfl ?_
          exact tail h2 dk ck' _ _ _ hI2 (z_fx_tr hfx1 (z_ff_fx hff2)) hck hc3 hk2 hn2 ((tt t).length - fr) (tt t).length h2 (by omega) (Nat.le_refl _) (by rw [List.take_length]; exact z_lu_id lb2 hI2.1) z_nl_rf
        · exact absurd (nI_le (Nat.le_refl _) (by omega)) c_88
      | succ mm ih =>
        intro i h2 acc dk ck' k2 n2 o7 hi hacc hI2 hff2 hc3 hck hk2 hn2
        have hil : i < U.length := by omega
        have hg := List.getElem?_eq_getElem hil
        obtain ⟨hbo0, hbv⟩ := hok _ (List.getElem_mem hil)
        have hbo := hff2 _ _ hbo0 (Or.inl ⟨5, _, rfl, by decide, by decide⟩)
        have ho2 := hI2.2.1.1
        have hag2 := hI2.2.1.2.2.2.2.1
        have hou2 : z_lu La1 (kKe K) (dk, acc, ck') (kOu K) = some (d, U, c) := by rw [z_lu_n _ _ (Ne.symm e3)]; exact hou
        have hke2 : z_lu La1 (kKe K) (dk, acc, ck') (kKe K) = some (dk, acc, ck') := z_lu_s _ _ _
        obtain ⟨fs, g1⟩ := P_ob hI2.1 hou2
        obtain ⟨fs', g1'⟩ := P_ob hI2.1 hke2
        have htk : U.take (i + 1) = U.take i ++ [U[i]] := by rw [List.take_add_one, hg]; rfl
        have hal : acc.length ≤ 400 := by
          rw [hacc]
          have := List.length_filter_le (z_kpt en ag (vCk v) co) (U.take i)
          rw [List.length_take] at this
          omega
        have yes : z_kpt en ag (vCk v) co U[i] = true → z_V G A x h2 k2 n2 127 [some (.ref o), some (.ref t), some (.int (nI m)), some (.int co), some (.int (nI fr)), some (.ref (kOu K)), some (.int (nI i)), some (.ref U[i])] [] := by
          intro hz
          refine z_aload_n (pc' := 128) X d_TC_unite_127 rfl rfl ?_
          refine z_get (pc' := 131) X 10 f_TC_52 d_TC_unite_128 (by assumption) rfl rfl ?_
          refine z_aload (pc' := 133) X d_TC_unite_131 rfl rfl ?_
          refine z_callV X (P_add hI2.1 hke2 ⟨5, _, hbo, Or.inl (by decide)⟩ (by omega)) k_TC_75 d_TC_unite_133 (by assumption) (show classes[6]? = some _ from rfl) rfl rfl rfl (by decide) (Nat.le_of_ble_eq_true rfl) ⟨by omega, by omega⟩ (fun v_133 h_133 k_133 n_133 p_133 => ?_)
          obtain ⟨rfl, d', cap', r1, r2, r3⟩ := p_133
          have hcb := z_gw_b r3 hck hal
          obtain ⟨r31, r32, r33, -⟩ := r3
          rw [z_lulu] at r1
          have hI3 := z_I_scr hcn hI2 (Or.inl rfl) (by rw [z_lulu]; exact r1) r2 hcb
          rw [z_lulu] at hI3
          refine z_pop (pc' := 137) X d_TC_unite_136 rfl rfl ?_
          refine z_iinc (pc' := 140) (w := nI (i + 1)) X d_TC_unite_137 rfl (z_i1 _) rfl rfl rfl ?_
          refine z_goto (pc' := 81) X d_TC_unite_140 (by decide) ?_
          exact ih (i + 1) h_133 _ _ _ _ _ _ (by omega) (by rw [htk, List.filter_append, ← hacc, List.filter_cons, if_pos hz]; rfl) hI3 (z_ff_tr hff2 (z_ff_nl hcn r2)) (by omega) hcb (by omega) (by omega)
        have no : z_kpt en ag (vCk v) co U[i] = false → z_V G A x h2 k2 n2 137 [some (.ref o), some (.ref t), some (.int (nI m)), some (.int co), some (.int (nI fr)), some (.ref (kOu K)), some (.int (nI i)), some (.ref U[i])] [] := by
          intro hz
          refine z_iinc (pc' := 140) (w := nI (i + 1)) X d_TC_unite_137 rfl (z_i1 _) rfl rfl rfl ?_
          refine z_goto (pc' := 81) X d_TC_unite_140 (by decide) ?_
          exact ih (i + 1) h2 _ _ _ _ _ _ (by omega) (by rw [htk, List.filter_append, ← hacc, List.filter_cons, if_neg (by rw [hz]; decide)]; simp) hI2 hff2 hc3 hck hk2 hn2
        refine z_iload (pc' := 83) X d_TC_unite_81 rfl rfl ?_
        refine z_aload (pc' := 85) X d_TC_unite_83 rfl rfl ?_
        refine z_callV X (P_size hI2.1 hou2) k_TC_79 d_TC_unite_85 (by assumption) (show classes[6]? = some _ from rfl) rfl rfl rfl (by decide) (Nat.le_of_ble_eq_true rfl) ⟨by omega, by omega⟩ (z_kp ?_)
        refine z_icmp_ge (tgt := 143) (pc' := 91) X d_TC_unite_88 (by decide) rfl (fun c_88 => ?_) (fun c_88 => ?_)
        · exact absurd c_88 (nI_ge hil (by omega))
        · refine z_aload (pc' := 93) X d_TC_unite_91 rfl rfl ?_
          refine z_iload (pc' := 95) X d_TC_unite_93 rfl rfl ?_
          refine z_callV X (P_get hI2.1 hou2 hg) k_TC_80 d_TC_unite_95 (by assumption) (show classes[6]? = some _ from rfl) rfl rfl rfl (by decide) (Nat.le_of_ble_eq_true rfl) ⟨by omega, by omega⟩ (z_kp ?_)
          refine z_cast (pc' := 101) X cl_TC_12 ca_Entry d_TC_unite_98 (by assumption) rfl rfl ?_
          refine z_astore (pc' := 103) X d_TC_unite_101 rfl rfl rfl ?_
          refine z_aload (pc' := 105) X d_TC_unite_103 rfl rfl ?_
          refine z_get (pc' := 108) X 3 f_TC_90 d_TC_unite_105 (by assumption) rfl rfl ?_
          refine z_if_eq (tgt := 123) (pc' := 111) X d_TC_unite_108 (by decide) rfl (fun c_108 => ?_) (fun c_108 => ?_)
          · refine z_iload_n (pc' := 124) X d_TC_unite_123 rfl rfl ?_
            rcases hco with rfl | rfl
            · refine z_if_ne (tgt := 137) (pc' := 127) X d_TC_unite_124 (by decide) rfl (fun q => absurd rfl q) (fun _ => ?_)
              exact yes (by unfold z_kpt; rw [if_pos c_108]; rfl)
            · refine z_if_ne (tgt := 137) (pc' := 127) X d_TC_unite_124 (by decide) rfl (fun _ => ?_) (fun q => absurd q (by decide))
              exact no (by unfold z_kpt; rw [if_pos c_108]; rfl)
          · refine z_aload_n (pc' := 112) X d_TC_unite_111 rfl rfl ?_
            refine z_aload (pc' := 114) X d_TC_unite_112 rfl rfl ?_
            refine z_callV X (c_young ho2 hag2 hbo hbv) k_TC_158 d_TC_unite_114 (by assumption) (show classes[0]? = some _ from rfl) rfl rfl rfl (by decide) (Nat.le_of_ble_eq_true rfl) ⟨by omega, by omega⟩ (z_kp ?_)
            have hkz : z_kpt en ag (vCk v) co U[i] = z_yg ag (vCk v) (en U[i]) := by unfold z_kpt; rw [if_neg c_108]
            cases hy : z_yg ag (vCk v) (en U[i]) with
            | false =>
              refine z_if_eq (tgt := 137) (pc' := 120) X d_TC_unite_117 (by decide) rfl (fun _ => ?_) (fun q => absurd rfl q)
              exact no (by rw [hkz, hy])
            | true =>
              refine z_if_eq (tgt := 137) (pc' := 120) X d_TC_unite_117 (by decide) rfl (fun q => absurd q (by decide)) (fun _ => ?_)
              refine z_goto (pc' := 127) X d_TC_unite_120 (by decide) ?_
              exact yes (by rw [hkz, hy])
    obtain ⟨fs1, g1⟩ := P_ob hI1.1 hke
    refine z_aload_n (pc' := 72) X d_TC_unite_71 rfl rfl ?_
    refine z_get (pc' := 75) X 10 f_TC_52 d_TC_unite_72 (by assumption) rfl rfl ?_
    refine z_callV X (P_clear hI1.1 hke) k_TC_208 d_TC_unite_75 (by assumption) (show classes[6]? = some _ from rfl) rfl rfl rfl (by decide) (Nat.le_of_ble_eq_true rfl) ⟨by omega, by omega⟩ (fun v_75 h_75 k_75 n_75 p_75 => ?_)
    obtain ⟨rfl, rfl, rfl, r1, r2⟩ := p_75
    refine z_iconst (pc' := 79) (v := 0) X d_TC_unite_78 (by decide) rfl ?_
    refine z_istore (pc' := 81) X d_TC_unite_79 rfl rfl rfl ?_
    exact loop2 U.length 0 _ [] d3 c3 _ _ _ (by omega) rfl (z_I_scr hcn hI1 (Or.inl rfl) r1 r2 m3) (z_ff_nl hcn r2) (Nat.le_refl _) m3 (by omega) (by omega)
  have loop : ∀ (mm i : Nat) (hh : z_H) (La1 : z_LA) (q : z_Q5) (d c k n : Nat), mm + (fr + i) = (tt t).length → z_pool G hh La1 → hh (kMg K) = some (z_ob 1 (z_mgf (kSr K) (kAt K) (kOu K) (-1, q.2))) → z_fm G (kMg K) (kAt K) h hh → hh (kAt K) = some (z_ia G 300 f0) → La1 (kSr K) = some (d, z_ne sc (((tt t).drop fr).take i), c) → La1 (kOu K) = some (d6, [], c6) → (∀ b, b ≠ kSr K → b ≠ kOu K → La1 b = La b) → z_cs c5 c k n → c ≤ 1000 → z_V G A x hh k n 22 [some (.ref o), some (.ref t), some (.int (nI m)), some (.int co), some (.int (nI fr)), some (.int (nI (fr + i))), none, none] [] := by
    intro mm
    induction mm with
    | zero =>
      intro i hh La1 q d c k n hi p1 p2 p3 p4 p5 p6 p7 p8 p9
      have hdl : ((tt t).drop fr).length = i := by rw [List.length_drop]; omega
      rw [← hdl, List.take_length] at p5
      have lb1 : La1 (bT (tb t)) = some (db, tt t, cb) := by rw [p7 _ n3 n4]; exact lb
      have hff := z_ff_fm hcn j2 j3 p3
      obtain ⟨u1, u2, u3, u4⟩ := z_I1_ff hff (hi1 t ht)
      have ho : hh o = some (z_ob 0 (z_tcf K v)) := p3 _ _ j1 (z_isl_ob (by decide)) hoM hoA
      obtain ⟨fs, g1⟩ := P_ob p1 lb1
      have p80 := p8.1
      have p81 := p8.2.1
      have p82 := p8.2.2
      have hsub : ∀ s ∈ z_ne sc ((tt t).drop fr), s ∈ tt t := fun s hs => List.mem_of_mem_drop (List.mem_filter.mp hs).1
      have hlen : (z_ne sc ((tt t).drop fr)).length ≤ 300 := by
        have := List.length_filter_le (fun s => !(sc s).isEmpty) ((tt t).drop fr)
        unfold z_ne
        omega
      have hsr : ∀ s ∈ z_ne sc ((tt t).drop fr), z_src G hh La1 s (sc s) ∧ z_ens hh en (sc s) ∧ (sc s).length < 2 ^ 20 ∧ z_rs en (sc s) ∧ ∀ al, hh s = some (z_ob 3 [.ref al]) → al ≠ kOu K := by
        intro s hs
        have hs := hsub s hs
        obtain ⟨arr, f, s1, s2, s3⟩ := (u4 s hs).1
        refine ⟨Or.inr ⟨arr, _, _, f, s1, s2, s3⟩, (u4 s hs).2, by have := w4 s hs; omega, ((hw.1 t ht).2 s hs).1, fun al hal => ?_⟩
        rw [s1] at hal
        cases hal
      refine z_iload (pc' := 24) X d_TC_unite_22 rfl rfl ?_
      refine z_aload_n (pc' := 25) X d_TC_unite_24 rfl rfl ?_
      refine z_get (pc' := 28) X 3 f_TC_114 d_TC_unite_25 (by assumption) rfl rfl ?_
      refine z_callV X (P_size p1 lb1) k_TC_79 d_TC_unite_28 (by assumption) (show classes[6]? = some _ from rfl) rfl rfl rfl (by decide) (Nat.le_of_ble_eq_true rfl) ⟨by omega, by omega⟩ (z_kp ?_)
      refine z_icmp_ge (tgt := 59) (pc' := 34) X d_TC_unite_31 (by decide) rfl (fun c_31 => ?_) (fun c_31 => ?_)
      · refine z_aload_n (pc' := 60) X d_TC_unite_59 rfl rfl ?_
        refine z_get (pc' := 63) X 9 f_TC_48 d_TC_unite_60 (by assumption) rfl rfl ?_
        refine z_iconst (pc' := 64) (v := 0) X d_TC_unite_63 (by decide) rfl ?_
        refine z_bipush (pc' := 66) (v := 64) X d_TC_unite_64 (by decide) rfl ?_
        refine z_callV X (c_merge (fm := 0) (nd := 64) p1 p2 p5 p4 p6 k1 m6 hlen hsr (by omega)) k_TC_117 d_TC_unite_66 (by assumption) (show classes[1]? = some _ from rfl) rfl rfl rfl (by decide) (Nat.le_of_ble_eq_true rfl) ⟨by omega, by omega⟩ (fun v_66 h_66 k_66 n_66 p_66 => ?_)
        obtain ⟨rfl, d', cap', q', f', r1, r2, r3, r4, r5, r6⟩ := p_66
        have r1 : z_pool G h_66 (z_lu La1 (kOu K) (d', z_mo en sc (z_ne sc ((tt t).drop fr)) 0 64 (-1, q.2), cap')) := r1
        rw [hUq] at r1
        have r7 : z_fm G (kMg K) (kAt K) h h_66 := z_fm_tr p3 r4
        have r8 : ∀ b, b ≠ kSr K → b ≠ kOu K → z_lu La1 (kOu K) (d', U, cap') b = La b := fun b e1 e2 => by rw [z_lu_n _ _ e2]; exact p7 b e1 e2
        have r9 : z_lu La1 (kOu K) (d', U, cap') (kSr K) = some (d, z_ne sc ((tt t).drop fr), c) := by rw [z_lu_n _ _ k1]; exact p5
        obtain ⟨y1, y2⟩ := z_LL_so hll r8 r9 (z_lu_s _ _ _) p9 r6
        rw [z_cp_of l5, z_cp_of l6] at y2
        have hff2 := z_ff_fm hcn j2 j3 r7
        have r50 := r5.1
        have r51 := r5.2.1
        have r52 := r5.2.2
        refine z_astore (pc' := 71) X d_TC_unite_69 rfl rfl rfl ?_
        refine after h_66 _ d' cap' _ _ _ _ ⟨r1, z_I0_fm hi0 r7 r2 r3, y1, fun t ht => z_I1_ff hff2 (hi1 t ht), z_ens_ff hff2 hB, z_ens_ff hff2 hR⟩ (z_ff_fx hff2) (z_lu_s _ _ _) (by rw [r8 _ e2 e3]; exact l3) ⟨?_, ?_⟩ ?_ ?_
        · omega
        · omega
        · omega
        · omega
      · exact absurd (nI_le (by omega) (by omega)) c_31
    | succ mm ih =>
      intro i hh La1 q d c k n hi p1 p2 p3 p4 p5 p6 p7 p8 p9
      have hil : fr + i < (tt t).length := by omega
      have hg := List.getElem?_eq_getElem hil
      have lb1 : La1 (bT (tb t)) = some (db, tt t, cb) := by rw [p7 _ n3 n4]; exact lb
      have hff := z_ff_fm hcn j2 j3 p3
      obtain ⟨u1, u2, u3, u4⟩ := z_I1_ff hff (hi1 t ht)
      have ho : hh o = some (z_ob 0 (z_tcf K v)) := p3 _ _ j1 (z_isl_ob (by decide)) hoM hoA
      obtain ⟨fs, g1⟩ := P_ob p1 lb1
      have p80 := p8.1
      have p81 := p8.2.1
      have p82 := p8.2.2
      obtain ⟨arr, f, s1, s2, s3⟩ := (u4 _ (List.getElem_mem hil)).1
      have hsl := w4 _ (List.getElem_mem hil)
      have hnl : (z_ne sc (((tt t).drop fr).take i)).length ≤ 400 := by
        have := List.length_filter_le (fun s => !(sc s).isEmpty) (((tt t).drop fr).take i)
        rw [List.length_take, List.length_drop] at this
        unfold z_ne
        omega
      refine z_iload (pc' := 24) X d_TC_unite_22 rfl rfl ?_
      refine z_aload_n (pc' := 25) X d_TC_unite_24 rfl rfl ?_
      refine z_get (pc' := 28) X 3 f_TC_114 d_TC_unite_25 (by assumption) rfl rfl ?_
      refine z_callV X (P_size p1 lb1) k_TC_79 d_TC_unite_28 (by assumption) (show classes[6]? = some _ from rfl) rfl rfl rfl (by decide) (Nat.le_of_ble_eq_true rfl) ⟨by omega, by omega⟩ (z_kp ?_)
      refine z_icmp_ge (tgt := 59) (pc' := 34) X d_TC_unite_31 (by decide) rfl (fun c_31 => ?_) (fun c_31 => ?_)
      · exact absurd c_31 (nI_ge hil (by omega))
      · refine z_aload_n (pc' := 35) X d_TC_unite_34 rfl rfl ?_
        refine z_get (pc' := 38) X 9 f_TC_48 d_TC_unite_35 (by assumption) rfl rfl ?_
        refine z_aload_n (pc' := 39) X d_TC_unite_38 rfl rfl ?_
        refine z_get (pc' := 42) X 3 f_TC_114 d_TC_unite_39 (by assumption) rfl rfl ?_
        refine z_iload (pc' := 44) X d_TC_unite_42 rfl rfl ?_
        refine z_callV X (P_get p1 lb1 hg) k_TC_80 d_TC_unite_44 (by assumption) (show classes[6]? = some _ from rfl) rfl rfl rfl (by decide) (Nat.le_of_ble_eq_true rfl) ⟨by omega, by omega⟩ (z_kp ?_)
        refine cast hh _ _ _ _ _ _ s1 ?_
        refine z_callV X (c_Mg_add p1 p2 p5 (Or.inr ⟨arr, _, _, f, s1, s2, s3⟩) (by omega) (by omega)) k_TC_111 d_TC_unite_50 (by assumption) (show classes[1]? = some _ from rfl) rfl rfl rfl (by decide) (Nat.le_of_ble_eq_true rfl) ⟨by omega, by omega⟩ (fun v_50 h_50 k_50 n_50 p_50 => ?_)
        obtain ⟨rfl, d', cap', r1, r2, r3⟩ := p_50
        have hcb := z_gw_b r3 p9 hnl
        obtain ⟨r31, r32, r33, -⟩ := r3
        refine z_iinc (pc' := 56) (w := nI (fr + i + 1)) X d_TC_unite_53 rfl (z_i1 _) rfl rfl rfl ?_
        refine z_goto (pc' := 22) X d_TC_unite_56 (by decide) ?_
        refine ih (i + 1) _ _ q d' cap' _ _ (by omega) r1 (r2 _ _ p2 (z_isl_ob (by decide))) (z_fm_tr p3 (z_fm_nl r2)) (r2 _ _ p4 z_isl_ia) ?_ (by rw [z_lu_n _ _ (Ne.symm k1)]; exact p6) (fun b e1 e2 => by rw [z_lu_n _ _ e1]; exact p7 b e1 e2) ⟨by omega, by omega, by omega⟩ hcb
        rw [z_lu_s]
        have : ((tt t).drop fr).take (i + 1) = ((tt t).drop fr).take i ++ [(tt t)[fr + i]] := by rw [List.take_add_one, List.getElem?_drop, hg]; rfl
        rw [this, z_ne_app]
  refine z_aload_n (pc' := 1) X d_TC_unite_0 rfl rfl ?_
  refine z_get (pc' := 4) X 3 f_TC_114 d_TC_unite_1 (by assumption) rfl rfl ?_
  refine z_callV X (P_size hp lb) k_TC_79 d_TC_unite_4 (by assumption) (show classes[6]? = some _ from rfl) rfl rfl rfl (by decide) (Nat.le_of_ble_eq_true rfl) ⟨by omega, by omega⟩ (z_kp ?_)
  refine z_iload_n (pc' := 8) X d_TC_unite_7 rfl rfl ?_
  refine z_isub (pc' := 9) X d_TC_unite_8 rfl ?_
  refine z_top (b := .int (nI fr)) (by rw [nI_subn hm, hfr]) ?_
  refine z_istore (pc' := 11) X d_TC_unite_9 rfl rfl rfl ?_
  refine z_aload_n (pc' := 12) X d_TC_unite_11 rfl rfl ?_
  refine z_get (pc' := 15) X 9 f_TC_48 d_TC_unite_12 (by assumption) rfl rfl ?_
  refine z_callV X (c_Mg_begin hp j2 l5 l6 k1) k_TC_104 d_TC_unite_15 (by assumption) (show classes[1]? = some _ from rfl) rfl rfl rfl (by decide) (Nat.le_of_ble_eq_true rfl) ⟨by omega, by omega⟩ (fun v_15 h_15 k_15 n_15 p_15 => ?_)
  obtain ⟨rfl, rfl, rfl, p1, p2, p3, p4⟩ := p_15
  have ha : h_15 (kAt K) = some (z_ia G 300 f0) := p4 _ _ j3 z_isl_ia (fun e => by rw [e, j2] at j3; cases j3)
  have lu : ∀ b, b ≠ kSr K → b ≠ kOu K → z_lu (z_lu La (kSr K) (d5, [], c5)) (kOu K) (d6, [], c6) b = La b := fun b e1 e2 => by rw [z_lu_n _ _ e2, z_lu_n _ _ e1]
  have ls : z_lu (z_lu La (kSr K) (d5, [], c5)) (kOu K) (d6, [], c6) (kSr K) = some (d5, [], c5) := by rw [z_lu_n _ _ k1, z_lu_s]
  have lo : z_lu (z_lu La (kSr K) (d5, [], c5)) (kOu K) (d6, [], c6) (kOu K) = some (d6, [], c6) := z_lu_s _ _ _
  generalize z_lu (z_lu La (kSr K) (d5, [], c5)) (kOu K) (d6, [], c6) = La1 at p1 lu ls lo
  refine z_iload (pc' := 20) X d_TC_unite_18 rfl rfl ?_
  refine z_istore (pc' := 22) X d_TC_unite_20 rfl rfl rfl ?_
  exact loop ((tt t).length - fr) 0 _ _ q0 d5 c5 _ _ (by omega) p1 p2 p3 ha ls lo lu ⟨by omega, by omega, by omega⟩ m5
end UNI
