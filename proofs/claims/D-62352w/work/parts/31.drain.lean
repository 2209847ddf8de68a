/-! enter, leaveLog, drain -/
def z_tu (tb : Nat → z_TB) (t : Nat) (r : z_TB) : Nat → z_TB := fun u => if u = t then r else tb u
theorem z_tu_s (tb : Nat → z_TB) (t : Nat) (r : z_TB) : z_tu tb t r t = r := if_pos rfl
theorem z_tu_n (tb : Nat → z_TB) {t u : Nat} (r : z_TB) (hn : u ≠ t) : z_tu tb t r u = tb u := if_neg hn
def z_bx (e : z_E7) : Nat := (eB e).toInt.toNat
/-- an entry leaves the log -/
def z_lg (en : Nat → z_E7) (p : (Nat → Int32) × Int32) (a : Nat) : (Nat → Int32) × Int32 := (upd p.1 (z_bx (en a)) (p.1 (z_bx (en a)) - 1), p.2 - (if p.1 (z_bx (en a)) - 1 = 0 then 1 else 0))
abbrev z_vg (v : z_VS) (d : Int32) : z_VS := (vEx v, vSo v, vER v, vEC v, vEV v, vBs v, d, vSq v, vCk v, vLk v, vTo v)
abbrev z_vq (v : z_VS) (d : Int32) : z_VS := (vEx v, vSo v, vER v, vEC v, vEV v, vBs v, vLg v, d, vCk v, vLk v, vTo v)
theorem z_sum_upd {g g' : Nat → Nat} {t : Nat} : ∀ (T : List Nat), T.Nodup → t ∈ T → (∀ u ∈ T, u ≠ t → g' u = g u) → (T.map g').sum + g t = (T.map g).sum + g' t
  | [], _, ht, _ => absurd ht List.not_mem_nil
  | y :: T, hn, ht, hg => by
    obtain ⟨h1, h2⟩ := List.nodup_cons.mp hn
    rw [List.map_cons, List.sum_cons, List.map_cons, List.sum_cons]
    rcases List.mem_cons.mp ht with e | ht2
    · have e2 : (T.map g').sum = (T.map g).sum := by
        congr 1
        exact List.map_congr_left (fun u hu => hg u (List.mem_cons_of_mem _ hu) (fun q => h1 (by rw [← e, ← q]; exact hu)))
      rw [e2, e]
      omega
    · have ih := z_sum_upd (g := g) (g' := g') T h2 ht2 (fun u hu => hg u (List.mem_cons_of_mem _ hu))
      have hy : y ≠ t := fun q => h1 (by rw [q]; exact ht2)
      rw [hg y List.mem_cons_self hy]
      omega
theorem z_Phi_T (La : z_LA) (K : z_KA) (tb : Nat → z_TB) (T : List Nat) : z_Phi La (z_lst K tb T) = z_Phi La [kTa K, kBa K, kKe K, kRe K, kSr K, kOu K] + (T.map (fun u => z_cp La (bA (tb u)) + z_cp La (bT (tb u)))).sum := by
  unfold z_Phi z_lst
  rw [List.map_append, List.sum_append]
  congr 1
  induction T with
  | nil => rfl
  | cons y T ih =>
    rw [List.flatMap_cons, List.map_append, List.sum_append, ih, List.map_cons, List.sum_cons]
    simp
theorem z_Tnd {f : Nat → List Nat} : ∀ (T : List Nat), (T.flatMap f).Nodup → (∀ t ∈ T, f t ≠ []) → T.Nodup
  | [], _, _ => List.nodup_nil
  | y :: T, hn, hf => by
    rw [List.flatMap_cons] at hn
    obtain ⟨h1, h2, h3⟩ := List.nodup_append.mp hn
    refine List.nodup_cons.mpr ⟨fun hm => ?_, z_Tnd T h2 (fun t ht => hf t (List.mem_cons_of_mem _ ht))⟩
    obtain ⟨a, ha⟩ := List.exists_mem_of_ne_nil _ (hf y List.mem_cons_self)
    exact h3 a ha a (List.mem_flatMap.mpr ⟨y, hm, ha⟩) rfl
section DRN
variable {G : z_G} {A : Nat → Prop} {h : z_H} {o : Nat} {K : z_KA} {v : z_VS} {La : z_LA} {en : Nat → z_E7} {sc tt : Nat → List Nat} {tb : Nat → z_TB} {T B R : List Nat} {nu ag wa : Nat → Int32}
theorem z_T_nd (hn : (z_lst K tb T).Nodup) : T.Nodup := z_Tnd T (z_lst_nd hn).2.1 (fun t _ => by simp)
/-- more cells: all stays -/
theorem z_I_ext {h' : z_H} (hI : z_I G h o K v La en sc tt tb T B R nu ag wa) (hx : ∀ (b : Nat) (e : va_E), h b = some e → h' b = some e) : z_I G h' o K v La en sc tt tb T B R nu ag wa := by
  obtain ⟨hp, ⟨j1, ⟨q0, j2⟩, ⟨f0, j3⟩, j4, j5, j6, j7⟩, hll, hi1, hB, hR⟩ := hI
  have hff : z_ff G K h h' := fun b e hb _ => hx b e hb
  exact ⟨z_pool_fr hp (fun b e hb _ => hx b e hb) (fun y ⟨ci, fs, g1, g2⟩ => ⟨ci, fs, hx _ _ g1, g2⟩), ⟨hx _ _ j1, ⟨q0, hx _ _ j2⟩, ⟨f0, hx _ _ j3⟩, hx _ _ j4, hx _ _ j5, hx _ _ j6, j7⟩, hll, fun t ht => z_I1_ff hff (hi1 t ht), z_ens_ff hff hB, z_ens_ff hff hR⟩
theorem z_ext_new {a : Nat} {e : va_E} (ha : h a = none) : ∀ (b : Nat) (e' : va_E), h b = some e' → z_up h a e b = some e' := fun b e' hb => by
  rw [z_up_n _ _ (z_nb ha hb)]
  exact hb
/-- a new list -/
theorem z_pool_nw {al : Nat} (hp : z_pool G h La) (ha : h al = none) (h0 : h (z_d0 G) = none) (hal : al ≠ z_d0 G) : z_pool G (z_up h al (z_ob 6 [.int 0, .ref (z_d0 G), .int 0])) (z_lu La al (z_d0 G, [], 0)) := by
  have hp' := z_pool_new (e' := z_ob 6 [.int 0, .ref (z_d0 G), .int 0]) hp ha
  refine ⟨fun a2 d2 x2 c2 h2 => ?_, fun a1 a2 dd x1 c1 x2 c2 h1 h2 hne => ?_⟩
  · by_cases e : a2 = al
    · subst e
      rw [z_lu_s] at h2
      cases h2
      exact ⟨⟨⟨0, z_up_s _ _ _⟩, Nat.zero_le _, by decide, Or.inl ⟨rfl, rfl⟩⟩, fun y hy => absurd hy List.not_mem_nil⟩
    · rw [z_lu_n _ _ e] at h2
      exact hp'.1 a2 d2 x2 c2 h2
  · by_cases e1 : a1 = al
    · subst e1
      rw [z_lu_s] at h1
      cases h1
      rfl
    · rw [z_lu_n _ _ e1] at h1
      by_cases e2 : a2 = al
      · subst e2
        rw [z_lu_s] at h2
        cases h2
        obtain ⟨-, -, -, a4⟩ := (hp'.1 a1 (z_d0 G) x1 c1 h1).1
        rcases a4 with ⟨a4, -⟩ | ⟨b1, f, b2, -⟩
        · exact a4
        · rw [z_up_n _ _ (Ne.symm hal), h0] at b2
          cases b2
      · rw [z_lu_n _ _ e2] at h2
        exact hp.2 a1 a2 dd x1 c1 x2 c2 h1 h2 hne
theorem c_enter {t a b : Nat} (hI : z_I G h o K v La en sc tt tb T B R nu ag wa) (ht : t ∈ T) (ha : h a = some (z_ob 5 (z_ef (en a)))) (hb : vBs v = nI b) (hb2 : b < 513)
    (hmo : ∀ i j c d : Nat, i ≤ j → (sc (bM (tb t)))[i]? = some c → (sc (bM (tb t)))[j]? = some d → z_ag (z_eu en a (eR (en a), eC (en a), eT (en a), eL (en a), eV (en a), vSq v + 1, vBs v) d) (eR (en a), eC (en a), eT (en a), eL (en a), eV (en a), vSq v + 1, vBs v) < 0 → z_ag (z_eu en a (eR (en a), eC (en a), eT (en a), eL (en a), eV (en a), vSq v + 1, vBs v) c) (eR (en a), eC (en a), eT (en a), eL (en a), eV (en a), vSq v + 1, vBs v) < 0) (hlen : (sc (bM (tb t))).length ≤ 255) :
    z_C G A m_TC_enter 1 2010 [.ref o, .ref t, .ref a] h (fun val h' k n => val = none ∧ ∃ (p : Nat) (La' : z_LA), p ≤ (sc (bM (tb t))).length ∧ (∀ i c : Nat, i < p → (sc (bM (tb t)))[i]? = some c → z_ag (z_eu en a (eR (en a), eC (en a), eT (en a), eL (en a), eV (en a), vSq v + 1, vBs v) c) (eR (en a), eC (en a), eT (en a), eL (en a), eV (en a), vSq v + 1, vBs v) < 0) ∧ (∀ i c : Nat, p ≤ i → (sc (bM (tb t)))[i]? = some c → ¬ z_ag (z_eu en a (eR (en a), eC (en a), eT (en a), eL (en a), eV (en a), vSq v + 1, vBs v) c) (eR (en a), eC (en a), eT (en a), eL (en a), eV (en a), vSq v + 1, vBs v) < 0) ∧ z_I G h' o K (z_vq v (vSq v + 1)) La' (z_eu en a (eR (en a), eC (en a), eT (en a), eL (en a), eV (en a), vSq v + 1, vBs v)) (z_su sc (bM (tb t)) ((sc (bM (tb t))).take p ++ a :: (sc (bM (tb t))).drop p)) tt tb T B R nu ag (upd wa b (wa b + 1)) ∧ z_fx G K h h' ∧ z_ct (z_Phi La (z_lst K tb T)) (z_Phi La' (z_lst K tb T)) k n 0 0 ∧ k ≤ 1000 ∧ n ≤ 4000) := by
  obtain ⟨⟨da, ca, la, ma⟩, -⟩ := hI.2.2.1.2.2.2.2.2.2.1 t ht
  have l8 := hI.2.2.1.2.2.2.2.2.2.2
  have j1 := hI.2.1.1
  have ham := (z_bAm (K := K) (tb := tb) ht).1
  obtain ⟨hI1, hff1⟩ := z_I_v hI (z_vq v (vSq v + 1))
  have ha1 : z_up h o (z_ob 0 (z_tcf K (z_vq v (vSq v + 1)))) a = some (z_ob 5 (z_ef (en a))) := hff1 _ _ ha (Or.inl ⟨5, _, rfl, by decide, by decide⟩)
  obtain ⟨hI2, hfx2⟩ := z_I_e (e' := (eR (en a), eC (en a), eT (en a), eL (en a), eV (en a), vSq v + 1, vBs v)) hI1 ha1 rfl rfl
  have ho1 := hI1.2.1.1
  obtain ⟨e2, he2⟩ : ∃ e2, (eR (en a), eC (en a), eT (en a), eL (en a), eV (en a), vSq v + 1, vBs v) = e2 := ⟨_, rfl⟩
  have hlu := z_eu_s en a e2
  refine z_C.of (by decide +kernel) rfl (Nat.le_of_ble_eq_true rfl) ?_
  intro x X
  have hcn := z_cne X
  refine z_aload_n (pc' := 1) X d_TC_enter_0 rfl rfl ?_
  refine z_dup (pc' := 2) X d_TC_enter_1 rfl rfl ?_
  refine z_get (pc' := 5) X 15 f_TC_164 d_TC_enter_2 (by assumption) rfl rfl ?_
  refine z_iconst (pc' := 6) (v := 1) X d_TC_enter_5 (by decide) rfl ?_
  refine z_iadd (pc' := 7) X d_TC_enter_6 rfl ?_
  refine z_put (pc' := 10) X 15 f_TC_164 (g_TC_164 _) d_TC_enter_7 (by assumption) rfl rfl rfl rfl rfl ?_
  refine z_aload_n (pc' := 11) X d_TC_enter_10 rfl rfl ?_
  refine z_aload_n (pc' := 12) X d_TC_enter_11 rfl rfl ?_
  refine z_get (pc' := 15) X 15 f_TC_164 d_TC_enter_12 (by assumption) rfl rfl ?_
  refine z_put (pc' := 18) X 5 f_TC_167 (g_TC_167 _) d_TC_enter_15 (by assumption) rfl rfl rfl rfl rfl ?_
  have t1 := z_up_s (z_up h o (z_ob 0 (z_tcf K (z_vq v (vSq v + 1))))) a (z_ob 5 (z_ef (eR (en a), eC (en a), eT (en a), eL (en a), eV (en a), vSq v + 1, eB (en a))))
  have t2 : z_up (z_up h o (z_ob 0 (z_tcf K (z_vq v (vSq v + 1))))) a (z_ob 5 (z_ef (eR (en a), eC (en a), eT (en a), eL (en a), eV (en a), vSq v + 1, eB (en a)))) o = some (z_ob 0 (z_tcf K (z_vq v (vSq v + 1)))) := by rw [z_up_n _ _ (fun e => by rw [e, ha] at j1; cases j1)]; exact ho1
  refine z_aload_n (pc' := 19) X d_TC_enter_18 rfl rfl ?_
  refine z_aload_n (pc' := 20) X d_TC_enter_19 rfl rfl ?_
  refine z_get (pc' := 23) X 13 f_TC_168 d_TC_enter_20 (by assumption) rfl rfl ?_
  refine z_put (pc' := 26) X 6 f_TC_171 (g_TC_171 _) d_TC_enter_23 (by assumption) rfl rfl rfl rfl rfl ?_
  refine z_hp (z_uu _ _ _ _) ?_
  have ho2 := hI2.2.1.1
  have hw2 := hI2.2.1.2.2.2.2.2.1
  obtain ⟨hI3, hff3⟩ := z_I_w (wa' := upd wa b (wa b + 1)) hI2
  refine z_aload_n (pc' := 27) X d_TC_enter_26 rfl rfl ?_
  refine z_get (pc' := 30) X 12 f_TC_58 d_TC_enter_27 (by assumption) rfl rfl ?_
  refine z_aload_n (pc' := 31) X d_TC_enter_30 rfl rfl ?_
  refine z_get (pc' := 34) X 13 f_TC_168 d_TC_enter_31 (by assumption) rfl rfl ?_
  refine z_top (b := .int (nI b)) (by rw [← hb]) ?_
  refine z_dup2 (pc' := 35) X d_TC_enter_34 rfl rfl rfl ?_
  refine z_iaload (pc' := 36) (i := b) X d_TC_enter_35 hw2 hb2 (by omega) rfl ?_
  refine z_iconst (pc' := 37) (v := 1) X d_TC_enter_36 (by decide) rfl ?_
  refine z_iadd (pc' := 38) X d_TC_enter_37 rfl ?_
  refine z_iastore (pc' := 39) (i := b) X d_TC_enter_38 hw2 hb2 (by omega) rfl rfl ?_
  have u1 := (hI3.2.2.2.1 t ht).1
  have u2 := (hI3.2.2.2.1 t ht).2.1
  have u3 := (hI3.2.2.2.1 t ht).2.2.1
  have hy3 : z_up (z_up (z_up h o (z_ob 0 (z_tcf K (z_vq v (vSq v + 1))))) a (z_ob 5 (z_ef (eR (en a), eC (en a), eT (en a), eL (en a), eV (en a), vSq v + 1, vBs v)))) (kWa K) (z_ia G 513 (upd wa b (wa b + 1))) a = some (z_ob 5 (z_ef (z_eu en a (eR (en a), eC (en a), eT (en a), eL (en a), eV (en a), vSq v + 1, vBs v) a))) := by
    rw [z_eu_s]
    exact hff3 _ _ (z_up_s _ _ _) (Or.inl ⟨5, _, rfl, by decide, by decide⟩)
  refine z_aload_n (pc' := 40) X d_TC_enter_39 rfl rfl ?_
  refine z_get (pc' := 43) X 2 f_TC_107 d_TC_enter_40 (by assumption) rfl rfl ?_
  refine z_aload_n (pc' := 44) X d_TC_enter_43 rfl rfl ?_
  refine z_callV X (c_Mt_insert hI3.1 u2 la u3 hy3 (by omega) (by rw [z_eu_s]; exact hmo)) k_TC_173 d_TC_enter_44 (by assumption) (show classes[3]? = some _ from rfl) rfl rfl rfl (by decide) (Nat.le_of_ble_eq_true rfl) ⟨by omega, by omega⟩ (fun v_44 h_44 k_44 n_44 p_44 => ?_)
  obtain ⟨rfl, p, d', cap', r1, r2, r3, r4, r5, r6⟩ := p_44
  rw [z_eu_s] at r2 r3
  have hcb := z_gw_b r6 ma (by omega)
  obtain ⟨r61, r62, r63, -⟩ := r6
  have hI4 := z_I_mem hcn hI3 ht r4 r5 hcb (fun c hc => by
    rcases List.mem_append.mp hc with q | q
    · exact u3 c (List.mem_of_mem_take q)
    · rcases List.mem_cons.mp q with q | q
      · rw [q]; exact hy3
      · exact u3 c (List.mem_of_mem_drop q))
  have e := z_Phi_lu (La := La) (r := (d', (sc (bM (tb t))).take p ++ a :: (sc (bM (tb t))).drop p, cap')) (a := bA (tb t)) _ l8 ham
  rw [z_cp_of la] at e
  simp only at e
  exact z_vret X rfl d_TC_enter_47 (⟨rfl, p, _, r1, r2, r3, hI4, z_fx_tr (z_fx_tr (z_fx_tr (z_ff_fx hff1) hfx2) (z_ff_fx hff3)) (z_fx_nl r5), ⟨by omega, by omega⟩, by omega, by omega⟩)
theorem c_leaveLog {a : Nat} (hI : z_I G h o K v La en sc tt tb T B R nu ag wa) (ha : h a = some (z_ob 5 (z_ef (en a)))) (hb0 : 0 ≤ (eB (en a)).toInt) (hb2 : (eB (en a)).toInt < 513) : z_C G A m_TC_leaveLog 0 0 [.ref o, .ref a] h (fun val h' k n => val = none ∧ k = 0 ∧ n = 0 ∧ z_I G h' o K (z_vg v (z_lg en (wa, vLg v) a).2) La en sc tt tb T B R nu ag (z_lg en (wa, vLg v) a).1 ∧ z_ff G K h h') := by
  have j1 := hI.2.1.1
  have j6 := hI.2.1.2.2.2.2.2.1
  have hbn : eB (en a) = nI (z_bx (en a)) := z_ofnat hb0
  have hbl : z_bx (en a) < 513 := by unfold z_bx; omega
  obtain ⟨hI1, hff1⟩ := z_I_w (wa' := upd wa (z_bx (en a)) (wa (z_bx (en a)) - 1)) hI
  have ho1 := hI1.2.1.1
  have ha1 := hff1 _ _ ha (Or.inl ⟨5, _, rfl, by decide, by decide⟩)
  have hw1 := hI1.2.1.2.2.2.2.2.1
  refine z_C.of (by decide +kernel) rfl (Nat.le_of_ble_eq_true rfl) ?_
  intro x X
  refine z_aload_n (pc' := 1) X d_TC_leaveLog_0 rfl rfl ?_
  refine z_get (pc' := 4) X 12 f_TC_58 d_TC_leaveLog_1 (by assumption) rfl rfl ?_
  refine z_aload_n (pc' := 5) X d_TC_leaveLog_4 rfl rfl ?_
  refine z_get (pc' := 8) X 6 f_TC_171 d_TC_leaveLog_5 (by assumption) rfl rfl ?_
  refine z_top (b := .int (nI (z_bx (en a)))) (by rw [← hbn]) ?_
  refine z_dup2 (pc' := 9) X d_TC_leaveLog_8 rfl rfl rfl ?_
  refine z_iaload (pc' := 10) (i := z_bx (en a)) X d_TC_leaveLog_9 j6 hbl (by omega) rfl ?_
  refine z_iconst (pc' := 11) (v := 1) X d_TC_leaveLog_10 (by decide) rfl ?_
  refine z_isub (pc' := 12) X d_TC_leaveLog_11 rfl ?_
  refine z_iastore (pc' := 13) (i := z_bx (en a)) X d_TC_leaveLog_12 j6 hbl (by omega) rfl rfl ?_
  refine z_aload_n (pc' := 14) X d_TC_leaveLog_13 rfl rfl ?_
  refine z_dup (pc' := 15) X d_TC_leaveLog_14 rfl rfl ?_
  refine z_get (pc' := 18) X 14 f_TC_192 d_TC_leaveLog_15 (by assumption) rfl rfl ?_
  refine z_aload_n (pc' := 19) X d_TC_leaveLog_18 rfl rfl ?_
  refine z_get (pc' := 22) X 12 f_TC_58 d_TC_leaveLog_19 (by assumption) rfl rfl ?_
  refine z_aload_n (pc' := 23) X d_TC_leaveLog_22 rfl rfl ?_
  refine z_get (pc' := 26) X 6 f_TC_171 d_TC_leaveLog_23 (by assumption) rfl rfl ?_
  refine z_top (b := .int (nI (z_bx (en a)))) (by rw [← hbn]) ?_
  refine z_iaload (pc' := 27) (i := z_bx (en a)) X d_TC_leaveLog_26 hw1 hbl (by omega) rfl ?_
  rw [pk_us]
  refine z_if_ne (tgt := 34) (pc' := 30) X d_TC_leaveLog_27 (by decide) rfl (fun c_27 => ?_) (fun c_27 => ?_)
  · refine z_iconst (pc' := 35) (v := 0) X d_TC_leaveLog_34 (by decide) rfl ?_
    refine z_isub (pc' := 36) X d_TC_leaveLog_35 rfl ?_
    refine z_put (pc' := 39) X 14 f_TC_192 (g_TC_192 _) d_TC_leaveLog_36 (by assumption) rfl rfl rfl rfl rfl ?_
    have hv := z_I_v hI1 (z_vg v (vLg v - 0))
    have e : (z_lg en (wa, vLg v) a).2 = vLg v - 0 := by unfold z_lg; simp only; rw [if_neg c_27]
    exact z_vret X rfl d_TC_leaveLog_39 (⟨rfl, rfl, rfl, by rw [e]; exact hv.1, z_ff_tr hff1 hv.2⟩)
  · refine z_iconst (pc' := 31) (v := 1) X d_TC_leaveLog_30 (by decide) rfl ?_
    refine z_goto (pc' := 35) X d_TC_leaveLog_31 (by decide) ?_
    refine z_isub (pc' := 36) X d_TC_leaveLog_35 rfl ?_
    refine z_put (pc' := 39) X 14 f_TC_192 (g_TC_192 _) d_TC_leaveLog_36 (by assumption) rfl rfl rfl rfl rfl ?_
    have hv := z_I_v hI1 (z_vg v (vLg v - 1))
    have e : (z_lg en (wa, vLg v) a).2 = vLg v - 1 := by unfold z_lg; simp only; rw [if_pos c_27]
    exact z_vret X rfl d_TC_leaveLog_39 (⟨rfl, rfl, rfl, by rw [e]; exact hv.1, z_ff_tr hff1 hv.2⟩)
end DRN
