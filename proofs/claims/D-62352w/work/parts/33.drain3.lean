/-! drain, flush -/
section DR3
variable {G : z_G} {A : Nat → Prop} {h : z_H} {o : Nat} {K : z_KA} {v : z_VS} {La : z_LA} {en : Nat → z_E7} {sc tt : Nat → List Nat} {tb : Nat → z_TB} {T B R : List Nat} {nu ag wa : Nat → Int32}
/-- s is no memtable and no table of the system -/
def z_fs (tt : Nat → List Nat) (tb : Nat → z_TB) (T : List Nat) (s : Nat) : Prop := ∀ u ∈ T, s ≠ bM (tb u) ∧ ∀ z ∈ tt u, s ≠ z
theorem z_fs_of {s : Nat} (hI : z_I G h o K v La en sc tt tb T B R nu ag wa) (hs : h s = none) : z_fs tt tb T s := fun u hu => by
  obtain ⟨i1, i2, i3, i4⟩ := hI.2.2.2.1 u hu
  refine ⟨z_nb' hs i2, fun z hz => ?_⟩
  obtain ⟨arr, f, s1, -⟩ := (i4 z hz).1
  exact z_nb' hs s1
/-- behind a drain of tablet t -/
def z_DR (G : z_G) (h : z_H) (o : Nat) (K : z_KA) (v : z_VS) (La : z_LA) (en : Nat → z_E7) (sc tt : Nat → List Nat) (tb : Nat → z_TB) (T B R : List Nat) (nu ag wa : Nat → Int32) (t : Nat) (h' : z_H) (k n : Nat) : Prop :=
  (sc (bM (tb t)) = [] → h' = h ∧ k = 0 ∧ n = 0) ∧ (sc (bM (tb t)) ≠ [] → ∃ (s m al : Nat) (La' : z_LA), z_fs tt tb T s ∧ z_fs tt tb T m ∧ m ≠ s ∧ z_I G h' o K (z_vg v ((sc (bM (tb t))).foldl (z_lg en) (wa, vLg v)).2) La' en (z_su (z_su sc s (sc (bM (tb t)))) m []) (z_su tt t (tt t ++ [s])) (z_tu tb t (bF (tb t), bL (tb t), m, al, bT (tb t))) T B R nu ag ((sc (bM (tb t))).foldl (z_lg en) (wa, vLg v)).1 ∧ z_ct (z_Phi La (z_lst K tb T)) (z_Phi La' (z_lst K (z_tu tb t (bF (tb t), bL (tb t), m, al, bT (tb t))) T)) k n 1004 4300)
theorem c_drain {t : Nat} (hI : z_I G h o K v La en sc tt tb T B R nu ag wa) (ht : t ∈ T) (hb : ∀ a ∈ sc (bM (tb t)), 0 ≤ (eB (en a)).toInt ∧ (eB (en a)).toInt < 513) (hlen : (sc (bM (tb t))).length ≤ 255) (htl : (tt t).length ≤ 300) : z_C G A m_TC_drain 1010 6600 [.ref o, .ref t] h (fun val h' k n => val = some (.int (nI (sc (bM (tb t))).length)) ∧ z_DR G h o K v La en sc tt tb T B R nu ag wa t h' k n ∧ z_fx G K h h' ∧ k ≤ 1010 ∧ n ≤ 4300) := by
  obtain ⟨⟨da, ca, la, ma⟩, ⟨db, cb, lb, mb⟩⟩ := hI.2.2.1.2.2.2.2.2.2.1 t ht
  have l8 := hI.2.2.1.2.2.2.2.2.2.2
  obtain ⟨i1, i2, i3, i4⟩ := hI.2.2.2.1 t ht
  have hbm := z_bAm (K := K) (tb := tb) ht
  obtain ⟨es, hes⟩ : ∃ es, sc (bM (tb t)) = es := ⟨_, rfl⟩
  rw [hes] at hb hlen la i3
  refine z_C.of (by decide +kernel) rfl (Nat.le_of_ble_eq_true rfl) ?_
  intro x X
  have hcn := z_cne X
  rw [hes] at X
  refine z_aload_n (pc' := 1) X d_TC_drain_0 rfl rfl ?_
  refine z_get (pc' := 4) X 2 f_TC_107 d_TC_drain_1 (by assumption) rfl rfl ?_
  refine z_callV X (c_Mt_size hI.1 i2 la) k_TC_203 d_TC_drain_4 (by assumption) (show classes[3]? = some _ from rfl) rfl rfl rfl (by decide) (Nat.le_of_ble_eq_true rfl) ⟨by omega, by omega⟩ (z_kp ?_)
  refine z_istore_n (pc' := 8) X d_TC_drain_7 rfl rfl rfl ?_
  refine z_iload_n (pc' := 9) X d_TC_drain_8 rfl rfl ?_
  refine z_if_ne (tgt := 14) (pc' := 12) X d_TC_drain_9 (by decide) rfl (fun c_9 => ?_) (fun c_9 => ?_)
  · have hne : es ≠ [] := fun e => c_9 (by rw [e]; rfl)
    have loop : ∀ (mm i : Nat) (hh : z_H), mm + i = es.length → z_I G hh o K (z_vg v ((es.take i).foldl (z_lg en) (wa, vLg v)).2) La en sc tt tb T B R nu ag ((es.take i).foldl (z_lg en) (wa, vLg v)).1 → z_ff G K h hh → (∀ (b : Nat), h b = none → hh b = none → True) → (z_I G hh o K (z_vg v (es.foldl (z_lg en) (wa, vLg v)).2) La en sc tt tb T B R nu ag (es.foldl (z_lg en) (wa, vLg v)).1 → z_ff G K h hh → True) → (∀ (h2 : z_H), z_I G h2 o K (z_vg v (es.foldl (z_lg en) (wa, vLg v)).2) La en sc tt tb T B R nu ag (es.foldl (z_lg en) (wa, vLg v)).1 → z_ff G K h h2 → z_V G A x h2 0 0 39 [some (.ref o), some (.ref t), some (.int (nI es.length)), some (.int (nI es.length))] []) → z_V G A x hh 0 0 16 [some (.ref o), some (.ref t), some (.int (nI es.length)), some (.int (nI i))] [] := by
      intro mm
      induction mm with
      | zero =>
        intro i hh hi hI1 hff _ _ fin
        have hi : i = es.length := by omega
        subst hi
        rw [List.take_length] at hI1
        refine z_iload_n (pc' := 17) X d_TC_drain_16 rfl rfl ?_
        refine z_iload_n (pc' := 18) X d_TC_drain_17 rfl rfl ?_
        refine z_icmp_ge (tgt := 39) (pc' := 21) X d_TC_drain_18 (by decide) rfl (fun c_18 => ?_) (fun c_18 => ?_)
        · exact fin hh hI1 hff
        · exact absurd (nI_le (Nat.le_refl _) (by omega)) c_18
      | succ mm ih =>
        intro i hh hi hI1 hff q1 q2 fin
        have hil : i < es.length := by omega
        have hg := List.getElem?_eq_getElem hil
        obtain ⟨u1, u2, u3, u4⟩ := hI1.2.2.2.1 t ht
        rw [hes] at u3
        have hao := u3 _ (List.getElem_mem hil)
        have hbb := hb _ (List.getElem_mem hil)
        have ho := hI1.2.1.1
        refine z_iload_n (pc' := 17) X d_TC_drain_16 rfl rfl ?_
        refine z_iload_n (pc' := 18) X d_TC_drain_17 rfl rfl ?_
        refine z_icmp_ge (tgt := 39) (pc' := 21) X d_TC_drain_18 (by decide) rfl (fun c_18 => ?_) (fun c_18 => ?_)
        · exact absurd c_18 (nI_ge hil (by omega))
        · refine z_aload_n (pc' := 22) X d_TC_drain_21 rfl rfl ?_
          refine z_aload_n (pc' := 23) X d_TC_drain_22 rfl rfl ?_
          refine z_get (pc' := 26) X 2 f_TC_107 d_TC_drain_23 (by assumption) rfl rfl ?_
          refine z_iload_n (pc' := 27) X d_TC_drain_26 rfl rfl ?_
          refine z_callV X (c_Mt_at hI1.1 u2 la u3 hg) k_TC_235 d_TC_drain_27 (by assumption) (show classes[3]? = some _ from rfl) rfl rfl rfl (by decide) (Nat.le_of_ble_eq_true rfl) ⟨by omega, by omega⟩ (z_kp ?_)
          refine z_callV X (c_leaveLog hI1 hao hbb.1 hbb.2) k_TC_236 d_TC_drain_30 (by assumption) (show classes[0]? = some _ from rfl) rfl rfl rfl (by decide) (Nat.le_of_ble_eq_true rfl) ⟨by omega, by omega⟩ (fun v_30 h_30 k_30 n_30 p_30 => ?_)
          obtain ⟨rfl, rfl, rfl, r1, r2⟩ := p_30
          have htk : (es.take (i + 1)).foldl (z_lg en) (wa, vLg v) = z_lg en ((es.take i).foldl (z_lg en) (wa, vLg v)) es[i] := by rw [List.take_add_one, hg, Option.toList_some, List.foldl_append]; rfl
          refine z_iinc (pc' := 36) (w := nI (i + 1)) X d_TC_drain_33 rfl (z_i1 _) rfl rfl rfl ?_
          refine z_goto (pc' := 16) X d_TC_drain_36 (by decide) ?_
          exact ih (i + 1) h_30 (by omega) (by rw [htk]; exact r1) (z_ff_tr hff r2) (fun _ _ _ => trivial) (fun _ _ => trivial) fin
    refine z_iconst (pc' := 15) (v := 0) X d_TC_drain_14 (by decide) rfl ?_
    refine z_istore_n (pc' := 16) X d_TC_drain_15 rfl rfl rfl ?_
    refine loop es.length 0 h (by omega) ?_ z_ff_rf (fun _ _ _ => trivial) (fun _ _ => trivial) ?_
    · exact hI
    · intro hL hIL hffL
      obtain ⟨u1, u2, u3, u4⟩ := hIL.2.2.2.1 t ht
      rw [hes] at u3
      refine z_aload_n (pc' := 40) X d_TC_drain_39 rfl rfl ?_
      refine z_get (pc' := 43) X 3 f_TC_114 d_TC_drain_40 (by assumption) rfl rfl ?_
      refine z_new (pc' := 46) X nw_TC_214 d_TC_drain_43 ⟨by omega, by omega⟩ rfl (fun a_43 n_43 e_43 => ?_)
      refine z_dup (pc' := 47) X d_TC_drain_46 rfl rfl ?_
      have ext1 := z_ext_new (e := z_ob 4 n_Ta) n_43
      have hIA := z_I_ext hIL ext1
      obtain ⟨w1, w2, w3, w4⟩ := hIA.2.2.2.1 t ht
      rw [hes] at w3
      have hsA := z_up_s hL a_43 (z_ob 4 n_Ta)
      refine z_aload_n (pc' := 48) X d_TC_drain_47 rfl rfl ?_
      refine z_get (pc' := 51) X 2 f_TC_107 d_TC_drain_48 (by assumption) rfl rfl ?_
      refine z_get (pc' := 54) X 0 f_TC_239 d_TC_drain_51 (by assumption) rfl rfl ?_
      refine z_callI X (c_Ta_init (en := en) hIA.1 hsA la w3) k_TC_241 d_TC_drain_54 rfl rfl rfl (by decide) (Nat.le_of_ble_eq_true rfl) ⟨by omega, by omega⟩ (fun v_54 hB k_54 n_54 p_54 => ?_)
      obtain ⟨rfl, rfl, rfl, s1, s2⟩ := p_54
      have ext2 : ∀ (b : Nat) (e : va_E), hL b = some e → hB b = some e := fun b e hb' => s2 b e (ext1 b e hb') (by simpa using z_nb n_43 hb')
      have hIB := z_I_ext hIL ext2
      have hso : z_isob hB a_43 := by
        obtain ⟨arr, f, g1, -⟩ := s1
        exact ⟨4, _, g1, Or.inl (by decide)⟩
      obtain ⟨fs, g1⟩ := P_ob hIB.1 lb
      refine z_callV X (P_add hIB.1 lb hso (by omega)) k_TC_75 d_TC_drain_57 (by assumption) (show classes[6]? = some _ from rfl) rfl rfl rfl (by decide) (Nat.le_of_ble_eq_true rfl) ⟨by omega, by omega⟩ (fun v_57 h_57 k_57 n_57 p_57 => ?_)
      obtain ⟨rfl, d', cap', r1, r2, r3⟩ := p_57
      have hcb := z_gw_b r3 mb (by omega)
      obtain ⟨r31, r32, r33, -⟩ := r3
      have hss : ∀ u ∈ T, z_su sc a_43 es (bM (tb u)) = sc (bM (tb u)) ∧ ∀ s ∈ tt u, z_su sc a_43 es s = sc s := fun u hu => by
        obtain ⟨y1, y2, y3, y4⟩ := hIL.2.2.2.1 u hu
        refine ⟨z_su_n _ _ (z_nb n_43 y2), fun s hs => ?_⟩
        obtain ⟨arr, f, z1, -⟩ := (y4 s hs).1
        exact z_su_n _ _ (z_nb n_43 z1)
      have hIC := z_I_tab (sc' := z_su sc a_43 es) hcn hIB ht r1 r2 hcb hss (fun s hs => by
        rcases List.mem_append.mp hs with q | q
        · rw [(hss t ht).2 s q]
          exact (hIB.2.2.2.1 t ht).2.2.2 s q
        · rw [List.mem_singleton.mp q, z_su_s]
          have := (hIB.2.2.2.1 t ht).2.2.1
          rw [hes] at this
          exact ⟨s1, this⟩)
      have hphi1 := z_Phi_lu (La := La) (r := (d', tt t ++ [a_43], cap')) (a := bT (tb t)) _ l8 hbm.2
      rw [z_cp_of lb] at hphi1
      simp only at hphi1
      have hla1 : z_lu La (bT (tb t)) (d', tt t ++ [a_43], cap') (bA (tb t)) = some (da, es, ca) := by
        have hnd := z_nd1 _ (z_lst_nd l8).2.1 t ht
        simp at hnd
        rw [z_lu_n _ _ hnd]
        exact la
      have hsC : ∃ fs, h_57 a_43 = some (z_ob 4 fs) := by
        obtain ⟨arr, f, z1, -⟩ := s1
        exact ⟨_, r2 _ _ z1 (z_isl_ob (by decide))⟩
      have hfxC : z_fx G K h h_57 := z_fx_tr (z_ff_fx hffL) (z_fx_tr (fun b e hb' _ => ext2 b e hb') (z_fx_nl r2))
      refine z_nd0 X (fun hd0 => ?_)
      refine z_pop (pc' := 61) X d_TC_drain_60 rfl rfl ?_
      refine z_aload_n (pc' := 62) X d_TC_drain_61 rfl rfl ?_
      refine z_new (pc' := 65) X nw_TC_174 d_TC_drain_62 ⟨by omega, by omega⟩ rfl (fun a_62 n_62 e_62 => ?_)
      refine z_dup (pc' := 66) X d_TC_drain_65 rfl rfl ?_
      refine z_callI X (c_Mt_init (z_up_s _ _ _)) k_TC_244 d_TC_drain_66 rfl rfl rfl (by decide) (Nat.le_of_ble_eq_true rfl) ⟨by omega, by omega⟩ (fun v_66 hE k_66 n_66 p_66 => ?_)
      obtain ⟨rfl, rfl, rfl, al, q1, q2, rfl⟩ := p_66
      have hma : a_62 ≠ al := fun e => by rw [← e, z_up_s] at q1; cases q1
      have q3 : h_57 al = none := by rw [z_up_n _ _ (Ne.symm hma)] at q1; exact q1
      obtain ⟨hN1, hN2, hN3⟩ := z_I_nm (w := n_Mt) hIC ht hd0 n_62 q3 hma q2 e_62
      rw [z_cp_of hla1] at hN3
      have y1 := (hN1.2.2.2.1 t ht).1
      have hfs : z_fs tt tb T a_43 := z_fs_of hIL n_43
      have hfm : z_fs tt tb T a_62 := fun u hu => by
        obtain ⟨z1, z2⟩ := z_fs_of hIC n_62 u hu
        refine ⟨z1, fun z hz => z2 z ?_⟩
        by_cases hut : u = t
        · subst hut
          rw [z_su_s]
          exact List.mem_append_left _ hz
        · rw [z_su_n _ _ hut]
          exact hz
      have hms : a_62 ≠ a_43 := by
        obtain ⟨fs', z1⟩ := hsC
        exact z_nb' n_62 z1
      have hfx : z_fx G K h (z_up (z_up (z_up (z_up h_57 a_62 (z_ob 3 n_Mt)) al (z_ob 6 [.int 0, .ref (z_d0 G), .int 0])) a_62 (z_ob 3 [.ref al])) t (z_ob 2 [.int (bF (tb t)), .int (bL (tb t)), .ref a_62, .ref (bT (tb t))])) := by
        refine z_fx_tr hfxC (z_fx_tr (fun b e hb' _ => ?_) (z_fx_ob y1 (by decide)))
        rw [z_up_n _ _ (z_nb n_62 hb'), z_up_n _ _ (z_nb q3 hb'), z_up_n _ _ (z_nb n_62 hb')]
        exact hb'
      refine z_put (pc' := 72) X 2 f_TC_107 (g_TC_107 _) d_TC_drain_69 (by assumption) rfl rfl rfl rfl rfl ?_
      refine z_iload_n (pc' := 73) X d_TC_drain_72 rfl rfl ?_
      refine z_iret X rfl d_TC_drain_73 ⟨rfl, ⟨fun e => absurd e (by rw [hes]; exact hne), fun _ => ⟨a_43, a_62, al, _, hfs, hfm, hms, by rw [hes]; exact hN2, ?_, ?_⟩⟩, hfx, ?_, ?_⟩
      · omega
      · omega
      · omega
      · omega
  · have hnil : es = [] := by
      rcases Nat.eq_zero_or_pos es.length with q | q
      · exact List.length_eq_zero_iff.mp q
      · exact absurd c_9 (nI_ne0 q (by omega))
    refine z_iconst (pc' := 13) (v := 0) X d_TC_drain_12 (by decide) rfl ?_
    refine z_iret X rfl d_TC_drain_13 ⟨by rw [hnil]; rfl, ⟨fun _ => ⟨rfl, rfl, rfl⟩, fun q => absurd (by rw [hes]; exact hnil) q⟩, z_fx_rf, by omega, by omega⟩
end DR3
