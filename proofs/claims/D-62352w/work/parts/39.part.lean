/-! a new tablet beside the others; addPart -/
section PRT
variable {G : z_G} {A : Nat → Prop} {h : z_H} {o : Nat} {K : z_KA} {v : z_VS} {La : z_LA} {en : Nat → z_E7} {sc tt : Nat → List Nat} {tb : Nat → z_TB} {T E B R : List Nat} {nu ag wa : Nat → Int32}
theorem z_fs_ofJ {s : Nat} (hJ : z_J G h o K v La en sc tt tb T E B R nu ag wa) (hs : h s = none) : z_fs tt tb E s := fun u hu => by
  obtain ⟨i1, i2, i3, i4⟩ := hJ.2.2.2.1 u hu
  refine ⟨z_nb' hs i2, fun z hz => ?_⟩
  obtain ⟨arr, f, s1, -⟩ := (i4 z hz).1
  exact z_nb' hs s1
theorem z_lst_app {tb' : Nat → z_TB} {a al ta : Nat} (h1 : ∀ u ∈ E, tb' u = tb u) (h2 : bA (tb' a) = al) (h3 : bT (tb' a) = ta) : z_lst K tb' (E ++ [a]) = z_lst K tb E ++ [al, ta] := by
  unfold z_lst
  rw [List.flatMap_append, ← List.append_assoc]
  congr 1
  · congr 1
    induction E with
    | nil => rfl
    | cons u E ih =>
      rw [List.flatMap_cons, List.flatMap_cons, h1 u List.mem_cons_self, ih (fun w hw => h1 w (List.mem_cons_of_mem _ hw))]
  · rw [List.flatMap_cons, List.flatMap_nil, List.append_nil, h2, h3]
theorem z_J_new {h' : z_H} {a m al ta : Nat} {f l : Int32} {w : List Value} (hJ : z_J G h o K v La en sc tt tb T E B R nu ag wa) (ha : h a = none) (hN : z_NT G (z_up h a (z_ob 2 w)) h' a f l m al ta) (h0 : h' (z_d0 G) = none) :
    (∀ (b : Nat) (e : va_E), h b = some e → h' b = some e) ∧ a ∉ E ∧ z_fs tt tb E m ∧ z_Phi (z_lu (z_lu La al (z_d0 G, [], 0)) ta (z_d0 G, [], 0)) (z_lst K (z_tu tb a (f, l, m, al, ta)) (E ++ [a])) = z_Phi La (z_lst K tb E) ∧
    z_J G h' o K v (z_lu (z_lu La al (z_d0 G, [], 0)) ta (z_d0 G, [], 0)) en (z_su sc m []) (z_su tt a []) (z_tu tb a (f, l, m, al, ta)) T (E ++ [a]) B R nu ag wa := by
  obtain ⟨n1, n2, n3, n4, n5, n6, n7, n8, n9, g1, g2, g3, g4, g5⟩ := hN
  have ext : ∀ (b : Nat) (e : va_E), h b = some e → h' b = some e := fun b e hb => by
    have hba := z_nb ha hb
    exact g5 b e (by rw [z_up_n _ _ hba]; exact hb) (by simpa using hba)
  rw [z_up_n _ _ (Ne.symm n7)] at n1
  rw [z_up_n _ _ (Ne.symm n8)] at n2
  rw [z_up_n _ _ (Ne.symm n9)] at n3
  have haE : a ∉ E := fun hm => by
    have := (hJ.2.2.2.1 a hm).1
    rw [ha] at this
    cases this
  have hJ' := z_J_ext hJ ext
  have fm := z_fs_ofJ hJ n1
  have la := z_lst_alJ hJ n2
  have lt := z_lst_alJ hJ n3
  obtain ⟨tb1, htb⟩ : ∃ tb1, z_tu tb a (f, l, m, al, ta) = tb1 := ⟨_, rfl⟩
  have tba : tb1 a = (f, l, m, al, ta) := by rw [← htb, z_tu_s]
  have tbu : ∀ u ∈ E, tb1 u = tb u := fun u hu => by rw [← htb, z_tu_n _ _ (fun e => haE (by rw [← e]; exact hu))]
  have hls : z_lst K tb1 (E ++ [a]) = z_lst K tb E ++ [al, ta] := z_lst_app tbu (by rw [tba]) (by rw [tba])
  have hnd := (z_LJ_7 hJ.2.2.1).1
  rw [htb]
  have hLb : ∀ b ∈ z_lst K tb E, z_lu (z_lu La al (z_d0 G, [], 0)) ta (z_d0 G, [], 0) b = La b := fun b hb => by
    rw [z_lu_n _ _ (fun e => lt (by rw [← e]; exact hb)), z_lu_n _ _ (fun e => la (by rw [← e]; exact hb))]
  have hkT : kTa K ∈ z_lst K tb E := by simp [z_lst]
  refine ⟨ext, haE, fm, ?_, z_pool_al (z_pool_al hJ'.1 g3 h0) g4 h0, hJ'.2.1, ⟨?_, fun d c hc => ?_⟩, fun u hu => ?_, hJ'.2.2.2.2⟩
  · rw [hls]
    unfold z_Phi
    rw [List.map_append, List.sum_append]
    have e1 : (z_lst K tb E).map (z_cp (z_lu (z_lu La al (z_d0 G, [], 0)) ta (z_d0 G, [], 0))) = (z_lst K tb E).map (z_cp La) := List.map_congr_left (fun b hb => by unfold z_cp; rw [hLb b hb])
    have e2 : z_cp (z_lu (z_lu La al (z_d0 G, [], 0)) ta (z_d0 G, [], 0)) al = 0 := by unfold z_cp; rw [z_lu_n _ _ n6, z_lu_s]
    have e3 : z_cp (z_lu (z_lu La al (z_d0 G, [], 0)) ta (z_d0 G, [], 0)) ta = 0 := by unfold z_cp; rw [z_lu_s]
    rw [e1, List.map_cons, List.map_cons, List.map_nil, e2, e3]
    simp
  · obtain ⟨d, c, q1, q2⟩ := hJ.2.2.1.1
    exact ⟨d, c, by rw [hLb _ hkT]; exact q1, q2⟩
  · have hq := hJ.2.2.1.2 d c hc
    obtain ⟨l1, l2, l3, l4, l5, l6, l7, l8⟩ := hq
    have hLb' : ∀ b ∈ z_lst K tb E, b ≠ kTa K → z_lu (z_lu (z_lu La al (z_d0 G, [], 0)) ta (z_d0 G, [], 0)) (kTa K) (d, E ++ [a], c) b = z_lu La (kTa K) (d, E, c) b := fun b hb hne => by
      rw [z_lu_n _ _ hne, z_lu_n _ _ hne, hLb b hb]
    obtain ⟨m1, m2, m3⟩ := z_lst_nd l8
    have m1' := m1
    simp only [List.nodup_cons, List.mem_cons, not_or, List.not_mem_nil] at m1
    refine ⟨⟨d, c, z_lu_s _ _ _, hc⟩, by rw [hLb' _ (by simp [z_lst]) (Ne.symm m1.1.1)]; exact l2, by rw [hLb' _ (by simp [z_lst]) (Ne.symm m1.1.2.1)]; exact l3, by rw [hLb' _ (by simp [z_lst]) (Ne.symm m1.1.2.2.1)]; exact l4, by rw [hLb' _ (by simp [z_lst]) (Ne.symm m1.1.2.2.2.1)]; exact l5, by rw [hLb' _ (by simp [z_lst]) (Ne.symm m1.1.2.2.2.2.1)]; exact l6, fun u hu => ?_, ?_⟩
    · rcases List.mem_append.mp hu with q | q
      · have hua : u ≠ a := fun e => haE (by rw [← e]; exact q)
        rw [tbu u q, z_su_n _ _ hua, z_su_n _ _ (fm u q).1.symm, hLb' _ (z_bAm q).1 (m3 u q (kTa K) (by simp)).1.symm, hLb' _ (z_bAm q).2 (m3 u q (kTa K) (by simp)).2.symm]
        exact l7 u q
      · rw [List.mem_singleton.mp q, tba, z_su_s, z_su_s]
        refine ⟨⟨z_d0 G, 0, ?_, by decide⟩, ⟨z_d0 G, 0, ?_, by decide⟩⟩
        · show z_lu (z_lu (z_lu La al (z_d0 G, [], 0)) ta (z_d0 G, [], 0)) (kTa K) (d, E ++ [a], c) al = some (z_d0 G, [], 0)
          rw [z_lu_n _ _ (fun e => la (by rw [e]; exact hkT)), z_lu_n _ _ n6, z_lu_s]
        · show z_lu (z_lu (z_lu La al (z_d0 G, [], 0)) ta (z_d0 G, [], 0)) (kTa K) (d, E ++ [a], c) ta = some (z_d0 G, [], 0)
          rw [z_lu_n _ _ (fun e => lt (by rw [e]; exact hkT)), z_lu_s]
    · rw [hls]
      refine List.nodup_append.mpr ⟨hnd, by simp; exact n6, fun b hb c hc => ?_⟩
      simp at hc
      rcases hc with rfl | rfl
      · exact fun e => la (by rw [← e]; exact hb)
      · exact fun e => lt (by rw [← e]; exact hb)
  · rcases List.mem_append.mp hu with q | q
    · have hua : u ≠ a := fun e => haE (by rw [← e]; exact q)
      obtain ⟨i1, i2, i3, i4⟩ := hJ'.2.2.2.1 u q
      unfold z_I1
      rw [tbu u q, z_su_n _ _ hua, z_su_n _ _ (fm u q).1.symm]
      refine ⟨i1, i2, i3, fun s hs => ?_⟩
      rw [z_su_n _ _ ((fm u q).2 s hs).symm]
      exact i4 s hs
    · rw [List.mem_singleton.mp q]
      unfold z_I1
      rw [tba, z_su_s, z_su_s]
      exact ⟨g1, g2, fun b hb => absurd hb List.not_mem_nil, fun s hs => absurd hs List.not_mem_nil⟩
/-- the part of a table with rows from lo to hi -/
def z_pt (en : Nat → z_E7) (es : List Nat) (lo hi : Int32) : List Nat := (es.take (z_fo en es (hi + 1))).drop (z_fo en es lo)
theorem c_addPart {t s : Nat} {es : List Nat} {lo hi : Int32} (hJ : z_J G h o K v La en sc tt tb T E B R nu ag wa) (ht : t ∈ E) (hs : z_tab G h en s es) (hse : z_ens h en es) (hsr : z_rs en es) (hsl : es.length ≤ 255) (hsn : es ≠ []) (hsc : sc s = es) (htl : (tt t).length ≤ 255) : z_C G A m_TC_addPart 2010 12000 [.ref o, .ref t, .ref s, .int lo, .int hi] h (fun val h' k n => val = none ∧ (∃ sc1 q La1, (∀ u ∈ E, sc1 (bM (tb u)) = sc (bM (tb u)) ∧ ∀ z ∈ tt u, sc1 z = sc z) ∧ q.map sc1 = (if z_pt en es lo hi = [] then [] else [z_pt en es lo hi]) ∧ q.length ≤ 1 ∧ z_J G h' o K v La1 en sc1 (z_su tt t (tt t ++ q)) tb T E B R nu ag wa ∧ z_ct (z_Phi La (z_lst K tb E)) (z_Phi La1 (z_lst K tb E)) k n 2 (8 + es.length)) ∧ z_fx G K h h' ∧ z_ff G K h h' ∧ k ≤ 2010 ∧ n ≤ 8400) := by
  obtain ⟨hnd, l7, ⟨d3, x3, c3, l3, m3⟩, nt, nk⟩ := z_LJ_7 hJ.2.2.1
  obtain ⟨-, ⟨db, cb, lb, mb⟩⟩ := l7 t ht
  have hto := (hJ.2.2.2.1 t ht).1
  have ho := hJ.2.1.1
  obtain ⟨arr, f, s1, s2, s3⟩ := id hs
  obtain ⟨fs, g1⟩ := P_ob hJ.1 lb
  obtain ⟨fs3, g3⟩ := P_ob hJ.1 l3
  have hkt := (z_lst_nd hnd).2.2 t ht (kKe K) (by simp)
  have hbm := (z_bAm (K := K) (tb := tb) ht).2
  have hkm : kKe K ∈ z_lst K tb E := by simp [z_lst]
  have hsrc : z_src G h La s es := Or.inr ⟨arr, _, _, f, s1, s2, s3⟩
  obtain ⟨fm, hfm⟩ : ∃ fm, z_fo en es lo = fm := ⟨_, rfl⟩
  obtain ⟨nd, hnd'⟩ : ∃ nd, z_fo en es (hi + 1) = nd := ⟨_, rfl⟩
  have hfml : fm ≤ es.length := by rw [← hfm]; exact List.countP_le_length
  have hndl : nd ≤ es.length := by rw [← hnd']; exact List.countP_le_length
  have hpt : z_pt en es lo hi = (es.take nd).drop fm := by unfold z_pt; rw [hfm, hnd']
  refine z_C.of (by decide +kernel) rfl (Nat.le_of_ble_eq_true rfl) ?_
  intro x X
  have hcn := z_cne X
  have slow : z_V G A x h 0 0 41 [some (.ref o), some (.ref t), some (.ref s), some (.int lo), some (.int hi), some (.int (nI fm)), some (.int (nI nd)), none] [] := by
    have loop : ∀ (mm i : Nat) (h2 : z_H) (dk ck' k2 n2 : Nat), mm = nd - i → fm ≤ i → (i ≤ nd ∨ i = fm) → z_J G h2 o K v (z_lu La (kKe K) (dk, (es.take i).drop fm, ck')) en sc tt tb T E B R nu ag wa → z_nl G h h2 → c3 ≤ ck' → ck' ≤ 1000 → k2 ≤ ck' - c3 → n2 ≤ 4 * (ck' - c3) → z_V G A x h2 k2 n2 52 [some (.ref o), some (.ref t), some (.ref s), some (.int lo), some (.int hi), some (.int (nI fm)), some (.int (nI nd)), some (.int (nI i))] [] := by
      intro mm
      induction mm with
      | zero =>
        intro i h2 dk ck' k2 n2 hm hfi hin hJ2 hnl2 hc3 hck hk2 hn2
        have hpi : (es.take i).drop fm = z_pt en es lo hi := by
          rw [hpt]
          rcases hin with hin | hin
          · rw [show i = nd from by omega]
          · rw [List.drop_eq_nil_of_le (by rw [List.length_take]; omega), List.drop_eq_nil_of_le (by rw [List.length_take]; omega)]
        rw [hpi] at hJ2
        have hpl : (z_pt en es lo hi).length ≤ es.length := by
          rw [hpt, List.length_drop, List.length_take]
          omega
        have hpens : z_ens h en (z_pt en es lo hi) := fun a ha => by
          rw [hpt] at ha
          exact hse a (List.mem_of_mem_take (List.mem_of_mem_drop ha))
        have ho2 := hJ2.2.1.1
        have hke2 := z_lu_s La (kKe K) (dk, z_pt en es lo hi, ck')
        have lb2 : z_lu La (kKe K) (dk, z_pt en es lo hi, ck') (bT (tb t)) = some (db, tt t, cb) := by rw [z_lu_n _ _ hkt.2.symm]; exact lb
        obtain ⟨fs2, g2⟩ := P_ob hJ2.1 hke2
        have hph := z_Phi_lu (La := La) (r := (dk, z_pt en es lo hi, ck')) (a := kKe K) _ hnd hkm
        rw [z_cp_of l3] at hph
        simp only at hph
        refine z_iload (pc' := 54) X d_TC_addPart_52 rfl rfl ?_
        refine z_iload (pc' := 56) X d_TC_addPart_54 rfl rfl ?_
        refine z_icmp_ge (tgt := 79) (pc' := 59) X d_TC_addPart_56 (by decide) rfl (fun c_56 => ?_) (fun c_56 => ?_)
        · refine z_aload_n (pc' := 80) X d_TC_addPart_79 rfl rfl ?_
          refine z_get (pc' := 83) X 10 f_TC_52 d_TC_addPart_80 (by assumption) rfl rfl ?_
          refine z_callV X (P_isEmpty hJ2.1 hke2) k_TC_121 d_TC_addPart_83 (by assumption) (show classes[6]? = some _ from rfl) rfl rfl rfl (by decide) (Nat.le_of_ble_eq_true rfl) ⟨by omega, by omega⟩ (z_kp ?_)
          by_cases hk0 : (z_pt en es lo hi).length = 0
          · rw [if_pos hk0]
            refine z_if_ne (tgt := 108) (pc' := 89) X d_TC_addPart_86 (by decide) rfl (fun _ => ?_) (fun q => absurd q (by decide))
            have hp0 : z_pt en es lo hi = [] := List.length_eq_zero_iff.mp hk0
            have htid : z_su tt t (tt t ++ []) = tt := by
              funext u
              unfold z_su
              split
              · rename_i e
                rw [e, List.append_nil]
              · rfl
            refine z_vret X rfl d_TC_addPart_108 ⟨rfl, ⟨sc, [], _, fun _ _ => ⟨rfl, fun _ _ => rfl⟩, by rw [if_pos hp0]; rfl, by simp, by rw [htid]; exact hJ2, ?_, ?_⟩, z_fx_nl hnl2, z_ff_nl hcn hnl2, ?_, ?_⟩
            · omega
            · omega
            · omega
            · omega
          · have hpn : z_pt en es lo hi ≠ [] := fun e => hk0 (by rw [e]; rfl)
            rw [if_neg hk0]
            refine z_if_ne (tgt := 108) (pc' := 89) X d_TC_addPart_86 (by decide) rfl (fun q => absurd rfl q) (fun _ => ?_)
            have hto2 := (hJ2.2.2.2.1 t ht).1
            refine z_aload_n (pc' := 90) X d_TC_addPart_89 rfl rfl ?_
            refine z_get (pc' := 93) X 3 f_TC_114 d_TC_addPart_90 (by assumption) rfl rfl ?_
            refine z_new (pc' := 96) X nw_TC_214 d_TC_addPart_93 ⟨by omega, by omega⟩ rfl (fun a_93 n_93 e_93 => ?_)
            refine z_dup (pc' := 97) X d_TC_addPart_96 rfl rfl ?_
            have ho5 : z_up h2 a_93 (z_ob 4 n_Ta) o = some (z_ob 0 (z_tcf K v)) := by rw [z_up_n _ _ (z_nb n_93 ho2)]; exact ho2
            refine z_aload_n (pc' := 98) X d_TC_addPart_97 rfl rfl ?_
            refine z_get (pc' := 101) X 10 f_TC_52 d_TC_addPart_98 (by assumption) rfl rfl ?_
            refine z_callI X (c_Ta_init (en := en) (z_pool_new hJ2.1 n_93) (z_up_s _ _ _) hke2 (fun a ha => by rw [z_up_n _ _ (z_nb n_93 (z_ens_nl hnl2 hpens a ha))]; exact z_ens_nl hnl2 hpens a ha)) k_TC_241 d_TC_addPart_101 rfl rfl rfl (by decide) (Nat.le_of_ble_eq_true rfl) ⟨by omega, by omega⟩ (fun v_101 hB k_101 n_101 p_101 => ?_)
            obtain ⟨rfl, rfl, rfl, y1, y2⟩ := p_101
            have ext2 : ∀ (b : Nat) (e : va_E), h2 b = some e → hB b = some e := fun b e hb' => y2 b e (z_ext_new n_93 b e hb') (by simpa using z_nb n_93 hb')
            have hso : z_isob hB a_93 := by
              obtain ⟨arr, f, g1, -⟩ := y1
              exact ⟨4, _, g1, Or.inl (by decide)⟩
            have hJB := z_J_ext hJ2 ext2
            have hfs := z_fs_ofJ hJ2 n_93
            obtain ⟨fsB, gB⟩ := P_ob hJB.1 lb2
            refine z_callV X (P_add hJB.1 lb2 hso (by omega)) k_TC_75 d_TC_addPart_104 (by assumption) (show classes[6]? = some _ from rfl) rfl rfl rfl (by decide) (Nat.le_of_ble_eq_true rfl) ⟨by omega, by omega⟩ (fun v_104 h_104 k_104 n_104 p_104 => ?_)
            obtain ⟨rfl, d', cap', r1, r2, r3⟩ := p_104
            have hcb := z_gw_b r3 mb (by omega)
            obtain ⟨r31, r32, r33, -⟩ := r3
            have hff := z_ff_nl (K := K) hcn r2
            have hnl4 : z_nl G h h_104 := z_nl_tr hnl2 (z_nl_tr (fun b e hb _ => ext2 b e hb) r2)
            have hff4 := z_ff_nl (K := K) hcn hnl4
            have hss : ∀ u ∈ E, z_su sc a_93 (z_pt en es lo hi) (bM (tb u)) = sc (bM (tb u)) ∧ ∀ s ∈ tt u, z_su sc a_93 (z_pt en es lo hi) s = sc s := fun u hu => ⟨z_su_n _ _ (hfs u hu).1.symm, fun s hs => z_su_n _ _ ((hfs u hu).2 s hs).symm⟩
            have hJ4 := z_J_tab (sc' := z_su sc a_93 (z_pt en es lo hi)) hcn hJB ht r1 r2 hcb hss (fun z hz => by
              rcases List.mem_append.mp hz with q | q
              · have := (hJB.2.2.2.1 t ht).2.2.2 z q
                rw [(hss t ht).2 z q]
                exact ⟨z_tab_ff hff this.1, z_ens_ff hff this.2⟩
              · rw [List.mem_singleton.mp q, z_su_s]
                exact ⟨z_tab_ff hff y1, z_ens_ff hff4 hpens⟩)
            have e := z_Phi_lu (La := z_lu La (kKe K) (dk, z_pt en es lo hi, ck')) (r := (d', tt t ++ [a_93], cap')) (a := bT (tb t)) _ hnd hbm
            rw [z_cp_of lb2] at e
            simp only at e
            refine z_pop (pc' := 108) X d_TC_addPart_107 rfl rfl ?_
            refine z_vret X rfl d_TC_addPart_108 ⟨rfl, ⟨z_su sc a_93 (z_pt en es lo hi), [a_93], z_lu (z_lu La (kKe K) (dk, z_pt en es lo hi, ck')) (bT (tb t)) (d', tt t ++ [a_93], cap'), hss, by rw [if_neg hpn, List.map_cons, List.map_nil, z_su_s], by simp, hJ4, ?_, ?_⟩, z_fx_nl hnl4, hff4, ?_, ?_⟩
            · omega
            · omega
            · omega
            · omega
        · exact absurd (nI_le (by omega) (by omega)) c_56
      | succ mm ih =>
        intro i h2 dk ck' k2 n2 hm hfi hin hJ2 hnl2 hc3 hck hk2 hn2
        have hil : i < es.length := by omega
        have hg := List.getElem?_eq_getElem hil
        have hfi' : f i = some es[i] := by rw [s3 i hil, hg]
        have ho2 := hJ2.2.1.1
        have hke2 := z_lu_s La (kKe K) (dk, (es.take i).drop fm, ck')
        obtain ⟨fs2, g2⟩ := P_ob hJ2.1 hke2
        have s1' := hnl2 _ _ s1 (z_isl_ob (by decide))
        have s2' := hnl2 _ _ s2 (z_isl_ra hcn)
        have hse' := z_ens_nl hnl2 hse _ (List.getElem_mem hil)
        have hal : ((es.take i).drop fm).length ≤ 400 := by
          rw [List.length_drop, List.length_take]
          omega
        refine z_iload (pc' := 54) X d_TC_addPart_52 rfl rfl ?_
        refine z_iload (pc' := 56) X d_TC_addPart_54 rfl rfl ?_
        refine z_icmp_ge (tgt := 79) (pc' := 59) X d_TC_addPart_56 (by decide) rfl (fun c_56 => ?_) (fun c_56 => ?_)
        · exact absurd c_56 (nI_ge (by omega) (by omega))
        · refine z_aload_n (pc' := 60) X d_TC_addPart_59 rfl rfl ?_
          refine z_get (pc' := 63) X 10 f_TC_52 d_TC_addPart_60 (by assumption) rfl rfl ?_
          refine z_aload_n (pc' := 64) X d_TC_addPart_63 rfl rfl ?_
          refine z_iload (pc' := 66) X d_TC_addPart_64 rfl rfl ?_
          refine z_callV X (c_Ta_at s1' s2' hil (by omega) hfi') k_TC_260 d_TC_addPart_66 (by assumption) (show classes[4]? = some _ from rfl) rfl rfl rfl (by decide) (Nat.le_of_ble_eq_true rfl) ⟨by omega, by omega⟩ (z_kp ?_)
          refine z_callV X (P_add hJ2.1 hke2 ⟨5, _, hse', Or.inl (by decide)⟩ (by omega)) k_TC_75 d_TC_addPart_69 (by assumption) (show classes[6]? = some _ from rfl) rfl rfl rfl (by decide) (Nat.le_of_ble_eq_true rfl) ⟨by omega, by omega⟩ (fun v_69 h_69 k_69 n_69 p_69 => ?_)
          obtain ⟨rfl, d', cap', r1, r2, r3⟩ := p_69
          have hcb := z_gw_b r3 hck hal
          obtain ⟨r31, r32, r33, -⟩ := r3
          have htk : (es.take (i + 1)).drop fm = (es.take i).drop fm ++ [es[i]] := by
            rw [List.take_add_one, hg, Option.toList_some, List.drop_append_of_le_length (by rw [List.length_take]; omega)]
          rw [← htk] at r1
          have hJ3 := z_J_scr hcn hJ2 r1 r2 hcb
          rw [z_lulu] at hJ3
          refine z_pop (pc' := 73) X d_TC_addPart_72 rfl rfl ?_
          refine z_iinc (pc' := 76) (w := nI (i + 1)) X d_TC_addPart_73 rfl (z_i1 _) rfl rfl rfl ?_
          refine z_goto (pc' := 52) X d_TC_addPart_76 (by decide) ?_
          exact ih (i + 1) h_69 _ _ _ _ (by omega) (by omega) (by omega) hJ3 (z_nl_tr hnl2 r2) (by omega) hcb (by omega) (by omega)
    refine z_aload_n (pc' := 42) X d_TC_addPart_41 rfl rfl ?_
    refine z_get (pc' := 45) X 10 f_TC_52 d_TC_addPart_42 (by assumption) rfl rfl ?_
    refine z_callV X (P_clear hJ.1 l3) k_TC_208 d_TC_addPart_45 (by assumption) (show classes[6]? = some _ from rfl) rfl rfl rfl (by decide) (Nat.le_of_ble_eq_true rfl) ⟨by omega, by omega⟩ (fun v_45 h_45 k_45 n_45 p_45 => ?_)
    obtain ⟨rfl, rfl, rfl, r1, r2⟩ := p_45
    refine z_iload (pc' := 50) X d_TC_addPart_48 rfl rfl ?_
    refine z_istore (pc' := 52) X d_TC_addPart_50 rfl rfl rfl ?_
    refine loop (nd - fm) fm h_45 d3 c3 _ _ rfl (Nat.le_refl _) (Or.inr rfl) ?_ r2 (Nat.le_refl _) m3 (by omega) (by omega)
    rw [List.drop_eq_nil_of_le (by rw [List.length_take]; omega)]
    exact z_J_scr hcn hJ r1 r2 m3
  refine z_aload_n (pc' := 1) X d_TC_addPart_0 rfl rfl ?_
  refine z_iload_n (pc' := 2) X d_TC_addPart_1 rfl rfl ?_
  refine z_callS X (c_firstOf (r := lo) hJ.1 hsrc hse hsr (by omega)) k_TC_255 d_TC_addPart_2 rfl rfl rfl (by decide) (Nat.le_of_ble_eq_true rfl) ⟨by omega, by omega⟩ (z_kp ?_)
  rw [hfm]
  refine z_istore (pc' := 7) X d_TC_addPart_5 rfl rfl rfl ?_
  refine z_aload_n (pc' := 8) X d_TC_addPart_7 rfl rfl ?_
  refine z_iload (pc' := 10) X d_TC_addPart_8 rfl rfl ?_
  refine z_iconst (pc' := 11) (v := 1) X d_TC_addPart_10 (by decide) rfl ?_
  refine z_iadd (pc' := 12) X d_TC_addPart_11 rfl ?_
  refine z_callS X (c_firstOf (r := hi + 1) hJ.1 hsrc hse hsr (by omega)) k_TC_255 d_TC_addPart_12 rfl rfl rfl (by decide) (Nat.le_of_ble_eq_true rfl) ⟨by omega, by omega⟩ (z_kp ?_)
  rw [hnd']
  refine z_istore (pc' := 17) X d_TC_addPart_15 rfl rfl rfl ?_
  refine z_iload (pc' := 19) X d_TC_addPart_17 rfl rfl ?_
  refine z_if_ne (tgt := 41) (pc' := 22) X d_TC_addPart_19 (by decide) rfl (fun c_19 => ?_) (fun c_19 => ?_)
  · exact slow
  · have hf0 : fm = 0 := by
      rcases Nat.eq_zero_or_pos fm with q | q
      · exact q
      · exact absurd c_19 (nI_ne0 q (by omega))
    refine z_iload (pc' := 24) X d_TC_addPart_22 rfl rfl ?_
    refine z_aload_n (pc' := 25) X d_TC_addPart_24 rfl rfl ?_
    refine z_callV X (c_Ta_size s1 s2) k_TC_259 d_TC_addPart_25 (by assumption) (show classes[4]? = some _ from rfl) rfl rfl rfl (by decide) (Nat.le_of_ble_eq_true rfl) ⟨by omega, by omega⟩ (z_kp ?_)
    refine z_icmp_ne (tgt := 41) (pc' := 31) X d_TC_addPart_28 (by decide) rfl (fun c_28 => ?_) (fun c_28 => ?_)
    · exact slow
    · have hne : nd = es.length := by
        have := (nI_eq (by omega) (by omega)).mp c_28
        exact this
      have hpe : z_pt en es lo hi = es := by rw [hpt, hf0, hne, List.take_length, List.drop_zero]
      refine z_aload_n (pc' := 32) X d_TC_addPart_31 rfl rfl ?_
      refine z_get (pc' := 35) X 3 f_TC_114 d_TC_addPart_32 (by assumption) rfl rfl ?_
      refine z_aload_n (pc' := 36) X d_TC_addPart_35 rfl rfl ?_
      refine z_callV X (P_add hJ.1 lb ⟨4, _, s1, Or.inl (by decide)⟩ (by omega)) k_TC_75 d_TC_addPart_36 (by assumption) (show classes[6]? = some _ from rfl) rfl rfl rfl (by decide) (Nat.le_of_ble_eq_true rfl) ⟨by omega, by omega⟩ (fun v_36 h_36 k_36 n_36 p_36 => ?_)
      obtain ⟨rfl, d', cap', r1, r2, r3⟩ := p_36
      have hcb := z_gw_b r3 mb (by omega)
      obtain ⟨r31, r32, r33, -⟩ := r3
      have hff := z_ff_nl (K := K) hcn r2
      have hJ1 := z_J_tab (sc' := sc) hcn hJ ht r1 r2 hcb (fun _ _ => ⟨rfl, fun _ _ => rfl⟩) (fun z hz => by
        rcases List.mem_append.mp hz with q | q
        · have := (hJ.2.2.2.1 t ht).2.2.2 z q
          exact ⟨z_tab_ff hff this.1, z_ens_ff hff this.2⟩
        · rw [List.mem_singleton.mp q, hsc]
          exact ⟨z_tab_ff hff hs, z_ens_ff hff hse⟩)
      have e := z_Phi_lu (La := La) (r := (d', tt t ++ [s], cap')) (a := bT (tb t)) _ hnd hbm
      rw [z_cp_of lb] at e
      simp only at e
      refine z_pop (pc' := 40) X d_TC_addPart_39 rfl rfl ?_
      exact z_vret X rfl d_TC_addPart_40 (⟨rfl, ⟨sc, [s], _, fun _ _ => ⟨rfl, fun _ _ => rfl⟩, by rw [hpe, if_neg hsn, List.map_cons, List.map_nil, hsc], Nat.le_refl _, hJ1, ⟨by omega, by omega⟩⟩, z_fx_nl r2, hff, by omega, by omega⟩)
end PRT
