/-! flush, compact, major, tablet, table -/
/-- the state behind a drain of tablet t -/
def z_DS (en : Nat → z_E7) (v : z_VS) (sc tt : Nat → List Nat) (tb : Nat → z_TB) (T : List Nat) (wa : Nat → Int32) (t : Nat) (v1 : z_VS) (sc1 tt1 : Nat → List Nat) (tb1 : Nat → z_TB) (wa1 : Nat → Int32) : Prop :=
  (sc (bM (tb t)) = [] ∧ v1 = v ∧ sc1 = sc ∧ tt1 = tt ∧ tb1 = tb ∧ wa1 = wa) ∨
  (sc (bM (tb t)) ≠ [] ∧ ∃ s m al, z_fs tt tb T s ∧ z_fs tt tb T m ∧ m ≠ s ∧ v1 = z_vg v ((sc (bM (tb t))).foldl (z_lg en) (wa, vLg v)).2 ∧ sc1 = z_su (z_su sc s (sc (bM (tb t)))) m [] ∧ tt1 = z_su tt t (tt t ++ [s]) ∧ tb1 = z_tu tb t (bF (tb t), bL (tb t), m, al, bT (tb t)) ∧ wa1 = ((sc (bM (tb t))).foldl (z_lg en) (wa, vLg v)).1)
/-- the state behind a uniting of tablet t's tables from fr on -/
def z_US (en : Nat → z_E7) (v : z_VS) (sc tt : Nat → List Nat) (tb : Nat → z_TB) (T : List Nat) (ag : Nat → Int32) (t fr : Nat) (co : Int32) (sc1 tt1 : Nat → List Nat) : Prop :=
  ∃ s, z_fs tt tb T s ∧ sc1 = z_su sc s (z_un en sc ag (vCk v) co ((tt t).drop fr)) ∧ tt1 = z_su tt t ((tt t).take fr ++ if z_un en sc ag (vCk v) co ((tt t).drop fr) = [] then [] else [s])
section FLU
variable {G : z_G} {A : Nat → Prop} {h : z_H} {o : Nat} {K : z_KA} {v : z_VS} {La : z_LA} {en : Nat → z_E7} {sc tt : Nat → List Nat} {tb : Nat → z_TB} {T B R : List Nat} {nu ag wa : Nat → Int32}
/-- what a drain leaves of each source -/
theorem z_DS_src {t : Nat} {v1 : z_VS} {sc1 tt1 : Nat → List Nat} {tb1 : Nat → z_TB} {wa1 : Nat → Int32} (hd : z_DS en v sc tt tb T wa t v1 sc1 tt1 tb1 wa1) : ∀ u ∈ T, (u ≠ t → tt1 u = tt u ∧ tb1 u = tb u) ∧ (u ≠ t → sc1 (bM (tb u)) = sc (bM (tb u))) ∧ (∀ s ∈ tt u, sc1 s = sc s) := by
  intro u hu
  rcases hd with ⟨-, rfl, rfl, rfl, rfl, rfl⟩ | ⟨-, s, m, al, f1, f2, f3, rfl, rfl, rfl, rfl, rfl⟩
  · exact ⟨fun _ => ⟨rfl, rfl⟩, fun _ => rfl, fun _ _ => rfl⟩
  · refine ⟨fun hut => ⟨z_su_n _ _ hut, z_tu_n _ _ hut⟩, fun _ => ?_, fun z hz => ?_⟩
    · rw [z_su_n _ _ (f2 u hu).1.symm, z_su_n _ _ (f1 u hu).1.symm]
    · rw [z_su_n _ _ ((f2 u hu).2 z hz).symm, z_su_n _ _ ((f1 u hu).2 z hz).symm]
theorem z_DS_t {t : Nat} {v1 : z_VS} {sc1 tt1 : Nat → List Nat} {tb1 : Nat → z_TB} {wa1 : Nat → Int32} (hd : z_DS en v sc tt tb T wa t v1 sc1 tt1 tb1 wa1) (ht : t ∈ T) : sc1 (bM (tb1 t)) = [] ∧ (tt1 t).map sc1 = (tt t).map sc ++ (if sc (bM (tb t)) = [] then [] else [sc (bM (tb t))]) := by
  have h1 := (z_DS_src hd t ht).2.2
  rcases hd with ⟨h0, rfl, rfl, rfl, rfl, rfl⟩ | ⟨h0, s, m, al, f1, f2, f3, rfl, rfl, rfl, rfl, rfl⟩
  · rw [if_pos h0, List.append_nil]
    exact ⟨h0, rfl⟩
  · rw [if_neg h0, z_tu_s, z_su_s, z_su_s, List.map_append]
    refine ⟨rfl, ?_⟩
    congr 1
    · exact List.map_congr_left h1
    · rw [List.map_cons, List.map_nil, z_su_n _ _ (Ne.symm f3), z_su_s]
theorem z_tsz_map (sc tt : Nat → List Nat) (tb : Nat → z_TB) (t : Nat) : z_tsz sc tt tb t = (sc (bM (tb t))).length + (((tt t).map sc).map List.length).sum := by
  unfold z_tsz
  rw [List.map_map]
  rfl
theorem z_DS_tot {t : Nat} {v1 : z_VS} {sc1 tt1 : Nat → List Nat} {tb1 : Nat → z_TB} {wa1 : Nat → Int32} (hd : z_DS en v sc tt tb T wa t v1 sc1 tt1 tb1 wa1) : z_tot sc1 tt1 tb1 T = z_tot sc tt tb T := by
  unfold z_tot
  congr 1
  refine List.map_congr_left (fun u hu => ?_)
  obtain ⟨h1, h2, h3⟩ := z_DS_src hd u hu
  rw [z_tsz_map, z_tsz_map]
  by_cases hut : u = t
  · subst hut
    obtain ⟨g1, g2⟩ := z_DS_t hd hu
    rw [g1, g2]
    split
    · rename_i e
      rw [e, List.append_nil]
    · simp
      omega
  · rw [(h1 hut).1, (h1 hut).2, h2 hut]
    congr 3
    exact List.map_congr_left h3
theorem z_DS_P {t : Nat} {v1 : z_VS} {sc1 tt1 : Nat → List Nat} {tb1 : Nat → z_TB} {wa1 : Nat → Int32} (hd : z_DS en v sc tt tb T wa t v1 sc1 tt1 tb1 wa1) {P : List Nat → Prop} (h0 : P []) (hp : ∀ u ∈ T, P (sc (bM (tb u))) ∧ ∀ s ∈ tt u, P (sc s)) : ∀ u ∈ T, P (sc1 (bM (tb1 u))) ∧ ∀ s ∈ tt1 u, P (sc1 s) := by
  intro u hu
  obtain ⟨h1, h2, h3⟩ := z_DS_src hd u hu
  by_cases hut : u = t
  · subst hut
    obtain ⟨g1, g2⟩ := z_DS_t hd hu
    refine ⟨by rw [g1]; exact h0, fun s hs => ?_⟩
    have hm : sc1 s ∈ (tt1 u).map sc1 := List.mem_map.mpr ⟨s, hs, rfl⟩
    rw [g2] at hm
    rcases List.mem_append.mp hm with q | q
    · obtain ⟨z, hz, e⟩ := List.mem_map.mp q
      rw [← e]
      exact (hp u hu).2 z hz
    · split at q
      · exact absurd q List.not_mem_nil
      · rw [List.mem_singleton.mp q]
        exact (hp u hu).1
  · rw [(h1 hut).2, h2 hut, (h1 hut).1]
    refine ⟨(hp u hu).1, fun s hs => ?_⟩
    rw [h3 s hs]
    exact (hp u hu).2 s hs
theorem z_DS_WS {t : Nat} {v1 : z_VS} {sc1 tt1 : Nat → List Nat} {tb1 : Nat → z_TB} {wa1 : Nat → Int32} (hd : z_DS en v sc tt tb T wa t v1 sc1 tt1 tb1 wa1) (hw : z_WS en sc tt tb T) : z_WS en sc1 tt1 tb1 T := by
  have h1 := z_DS_P hd (P := z_rs en) List.Pairwise.nil (fun u hu => ⟨(hw.1 u hu).1, fun s hs => ((hw.1 u hu).2 s hs).1⟩)
  refine ⟨fun u hu => ⟨(h1 u hu).1, fun s hs => ⟨(h1 u hu).2 s hs, ?_⟩⟩, by rw [z_DS_tot hd]; exact hw.2⟩
  obtain ⟨g1, g2, g3⟩ := z_DS_src hd u hu
  by_cases hut : u = t
  · subst hut
    obtain ⟨y1, y2⟩ := z_DS_t hd hu
    have hm : sc1 s ∈ (tt1 u).map sc1 := List.mem_map.mpr ⟨s, hs, rfl⟩
    rw [y2] at hm
    rcases List.mem_append.mp hm with q | q
    · obtain ⟨z, hz, e⟩ := List.mem_map.mp q
      rw [← e]
      exact ((hw.1 u hu).2 z hz).2
    · split at q
      · exact absurd q List.not_mem_nil
      · rename_i hn
        rw [List.mem_singleton.mp q]
        exact hn
  · rw [(g1 hut).1] at hs
    rw [g3 s hs]
    exact ((hw.1 u hu).2 s hs).2
theorem z_DS_WV {t : Nat} {v1 : z_VS} {sc1 tt1 : Nat → List Nat} {tb1 : Nat → z_TB} {wa1 : Nat → Int32} (hd : z_DS en v sc tt tb T wa t v1 sc1 tt1 tb1 wa1) (hv : z_WV en sc tt tb T) : z_WV en sc1 tt1 tb1 T :=
  z_DS_P hd (P := fun l => ∀ a ∈ l, z_va (en a)) (fun a ha => absurd ha List.not_mem_nil) hv
theorem c_drainS {t : Nat} (hI : z_I G h o K v La en sc tt tb T B R nu ag wa) (ht : t ∈ T) (hb : ∀ a ∈ sc (bM (tb t)), 0 ≤ (eB (en a)).toInt ∧ (eB (en a)).toInt < 513) (hlen : (sc (bM (tb t))).length ≤ 255) (htl : (tt t).length ≤ 300) : z_C G A m_TC_drain 1010 6600 [.ref o, .ref t] h (fun val h' k n => val = some (.int (nI (sc (bM (tb t))).length)) ∧ (∃ v1 sc1 tt1 tb1 wa1 La1, z_DS en v sc tt tb T wa t v1 sc1 tt1 tb1 wa1 ∧ z_I G h' o K v1 La1 en sc1 tt1 tb1 T B R nu ag wa1 ∧ z_ct (z_Phi La (z_lst K tb T)) (z_Phi La1 (z_lst K tb1 T)) k n 1004 4300) ∧ z_fx G K h h' ∧ k ≤ 1010 ∧ n ≤ 4300) := by
  refine (c_drain hI ht hb hlen htl).mono (fun _ val h' k n _ hp => ?_)
  obtain ⟨e1, ⟨e2, e3⟩, e4, e5, e6⟩ := hp
  refine ⟨e1, ?_, e4, e5, e6⟩
  by_cases h0 : sc (bM (tb t)) = []
  · obtain ⟨rfl, rfl, rfl⟩ := e2 h0
    exact ⟨v, sc, tt, tb, wa, La, Or.inl ⟨h0, rfl, rfl, rfl, rfl, rfl⟩, hI, by omega, by omega⟩
  · obtain ⟨s, m, al, La', f1, f2, f3, f4, f5⟩ := e3 h0
    exact ⟨_, _, _, _, _, La', Or.inr ⟨h0, s, m, al, f1, f2, f3, rfl, rfl, rfl, rfl, rfl⟩, f4, f5⟩
/-- where a tablet is asked for: none -/
def z_out (T : List Nat) (i : Int32) : Prop := i < 0 ∨ nI T.length ≤ i
theorem c_flushN {i : Int32} (hI : z_I G h o K v La en sc tt tb T B R nu ag wa) (hi : z_out T i) : z_C G A m_TC_flush 1010 6600 [.ref o, .int i] h (z_pu (some (.int (-1))) h) := by
  obtain ⟨⟨d1, c1, l1, m1⟩, -⟩ := hI.2.2.1
  have ho := hI.2.1.1
  refine z_C.of (by decide +kernel) rfl (Nat.le_of_ble_eq_true rfl) ?_
  intro x X
  refine z_aload_n (pc' := 1) X d_TC_flush_0 rfl rfl ?_
  refine z_iload_n (pc' := 2) X d_TC_flush_1 rfl rfl ?_
  refine z_callV X (c_tabletAtN hI.1 ho l1 hi) k_TC_245 d_TC_flush_2 (by assumption) (show classes[0]? = some _ from rfl) rfl rfl rfl (by decide) (Nat.le_of_ble_eq_true rfl) ⟨by omega, by omega⟩ (z_kp ?_)
  refine z_astore_nN (pc' := 6) X d_TC_flush_5 rfl rfl rfl ?_
  refine z_aload_nN (pc' := 7) X d_TC_flush_6 rfl rfl ?_
  refine z_ifnonnullN (pc' := 10) X d_TC_flush_7 rfl ?_
  refine z_iconst (pc' := 11) (v := (-1)) X d_TC_flush_10 (by decide) rfl ?_
  refine z_goto (pc' := 19) X d_TC_flush_11 (by decide) ?_
  exact z_iret X rfl d_TC_flush_19 (⟨rfl, rfl, rfl, rfl⟩)
theorem c_flush {i t : Nat} (hI : z_I G h o K v La en sc tt tb T B R nu ag wa) (hi : T[i]? = some t) (hb : ∀ a ∈ sc (bM (tb t)), 0 ≤ (eB (en a)).toInt ∧ (eB (en a)).toInt < 513) (hw : z_WS en sc tt tb T) : z_C G A m_TC_flush 1010 6600 [.ref o, .int (nI i)] h (fun val h' k n => val = some (.int (nI (sc (bM (tb t))).length)) ∧ (∃ v1 sc1 tt1 tb1 wa1 La1, z_DS en v sc tt tb T wa t v1 sc1 tt1 tb1 wa1 ∧ z_I G h' o K v1 La1 en sc1 tt1 tb1 T B R nu ag wa1 ∧ z_ct (z_Phi La (z_lst K tb T)) (z_Phi La1 (z_lst K tb1 T)) k n 1004 4300) ∧ z_fx G K h h' ∧ k ≤ 1010 ∧ n ≤ 4300) := by
  obtain ⟨⟨d1, c1, l1, m1⟩, -⟩ := hI.2.2.1
  have ho := hI.2.1.1
  have ht := List.mem_of_getElem? hi
  have hto := (hI.2.2.2.1 t ht).1
  have w := z_WS_t hw ht
  refine z_C.of (by decide +kernel) rfl (Nat.le_of_ble_eq_true rfl) ?_
  intro x X
  refine z_aload_n (pc' := 1) X d_TC_flush_0 rfl rfl ?_
  refine z_iload_n (pc' := 2) X d_TC_flush_1 rfl rfl ?_
  refine z_callV X (c_tabletAt hI.1 ho l1 hi hto) k_TC_245 d_TC_flush_2 (by assumption) (show classes[0]? = some _ from rfl) rfl rfl rfl (by decide) (Nat.le_of_ble_eq_true rfl) ⟨by omega, by omega⟩ (z_kp ?_)
  refine z_astore_n (pc' := 6) X d_TC_flush_5 rfl rfl rfl ?_
  refine z_aload_n (pc' := 7) X d_TC_flush_6 rfl rfl ?_
  refine z_ifnonnullR (pc' := 14) X d_TC_flush_7 (by decide) ?_
  refine z_aload_n (pc' := 15) X d_TC_flush_14 rfl rfl ?_
  refine z_aload_n (pc' := 16) X d_TC_flush_15 rfl rfl ?_
  refine z_callV X (c_drainS hI ht hb w.2.2.1 (by omega)) k_TC_204 d_TC_flush_16 (by assumption) (show classes[0]? = some _ from rfl) rfl rfl rfl (by decide) (Nat.le_of_ble_eq_true rfl) ⟨by omega, by omega⟩ (fun v_16 h_16 k_16 n_16 p_16 => ?_)
  obtain ⟨rfl, ⟨v1, sc1, tt1, tb1, wa1, La1, r1, r2, r3⟩, r4, r5, r6⟩ := p_16
  have r31 := r3.1
  have r32 := r3.2
  exact z_iret X rfl d_TC_flush_19 ⟨rfl, ⟨v1, sc1, tt1, tb1, wa1, La1, r1, r2, ⟨by omega, by omega⟩⟩, r4, by omega, by omega⟩
theorem c_compactN {i k : Int32} (hI : z_I G h o K v La en sc tt tb T B R nu ag wa) (hi : z_out T i) : z_C G A m_TC_compact 5000 30000 [.ref o, .int i, .int k] h (z_pu (some (.int (-1))) h) := by
  obtain ⟨⟨d1, c1, l1, m1⟩, -⟩ := hI.2.2.1
  have ho := hI.2.1.1
  refine z_C.of (by decide +kernel) rfl (Nat.le_of_ble_eq_true rfl) ?_
  intro x X
  refine z_aload_n (pc' := 1) X d_TC_compact_0 rfl rfl ?_
  refine z_iload_n (pc' := 2) X d_TC_compact_1 rfl rfl ?_
  refine z_callV X (c_tabletAtN hI.1 ho l1 hi) k_TC_245 d_TC_compact_2 (by assumption) (show classes[0]? = some _ from rfl) rfl rfl rfl (by decide) (Nat.le_of_ble_eq_true rfl) ⟨by omega, by omega⟩ (z_kp ?_)
  refine z_astore_nN (pc' := 6) X d_TC_compact_5 rfl rfl rfl ?_
  refine z_aload_nN (pc' := 7) X d_TC_compact_6 rfl rfl ?_
  refine z_ifnullN (pc' := 26) X d_TC_compact_7 (by decide) ?_
  refine z_iconst (pc' := 27) (v := (-1)) X d_TC_compact_26 (by decide) rfl ?_
  refine z_goto (pc' := 37) X d_TC_compact_27 (by decide) ?_
  exact z_iret X rfl d_TC_compact_37 (⟨rfl, rfl, rfl, rfl⟩)
theorem c_compactB {i t : Nat} {k : Int32} (hI : z_I G h o K v La en sc tt tb T B R nu ag wa) (hi : T[i]? = some t) (hk : k < 2 ∨ nI (tt t).length < k) : z_C G A m_TC_compact 5000 30000 [.ref o, .int (nI i), .int k] h (z_pu (some (.int (-1))) h) := by
  obtain ⟨⟨d1, c1, l1, m1⟩, -⟩ := hI.2.2.1
  have ho := hI.2.1.1
  have ht := List.mem_of_getElem? hi
  have hto := (hI.2.2.2.1 t ht).1
  obtain ⟨-, ⟨db, cb, lb, mb⟩⟩ := hI.2.2.1.2.2.2.2.2.2.1 t ht
  obtain ⟨fs, g1⟩ := P_ob hI.1 lb
  refine z_C.of (by decide +kernel) rfl (Nat.le_of_ble_eq_true rfl) ?_
  intro x X
  refine z_aload_n (pc' := 1) X d_TC_compact_0 rfl rfl ?_
  refine z_iload_n (pc' := 2) X d_TC_compact_1 rfl rfl ?_
  refine z_callV X (c_tabletAt hI.1 ho l1 hi hto) k_TC_245 d_TC_compact_2 (by assumption) (show classes[0]? = some _ from rfl) rfl rfl rfl (by decide) (Nat.le_of_ble_eq_true rfl) ⟨by omega, by omega⟩ (z_kp ?_)
  refine z_astore_n (pc' := 6) X d_TC_compact_5 rfl rfl rfl ?_
  refine z_aload_n (pc' := 7) X d_TC_compact_6 rfl rfl ?_
  refine z_ifnullR (pc' := 10) X d_TC_compact_7 rfl ?_
  refine z_iload_n (pc' := 11) X d_TC_compact_10 rfl rfl ?_
  refine z_iconst (pc' := 12) (v := 2) X d_TC_compact_11 (by decide) rfl ?_
  refine z_icmp_lt (tgt := 26) (pc' := 15) X d_TC_compact_12 (by decide) rfl (fun c_12 => ?_) (fun c_12 => ?_)
  · refine z_iconst (pc' := 27) (v := (-1)) X d_TC_compact_26 (by decide) rfl ?_
    refine z_goto (pc' := 37) X d_TC_compact_27 (by decide) ?_
    exact z_iret X rfl d_TC_compact_37 (⟨rfl, rfl, rfl, rfl⟩)
  · refine z_iload_n (pc' := 16) X d_TC_compact_15 rfl rfl ?_
    refine z_aload_n (pc' := 17) X d_TC_compact_16 rfl rfl ?_
    refine z_get (pc' := 20) X 3 f_TC_114 d_TC_compact_17 (by assumption) rfl rfl ?_
    refine z_callV X (P_size hI.1 lb) k_TC_79 d_TC_compact_20 (by assumption) (show classes[6]? = some _ from rfl) rfl rfl rfl (by decide) (Nat.le_of_ble_eq_true rfl) ⟨by omega, by omega⟩ (z_kp ?_)
    refine z_icmp_le (tgt := 30) (pc' := 26) X d_TC_compact_23 (by decide) rfl (fun c_23 => ?_) (fun c_23 => ?_)
    · rcases hk with hk | hk
      · exact absurd hk c_12
      · exact absurd hk (Int32.not_lt.mpr c_23)
    · refine z_iconst (pc' := 27) (v := (-1)) X d_TC_compact_26 (by decide) rfl ?_
      refine z_goto (pc' := 37) X d_TC_compact_27 (by decide) ?_
      exact z_iret X rfl d_TC_compact_37 (⟨rfl, rfl, rfl, rfl⟩)
theorem c_compact {i t m : Nat} (hI : z_I G h o K v La en sc tt tb T B R nu ag wa) (hi : T[i]? = some t) (hw : z_WS en sc tt tb T) (hv : z_WV en sc tt tb T) (h2 : 2 ≤ m) (hm : m ≤ (tt t).length) : z_C G A m_TC_compact 5000 30000 [.ref o, .int (nI i), .int (nI m)] h (fun val h' k n => val = some (.int (nI (z_un en sc ag (vCk v) 0 ((tt t).drop ((tt t).length - m))).length)) ∧ (∃ sc1 tt1 La1, z_US en v sc tt tb T ag t ((tt t).length - m) 0 sc1 tt1 ∧ z_I G h' o K v La1 en sc1 tt1 tb T B R nu ag wa ∧ z_ct (z_Phi La (z_lst K tb T)) (z_Phi La1 (z_lst K tb T)) k n 2 300) ∧ z_fx G K h h' ∧ k ≤ 4500 ∧ n ≤ 18500) := by
  obtain ⟨⟨d1, c1, l1, m1⟩, -⟩ := hI.2.2.1
  have ho := hI.2.1.1
  have ht := List.mem_of_getElem? hi
  have hto := (hI.2.2.2.1 t ht).1
  obtain ⟨-, ⟨db, cb, lb, mb⟩⟩ := hI.2.2.1.2.2.2.2.2.2.1 t ht
  obtain ⟨fs, g1⟩ := P_ob hI.1 lb
  have hlt := P_lt hI.1 lb
  refine z_C.of (by decide +kernel) rfl (Nat.le_of_ble_eq_true rfl) ?_
  intro x X
  refine z_aload_n (pc' := 1) X d_TC_compact_0 rfl rfl ?_
  refine z_iload_n (pc' := 2) X d_TC_compact_1 rfl rfl ?_
  refine z_callV X (c_tabletAt hI.1 ho l1 hi hto) k_TC_245 d_TC_compact_2 (by assumption) (show classes[0]? = some _ from rfl) rfl rfl rfl (by decide) (Nat.le_of_ble_eq_true rfl) ⟨by omega, by omega⟩ (z_kp ?_)
  refine z_astore_n (pc' := 6) X d_TC_compact_5 rfl rfl rfl ?_
  refine z_aload_n (pc' := 7) X d_TC_compact_6 rfl rfl ?_
  refine z_ifnullR (pc' := 10) X d_TC_compact_7 rfl ?_
  refine z_iload_n (pc' := 11) X d_TC_compact_10 rfl rfl ?_
  refine z_iconst (pc' := 12) (v := 2) X d_TC_compact_11 (by decide) rfl ?_
  refine z_icmp_lt (tgt := 26) (pc' := 15) X d_TC_compact_12 (by decide) rfl (fun c_12 => ?_) (fun c_12 => ?_)
  · exact absurd c_12 (Int32.not_lt.mpr (nI_le (a := 2) h2 (by omega)))
  · refine z_iload_n (pc' := 16) X d_TC_compact_15 rfl rfl ?_
    refine z_aload_n (pc' := 17) X d_TC_compact_16 rfl rfl ?_
    refine z_get (pc' := 20) X 3 f_TC_114 d_TC_compact_17 (by assumption) rfl rfl ?_
    refine z_callV X (P_size hI.1 lb) k_TC_79 d_TC_compact_20 (by assumption) (show classes[6]? = some _ from rfl) rfl rfl rfl (by decide) (Nat.le_of_ble_eq_true rfl) ⟨by omega, by omega⟩ (z_kp ?_)
    refine z_icmp_le (tgt := 30) (pc' := 26) X d_TC_compact_23 (by decide) rfl (fun c_23 => ?_) (fun c_23 => ?_)
    · refine z_aload_n (pc' := 31) X d_TC_compact_30 rfl rfl ?_
      refine z_aload_n (pc' := 32) X d_TC_compact_31 rfl rfl ?_
      refine z_iload_n (pc' := 33) X d_TC_compact_32 rfl rfl ?_
      refine z_iconst (pc' := 34) (v := 0) X d_TC_compact_33 (by decide) rfl ?_
      refine z_callV X (c_unite (co := 0) (Or.inl rfl) hI ht hw hv hm) k_TC_251 d_TC_compact_34 (by assumption) (show classes[0]? = some _ from rfl) rfl rfl rfl (by decide) (Nat.le_of_ble_eq_true rfl) ⟨by omega, by omega⟩ (fun v_34 h_34 k_34 n_34 p_34 => ?_)
      obtain ⟨rfl, ⟨s, La', f1, f2, f3, f4⟩, r5, r6⟩ := p_34
      have r31 := f4.1
      have r32 := f4.2
      exact z_iret X rfl d_TC_compact_37 ⟨rfl, ⟨_, _, La', ⟨s, f1, rfl, rfl⟩, f2, ⟨by omega, by omega⟩⟩, f3, by omega, by omega⟩
    · exact absurd (nI_le hm (by omega)) c_23
theorem c_majorN {i : Int32} (hI : z_I G h o K v La en sc tt tb T B R nu ag wa) (hi : z_out T i) : z_C G A m_TC_major 7000 40000 [.ref o, .int i] h (z_pu (some (.int (-1))) h) := by
  obtain ⟨⟨d1, c1, l1, m1⟩, -⟩ := hI.2.2.1
  have ho := hI.2.1.1
  refine z_C.of (by decide +kernel) rfl (Nat.le_of_ble_eq_true rfl) ?_
  intro x X
  refine z_aload_n (pc' := 1) X d_TC_major_0 rfl rfl ?_
  refine z_iload_n (pc' := 2) X d_TC_major_1 rfl rfl ?_
  refine z_callV X (c_tabletAtN hI.1 ho l1 hi) k_TC_245 d_TC_major_2 (by assumption) (show classes[0]? = some _ from rfl) rfl rfl rfl (by decide) (Nat.le_of_ble_eq_true rfl) ⟨by omega, by omega⟩ (z_kp ?_)
  refine z_astore_nN (pc' := 6) X d_TC_major_5 rfl rfl rfl ?_
  refine z_aload_nN (pc' := 7) X d_TC_major_6 rfl rfl ?_
  refine z_ifnonnullN (pc' := 10) X d_TC_major_7 rfl ?_
  refine z_iconst (pc' := 11) (v := (-1)) X d_TC_major_10 (by decide) rfl ?_
  exact z_iret X rfl d_TC_major_11 (⟨rfl, rfl, rfl, rfl⟩)
theorem c_major {i t : Nat} (hI : z_I G h o K v La en sc tt tb T B R nu ag wa) (hi : T[i]? = some t) (hb : ∀ a ∈ sc (bM (tb t)), 0 ≤ (eB (en a)).toInt ∧ (eB (en a)).toInt < 513) (hw : z_WS en sc tt tb T) (hv : z_WV en sc tt tb T) : z_C G A m_TC_major 7000 40000 [.ref o, .int (nI i)] h (fun val h' k n => (∃ v1 sc1 tt1 tb1 wa1 sc2 tt2 La2, z_DS en v sc tt tb T wa t v1 sc1 tt1 tb1 wa1 ∧ z_US en v1 sc1 tt1 tb1 T ag t 0 1 sc2 tt2 ∧ val = some (.int (nI (z_un en sc1 ag (vCk v1) 1 (tt1 t)).length)) ∧ z_I G h' o K v1 La2 en sc2 tt2 tb1 T B R nu ag wa1 ∧ z_ct (z_Phi La (z_lst K tb T)) (z_Phi La2 (z_lst K tb1 T)) k n 1006 4600) ∧ z_fx G K h h' ∧ k ≤ 6000 ∧ n ≤ 23000) := by
  obtain ⟨⟨d1, c1, l1, m1⟩, -⟩ := hI.2.2.1
  have ho := hI.2.1.1
  have ht := List.mem_of_getElem? hi
  have hto := (hI.2.2.2.1 t ht).1
  have w := z_WS_t hw ht
  refine z_C.of (by decide +kernel) rfl (Nat.le_of_ble_eq_true rfl) ?_
  intro x X
  refine z_aload_n (pc' := 1) X d_TC_major_0 rfl rfl ?_
  refine z_iload_n (pc' := 2) X d_TC_major_1 rfl rfl ?_
  refine z_callV X (c_tabletAt hI.1 ho l1 hi hto) k_TC_245 d_TC_major_2 (by assumption) (show classes[0]? = some _ from rfl) rfl rfl rfl (by decide) (Nat.le_of_ble_eq_true rfl) ⟨by omega, by omega⟩ (z_kp ?_)
  refine z_astore_n (pc' := 6) X d_TC_major_5 rfl rfl rfl ?_
  refine z_aload_n (pc' := 7) X d_TC_major_6 rfl rfl ?_
  refine z_ifnonnullR (pc' := 12) X d_TC_major_7 (by decide) ?_
  refine z_aload_n (pc' := 13) X d_TC_major_12 rfl rfl ?_
  refine z_aload_n (pc' := 14) X d_TC_major_13 rfl rfl ?_
  refine z_callV X (c_drainS hI ht hb w.2.2.1 (by omega)) k_TC_204 d_TC_major_14 (by assumption) (show classes[0]? = some _ from rfl) rfl rfl rfl (by decide) (Nat.le_of_ble_eq_true rfl) ⟨by omega, by omega⟩ (fun v_14 h_14 k_14 n_14 p_14 => ?_)
  obtain ⟨rfl, ⟨v1, sc1, tt1, tb1, wa1, La1, r1, r2, r3⟩, r4, r5, r6⟩ := p_14
  have r31 := r3.1
  have r32 := r3.2
  have ho1 := r2.2.1.1
  have hto1 := (r2.2.2.2.1 t ht).1
  obtain ⟨-, ⟨db, cb, lb, mb⟩⟩ := r2.2.2.1.2.2.2.2.2.2.1 t ht
  obtain ⟨fs, g1⟩ := P_ob r2.1 lb
  refine z_pop (pc' := 18) X d_TC_major_17 rfl rfl ?_
  refine z_aload_n (pc' := 19) X d_TC_major_18 rfl rfl ?_
  refine z_aload_n (pc' := 20) X d_TC_major_19 rfl rfl ?_
  refine z_aload_n (pc' := 21) X d_TC_major_20 rfl rfl ?_
  refine z_get (pc' := 24) X 3 f_TC_114 d_TC_major_21 (by assumption) rfl rfl ?_
  refine z_callV X (P_size r2.1 lb) k_TC_79 d_TC_major_24 (by assumption) (show classes[6]? = some _ from rfl) rfl rfl rfl (by decide) (Nat.le_of_ble_eq_true rfl) ⟨by omega, by omega⟩ (z_kp ?_)
  refine z_iconst (pc' := 28) (v := 1) X d_TC_major_27 (by decide) rfl ?_
  refine z_callV X (c_unite (co := 1) (Or.inr rfl) r2 ht (z_DS_WS r1 hw) (z_DS_WV r1 hv) (Nat.le_refl _)) k_TC_251 d_TC_major_28 (by assumption) (show classes[0]? = some _ from rfl) rfl rfl rfl (by decide) (Nat.le_of_ble_eq_true rfl) ⟨by omega, by omega⟩ (fun v_28 h_28 k_28 n_28 p_28 => ?_)
  obtain ⟨e0, ⟨s, La', f1, f2, f3, f4⟩, s5, s6⟩ := p_28
  rw [Nat.sub_self] at f2
  rw [Nat.sub_self, List.drop_zero] at e0
  subst e0
  have f41 := f4.1
  have f42 := f4.2
  exact z_iret X rfl d_TC_major_31 ⟨⟨v1, sc1, tt1, tb1, wa1, _, _, La', r1, ⟨s, f1, rfl, rfl⟩, rfl, f2, ⟨by omega, by omega⟩⟩, z_fx_tr r4 f3, by omega, by omega⟩
/-- what tablet tells -/
def z_tbl (sc tt : Nat → List Nat) (tb : Nat → z_TB) (t : Nat) (w : Int32) : Int32 := if w = 0 then bF (tb t) else if w = 1 then bL (tb t) else if w = 2 then nI (tt t).length else if w = 3 then nI (sc (bM (tb t))).length else -1
theorem z_sw4 (w : Int32) : w = 0 ∨ w = 1 ∨ w = 2 ∨ w = 3 ∨ ((w.toInt < 0 ∨ 3 < w.toInt) ∧ w ≠ 0 ∧ w ≠ 1 ∧ w ≠ 2 ∧ w ≠ 3) := by
  by_cases h0 : w = 0
  · exact Or.inl h0
  · by_cases h1 : w = 1
    · exact Or.inr (Or.inl h1)
    · by_cases h2 : w = 2
      · exact Or.inr (Or.inr (Or.inl h2))
      · by_cases h3 : w = 3
        · exact Or.inr (Or.inr (Or.inr (Or.inl h3)))
        · refine Or.inr (Or.inr (Or.inr (Or.inr ⟨?_, h0, h1, h2, h3⟩)))
          have k : ∀ q : Int32, w ≠ q → w.toInt ≠ q.toInt := fun q hq e => hq (Int32.toInt_inj.mp e)
          have k0 := k 0 h0
          have k1 := k 1 h1
          have k2 := k 2 h2
          have k3 := k 3 h3
          have e0 : (0 : Int32).toInt = 0 := by decide
          have e1 : (1 : Int32).toInt = 1 := by decide
          have e2 : (2 : Int32).toInt = 2 := by decide
          have e3 : (3 : Int32).toInt = 3 := by decide
          omega
theorem c_tabletN {i w : Int32} (hI : z_I G h o K v La en sc tt tb T B R nu ag wa) (hi : z_out T i) : z_C G A m_TC_tablet 0 0 [.ref o, .int i, .int w] h (z_pu (some (.int (-1))) h) := by
  obtain ⟨⟨d1, c1, l1, m1⟩, -⟩ := hI.2.2.1
  have ho := hI.2.1.1
  refine z_C.of (by decide +kernel) rfl (Nat.le_of_ble_eq_true rfl) ?_
  intro x X
  refine z_aload_n (pc' := 1) X d_TC_tablet_0 rfl rfl ?_
  refine z_iload_n (pc' := 2) X d_TC_tablet_1 rfl rfl ?_
  refine z_callV X (c_tabletAtN hI.1 ho l1 hi) k_TC_245 d_TC_tablet_2 (by assumption) (show classes[0]? = some _ from rfl) rfl rfl rfl (by decide) (Nat.le_of_ble_eq_true rfl) ⟨by omega, by omega⟩ (z_kp ?_)
  refine z_astore_nN (pc' := 6) X d_TC_tablet_5 rfl rfl rfl ?_
  refine z_aload_nN (pc' := 7) X d_TC_tablet_6 rfl rfl ?_
  refine z_ifnonnullN (pc' := 10) X d_TC_tablet_7 rfl ?_
  refine z_iconst (pc' := 11) (v := (-1)) X d_TC_tablet_10 (by decide) rfl ?_
  exact z_iret X rfl d_TC_tablet_11 (⟨rfl, rfl, rfl, rfl⟩)
theorem c_tablet {i t : Nat} {w : Int32} (hI : z_I G h o K v La en sc tt tb T B R nu ag wa) (hi : T[i]? = some t) : z_C G A m_TC_tablet 0 0 [.ref o, .int (nI i), .int w] h (z_pu (some (.int (z_tbl sc tt tb t w))) h) := by
  obtain ⟨⟨d1, c1, l1, m1⟩, -⟩ := hI.2.2.1
  have ho := hI.2.1.1
  have ht := List.mem_of_getElem? hi
  obtain ⟨hto, hmo, -, -⟩ := hI.2.2.2.1 t ht
  obtain ⟨⟨da, ca, la, ma⟩, ⟨db, cb, lb, mb⟩⟩ := hI.2.2.1.2.2.2.2.2.2.1 t ht
  obtain ⟨fs, g1⟩ := P_ob hI.1 lb
  refine z_C.of (by decide +kernel) rfl (Nat.le_of_ble_eq_true rfl) ?_
  intro x X
  refine z_aload_n (pc' := 1) X d_TC_tablet_0 rfl rfl ?_
  refine z_iload_n (pc' := 2) X d_TC_tablet_1 rfl rfl ?_
  refine z_callV X (c_tabletAt hI.1 ho l1 hi hto) k_TC_245 d_TC_tablet_2 (by assumption) (show classes[0]? = some _ from rfl) rfl rfl rfl (by decide) (Nat.le_of_ble_eq_true rfl) ⟨by omega, by omega⟩ (z_kp ?_)
  refine z_astore_n (pc' := 6) X d_TC_tablet_5 rfl rfl rfl ?_
  refine z_aload_n (pc' := 7) X d_TC_tablet_6 rfl rfl ?_
  refine z_ifnonnullR (pc' := 12) X d_TC_tablet_7 (by decide) ?_
  refine z_iload_n (pc' := 13) X d_TC_tablet_12 rfl rfl ?_
  rcases z_sw4 w with rfl | rfl | rfl | rfl | ⟨hw, w0, w1, w2, w3⟩
  · refine z_tabIn (pc' := 44) X d_TC_tablet_13 (by decide) (by decide) (show #[31, 36, 41, 49][((0 : Int32).toInt - 0).toNat]? = some 31 from by decide) (by decide) ?_
    refine z_aload_n (pc' := 45) X d_TC_tablet_44 rfl rfl ?_
    refine z_get (pc' := 48) X 0 f_TC_261 d_TC_tablet_45 (by assumption) rfl rfl ?_
    exact z_iret X rfl d_TC_tablet_48 (⟨rfl, rfl, rfl, rfl⟩)
  · refine z_tabIn (pc' := 49) X d_TC_tablet_13 (by decide) (by decide) (show #[31, 36, 41, 49][((1 : Int32).toInt - 0).toNat]? = some 36 from by decide) (by decide) ?_
    refine z_aload_n (pc' := 50) X d_TC_tablet_49 rfl rfl ?_
    refine z_get (pc' := 53) X 1 f_TC_84 d_TC_tablet_50 (by assumption) rfl rfl ?_
    exact z_iret X rfl d_TC_tablet_53 (⟨rfl, rfl, rfl, rfl⟩)
  · refine z_tabIn (pc' := 54) X d_TC_tablet_13 (by decide) (by decide) (show #[31, 36, 41, 49][((2 : Int32).toInt - 0).toNat]? = some 41 from by decide) (by decide) ?_
    refine z_aload_n (pc' := 55) X d_TC_tablet_54 rfl rfl ?_
    refine z_get (pc' := 58) X 3 f_TC_114 d_TC_tablet_55 (by assumption) rfl rfl ?_
    refine z_callV X (P_size hI.1 lb) k_TC_79 d_TC_tablet_58 (by assumption) (show classes[6]? = some _ from rfl) rfl rfl rfl (by decide) (Nat.le_of_ble_eq_true rfl) ⟨by omega, by omega⟩ (z_kp ?_)
    exact z_iret X rfl d_TC_tablet_61 (⟨rfl, rfl, rfl, rfl⟩)
  · refine z_tabIn (pc' := 62) X d_TC_tablet_13 (by decide) (by decide) (show #[31, 36, 41, 49][((3 : Int32).toInt - 0).toNat]? = some 49 from by decide) (by decide) ?_
    refine z_aload_n (pc' := 63) X d_TC_tablet_62 rfl rfl ?_
    refine z_get (pc' := 66) X 2 f_TC_107 d_TC_tablet_63 (by assumption) rfl rfl ?_
    refine z_callV X (c_Mt_size hI.1 hmo la) k_TC_203 d_TC_tablet_66 (by assumption) (show classes[3]? = some _ from rfl) rfl rfl rfl (by decide) (Nat.le_of_ble_eq_true rfl) ⟨by omega, by omega⟩ (z_kp ?_)
    exact z_iret X rfl d_TC_tablet_69 (⟨rfl, rfl, rfl, rfl⟩)
  · refine z_tabOut (pc' := 70) X d_TC_tablet_13 hw (by decide) ?_
    refine z_iconst (pc' := 71) (v := (-1)) X d_TC_tablet_70 (by decide) rfl ?_
    exact z_iret X rfl d_TC_tablet_71 (⟨by unfold z_tbl; rw [if_neg w0, if_neg w1, if_neg w2, if_neg w3], rfl, rfl, rfl⟩)
def z_tbe (en : Nat → z_E7) (es : List Nat) (w : Int32) : Int32 := if w = 0 then nI es.length else if w = 1 then nI (z_era en es) else if w = 2 then nI ((es.length + 3) / 4) else if w = 3 then eR (en (es.getD 0 0)) else -1
theorem c_tableN {i k w : Int32} (hI : z_I G h o K v La en sc tt tb T B R nu ag wa) (hi : z_out T i) : z_C G A m_TC_table 0 0 [.ref o, .int i, .int k, .int w] h (z_pu (some (.int (-1))) h) := by
  obtain ⟨⟨d1, c1, l1, m1⟩, -⟩ := hI.2.2.1
  have ho := hI.2.1.1
  refine z_C.of (by decide +kernel) rfl (Nat.le_of_ble_eq_true rfl) ?_
  intro x X
  refine z_aload_n (pc' := 1) X d_TC_table_0 rfl rfl ?_
  refine z_iload_n (pc' := 2) X d_TC_table_1 rfl rfl ?_
  refine z_callV X (c_tabletAtN hI.1 ho l1 hi) k_TC_245 d_TC_table_2 (by assumption) (show classes[0]? = some _ from rfl) rfl rfl rfl (by decide) (Nat.le_of_ble_eq_true rfl) ⟨by omega, by omega⟩ (z_kp ?_)
  refine z_astoreN (pc' := 7) X d_TC_table_5 rfl rfl rfl ?_
  refine z_aloadN (pc' := 9) X d_TC_table_7 rfl rfl ?_
  refine z_ifnullN (pc' := 28) X d_TC_table_9 (by decide) ?_
  refine z_iconst (pc' := 29) (v := (-1)) X d_TC_table_28 (by decide) rfl ?_
  exact z_iret X rfl d_TC_table_29 (⟨rfl, rfl, rfl, rfl⟩)
theorem c_tableB {i t : Nat} {k w : Int32} (hI : z_I G h o K v La en sc tt tb T B R nu ag wa) (hi : T[i]? = some t) (hk : z_out (tt t) k) : z_C G A m_TC_table 0 0 [.ref o, .int (nI i), .int k, .int w] h (z_pu (some (.int (-1))) h) := by
  obtain ⟨⟨d1, c1, l1, m1⟩, -⟩ := hI.2.2.1
  have ho := hI.2.1.1
  have ht := List.mem_of_getElem? hi
  obtain ⟨hto, hmo, -, -⟩ := hI.2.2.2.1 t ht
  obtain ⟨⟨da, ca, la, ma⟩, ⟨db, cb, lb, mb⟩⟩ := hI.2.2.1.2.2.2.2.2.2.1 t ht
  obtain ⟨fs, g1⟩ := P_ob hI.1 lb
  refine z_C.of (by decide +kernel) rfl (Nat.le_of_ble_eq_true rfl) ?_
  intro x X
  refine z_aload_n (pc' := 1) X d_TC_table_0 rfl rfl ?_
  refine z_iload_n (pc' := 2) X d_TC_table_1 rfl rfl ?_
  refine z_callV X (c_tabletAt hI.1 ho l1 hi hto) k_TC_245 d_TC_table_2 (by assumption) (show classes[0]? = some _ from rfl) rfl rfl rfl (by decide) (Nat.le_of_ble_eq_true rfl) ⟨by omega, by omega⟩ (z_kp ?_)
  refine z_astore (pc' := 7) X d_TC_table_5 rfl rfl rfl ?_
  refine z_aload (pc' := 9) X d_TC_table_7 rfl rfl ?_
  refine z_ifnullR (pc' := 12) X d_TC_table_9 rfl ?_
  refine z_iload_n (pc' := 13) X d_TC_table_12 rfl rfl ?_
  refine z_if_lt (tgt := 28) (pc' := 16) X d_TC_table_13 (by decide) rfl (fun c_13 => ?_) (fun c_13 => ?_)
  · refine z_iconst (pc' := 29) (v := (-1)) X d_TC_table_28 (by decide) rfl ?_
    exact z_iret X rfl d_TC_table_29 (⟨rfl, rfl, rfl, rfl⟩)
  · refine z_iload_n (pc' := 17) X d_TC_table_16 rfl rfl ?_
    refine z_aload (pc' := 19) X d_TC_table_17 rfl rfl ?_
    refine z_get (pc' := 22) X 3 f_TC_114 d_TC_table_19 (by assumption) rfl rfl ?_
    refine z_callV X (P_size hI.1 lb) k_TC_79 d_TC_table_22 (by assumption) (show classes[6]? = some _ from rfl) rfl rfl rfl (by decide) (Nat.le_of_ble_eq_true rfl) ⟨by omega, by omega⟩ (z_kp ?_)
    refine z_icmp_lt (tgt := 30) (pc' := 28) X d_TC_table_25 (by decide) rfl (fun c_25 => ?_) (fun c_25 => ?_)
    · rcases hk with hk | hk
      · exact absurd hk c_13
      · exact absurd hk (Int32.not_le.mpr c_25)
    · refine z_iconst (pc' := 29) (v := (-1)) X d_TC_table_28 (by decide) rfl ?_
      exact z_iret X rfl d_TC_table_29 (⟨rfl, rfl, rfl, rfl⟩)
theorem c_table {i t j s : Nat} {w : Int32} (hI : z_I G h o K v La en sc tt tb T B R nu ag wa) (hi : T[i]? = some t) (hj : (tt t)[j]? = some s) (hw : z_WS en sc tt tb T) : z_C G A m_TC_table 0 0 [.ref o, .int (nI i), .int (nI j), .int w] h (z_pu (some (.int (z_tbe en (sc s) w))) h) := by
  obtain ⟨⟨d1, c1, l1, m1⟩, -⟩ := hI.2.2.1
  have ho := hI.2.1.1
  have ht := List.mem_of_getElem? hi
  have hs := List.mem_of_getElem? hj
  have hwt := (z_WS_t hw ht).2.2.2 s hs
  have hne := ((hw.1 t ht).2 s hs).2
  have hpos : 0 < (sc s).length := List.length_pos_iff.mpr hne
  obtain ⟨hto, hmo, -, hts⟩ := hI.2.2.2.1 t ht
  obtain ⟨⟨arr, f, s1, s2, s3⟩, hse⟩ := hts s hs
  obtain ⟨⟨da, ca, la, ma⟩, ⟨db, cb, lb, mb⟩⟩ := hI.2.2.1.2.2.2.2.2.2.1 t ht
  obtain ⟨fs, g1⟩ := P_ob hI.1 lb
  have hlt := P_lt hI.1 lb
  have hjl : j < (tt t).length := (List.getElem?_eq_some_iff.mp hj).1
  have hg0 : (sc s)[0]? = some ((sc s).getD 0 0) := by
    rw [List.getD_eq_getElem?_getD, List.getElem?_eq_getElem hpos]
    rfl
  have hf0 : f 0 = some ((sc s).getD 0 0) := by rw [s3 0 hpos, hg0]
  have he0 := hse _ (List.mem_of_getElem? hg0)
  refine z_C.of (by decide +kernel) rfl (Nat.le_of_ble_eq_true rfl) ?_
  intro x X
  refine z_aload_n (pc' := 1) X d_TC_table_0 rfl rfl ?_
  refine z_iload_n (pc' := 2) X d_TC_table_1 rfl rfl ?_
  refine z_callV X (c_tabletAt hI.1 ho l1 hi hto) k_TC_245 d_TC_table_2 (by assumption) (show classes[0]? = some _ from rfl) rfl rfl rfl (by decide) (Nat.le_of_ble_eq_true rfl) ⟨by omega, by omega⟩ (z_kp ?_)
  refine z_astore (pc' := 7) X d_TC_table_5 rfl rfl rfl ?_
  refine z_aload (pc' := 9) X d_TC_table_7 rfl rfl ?_
  refine z_ifnullR (pc' := 12) X d_TC_table_9 rfl ?_
  refine z_iload_n (pc' := 13) X d_TC_table_12 rfl rfl ?_
  refine z_if_lt (tgt := 28) (pc' := 16) X d_TC_table_13 (by decide) rfl (fun c_13 => ?_) (fun c_13 => ?_)
  · exact absurd c_13 (nI_pos (by omega))
  · refine z_iload_n (pc' := 17) X d_TC_table_16 rfl rfl ?_
    refine z_aload (pc' := 19) X d_TC_table_17 rfl rfl ?_
    refine z_get (pc' := 22) X 3 f_TC_114 d_TC_table_19 (by assumption) rfl rfl ?_
    refine z_callV X (P_size hI.1 lb) k_TC_79 d_TC_table_22 (by assumption) (show classes[6]? = some _ from rfl) rfl rfl rfl (by decide) (Nat.le_of_ble_eq_true rfl) ⟨by omega, by omega⟩ (z_kp ?_)
    refine z_icmp_lt (tgt := 30) (pc' := 28) X d_TC_table_25 (by decide) rfl (fun c_25 => ?_) (fun c_25 => ?_)
    · refine z_aload (pc' := 32) X d_TC_table_30 rfl rfl ?_
      refine z_get (pc' := 35) X 3 f_TC_114 d_TC_table_32 (by assumption) rfl rfl ?_
      refine z_iload_n (pc' := 36) X d_TC_table_35 rfl rfl ?_
      refine z_callV X (P_get hI.1 lb hj) k_TC_80 d_TC_table_36 (by assumption) (show classes[6]? = some _ from rfl) rfl rfl rfl (by decide) (Nat.le_of_ble_eq_true rfl) ⟨by omega, by omega⟩ (z_kp ?_)
      refine z_cast (pc' := 42) X cl_TC_214 ca_Table d_TC_table_39 (by assumption) rfl rfl ?_
      refine z_astore (pc' := 44) X d_TC_table_42 rfl rfl rfl ?_
      refine z_iload_n (pc' := 45) X d_TC_table_44 rfl rfl ?_
      rcases z_sw4 w with rfl | rfl | rfl | rfl | ⟨hw, w0, w1, w2, w3⟩
      · refine z_tabIn (pc' := 76) X d_TC_table_45 (by decide) (by decide) (show #[31, 37, 43, 49][((0 : Int32).toInt - 0).toNat]? = some 31 from by decide) (by decide) ?_
        refine z_aload (pc' := 78) X d_TC_table_76 rfl rfl ?_
        refine z_callV X (c_Ta_size s1 s2) k_TC_259 d_TC_table_78 (by assumption) (show classes[4]? = some _ from rfl) rfl rfl rfl (by decide) (Nat.le_of_ble_eq_true rfl) ⟨by omega, by omega⟩ (z_kp ?_)
        exact z_iret X rfl d_TC_table_81 (⟨rfl, rfl, rfl, rfl⟩)
      · refine z_tabIn (pc' := 82) X d_TC_table_45 (by decide) (by decide) (show #[31, 37, 43, 49][((1 : Int32).toInt - 0).toNat]? = some 37 from by decide) (by decide) ?_
        refine z_aload (pc' := 84) X d_TC_table_82 rfl rfl ?_
        refine z_get (pc' := 87) X 2 f_TC_275 d_TC_table_84 (by assumption) rfl rfl ?_
        exact z_iret X rfl d_TC_table_87 (⟨rfl, rfl, rfl, rfl⟩)
      · refine z_tabIn (pc' := 88) X d_TC_table_45 (by decide) (by decide) (show #[31, 37, 43, 49][((2 : Int32).toInt - 0).toNat]? = some 43 from by decide) (by decide) ?_
        refine z_aload (pc' := 90) X d_TC_table_88 rfl rfl ?_
        refine z_callV X (c_Ta_blocks s1 s2 (by omega)) k_TC_278 d_TC_table_90 (by assumption) (show classes[4]? = some _ from rfl) rfl rfl rfl (by decide) (Nat.le_of_ble_eq_true rfl) ⟨by omega, by omega⟩ (z_kp ?_)
        exact z_iret X rfl d_TC_table_93 (⟨rfl, rfl, rfl, rfl⟩)
      · refine z_tabIn (pc' := 94) X d_TC_table_45 (by decide) (by decide) (show #[31, 37, 43, 49][((3 : Int32).toInt - 0).toNat]? = some 49 from by decide) (by decide) ?_
        refine z_aload (pc' := 96) X d_TC_table_94 rfl rfl ?_
        refine z_iconst (pc' := 97) (v := 0) X d_TC_table_96 (by decide) rfl ?_
        refine z_callV X (c_Ta_at (i := 0) s1 s2 hpos (by omega) hf0) k_TC_260 d_TC_table_97 (by assumption) (show classes[4]? = some _ from rfl) rfl rfl rfl (by decide) (Nat.le_of_ble_eq_true rfl) ⟨by omega, by omega⟩ (z_kp ?_)
        refine z_get (pc' := 103) X 0 f_TC_11 d_TC_table_100 (by assumption) rfl rfl ?_
        exact z_iret X rfl d_TC_table_103 (⟨rfl, rfl, rfl, rfl⟩)
      · refine z_tabOut (pc' := 104) X d_TC_table_45 hw (by decide) ?_
        refine z_iconst (pc' := 105) (v := (-1)) X d_TC_table_104 (by decide) rfl ?_
        exact z_iret X rfl d_TC_table_105 (⟨by unfold z_tbe; rw [if_neg w0, if_neg w1, if_neg w2, if_neg w3], rfl, rfl, rfl⟩)
    · exact absurd (nI_lt hjl (by omega)) c_25
end FLU
