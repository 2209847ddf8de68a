/-! apply, when the expectation is met -/
section APQ
variable {G : z_G} {A : Nat → Prop} {h : z_H} {o : Nat} {K : z_KA} {v : z_VS} {La : z_LA} {en : Nat → z_E7} {sc tt : Nat → List Nat} {tb : Nat → z_TB} {T B R : List Nat} {nu ag wa : Nat → Int32}
theorem z_Wd_eu {a : Nat} {e : z_E7} {sq bs : Int32} (hd : z_Wd en sc tt tb T sq bs) (ha : a ∉ z_all sc tt tb T) : z_Wd (z_eu en a e) sc tt tb T sq bs := by
  refine ⟨fun t ht => ⟨z_srt_eu (fun q => ha (z_all_mem.mpr ⟨t, ht, Or.inl q⟩)) (hd.1 t ht).1, fun s hs => ⟨z_srt_eu (fun q => ha (z_all_mem.mpr ⟨t, ht, Or.inr ⟨s, hs, q⟩⟩)) ((hd.1 t ht).2 s hs).1, ((hd.1 t ht).2 s hs).2⟩⟩, fun c hc => ?_⟩
  rw [z_eu_n _ _ (z_mne ha hc)]
  exact hd.2 c hc
abbrev z_vb (v : z_VS) : z_VS := (vEx v, vSo v, vER v, vEC v, vEV v, vBs v + 1, vLg v + 1, vSq v, vCk v, vLk v, vTo v)
/-- drained when there are 16 or more -/
def z_D16 (en : Nat → z_E7) (v : z_VS) (sc tt : Nat → List Nat) (tb : Nat → z_TB) (T : List Nat) (wa : Nat → Int32) (t : Nat) (v1 : z_VS) (sc1 tt1 : Nat → List Nat) (tb1 : Nat → z_TB) (wa1 : Nat → Int32) : Prop :=
  (16 ≤ (sc (bM (tb t))).length ∧ z_DS en v sc tt tb T wa t v1 sc1 tt1 tb1 wa1) ∨ ((sc (bM (tb t))).length < 16 ∧ v1 = v ∧ sc1 = sc ∧ tt1 = tt ∧ tb1 = tb ∧ wa1 = wa)
theorem c_apply {b : Nat} (hI : z_I G h o K v La en sc tt tb T B R nu ag wa) (hB : B ≠ []) (hf : z_tot sc tt tb T < 240) (hT : T ≠ []) (hT8 : T.length ≤ 8) (hbs : vBs v = nI b) (hb : b < 512) (hd0 : z_Wd en sc tt tb T (vSq v) (nI b)) (hBn : B.Nodup) (hBl : B.length ≤ 4) (hBv : ∀ a ∈ B, z_va (en a)) (hBd : ∀ a ∈ B, a ∉ z_all sc tt tb T) (hs0 : 0 ≤ (vSq v).toInt) (hs1 : (vSq v).toInt < 1000000) (hto : vTo v = 0) (hm : (decide (vEx v = 0) || z_met en ag v (z_row en sc tt tb T (vER v))) = true) :
    z_C G A m_TC_apply 75000 320000 [.ref o] h (fun val h' k n => (∃ (S' : z_S4) (v1 : z_VS) (sc1 tt1 : Nat → List Nat) (tb1 : Nat → z_TB) (wa1 : Nat → Int32) (La1 : z_LA), z_AP nu ag (vCk v) tt tb T (B ++ R) (bM (tb (z_tof tb T (eR (en (B.getD 0 0)))))) (b + 1) B (en, sc, vSq v, wa) S' ∧ val = some (.int (S'.2.2.1 - vSq v)) ∧ z_Wd S'.1 S'.2.1 tt tb T S'.2.2.1 (nI (b + 1)) ∧ z_tot S'.2.1 tt tb T ≤ z_tot sc tt tb T + 8 ∧ 0 ≤ S'.2.2.1.toInt ∧ S'.2.2.1.toInt ≤ (vSq v).toInt + 8 ∧
      z_D16 S'.1 (z_vq (z_vb v) S'.2.2.1) S'.2.1 tt tb T S'.2.2.2 (z_tof tb T (eR (en (B.getD 0 0)))) v1 sc1 tt1 tb1 wa1 ∧ z_I G h' o K (0, v1.2) La1 S'.1 sc1 tt1 tb1 T [] R nu ag wa1 ∧ z_ct (z_Phi La (z_lst K tb T)) (z_Phi La1 (z_lst K tb1 T)) k n 1020 4400) ∧ z_fx G K h h' ∧ k ≤ 75000 ∧ n ≤ 320000) := by
  obtain ⟨-, ⟨d2, c2, l2, m2⟩, -⟩ := hI.2.2.1
  have ho := hI.2.1.1
  obtain ⟨fs, g1⟩ := P_ob hI.1 l2
  have hbl : ¬ B.length = 0 := fun e => hB (List.length_eq_zero_iff.mp e)
  have hws := z_Wd_WS hd0 (by omega)
  have hwv := z_Wd_WV hd0
  have hph := z_Phi_maxI hI hT8
  have hg0 : B[0]? = some (B.getD 0 0) := by
    rw [List.getD_eq_getElem?_getD, List.getElem?_eq_getElem (by omega)]
    rfl
  have htm := z_tof_mem tb T (eR (en (B.getD 0 0))) hT
  generalize htd : z_tof tb T (eR (en (B.getD 0 0))) = t at htm ⊢
  have hd : z_Wd en sc tt tb T (vSq v) (nI (b + 1)) := ⟨hd0.1, fun a ha => by
    obtain ⟨z1, z2, z3, z4⟩ := hd0.2 a ha
    refine ⟨z1, z2, z3, ?_⟩
    rw [nI_toInt (by omega)] at z4 ⊢
    omega⟩
  refine z_C.of (by decide +kernel) rfl (Nat.le_of_ble_eq_true rfl) ?_
  intro x X
  have hcn := z_cne X
  have fin : ∀ (S : z_S4) (v1 : z_VS) (sc1 tt1 : Nat → List Nat) (tb1 : Nat → z_TB) (wa1 : Nat → Int32) (hh : z_H) (La1 : z_LA) (k n : Nat) (o1 o4 o5 o6 : Option Value), z_AP nu ag (vCk v) tt tb T (B ++ R) (bM (tb t)) (b + 1) B (en, sc, vSq v, wa) S → z_Wd S.1 S.2.1 tt tb T S.2.2.1 (nI (b + 1)) → z_tot S.2.1 tt tb T ≤ z_tot sc tt tb T + 8 → 0 ≤ S.2.2.1.toInt → S.2.2.1.toInt ≤ (vSq v).toInt + 8 → vSq v1 = S.2.2.1 → z_D16 S.1 (z_vq (z_vb v) S.2.2.1) S.2.1 tt tb T S.2.2.2 t v1 sc1 tt1 tb1 wa1 → z_I G hh o K v1 La1 S.1 sc1 tt1 tb1 T B R nu ag wa1 → z_fx G K h hh → z_ct (z_Phi La (z_lst K tb T)) (z_Phi La1 (z_lst K tb1 T)) k n 1020 4400 → z_V G A x hh k n 211 [some (.ref o), o1, some (.int (vSq v)), some (.ref t), o4, o5, o6] [] := by
    intro S v1 sc1 tt1 tb1 wa1 hh La1 k n o1 o4 o5 o6 a1 a2 a3 a4 a5 a6 a7 hI1 hfx1 hct
    have ho1 := hI1.2.1.1
    have hct1 := hct.1
    have hct2 := hct.2
    have hph1 := z_Phi_maxI hI1 hT8
    refine z_aload_n (pc' := 212) X d_TC_apply_211 rfl rfl ?_
    refine z_callV X (c_crash hI1) k_TC_189 d_TC_apply_212 (by assumption) (show classes[0]? = some _ from rfl) rfl rfl rfl (by decide) (Nat.le_of_ble_eq_true rfl) ⟨by omega, by omega⟩ (fun v_212 h_212 k_212 n_212 p_212 => ?_)
    obtain ⟨rfl, rfl, rfl, ⟨La', s1, s2⟩, s3⟩ := p_212
    have ho3 := s1.2.1.1
    refine z_aload_n (pc' := 216) X d_TC_apply_215 rfl rfl ?_
    refine z_get (pc' := 219) X 15 f_TC_164 d_TC_apply_216 (by assumption) rfl rfl ?_
    refine z_iload_n (pc' := 220) X d_TC_apply_219 rfl rfl ?_
    refine z_isub (pc' := 221) X d_TC_apply_220 rfl ?_
    refine z_iret X rfl d_TC_apply_221 ⟨⟨S, v1, sc1, tt1, tb1, wa1, La', a1, ?_, a2, a3, a4, a5, a7, s1, ?_, ?_⟩, z_fx_tr hfx1 (z_ff_fx s3), ?_, ?_⟩
    · rw [← a6]
    · omega
    · omega
    · omega
    · omega
  have loop : ∀ (mm j : Nat) (S : z_S4) (hh : z_H) (La1 : z_LA) (k n : Nat) (o1 o5 o6 : Option Value), mm + j = B.length → z_I G hh o K (z_vq (z_vb v) S.2.2.1) La1 S.1 S.2.1 tt tb T B R nu ag S.2.2.2 → z_Wd S.1 S.2.1 tt tb T S.2.2.1 (nI (b + 1)) → z_tot S.2.1 tt tb T ≤ z_tot sc tt tb T + 2 * j → 0 ≤ S.2.2.1.toInt → S.2.2.1.toInt ≤ (vSq v).toInt + 2 * j → (∀ a ∈ B.drop j, S.1 a = en a ∧ a ∉ z_all S.2.1 tt tb T) → (∀ S', z_AP nu ag (vCk v) tt tb T (B ++ R) (bM (tb t)) (b + 1) (B.drop j) S S' → z_AP nu ag (vCk v) tt tb T (B ++ R) (bM (tb t)) (b + 1) B (en, sc, vSq v, wa) S') → z_fx G K h hh → z_ct (z_Phi La (z_lst K tb T)) (z_Phi La1 (z_lst K tb T)) k n (2 * j) (14 * j) → z_V G A x hh k n 100 [some (.ref o), o1, some (.int (vSq v)), some (.ref t), some (.int (nI j)), o5, o6] [] := by
    intro mm
    induction mm with
    | zero =>
      intro j S hh La1 k n o1 o5 o6 hj hI1 hd1 ht1 hq0 hq1 hrem hist hfx1 hct
      have hj : j = B.length := by omega
      subst hj
      have ho1 := hI1.2.1.1
      have hct1 := hct.1
      have hct2 := hct.2
      have hph1 := z_Phi_maxI hI1 hT8
      obtain ⟨-, ⟨e2, f2, k2, p2⟩, -⟩ := hI1.2.2.1
      obtain ⟨fs1, g1'⟩ := P_ob hI1.1 k2
      obtain ⟨⟨da, ca, la, ma⟩, -⟩ := hI1.2.2.1.2.2.2.2.2.2.1 t htm
      obtain ⟨u1, u2, u3, u4⟩ := hI1.2.2.2.1 t htm
      have hap := hist S (by rw [List.drop_length]; exact rfl)
      have hw1 := z_WS_t (z_Wd_WS hd1 (by omega)) htm
      refine z_iload (pc' := 102) X d_TC_apply_100 rfl rfl ?_
      refine z_aload_n (pc' := 103) X d_TC_apply_102 rfl rfl ?_
      refine z_get (pc' := 106) X 3 f_TC_42 d_TC_apply_103 (by assumption) rfl rfl ?_
      refine z_callV X (P_size hI1.1 k2) k_TC_79 d_TC_apply_106 (by assumption) (show classes[6]? = some _ from rfl) rfl rfl rfl (by decide) (Nat.le_of_ble_eq_true rfl) ⟨by omega, by omega⟩ (z_kp ?_)
      refine z_icmp_ge (tgt := 193) (pc' := 112) X d_TC_apply_109 (by decide) rfl (fun c_109 => ?_) (fun c_109 => ?_)
      · refine z_aload_n (pc' := 194) X d_TC_apply_193 rfl rfl ?_
        refine z_get (pc' := 197) X 2 f_TC_107 d_TC_apply_194 (by assumption) rfl rfl ?_
        refine z_callV X (c_Mt_size hI1.1 u2 la) k_TC_203 d_TC_apply_197 (by assumption) (show classes[3]? = some _ from rfl) rfl rfl rfl (by decide) (Nat.le_of_ble_eq_true rfl) ⟨by omega, by omega⟩ (z_kp ?_)
        refine z_bipush (pc' := 202) (v := 16) X d_TC_apply_200 (by decide) rfl ?_
        refine z_icmp_lt (tgt := 211) (pc' := 205) X d_TC_apply_202 (by decide) rfl (fun c_202 => ?_) (fun c_202 => ?_)
        · have h16 : (S.2.1 (bM (tb t))).length < 16 := (nI_ltI (b := 16) (by omega) (by omega)).mp c_202
          exact fin S _ _ _ _ _ hh La1 k n _ _ _ _ hap hd1 (by omega) hq0 (by omega) rfl (Or.inr ⟨h16, rfl, rfl, rfl, rfl, rfl⟩) hI1 hfx1 ⟨by omega, by omega⟩
        · have h16 : 16 ≤ (S.2.1 (bM (tb t))).length := by
            rcases Nat.lt_or_ge (S.2.1 (bM (tb t))).length 16 with q | q
            · exact absurd (nI_lt (b := 16) q (by omega)) c_202
            · exact q
          refine z_aload_n (pc' := 206) X d_TC_apply_205 rfl rfl ?_
          refine z_aload_n (pc' := 207) X d_TC_apply_206 rfl rfl ?_
          have hbx : ∀ a ∈ S.2.1 (bM (tb t)), 0 ≤ (eB (S.1 a)).toInt ∧ (eB (S.1 a)).toInt < 513 := fun a ha => by
            obtain ⟨z1, z2, z3, z4⟩ := hd1.2 a (z_all_mem.mpr ⟨t, htm, Or.inl ha⟩)
            rw [nI_toInt (by omega)] at z4
            omega
          refine z_callV X (c_drainS hI1 htm hbx hw1.2.2.1 (by omega)) k_TC_204 d_TC_apply_207 (by assumption) (show classes[0]? = some _ from rfl) rfl rfl rfl (by decide) (Nat.le_of_ble_eq_true rfl) ⟨by omega, by omega⟩ (fun v_207 h_207 k_207 n_207 p_207 => ?_)
          obtain ⟨rfl, ⟨v1, sc1, tt1, tb1, wa1, La2, r1, r2, r3⟩, r4, r5, r6⟩ := p_207
          have r31 := r3.1
          have r32 := r3.2
          have hvs : vSq v1 = S.2.2.1 := by
            rcases r1 with ⟨-, e, -⟩ | ⟨-, -, -, -, -, -, -, e, -⟩
            · rw [e]
            · rw [e]
          refine z_pop (pc' := 211) X d_TC_apply_210 rfl rfl ?_
          exact fin S v1 sc1 tt1 tb1 wa1 _ La2 _ _ _ _ _ _ hap hd1 (by omega) hq0 (by omega) hvs (Or.inl ⟨h16, r1⟩) r2 (z_fx_tr hfx1 r4) ⟨by omega, by omega⟩
      · exact absurd (nI_le (Nat.le_refl _) (by omega)) c_109
    | succ mm ih =>
      intro j S hh La1 k n o1 o5 o6 hj hI1 hd1 ht1 hq0 hq1 hrem hist hfx1 hct
      have hjl : j < B.length := by omega
      have hg := List.getElem?_eq_getElem hjl
      have ho1 := hI1.2.1.1
      have hct1 := hct.1
      have hct2 := hct.2
      have hph1 := z_Phi_maxI hI1 hT8
      obtain ⟨-, ⟨e2, f2, k2, p2⟩, -⟩ := hI1.2.2.1
      obtain ⟨fs1, g1'⟩ := P_ob hI1.1 k2
      have hdr : B.drop j = B[j] :: B.drop (j + 1) := List.drop_eq_getElem_cons hjl
      obtain ⟨a, ha⟩ : ∃ a, B[j] = a := ⟨_, rfl⟩
      rw [ha] at hg hdr
      have haB : a ∈ B := by rw [← ha]; exact List.getElem_mem hjl
      obtain ⟨hr1, hr2⟩ := hrem a (by rw [hdr]; exact List.mem_cons_self)
      have hao := hI1.2.2.2.2.1 a haB
      have hva : z_va (S.1 a) := by rw [hr1]; exact hBv a haB
      have hnot : ∀ c ∈ B.drop (j + 1), c ≠ a := fun c hc e => by
        have := List.Nodup.sublist (List.drop_sublist j B) hBn
        rw [hdr] at this
        exact (List.nodup_cons.mp this).1 (by rw [← e]; exact hc)
      rw [hdr] at hrem hist
      refine z_iload (pc' := 102) X d_TC_apply_100 rfl rfl ?_
      refine z_aload_n (pc' := 103) X d_TC_apply_102 rfl rfl ?_
      refine z_get (pc' := 106) X 3 f_TC_42 d_TC_apply_103 (by assumption) rfl rfl ?_
      refine z_callV X (P_size hI1.1 k2) k_TC_79 d_TC_apply_106 (by assumption) (show classes[6]? = some _ from rfl) rfl rfl rfl (by decide) (Nat.le_of_ble_eq_true rfl) ⟨by omega, by omega⟩ (z_kp ?_)
      refine z_icmp_ge (tgt := 193) (pc' := 112) X d_TC_apply_109 (by decide) rfl (fun c_109 => ?_) (fun c_109 => ?_)
      · exact absurd c_109 (nI_ge hjl (by omega))
      · refine z_aload_n (pc' := 113) X d_TC_apply_112 rfl rfl ?_
        refine z_get (pc' := 116) X 3 f_TC_42 d_TC_apply_113 (by assumption) rfl rfl ?_
        refine z_iload (pc' := 118) X d_TC_apply_116 rfl rfl ?_
        refine z_callV X (P_get hI1.1 k2 hg) k_TC_80 d_TC_apply_118 (by assumption) (show classes[6]? = some _ from rfl) rfl rfl rfl (by decide) (Nat.le_of_ble_eq_true rfl) ⟨by omega, by omega⟩ (z_kp ?_)
        refine z_cast (pc' := 124) X cl_TC_12 ca_Entry d_TC_apply_121 (by assumption) rfl rfl ?_
        refine z_astore (pc' := 126) X d_TC_apply_124 rfl rfl rfl ?_
        refine z_aload_n (pc' := 127) X d_TC_apply_126 rfl rfl ?_
        refine z_aload_n (pc' := 128) X d_TC_apply_127 rfl rfl ?_
        refine z_aload (pc' := 130) X d_TC_apply_128 rfl rfl ?_
        refine z_callV X (c_enterS (a := a) (t := t) (b := b + 1) hI1 htm hao (by show vBs v + 1 = nI (b + 1); rw [hbs, nI_1]) (by omega) hd1 (by omega) hr2 hva hq0 (by show (S.2.2.1).toInt < 1048575; omega)) k_TC_195 d_TC_apply_130 (by assumption) (show classes[0]? = some _ from rfl) rfl rfl rfl (by decide) (Nat.le_of_ble_eq_true rfl) ⟨by omega, by omega⟩ (fun v_130 h_130 k_130 n_130 p_130 => ?_)
        obtain ⟨rfl, S1, La2, r1, r2, r3, r4, r5, r6, r7, r8, r9⟩ := p_130
        have r71 := r7.1
        have r72 := r7.2
        have hph2 := z_Phi_maxI r2 hT8
        have hsq : S1.2.2.1 = S.2.2.1 + 1 := r1.2.2.1
        have hsq1 : S1.2.2.1.toInt = S.2.2.1.toInt + 1 := by rw [hsq]; exact z_sq1 hq0 (by omega)
        have hen1 : S1.1 = z_eu S.1 a (z_ee (S.1 a) (S.2.2.1 + 1) (nI (b + 1))) := r1.1
        have hao2 := r2.2.2.2.2.1 a haB
        have hrem2 : ∀ c ∈ B.drop (j + 1), S1.1 c = en c ∧ c ∉ z_all S1.2.1 tt tb T := fun c hc => by
          obtain ⟨z1, z2⟩ := hrem c (List.mem_cons_of_mem _ hc)
          refine ⟨by rw [hen1, z_eu_n _ _ (hnot c hc)]; exact z1, fun q => ?_⟩
          rcases (r5 c).mp q with q | q
          · exact hnot c hc q
          · exact z2 q
        have hva1 : z_va (S1.1 a) := by rw [hen1, z_eu_s]; exact hva
        have ho2 := r2.2.1.1
        -- nothing more of this one
        have plain : ∀ (h3 : z_H) (La3 : z_LA) (k3 n3 : Nat) (o5 o6 : Option Value), (eL (S1.1 a) = 0 ∨ z_sur S1.1 nu ag (vCk v) (S1.1 a) (z_row S1.1 S1.2.1 tt tb T (eR (S1.1 a))) = none) → z_I G h3 o K (z_vq (z_vb v) S1.2.2.1) La3 S1.1 S1.2.1 tt tb T B R nu ag S1.2.2.2 → z_fx G K h h3 → z_ct (z_Phi La (z_lst K tb T)) (z_Phi La3 (z_lst K tb T)) k3 n3 (2 * j) (14 * j) → z_V G A x h3 k3 n3 187 [some (.ref o), o1, some (.int (vSq v)), some (.ref t), some (.int (nI j)), o5, o6] [] := by
          intro h3 La3 k3 n3 o5 o6 hs hI3 hfx3 hct3
          have c1 := hct3.1
          have c2 := hct3.2
          refine z_iinc (pc' := 190) (w := nI (j + 1)) X d_TC_apply_187 rfl (z_i1 _) rfl rfl rfl ?_
          refine z_goto (pc' := 100) X d_TC_apply_190 (by decide) ?_
          exact ih (j + 1) S1 h3 La3 k3 n3 _ _ _ (by omega) hI3 r3 (by omega) (by omega) (by omega) hrem2 (fun S' hS' => hist S' ⟨S1, r1, Or.inl ⟨hs, hS'⟩⟩) hfx3 ⟨by omega, by omega⟩
        refine z_aload (pc' := 135) X d_TC_apply_133 rfl rfl ?_
        refine z_get (pc' := 138) X 3 f_TC_90 d_TC_apply_135 (by assumption) rfl rfl ?_
        refine z_if_eq (tgt := 150) (pc' := 141) X d_TC_apply_138 (by decide) rfl (fun c_138 => ?_) (fun c_138 => ?_)
        · refine z_anull (pc' := 151) X d_TC_apply_150 rfl ?_
          refine z_astoreN (pc' := 153) X d_TC_apply_151 rfl rfl rfl ?_
          refine z_aloadN (pc' := 155) X d_TC_apply_153 rfl rfl ?_
          refine z_ifnullN (pc' := 187) X d_TC_apply_155 (by decide) ?_
          exact plain _ La2 _ _ _ _ (Or.inl c_138) r2 (z_fx_tr hfx1 r6) ⟨by omega, by omega⟩
        · have hcc : 0 ≤ (eC (S1.1 a)).toInt := by
            obtain ⟨y1, y2, y3, y4, y5, y6, y7, y8, y9⟩ := hva1
            rcases Int.lt_or_le (eC (S1.1 a)).toInt 0 with q | q
            · exact absurd (y9 (y8 (by omega))) c_138
            · exact q
          have hc8 := hva1.2.2.2.1
          refine z_aload_n (pc' := 142) X d_TC_apply_141 rfl rfl ?_
          refine z_aload (pc' := 144) X d_TC_apply_142 rfl rfl ?_
          refine z_callV X (c_surplus r2 hT (z_Wd_WS r3 (by omega)) (z_Wd_WV r3) hao2 hcc hc8) k_TC_199 d_TC_apply_144 (by assumption) (show classes[0]? = some _ from rfl) rfl rfl rfl (by decide) (Nat.le_of_ble_eq_true rfl) ⟨by omega, by omega⟩ (fun v_144 h_144 k_144 n_144 p_144 => ?_)
          obtain ⟨rfl, La3, s1, s2, s3, s4⟩ := p_144
          have s41 := s4.1.1
          have s42 := s4.1.2
          have hph3 := z_Phi_maxI s1 hT8
          have hck : vCk (z_vq (z_vb v) S1.2.2.1) = vCk v := rfl
          rw [hck]
          cases hsur : z_sur S1.1 nu ag (vCk v) (S1.1 a) (z_row S1.1 S1.2.1 tt tb T (eR (S1.1 a))) with
          | none =>
            refine z_top (b := .null) rfl ?_
            refine z_goto (pc' := 151) X d_TC_apply_147 (by decide) ?_
            refine z_astoreN (pc' := 153) X d_TC_apply_151 rfl rfl rfl ?_
            refine z_aloadN (pc' := 155) X d_TC_apply_153 rfl rfl ?_
            refine z_ifnullN (pc' := 187) X d_TC_apply_155 (by decide) ?_
            exact plain _ La3 _ _ _ _ (Or.inr hsur) s1 (z_fx_tr hfx1 (z_fx_tr r6 (z_ff_fx s2))) ⟨by omega, by omega⟩
          | some y =>
            refine z_top (b := .ref y) rfl ?_
            have hyall := z_row_all hT (z_sur_mem hsur)
            have hyo := z_all_ens s1 y hyall
            have hyv := (r3.2 y hyall).1.1
            refine z_goto (pc' := 151) X d_TC_apply_147 (by decide) ?_
            refine z_astore (pc' := 153) X d_TC_apply_151 rfl rfl rfl ?_
            refine z_aload (pc' := 155) X d_TC_apply_153 rfl rfl ?_
            refine z_ifnullR (pc' := 158) X d_TC_apply_155 rfl ?_
            refine z_aload_n (pc' := 159) X d_TC_apply_158 rfl rfl ?_
            refine z_aload_n (pc' := 160) X d_TC_apply_159 rfl rfl ?_
            refine z_new (pc' := 163) X nw_TC_12 d_TC_apply_160 ⟨by omega, by omega⟩ rfl (fun a_160 n_160 e_160 => ?_)
            refine z_dup (pc' := 164) X d_TC_apply_163 rfl rfl ?_
            have hyo2 : z_up h_144 a_160 (z_ob 5 n_En) y = some (z_ob 5 (z_ef (S1.1 y))) := by rw [z_up_n _ _ (z_nb n_160 hyo)]; exact hyo
            refine z_aload (pc' := 166) X d_TC_apply_164 rfl rfl ?_
            refine z_get (pc' := 169) X 0 f_TC_11 d_TC_apply_166 (by assumption) rfl rfl ?_
            refine z_aload (pc' := 171) X d_TC_apply_169 rfl rfl ?_
            refine z_get (pc' := 174) X 1 f_TC_87 d_TC_apply_171 (by assumption) rfl rfl ?_
            refine z_aload (pc' := 176) X d_TC_apply_174 rfl rfl ?_
            refine z_get (pc' := 179) X 2 f_TC_94 d_TC_apply_176 (by assumption) rfl rfl ?_
            refine z_iconst (pc' := 180) (v := 0) X d_TC_apply_179 (by decide) rfl ?_
            refine z_iconst (pc' := 181) (v := 0) X d_TC_apply_180 (by decide) rfl ?_
            refine z_callI X (c_En_init (Or.inl rfl) (z_up_s _ _ _)) k_TC_132 d_TC_apply_181 rfl rfl rfl (by decide) (Nat.le_of_ble_eq_true rfl) ⟨by omega, by omega⟩ (z_kh ?_)
            refine z_hp (z_uu _ _ _ _) ?_
            obtain ⟨hI4, hff4⟩ := z_I_en (e := z_ob 5 (z_ef (eR (S1.1 y), eC (S1.1 y), eT (S1.1 y), 0, 0, 0, 0))) (e7 := (eR (S1.1 y), eC (S1.1 y), eT (S1.1 y), 0, 0, 0, 0)) s1 n_160
            have hfr := z_all_fresh s1 n_160
            have hfB := z_ens_none s1.2.2.2.2.1 n_160
            have hfR := z_ens_none s1.2.2.2.2.2 n_160
            have ho4 := hI4.2.1.1
            have hy4 : z_up h_144 a_160 (z_ob 5 (z_ef (eR (S1.1 y), eC (S1.1 y), eT (S1.1 y), 0, 0, 0, 0))) a_160 = some (z_ob 5 (z_ef (z_eu S1.1 a_160 (eR (S1.1 y), eC (S1.1 y), eT (S1.1 y), 0, 0, 0, 0) a_160))) := by rw [z_eu_s, z_up_s]
            have hva4 : z_va (z_eu S1.1 a_160 (eR (S1.1 y), eC (S1.1 y), eT (S1.1 y), 0, 0, 0, 0) a_160) := by
              rw [z_eu_s]
              obtain ⟨y1, y2, y3, y4, y5, y6, y7, y8, y9⟩ := hyv
              exact ⟨y1, y2, y3, y4, y5, y6, Or.inl rfl, y8, fun _ => rfl⟩
            refine z_callV X (c_enterS (a := a_160) (t := t) (b := b + 1) hI4 htm hy4 (by show vBs v + 1 = nI (b + 1); rw [hbs, nI_1]) (by omega) (z_Wd_eu r3 hfr) (by omega) hfr hva4 (by show 0 ≤ (S1.2.2.1).toInt; omega) (by show (S1.2.2.1).toInt < 1048575; omega)) k_TC_195 d_TC_apply_184 (by assumption) (show classes[0]? = some _ from rfl) rfl rfl rfl (by decide) (Nat.le_of_ble_eq_true rfl) ⟨by omega, by omega⟩ (fun v_184 h_184 k_184 n_184 p_184 => ?_)
            obtain ⟨rfl, S2, La5, u1, u2, u3, u4, u5, u6, u7, u8, u9⟩ := p_184
            have u71 := u7.1
            have u72 := u7.2
            have hsq2 : S2.2.2.1.toInt = S1.2.2.1.toInt + 1 := by
              have : S2.2.2.1 = S1.2.2.1 + 1 := u1.2.2.1
              rw [this]
              exact z_sq1 (by omega) (by omega)
            have hen2 : S2.1 = z_eu (z_eu S1.1 a_160 (eR (S1.1 y), eC (S1.1 y), eT (S1.1 y), 0, 0, 0, 0)) a_160 (z_ee (z_eu S1.1 a_160 (eR (S1.1 y), eC (S1.1 y), eT (S1.1 y), 0, 0, 0, 0) a_160) (S1.2.2.1 + 1) (nI (b + 1))) := u1.1
            have hrem3 : ∀ c ∈ B.drop (j + 1), S2.1 c = en c ∧ c ∉ z_all S2.2.1 tt tb T := fun c hc => by
              obtain ⟨z1, z2⟩ := hrem2 c hc
              have hca : c ≠ a_160 := fun e => hfB (by rw [← e]; exact List.mem_of_mem_drop hc)
              refine ⟨by rw [hen2, z_eu_n _ _ hca, z_eu_n _ _ hca]; exact z1, fun q => ?_⟩
              rcases (u5 c).mp q with q | q
              · exact hca q
              · exact z2 q
            refine z_iinc (pc' := 190) (w := nI (j + 1)) X d_TC_apply_187 rfl (z_i1 _) rfl rfl rfl ?_
            refine z_goto (pc' := 100) X d_TC_apply_190 (by decide) ?_
            refine ih (j + 1) S2 _ La5 _ _ _ _ _ (by omega) u2 u3 (by omega) (by omega) (by omega) hrem3 (fun S' hS' => hist S' ⟨S1, r1, Or.inr ⟨c_138, y, a_160, S2, hsur, hfr, ?_, u1, hS'⟩⟩) (z_fx_tr hfx1 (z_fx_tr r6 (z_fx_tr (z_ff_fx s2) (z_fx_tr (z_ff_fx hff4) u6)))) ⟨?_, ?_⟩
            · intro q
              rcases List.mem_append.mp q with q | q
              · exact hfB q
              · exact hfR q
            · omega
            · omega
  refine z_aload_n (pc' := 1) X d_TC_apply_0 rfl rfl ?_
  refine z_get (pc' := 4) X 3 f_TC_42 d_TC_apply_1 (by assumption) rfl rfl ?_
  refine z_callV X (P_isEmpty hI.1 l2) k_TC_121 d_TC_apply_4 (by assumption) (show classes[6]? = some _ from rfl) rfl rfl rfl (by decide) (Nat.le_of_ble_eq_true rfl) ⟨by omega, by omega⟩ (z_kp ?_)
  rw [if_neg hbl]
  refine z_if_eq (tgt := 12) (pc' := 10) X d_TC_apply_7 (by decide) rfl (fun _ => ?_) (fun q => absurd rfl q)
  refine z_aload_n (pc' := 13) X d_TC_apply_12 rfl rfl ?_
  refine z_callV X (c_entries hI) k_TC_180 d_TC_apply_13 (by assumption) (show classes[0]? = some _ from rfl) rfl rfl rfl (by decide) (Nat.le_of_ble_eq_true rfl) ⟨by omega, by omega⟩ (z_kp ?_)
  refine z_sipush (pc' := 19) (v := 240) X d_TC_apply_16 (by decide) rfl ?_
  refine z_icmp_lt (tgt := 25) (pc' := 22) X d_TC_apply_19 (by decide) rfl (fun c_19 => ?_) (fun c_19 => ?_)
  · refine z_aload_n (pc' := 26) X d_TC_apply_25 rfl rfl ?_
    refine z_callV X (c_isMet hI hT hws hwv) k_TC_183 d_TC_apply_26 (by assumption) (show classes[0]? = some _ from rfl) rfl rfl rfl (by decide) (Nat.le_of_ble_eq_true rfl) ⟨by omega, by omega⟩ (fun v_26 h_26 k_26 n_26 p_26 => ?_)
    obtain ⟨rfl, La2, r1, r2, r3⟩ := p_26
    have r31 := r3.1.1
    have r32 := r3.1.2
    have r33 := r3.2.1
    have r34 := r3.2.2
    have ho2 := r1.2.1.1
    rw [hm]
    refine z_istore_n (pc' := 30) X d_TC_apply_29 rfl rfl rfl ?_
    refine z_aload_n (pc' := 31) X d_TC_apply_30 rfl rfl ?_
    refine z_get (pc' := 34) X 18 f_TC_186 d_TC_apply_31 (by assumption) rfl rfl ?_
    refine z_if_eq (tgt := 49) (pc' := 37) X d_TC_apply_34 (by decide) rfl (fun c_34 => ?_) (fun c_34 => ?_)
    · refine z_aload_n (pc' := 50) X d_TC_apply_49 rfl rfl ?_
      refine z_get (pc' := 53) X 15 f_TC_164 d_TC_apply_50 (by assumption) rfl rfl ?_
      refine z_istore_n (pc' := 54) X d_TC_apply_53 rfl rfl rfl ?_
      refine z_iload_n (pc' := 55) X d_TC_apply_54 rfl rfl ?_
      refine z_if_eq (tgt := 211) (pc' := 58) X d_TC_apply_55 (by decide) rfl (fun q => absurd q (by decide)) (fun _ => ?_)
      obtain ⟨hI3, hff3⟩ := z_I_v r1 (z_vb v)
      have hov := z_up_s h_26 o (z_ob 0 (z_tcf K (vEx v, vSo v, vER v, vEC v, vEV v, vBs v + 1, vLg v, vSq v, vCk v, vLk v, vTo v)))
      refine z_aload_n (pc' := 59) X d_TC_apply_58 rfl rfl ?_
      refine z_dup (pc' := 60) X d_TC_apply_59 rfl rfl ?_
      refine z_get (pc' := 63) X 13 f_TC_168 d_TC_apply_60 (by assumption) rfl rfl ?_
      refine z_iconst (pc' := 64) (v := 1) X d_TC_apply_63 (by decide) rfl ?_
      refine z_iadd (pc' := 65) X d_TC_apply_64 rfl ?_
      refine z_put (pc' := 68) X 13 f_TC_168 (g_TC_168 _) d_TC_apply_65 (by assumption) rfl rfl rfl rfl rfl ?_
      refine z_aload_n (pc' := 69) X d_TC_apply_68 rfl rfl ?_
      refine z_dup (pc' := 70) X d_TC_apply_69 rfl rfl ?_
      refine z_get (pc' := 73) X 14 f_TC_192 d_TC_apply_70 (by assumption) rfl rfl ?_
      refine z_iconst (pc' := 74) (v := 1) X d_TC_apply_73 (by decide) rfl ?_
      refine z_iadd (pc' := 75) X d_TC_apply_74 rfl ?_
      refine z_put (pc' := 78) X 14 f_TC_192 (g_TC_192 _) d_TC_apply_75 (by assumption) rfl rfl rfl rfl rfl ?_
      refine z_hp (z_uu _ _ _ _) ?_
      have ho3 := hI3.2.1.1
      obtain ⟨-, ⟨e2, f2, k2, p2⟩, -⟩ := id hI3.2.2.1
      obtain ⟨⟨d1, c1, l1, m1⟩, -⟩ := id hI3.2.2.1
      obtain ⟨fs1, g1'⟩ := P_ob hI3.1 k2
      have hb0 := hI3.2.2.2.2.1 _ (List.mem_of_getElem? hg0)
      refine z_aload_n (pc' := 79) X d_TC_apply_78 rfl rfl ?_
      refine z_aload_n (pc' := 80) X d_TC_apply_79 rfl rfl ?_
      refine z_get (pc' := 83) X 3 f_TC_42 d_TC_apply_80 (by assumption) rfl rfl ?_
      refine z_iconst (pc' := 84) (v := 0) X d_TC_apply_83 (by decide) rfl ?_
      refine z_callV X (P_get hI3.1 k2 (i := 0) hg0) k_TC_80 d_TC_apply_84 (by assumption) (show classes[6]? = some _ from rfl) rfl rfl rfl (by decide) (Nat.le_of_ble_eq_true rfl) ⟨by omega, by omega⟩ (z_kp ?_)
      refine z_cast (pc' := 90) X cl_TC_12 ca_Entry d_TC_apply_87 (by assumption) rfl rfl ?_
      refine z_get (pc' := 93) X 0 f_TC_11 d_TC_apply_90 (by assumption) rfl rfl ?_
      refine z_callV X (c_tabletOf hI3.1 ho3 l1 hT (fun t ht => (hI3.2.2.2.1 t ht).1)) k_TC_100 d_TC_apply_93 (by assumption) (show classes[0]? = some _ from rfl) rfl rfl rfl (by decide) (Nat.le_of_ble_eq_true rfl) ⟨by omega, by omega⟩ (z_kp ?_)
      rw [htd]
      refine z_astore_n (pc' := 97) X d_TC_apply_96 rfl rfl rfl ?_
      refine z_iconst (pc' := 98) (v := 0) X d_TC_apply_97 (by decide) rfl ?_
      refine z_istore (pc' := 100) X d_TC_apply_98 rfl rfl rfl ?_
      refine loop B.length 0 (en, sc, vSq v, wa) _ La2 _ _ _ _ _ (by omega) hI3 hd (by show z_tot sc tt tb T ≤ _; omega) hs0 (by show (vSq v).toInt ≤ _; omega) (fun a ha => ⟨rfl, hBd a ha⟩) (fun S' hS' => hS') (z_fx_tr (z_ff_fx r2) (z_ff_fx hff3)) ⟨?_, ?_⟩
      · omega
      · omega
    · exact absurd hto c_34
  · exact absurd (nI_lt (b := 240) hf (by omega)) c_19
end APQ
