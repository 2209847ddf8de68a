/-! the merger: beginning, adding, entering, standing -/
/-- row, rowErased, column, columnErased, time -/
abbrev z_Q5 : Type := Int32 × Int32 × Int32 × Int32 × Int32
abbrev z_mgf (srcs at' out : Nat) (q : z_Q5) : List Value := [.ref srcs, .ref at', .ref out, .int q.1, .int q.2.1, .int q.2.2.1, .int q.2.2.2.1, .int q.2.2.2.2]
def bI (b : Bool) : Int32 := if b then 1 else 0
theorem bI_01 (b : Bool) : bI b = 0 ∨ bI b = 1 := by cases b <;> simp [bI]
theorem bI_0 {b : Bool} : bI b = 0 ↔ b = false := by cases b <;> simp [bI]
def z_en5 (q : z_Q5) (e : z_E7) : z_Q5 :=
  let q1 : z_Q5 := if eR e = q.1 then q else (eR e, 0, -1, 0, -1)
  if eC e = q1.2.2.1 then q1 else (q1.1, q1.2.1, eC e, 0, -1)
def z_fre (q : z_Q5) (e : z_E7) : Bool := decide (q.2.1 < eS e) && decide (q.2.2.2.1 < eS e)
def z_st5 (q : z_Q5) (e : z_E7) : z_Q5 × Bool :=
  let q1 := z_en5 q e
  if eC e = -1 then ((q1.1, if q1.2.1 < eS e then eS e else q1.2.1, q1.2.2.1, q1.2.2.2.1, q1.2.2.2.2), z_fre q1 e)
  else if eT e = -1 then ((q1.1, q1.2.1, q1.2.2.1, if q1.2.2.2.1 < eS e then eS e else q1.2.2.2.1, q1.2.2.2.2), z_fre q1 e)
  else ((q1.1, q1.2.1, q1.2.2.1, q1.2.2.2.1, eT e), z_fre q1 e && decide (¬ eT e = q1.2.2.2.2))
/-- lists, the merger and its places may have moved, no other cell -/
def z_fm (G : z_G) (g at' : Nat) (h h' : z_H) : Prop := ∀ (b : Nat) (e : va_E), h b = some e → ¬ z_isl G e → b ≠ g → b ≠ at' → h' b = some e
section MG
variable {G : z_G} {A : Nat → Prop} {h : z_H}
theorem z_fm_nl {g at' : Nat} {h' : z_H} (hn : z_nl G h h') : z_fm G g at' h h' := fun b e hb hl _ _ => hn b e hb hl
theorem z_fm_tr {g at' : Nat} {h1 h2 : z_H} (a : z_fm G g at' h h1) (b : z_fm G g at' h1 h2) : z_fm G g at' h h2 := fun c e hc hl h1 h2 => b c e (a c e hc hl h1 h2) hl h1 h2
theorem z_fm_g {g at' : Nat} {h' : z_H} {e : va_E} (a : z_fm G g at' h h') : z_fm G g at' h (z_up h' g e) := fun c e hc hl h1 h2 => by rw [z_up_n _ _ h1]; exact a c e hc hl h1 h2
theorem z_fm_a {g at' : Nat} {h' : z_H} {e : va_E} (a : z_fm G g at' h h') : z_fm G g at' h (z_up h' at' e) := fun c e hc hl h1 h2 => by rw [z_up_n _ _ h2]; exact a c e hc hl h1 h2
theorem c_Mg_enter {g a srcs at' out : Nat} {q : z_Q5} {e : z_E7} (h1 : h g = some (z_ob 1 (z_mgf srcs at' out q))) (h2 : h a = some (z_ob 5 (z_ef e))) : z_C G A m_Mg_enter 0 0 [.ref g, .ref a] h (fun v h' k n => v = none ∧ k = 0 ∧ n = 0 ∧ h' g = some (z_ob 1 (z_mgf srcs at' out (z_en5 q e))) ∧ z_fr h h' [g]) := by
  have hag : a ≠ g := fun e => by rw [e, h1] at h2; cases h2
  obtain ⟨q1, q2, q3, q4, q5⟩ := q
  refine z_C.of (by decide +kernel) rfl (Nat.le_of_ble_eq_true rfl) ?_
  intro x X
  have second : ∀ (hh : z_H) (r1 r2 r3 r4 r5 : Int32), hh g = some (z_ob 1 (z_mgf srcs at' out (r1, r2, r3, r4, r5))) → z_fr h hh [g] → z_en5 (q1, q2, q3, q4, q5) e = (if eC e = r3 then (r1, r2, r3, r4, r5) else (r1, r2, eC e, 0, -1)) → z_V G A x hh 0 0 39 [some (.ref g), some (.ref a)] [] := by
    intro hh r1 r2 r3 r4 r5 g1 g2 g3
    have g4 : hh a = some (z_ob 5 (z_ef e)) := g2 _ _ h2 (by simpa using hag)
    refine z_aload_n (pc' := 40) X d_Mg_enter_39 rfl rfl ?_
    refine z_get (pc' := 43) X 1 f_Mg_69 d_Mg_enter_40 (by assumption) rfl rfl ?_
    refine z_aload_n (pc' := 44) X d_Mg_enter_43 rfl rfl ?_
    refine z_get (pc' := 47) X 5 f_Mg_60 d_Mg_enter_44 (by assumption) rfl rfl ?_
    refine z_icmp_eq (tgt := 68) (pc' := 50) X d_Mg_enter_47 (by decide) rfl (fun c_47 => ?_) (fun c_47 => ?_)
    · rw [if_pos c_47] at g3
      exact z_vret X rfl d_Mg_enter_68 (⟨rfl, rfl, rfl, by rw [g3]; exact g1, g2⟩)
    · rw [if_neg c_47] at g3
      refine z_aload_n (pc' := 51) X d_Mg_enter_50 rfl rfl ?_
      refine z_aload_n (pc' := 52) X d_Mg_enter_51 rfl rfl ?_
      refine z_get (pc' := 55) X 1 f_Mg_69 d_Mg_enter_52 (by assumption) rfl rfl ?_
      refine z_put (pc' := 58) X 5 f_Mg_60 (g_Mg_60 _) d_Mg_enter_55 (by assumption) rfl rfl rfl rfl rfl ?_
      have t1 := z_up_s hh g (z_ob 1 (z_mgf srcs at' out (r1, r2, eC e, r4, r5)))
      refine z_aload_n (pc' := 59) X d_Mg_enter_58 rfl rfl ?_
      refine z_iconst (pc' := 60) (v := 0) X d_Mg_enter_59 (by decide) rfl ?_
      refine z_put (pc' := 63) X 6 f_Mg_63 (g_Mg_63 _) d_Mg_enter_60 (by assumption) rfl rfl rfl rfl rfl ?_
      refine z_hp (z_uu _ _ _ _) ?_
      have t2 := z_up_s hh g (z_ob 1 (z_mgf srcs at' out (r1, r2, eC e, 0, r5)))
      refine z_aload_n (pc' := 64) X d_Mg_enter_63 rfl rfl ?_
      refine z_iconst (pc' := 65) (v := (-1)) X d_Mg_enter_64 (by decide) rfl ?_
      refine z_put (pc' := 68) X 7 f_Mg_66 (g_Mg_66 _) d_Mg_enter_65 (by assumption) rfl rfl rfl rfl rfl ?_
      refine z_hp (z_uu _ _ _ _) ?_
      exact z_vret X rfl d_Mg_enter_68 (⟨rfl, rfl, rfl, by rw [g3]; exact z_up_s _ _ _, z_fr_up g2 (by simp)⟩)
  refine z_aload_n (pc' := 1) X d_Mg_enter_0 rfl rfl ?_
  refine z_get (pc' := 4) X 0 f_Mg_50 d_Mg_enter_1 (by assumption) rfl rfl ?_
  refine z_aload_n (pc' := 5) X d_Mg_enter_4 rfl rfl ?_
  refine z_get (pc' := 8) X 3 f_Mg_28 d_Mg_enter_5 (by assumption) rfl rfl ?_
  refine z_icmp_eq (tgt := 39) (pc' := 11) X d_Mg_enter_8 (by decide) rfl (fun c_8 => ?_) (fun c_8 => ?_)
  · exact second h q1 q2 q3 q4 q5 h1 (z_fr_rf _ _) (by unfold z_en5; simp only [if_pos c_8])
  · refine z_aload_n (pc' := 12) X d_Mg_enter_11 rfl rfl ?_
    refine z_aload_n (pc' := 13) X d_Mg_enter_12 rfl rfl ?_
    refine z_get (pc' := 16) X 0 f_Mg_50 d_Mg_enter_13 (by assumption) rfl rfl ?_
    refine z_put (pc' := 19) X 3 f_Mg_28 (g_Mg_28 _) d_Mg_enter_16 (by assumption) rfl rfl rfl rfl rfl ?_
    have t1 := z_up_s h g (z_ob 1 (z_mgf srcs at' out (eR e, q2, q3, q4, q5)))
    refine z_aload_n (pc' := 20) X d_Mg_enter_19 rfl rfl ?_
    refine z_iconst (pc' := 21) (v := 0) X d_Mg_enter_20 (by decide) rfl ?_
    refine z_put (pc' := 24) X 4 f_Mg_57 (g_Mg_57 _) d_Mg_enter_21 (by assumption) rfl rfl rfl rfl rfl ?_
    refine z_hp (z_uu _ _ _ _) ?_
    have t2 := z_up_s h g (z_ob 1 (z_mgf srcs at' out (eR e, 0, q3, q4, q5)))
    refine z_aload_n (pc' := 25) X d_Mg_enter_24 rfl rfl ?_
    refine z_iconst (pc' := 26) (v := (-1)) X d_Mg_enter_25 (by decide) rfl ?_
    refine z_put (pc' := 29) X 5 f_Mg_60 (g_Mg_60 _) d_Mg_enter_26 (by assumption) rfl rfl rfl rfl rfl ?_
    refine z_hp (z_uu _ _ _ _) ?_
    have t3 := z_up_s h g (z_ob 1 (z_mgf srcs at' out (eR e, 0, -1, q4, q5)))
    refine z_aload_n (pc' := 30) X d_Mg_enter_29 rfl rfl ?_
    refine z_iconst (pc' := 31) (v := 0) X d_Mg_enter_30 (by decide) rfl ?_
    refine z_put (pc' := 34) X 6 f_Mg_63 (g_Mg_63 _) d_Mg_enter_31 (by assumption) rfl rfl rfl rfl rfl ?_
    refine z_hp (z_uu _ _ _ _) ?_
    have t4 := z_up_s h g (z_ob 1 (z_mgf srcs at' out (eR e, 0, -1, 0, q5)))
    refine z_aload_n (pc' := 35) X d_Mg_enter_34 rfl rfl ?_
    refine z_iconst (pc' := 36) (v := (-1)) X d_Mg_enter_35 (by decide) rfl ?_
    refine z_put (pc' := 39) X 7 f_Mg_66 (g_Mg_66 _) d_Mg_enter_36 (by assumption) rfl rfl rfl rfl rfl ?_
    refine z_hp (z_uu _ _ _ _) ?_
    exact second _ (eR e) 0 (-1) 0 (-1) (z_up_s _ _ _) (z_fr_up (z_fr_rf _ _) (by simp)) (by unfold z_en5; simp only [if_neg c_8])
theorem c_stands {g a srcs at' out : Nat} {q : z_Q5} {e : z_E7} (h1 : h g = some (z_ob 1 (z_mgf srcs at' out q))) (h2 : h a = some (z_ob 5 (z_ef e))) : z_C G A m_Mg_stands 0 0 [.ref g, .ref a] h (fun v h' k n => v = some (.int (bI (z_st5 q e).2)) ∧ k = 0 ∧ n = 0 ∧ h' g = some (z_ob 1 (z_mgf srcs at' out (z_st5 q e).1)) ∧ z_fr h h' [g]) := by
  have hag : a ≠ g := fun e => by rw [e, h1] at h2; cases h2
  refine z_C.of (by decide +kernel) rfl (Nat.le_of_ble_eq_true rfl) ?_
  intro x X
  refine z_aload_n (pc' := 1) X d_Mg_stands_0 rfl rfl ?_
  refine z_aload_n (pc' := 2) X d_Mg_stands_1 rfl rfl ?_
  refine z_callV X (c_Mg_enter h1 h2) k_Mg_70 d_Mg_stands_2 (by assumption) (show classes[1]? = some _ from rfl) rfl rfl rfl (by decide) (Nat.le_of_ble_eq_true rfl) ⟨by omega, by omega⟩ (fun v_2 h_2 k_2 n_2 p_2 => ?_)
  obtain ⟨rfl, rfl, rfl, g1, g2⟩ := p_2
  have g3 : h_2 a = some (z_ob 5 (z_ef e)) := g2 _ _ h2 (by simpa using hag)
  have hz : ∀ s, z_st5 q e = s ↔ (let q1 := z_en5 q e
    if eC e = -1 then ((q1.1, if q1.2.1 < eS e then eS e else q1.2.1, q1.2.2.1, q1.2.2.2.1, q1.2.2.2.2), z_fre q1 e)
    else if eT e = -1 then ((q1.1, q1.2.1, q1.2.2.1, if q1.2.2.2.1 < eS e then eS e else q1.2.2.2.1, q1.2.2.2.2), z_fre q1 e)
    else ((q1.1, q1.2.1, q1.2.2.1, q1.2.2.2.1, eT e), z_fre q1 e && decide (¬ eT e = q1.2.2.2.2))) = s := fun s => Iff.rfl
  generalize z_en5 q e = q1 at g1 hz
  generalize z_st5 q e = res at X hz
  obtain ⟨r1, r2, r3, r4, r5⟩ := q1
  have next : ∀ b : Bool, z_fre (r1, r2, r3, r4, r5) e = b → z_V G A x h_2 0 0 32 [some (.ref g), some (.ref a), none] [.int (bI b)] := by
    intro b hb
    refine z_istore_n (pc' := 33) X d_Mg_stands_32 rfl rfl rfl ?_
    refine z_aload_n (pc' := 34) X d_Mg_stands_33 rfl rfl ?_
    refine z_get (pc' := 37) X 1 f_Mg_69 d_Mg_stands_34 (by assumption) rfl rfl ?_
    refine z_iconst (pc' := 38) (v := (-1)) X d_Mg_stands_37 (by decide) rfl ?_
    refine z_icmp_ne (tgt := 59) (pc' := 41) X d_Mg_stands_38 (by decide) rfl (fun c_38 => ?_) (fun c_38 => ?_)
    · refine z_aload_n (pc' := 60) X d_Mg_stands_59 rfl rfl ?_
      refine z_get (pc' := 63) X 2 f_Mg_83 d_Mg_stands_60 (by assumption) rfl rfl ?_
      refine z_iconst (pc' := 64) (v := (-1)) X d_Mg_stands_63 (by decide) rfl ?_
      refine z_icmp_ne (tgt := 85) (pc' := 67) X d_Mg_stands_64 (by decide) rfl (fun c_64 => ?_) (fun c_64 => ?_)
      · refine z_iload_n (pc' := 86) X d_Mg_stands_85 rfl rfl ?_
        refine z_aload_n (pc' := 87) X d_Mg_stands_86 rfl rfl ?_
        refine z_get (pc' := 90) X 2 f_Mg_83 d_Mg_stands_87 (by assumption) rfl rfl ?_
        refine z_aload_n (pc' := 91) X d_Mg_stands_90 rfl rfl ?_
        refine z_get (pc' := 94) X 7 f_Mg_66 d_Mg_stands_91 (by assumption) rfl rfl ?_
        refine z_icmp_eq (tgt := 101) (pc' := 97) X d_Mg_stands_94 (by decide) rfl (fun c_94 => ?_) (fun c_94 => ?_)
        · refine z_iconst (pc' := 102) (v := 0) X d_Mg_stands_101 (by decide) rfl ?_
          refine z_iand (pc' := 103) X d_Mg_stands_102 rfl ?_
          refine z_top (b := .int 0) (by cases b <;> rfl) ?_
          refine z_istore_n (pc' := 104) X d_Mg_stands_103 rfl rfl rfl ?_
          refine z_aload_n (pc' := 105) X d_Mg_stands_104 rfl rfl ?_
          refine z_aload_n (pc' := 106) X d_Mg_stands_105 rfl rfl ?_
          refine z_get (pc' := 109) X 2 f_Mg_83 d_Mg_stands_106 (by assumption) rfl rfl ?_
          refine z_put (pc' := 112) X 7 f_Mg_66 (g_Mg_66 _) d_Mg_stands_109 (by assumption) rfl rfl rfl rfl rfl ?_
          have hr := (hz ((r1, r2, r3, r4, eT e), z_fre (r1, r2, r3, r4, r5) e && decide (¬ eT e = r5))).mpr (by simp only [if_neg c_38, if_neg c_64])
          subst hr
          refine z_iload_n (pc' := 113) X d_Mg_stands_112 rfl rfl ?_
          refine z_zret X rfl (Or.inl rfl) d_Mg_stands_113 ⟨by simp [c_94, bI], rfl, rfl, z_up_s _ _ _, z_fr_up g2 (by simp)⟩
        · refine z_iconst (pc' := 98) (v := 1) X d_Mg_stands_97 (by decide) rfl ?_
          refine z_goto (pc' := 102) X d_Mg_stands_98 (by decide) ?_
          refine z_iand (pc' := 103) X d_Mg_stands_102 rfl ?_
          refine z_top (b := .int (bI b)) (by cases b <;> rfl) ?_
          refine z_istore_n (pc' := 104) X d_Mg_stands_103 rfl rfl rfl ?_
          refine z_aload_n (pc' := 105) X d_Mg_stands_104 rfl rfl ?_
          refine z_aload_n (pc' := 106) X d_Mg_stands_105 rfl rfl ?_
          refine z_get (pc' := 109) X 2 f_Mg_83 d_Mg_stands_106 (by assumption) rfl rfl ?_
          refine z_put (pc' := 112) X 7 f_Mg_66 (g_Mg_66 _) d_Mg_stands_109 (by assumption) rfl rfl rfl rfl rfl ?_
          have hr := (hz ((r1, r2, r3, r4, eT e), z_fre (r1, r2, r3, r4, r5) e && decide (¬ eT e = r5))).mpr (by simp only [if_neg c_38, if_neg c_64])
          subst hr
          refine z_iload_n (pc' := 113) X d_Mg_stands_112 rfl rfl ?_
          refine z_zret X rfl (bI_01 b) d_Mg_stands_113 ⟨by simp [c_94, hb], rfl, rfl, z_up_s _ _ _, z_fr_up g2 (by simp)⟩
      · refine z_aload_n (pc' := 68) X d_Mg_stands_67 rfl rfl ?_
        refine z_aload_n (pc' := 69) X d_Mg_stands_68 rfl rfl ?_
        refine z_get (pc' := 72) X 6 f_Mg_63 d_Mg_stands_69 (by assumption) rfl rfl ?_
        refine z_aload_n (pc' := 73) X d_Mg_stands_72 rfl rfl ?_
        refine z_get (pc' := 76) X 5 f_Mg_74 d_Mg_stands_73 (by assumption) rfl rfl ?_
        refine z_mmax (pc' := 79) X l_Mg_77 ms_max mi_Math mc_max d_Mg_stands_76 rfl (by decide) (Nat.le_of_ble_eq_true rfl) ⟨by omega, by omega⟩ rfl ?_
        refine z_put (pc' := 82) X 6 f_Mg_63 (g_Mg_63 _) d_Mg_stands_79 (by assumption) rfl rfl rfl rfl rfl ?_
        refine z_goto (pc' := 112) X d_Mg_stands_82 (by decide) ?_
        have hr := (hz ((r1, r2, r3, if r4 < eS e then eS e else r4, r5), z_fre (r1, r2, r3, r4, r5) e)).mpr (by simp only [if_neg c_38, if_pos c_64])
        subst hr
        refine z_iload_n (pc' := 113) X d_Mg_stands_112 rfl rfl ?_
        refine z_zret X rfl (bI_01 b) d_Mg_stands_113 ⟨by rw [hb], rfl, rfl, z_up_s _ _ _, z_fr_up g2 (by simp)⟩
    · refine z_aload_n (pc' := 42) X d_Mg_stands_41 rfl rfl ?_
      refine z_aload_n (pc' := 43) X d_Mg_stands_42 rfl rfl ?_
      refine z_get (pc' := 46) X 4 f_Mg_57 d_Mg_stands_43 (by assumption) rfl rfl ?_
      refine z_aload_n (pc' := 47) X d_Mg_stands_46 rfl rfl ?_
      refine z_get (pc' := 50) X 5 f_Mg_74 d_Mg_stands_47 (by assumption) rfl rfl ?_
      refine z_mmax (pc' := 53) X l_Mg_77 ms_max mi_Math mc_max d_Mg_stands_50 rfl (by decide) (Nat.le_of_ble_eq_true rfl) ⟨by omega, by omega⟩ rfl ?_
      refine z_put (pc' := 56) X 4 f_Mg_57 (g_Mg_57 _) d_Mg_stands_53 (by assumption) rfl rfl rfl rfl rfl ?_
      refine z_goto (pc' := 112) X d_Mg_stands_56 (by decide) ?_
      have hr := (hz ((r1, if r2 < eS e then eS e else r2, r3, r4, r5), z_fre (r1, r2, r3, r4, r5) e)).mpr (by simp only [if_pos c_38])
      subst hr
      refine z_iload_n (pc' := 113) X d_Mg_stands_112 rfl rfl ?_
      refine z_zret X rfl (bI_01 b) d_Mg_stands_113 ⟨by rw [hb], rfl, rfl, z_up_s _ _ _, z_fr_up g2 (by simp)⟩
  refine z_aload_n (pc' := 6) X d_Mg_stands_5 rfl rfl ?_
  refine z_get (pc' := 9) X 5 f_Mg_74 d_Mg_stands_6 (by assumption) rfl rfl ?_
  refine z_aload_n (pc' := 10) X d_Mg_stands_9 rfl rfl ?_
  refine z_get (pc' := 13) X 4 f_Mg_57 d_Mg_stands_10 (by assumption) rfl rfl ?_
  refine z_icmp_le (tgt := 31) (pc' := 16) X d_Mg_stands_13 (by decide) rfl (fun c_13 => ?_) (fun c_13 => ?_)
  · refine z_iconst (pc' := 32) (v := 0) X d_Mg_stands_31 (by decide) rfl ?_
    exact next false (by unfold z_fre; simp [Int32.not_lt.mpr c_13])
  · refine z_aload_n (pc' := 17) X d_Mg_stands_16 rfl rfl ?_
    refine z_get (pc' := 20) X 5 f_Mg_74 d_Mg_stands_17 (by assumption) rfl rfl ?_
    refine z_aload_n (pc' := 21) X d_Mg_stands_20 rfl rfl ?_
    refine z_get (pc' := 24) X 6 f_Mg_63 d_Mg_stands_21 (by assumption) rfl rfl ?_
    refine z_icmp_le (tgt := 31) (pc' := 27) X d_Mg_stands_24 (by decide) rfl (fun c_24 => ?_) (fun c_24 => ?_)
    · refine z_iconst (pc' := 32) (v := 0) X d_Mg_stands_31 (by decide) rfl ?_
      exact next false (by unfold z_fre; simp [Int32.not_lt.mpr c_24])
    · refine z_iconst (pc' := 28) (v := 1) X d_Mg_stands_27 (by decide) rfl ?_
      refine z_goto (pc' := 32) X d_Mg_stands_28 (by decide) ?_
      exact next true (by unfold z_fre; simp [Int32.not_le.mp c_13, Int32.not_le.mp c_24])
theorem c_Mg_begin {La : z_LA} {g srcs at' out ds co do' cs' : Nat} {xs xo : List Nat} {q : z_Q5} (hp : z_pool G h La) (h1 : h g = some (z_ob 1 (z_mgf srcs at' out q))) (h2 : La srcs = some (ds, xs, cs')) (h3 : La out = some (do', xo, co)) (hne : srcs ≠ out) : z_C G A m_Mg_begin 0 0 [.ref g] h (fun v h' k n => v = none ∧ k = 0 ∧ n = 0 ∧ z_pool G h' (z_lu (z_lu La srcs (ds, [], cs')) out (do', [], co)) ∧ h' g = some (z_ob 1 (z_mgf srcs at' out (-1, q.2))) ∧ z_fm G g at' h h' ∧ ∀ (b : Nat) (e : va_E), h b = some e → ¬ z_isl G e → b ≠ g → h' b = some e) := by
  obtain ⟨q1, q2, q3, q4, q5⟩ := q
  obtain ⟨f1, g1⟩ := P_ob hp h2
  refine z_C.of (by decide +kernel) rfl (Nat.le_of_ble_eq_true rfl) ?_
  intro x X
  refine z_aload_n (pc' := 1) X d_Mg_begin_0 rfl rfl ?_
  refine z_get (pc' := 4) X 0 f_Mg_12 d_Mg_begin_1 (by assumption) rfl rfl ?_
  refine z_callV X (P_clear hp h2) k_Mg_25 d_Mg_begin_4 (by assumption) (show classes[6]? = some _ from rfl) rfl rfl rfl (by decide) (Nat.le_of_ble_eq_true rfl) ⟨by omega, by omega⟩ (fun v_4 h_4 k_4 n_4 p_4 => ?_)
  obtain ⟨rfl, rfl, rfl, p1, p2⟩ := p_4
  have t1 : h_4 g = some (z_ob 1 (z_mgf srcs at' out (q1, q2, q3, q4, q5))) := p2 _ _ h1 (z_isl_ob (by decide))
  have t2 : z_lu La srcs (ds, [], cs') out = some (do', xo, co) := by rw [z_lu_n _ _ (Ne.symm hne)]; exact h3
  obtain ⟨f2, g2⟩ := P_ob p1 t2
  refine z_aload_n (pc' := 8) X d_Mg_begin_7 rfl rfl ?_
  refine z_get (pc' := 11) X 2 f_Mg_22 d_Mg_begin_8 (by assumption) rfl rfl ?_
  refine z_callV X (P_clear p1 t2) k_Mg_25 d_Mg_begin_11 (by assumption) (show classes[6]? = some _ from rfl) rfl rfl rfl (by decide) (Nat.le_of_ble_eq_true rfl) ⟨by omega, by omega⟩ (fun v_11 h_11 k_11 n_11 p_11 => ?_)
  obtain ⟨rfl, rfl, rfl, p3, p4⟩ := p_11
  have t3 : h_11 g = some (z_ob 1 (z_mgf srcs at' out (q1, q2, q3, q4, q5))) := p4 _ _ t1 (z_isl_ob (by decide))
  refine z_aload_n (pc' := 15) X d_Mg_begin_14 rfl rfl ?_
  refine z_iconst (pc' := 16) (v := (-1)) X d_Mg_begin_15 (by decide) rfl ?_
  refine z_put (pc' := 19) X 3 f_Mg_28 (g_Mg_28 _) d_Mg_begin_16 (by assumption) rfl rfl rfl rfl rfl ?_
  exact z_vret X rfl d_Mg_begin_19 (⟨rfl, rfl, rfl, z_pool_up p3 t3 (z_isl_ob (by decide)) (fun _ => ⟨1, _, z_up_s _ _ _, Or.inl (by decide)⟩), z_up_s _ _ _, z_fm_g (z_fm_nl (z_nl_tr p2 p4)), fun b e hb hl hg => by rw [z_up_n _ _ hg]; exact p4 b e (p2 b e hb hl) hl⟩)
theorem c_Mg_add {La : z_LA} {g s srcs at' out ds cap : Nat} {xs es : List Nat} {q : z_Q5} (hp : z_pool G h La) (h1 : h g = some (z_ob 1 (z_mgf srcs at' out q))) (h2 : La srcs = some (ds, xs, cap)) (hs : z_src G h La s es) (hl : es.length < 2 ^ 20) (hc : cap < 2 ^ 18) : z_C G A m_Mg_add 1 (2 * cap + 10) [.ref g, .ref s] h (fun v h' k n => v = none ∧ ∃ d' cap', z_pool G h' (z_lu La srcs (d', (if es = [] then xs else xs ++ [s]), cap')) ∧ z_nl G h h' ∧ z_gw cap xs.length cap' k n) := by
  have hso : z_isob h s := by
    rcases hs with ⟨al, d, cap, s1, -⟩ | ⟨arr, w, c, f, s1, -⟩
    · exact ⟨3, _, s1, Or.inl (by decide)⟩
    · exact ⟨4, _, s1, Or.inl (by decide)⟩
  obtain ⟨f1, g1⟩ := P_ob hp h2
  refine z_C.of (by decide +kernel) rfl (Nat.le_of_ble_eq_true rfl) ?_
  intro x X
  have size : ∀ (L : List (Option Value)) (st : List Value), L.length = 2 → (st.map fun v => v.category).sum ≤ 8 → z_V G A x h 0 0 6 L (.int (nI es.length) :: st) → z_V G A x h 0 0 1 L (.ref s :: st) := by
    intro L st hll hst kk
    rcases hs with ⟨al, d, cap, s1, s2⟩ | ⟨arr, w, c, f, s1, s2, s3⟩
    · exact z_callF X (c_Mt_size hp s1 s2) k_Mg_32_Mt d_Mg_add_1 s1 (show classes[3]? = some _ from rfl) rfl rfl hll (by decide) hst ⟨by omega, by omega⟩ (z_kp kk)
    · exact z_callF X (c_Ta_size s1 s2) k_Mg_32_Ta d_Mg_add_1 s1 (show classes[4]? = some _ from rfl) rfl rfl hll (by decide) hst ⟨by omega, by omega⟩ (z_kp kk)
  refine z_aload_n (pc' := 1) X d_Mg_add_0 rfl rfl ?_
  refine size _ _ rfl (Nat.le_of_ble_eq_true rfl) ?_
  refine z_if_le (tgt := 18) (pc' := 9) X d_Mg_add_6 (by decide) rfl (fun c_6 => ?_) (fun c_6 => ?_)
  · have he : es = [] := by
      rcases Nat.eq_zero_or_pos es.length with q | q
      · exact List.length_eq_zero_iff.mp q
      · exact absurd c_6 (nI_nle q (by omega))
    have hlu : z_lu La srcs (ds, xs, cap) = La := by
      funext b
      unfold z_lu
      split
      · rename_i hb
        rw [hb, h2]
      · rfl
    exact z_vret X rfl d_Mg_add_18 (⟨rfl, ds, cap, by rw [if_pos he, hlu]; exact hp, z_nl_rf, Nat.le_refl _, by omega, by omega, Or.inl rfl⟩)
  · have he : es ≠ [] := fun e => by
      rw [e] at c_6
      exact c_6 (by decide)
    refine z_aload_n (pc' := 10) X d_Mg_add_9 rfl rfl ?_
    refine z_get (pc' := 13) X 0 f_Mg_12 d_Mg_add_10 (by assumption) rfl rfl ?_
    refine z_aload_n (pc' := 14) X d_Mg_add_13 rfl rfl ?_
    refine z_callV X (P_add hp h2 hso hc) k_Mg_38 d_Mg_add_14 (by assumption) (show classes[6]? = some _ from rfl) rfl rfl rfl (by decide) (Nat.le_of_ble_eq_true rfl) ⟨by omega, by omega⟩ (fun v_14 h_14 k_14 n_14 p_14 => ?_)
    obtain ⟨rfl, d', cap', p1, p2, p3⟩ := p_14
    refine z_pop (pc' := 18) X d_Mg_add_17 rfl rfl ?_
    exact z_vret X rfl d_Mg_add_18 (⟨rfl, d', cap', by rw [if_neg he]; exact p1, p2, by rw [Nat.zero_add, Nat.zero_add]; exact p3⟩)
end MG
