/-! the order of all sources; enter -/
def z_all (sc tt : Nat → List Nat) (tb : Nat → z_TB) (T : List Nat) : List Nat := T.flatMap (fun t => sc (bM (tb t)) ++ (tt t).flatMap sc)
theorem z_all_mem {sc tt : Nat → List Nat} {tb : Nat → z_TB} {T : List Nat} {a : Nat} : a ∈ z_all sc tt tb T ↔ ∃ t ∈ T, a ∈ sc (bM (tb t)) ∨ ∃ s ∈ tt t, a ∈ sc s := by
  unfold z_all
  rw [List.mem_flatMap]
  constructor
  · rintro ⟨t, ht, ha⟩
    rcases List.mem_append.mp ha with q | q
    · exact ⟨t, ht, Or.inl q⟩
    · exact ⟨t, ht, Or.inr (List.mem_flatMap.mp q)⟩
  · rintro ⟨t, ht, ha⟩
    rcases ha with q | q
    · exact ⟨t, ht, List.mem_append_left _ q⟩
    · exact ⟨t, ht, List.mem_append_right _ (List.mem_flatMap.mpr q)⟩
/-- sources are in order, entries are of the kinds that there are, with sequence numbers up to sq and batches up to bs -/
def z_Wd (en : Nat → z_E7) (sc tt : Nat → List Nat) (tb : Nat → z_TB) (T : List Nat) (sq bs : Int32) : Prop :=
  (∀ t ∈ T, z_srt en (sc (bM (tb t))) ∧ ∀ s ∈ tt t, z_srt en (sc s) ∧ sc s ≠ []) ∧ ∀ a ∈ z_all sc tt tb T, z_vk (en a) ∧ (eS (en a)).toInt ≤ sq.toInt ∧ 0 ≤ (eB (en a)).toInt ∧ (eB (en a)).toInt ≤ bs.toInt
section WOR
variable {G : z_G} {A : Nat → Prop} {h : z_H} {o : Nat} {K : z_KA} {v : z_VS} {La : z_LA} {en : Nat → z_E7} {sc tt : Nat → List Nat} {tb : Nat → z_TB} {T B R : List Nat} {nu ag wa : Nat → Int32}
theorem z_Wd_WS {sq bs : Int32} (hd : z_Wd en sc tt tb T sq bs) (ht : z_tot sc tt tb T ≤ 255) : z_WS en sc tt tb T := by
  refine ⟨fun t htm => ⟨z_srt_rs (hd.1 t htm).1 (fun a ha => (hd.2 a (z_all_mem.mpr ⟨t, htm, Or.inl ha⟩)).1), fun s hs => ⟨z_srt_rs ((hd.1 t htm).2 s hs).1 (fun a ha => (hd.2 a (z_all_mem.mpr ⟨t, htm, Or.inr ⟨s, hs, ha⟩⟩)).1), ((hd.1 t htm).2 s hs).2⟩⟩, ht⟩
theorem z_Wd_WV {sq bs : Int32} (hd : z_Wd en sc tt tb T sq bs) : z_WV en sc tt tb T := fun t htm =>
  ⟨fun a ha => (hd.2 a (z_all_mem.mpr ⟨t, htm, Or.inl ha⟩)).1.1, fun s hs a ha => (hd.2 a (z_all_mem.mpr ⟨t, htm, Or.inr ⟨s, hs, ha⟩⟩)).1.1⟩
theorem z_all_ens (hI : z_I G h o K v La en sc tt tb T B R nu ag wa) : z_ens h en (z_all sc tt tb T) := fun a ha => by
  obtain ⟨t, ht, q⟩ := z_all_mem.mp ha
  obtain ⟨i1, i2, i3, i4⟩ := hI.2.2.2.1 t ht
  rcases q with q | ⟨s, hs, q⟩
  · exact i3 a q
  · exact (i4 s hs).2 a q
theorem z_all_fresh {a : Nat} (hI : z_I G h o K v La en sc tt tb T B R nu ag wa) (ha : h a = none) : a ∉ z_all sc tt tb T := z_ens_none (z_all_ens hI) ha
theorem z_srt_eu {a : Nat} {e : z_E7} {l : List Nat} (ha : a ∉ l) (hs : z_srt en l) : z_srt (z_eu en a e) l := by
  refine List.Pairwise.imp_of_mem (fun {b c} hb hc hk => ?_) hs
  rw [z_eu_n _ _ (z_mne ha hb), z_eu_n _ _ (z_mne ha hc)]
  exact hk
/-- en, sources, sequence, waiting -/
abbrev z_S4 : Type := (Nat → z_E7) × (Nat → List Nat) × Int32 × (Nat → Int32)
/-- an entry as it is when it has been entered -/
abbrev z_ee (e : z_E7) (sq bs : Int32) : z_E7 := (eR e, eC e, eT e, eL e, eV e, sq, bs)
/-- entry a has been entered into the memtable m, by batch b -/
def z_ET (m b : Nat) (a : Nat) (S S1 : z_S4) : Prop :=
  S1.1 = z_eu S.1 a (z_ee (S.1 a) (S.2.2.1 + 1) (nI b)) ∧ (∃ ms, z_srt S1.1 ms ∧ ms.Perm (a :: S.2.1 m) ∧ S1.2.1 = z_su S.2.1 m ms) ∧ S1.2.2.1 = S.2.2.1 + 1 ∧ S1.2.2.2 = upd S.2.2.2 b (S.2.2.2 b + 1)
theorem z_all_ins {t a : Nat} {ms : List Nat} (hm : ∀ u ∈ T, u ≠ t → bM (tb u) ≠ bM (tb t)) (hn : ∀ u ∈ T, ∀ s ∈ tt u, s ≠ bM (tb t)) (ht : t ∈ T) (hp : ms.Perm (a :: sc (bM (tb t)))) : ∀ c, c ∈ z_all (z_su sc (bM (tb t)) ms) tt tb T ↔ c = a ∨ c ∈ z_all sc tt tb T := by
  intro c
  rw [z_all_mem, z_all_mem]
  constructor
  · rintro ⟨u, hu, q⟩
    rcases q with q | ⟨s, hs, q⟩
    · by_cases hut : u = t
      · subst hut
        rw [z_su_s] at q
        rcases List.mem_cons.mp (hp.mem_iff.mp q) with q | q
        · exact Or.inl q
        · exact Or.inr ⟨u, hu, Or.inl q⟩
      · rw [z_su_n _ _ (hm u hu hut)] at q
        exact Or.inr ⟨u, hu, Or.inl q⟩
    · rw [z_su_n _ _ (hn u hu s hs)] at q
      exact Or.inr ⟨u, hu, Or.inr ⟨s, hs, q⟩⟩
  · rintro (rfl | ⟨u, hu, q⟩)
    · exact ⟨t, ht, Or.inl (by rw [z_su_s]; exact hp.mem_iff.mpr List.mem_cons_self)⟩
    · rcases q with q | ⟨s, hs, q⟩
      · by_cases hut : u = t
        · subst hut
          exact ⟨u, hu, Or.inl (by rw [z_su_s]; exact hp.mem_iff.mpr (List.mem_cons_of_mem _ q))⟩
        · exact ⟨u, hu, Or.inl (by rw [z_su_n _ _ (hm u hu hut)]; exact q)⟩
      · exact ⟨u, hu, Or.inr ⟨s, hs, by rw [z_su_n _ _ (hn u hu s hs)]; exact q⟩⟩
theorem z_tot_ins {t a : Nat} {ms : List Nat} (hT : T.Nodup) (hm : ∀ u ∈ T, u ≠ t → bM (tb u) ≠ bM (tb t)) (hn : ∀ u ∈ T, ∀ s ∈ tt u, s ≠ bM (tb t)) (ht : t ∈ T) (hp : ms.Perm (a :: sc (bM (tb t)))) : z_tot (z_su sc (bM (tb t)) ms) tt tb T = z_tot sc tt tb T + 1 := by
  have e : ∀ u ∈ T, ((tt u).map (fun s => (z_su sc (bM (tb t)) ms s).length)).sum = ((tt u).map (fun s => (sc s).length)).sum := fun u hu => by
    congr 1
    exact List.map_congr_left (fun s hs => by rw [z_su_n _ _ (hn u hu s hs)])
  have h1 := z_sum_upd (g := z_tsz sc tt tb) (g' := z_tsz (z_su sc (bM (tb t)) ms) tt tb) (t := t) T hT ht (fun u hu hut => by
    unfold z_tsz
    rw [z_su_n _ _ (hm u hu hut), e u hu])
  have h2 : z_tsz (z_su sc (bM (tb t)) ms) tt tb t = z_tsz sc tt tb t + 1 := by
    unfold z_tsz
    rw [z_su_s, e t ht, hp.length_eq, List.length_cons]
    omega
  unfold z_tot
  omega
theorem z_sq1 {q : Int32} (h0 : 0 ≤ q.toInt) (h1 : q.toInt < 1048575) : (q + 1).toInt = q.toInt + 1 := by
  have e1 : q = nI q.toInt.toNat := z_ofnat h0
  have e2 : q + 1 = nI (q.toInt.toNat + 1) := by
    rw [← nI_1, ← e1]
  rw [e2, nI_toInt (by omega)]
  omega
theorem z_Wd_ins {t a b : Nat} {S1 : z_S4} {sq : Int32} (hd : z_Wd en sc tt tb T sq (nI b)) (hb : b < 2 ^ 20) (hm : ∀ u ∈ T, u ≠ t → bM (tb u) ≠ bM (tb t)) (hn : ∀ u ∈ T, ∀ s ∈ tt u, s ≠ bM (tb t)) (ht : t ∈ T) (ha : a ∉ z_all sc tt tb T) (hv : z_va (en a)) (h0 : 0 ≤ sq.toInt) (h1 : sq.toInt < 1048575) (he : z_ET (bM (tb t)) b a (en, sc, sq, wa) S1) : z_Wd S1.1 S1.2.1 tt tb T (sq + 1) (nI b) := by
  obtain ⟨e1, ⟨ms, q1, q2, q3⟩, -, -⟩ := he
  have e1 : S1.1 = z_eu en a (z_ee (en a) (sq + 1) (nI b)) := e1
  have hall := z_all_ins (sc := sc) hm hn ht q2
  have hne : ∀ u ∈ T, a ∉ sc (bM (tb u)) ∧ ∀ s ∈ tt u, a ∉ sc s := fun u hu => ⟨fun q => ha (z_all_mem.mpr ⟨u, hu, Or.inl q⟩), fun s hs q => ha (z_all_mem.mpr ⟨u, hu, Or.inr ⟨s, hs, q⟩⟩)⟩
  have hsq := z_sq1 h0 h1
  have hbi := nI_toInt (n := b) (by omega)
  rw [q3]
  refine ⟨fun u hu => ⟨?_, fun s hs => ?_⟩, fun c hc => ?_⟩
  · by_cases hut : u = t
    · subst hut
      rw [z_su_s]
      exact q1
    · rw [z_su_n _ _ (hm u hu hut), e1]
      exact z_srt_eu (hne u hu).1 (hd.1 u hu).1
  · rw [z_su_n _ _ (hn u hu s hs), e1]
    exact ⟨z_srt_eu ((hne u hu).2 s hs) ((hd.1 u hu).2 s hs).1, ((hd.1 u hu).2 s hs).2⟩
  · rcases (hall c).mp hc with rfl | hc
    · rw [e1, z_eu_s]
      refine ⟨⟨hv, ?_, ?_⟩, ?_, ?_, ?_⟩
      · show 0 ≤ (sq + 1).toInt
        omega
      · show (sq + 1).toInt < 1048576
        omega
      · exact Int.le_refl _
      · show 0 ≤ (nI b).toInt
        omega
      · exact Int.le_refl _
    · rw [e1, z_eu_n _ _ (z_mne ha hc)]
      obtain ⟨z1, z2, z3, z4⟩ := hd.2 c hc
      exact ⟨z1, by omega, z3, z4⟩
theorem c_enterS {t a b : Nat} (hI : z_I G h o K v La en sc tt tb T B R nu ag wa) (ht : t ∈ T) (ha : h a = some (z_ob 5 (z_ef (en a)))) (hb : vBs v = nI b) (hb2 : b < 513) (hd : z_Wd en sc tt tb T (vSq v) (nI b)) (htot : z_tot sc tt tb T ≤ 254) (haa : a ∉ z_all sc tt tb T) (hv : z_va (en a)) (h0 : 0 ≤ (vSq v).toInt) (h1 : (vSq v).toInt < 1048575) :
    z_C G A m_TC_enter 1 2010 [.ref o, .ref t, .ref a] h (fun val h' k n => val = none ∧ ∃ (S1 : z_S4) (La' : z_LA), z_ET (bM (tb t)) b a (en, sc, vSq v, wa) S1 ∧ z_I G h' o K (z_vq v S1.2.2.1) La' S1.1 S1.2.1 tt tb T B R nu ag S1.2.2.2 ∧ z_Wd S1.1 S1.2.1 tt tb T S1.2.2.1 (nI b) ∧ z_tot S1.2.1 tt tb T = z_tot sc tt tb T + 1 ∧ (∀ c, c ∈ z_all S1.2.1 tt tb T ↔ c = a ∨ c ∈ z_all sc tt tb T) ∧ z_fx G K h h' ∧ z_ct (z_Phi La (z_lst K tb T)) (z_Phi La' (z_lst K tb T)) k n 0 0 ∧ k ≤ 1000 ∧ n ≤ 4000) := by
  have hTn := z_T_nd hI.2.2.1.2.2.2.2.2.2.2
  have hm : ∀ u ∈ T, u ≠ t → bM (tb u) ≠ bM (tb t) := fun u hu hut => z_bM_ne hI ht hu hut
  have hn : ∀ u ∈ T, ∀ s ∈ tt u, s ≠ bM (tb t) := fun u hu s hs => z_tab_ne ((hI.2.2.2.1 u hu).2.2.2 s hs).1 (hI.2.2.2.1 t ht).2.1
  have hws := z_Wd_WS hd (by omega)
  have wt := z_WS_t hws ht
  have hne : a ∉ sc (bM (tb t)) := fun q => haa (z_all_mem.mpr ⟨t, ht, Or.inl q⟩)
  have hokm : ∀ c ∈ sc (bM (tb t)), z_vk (en c) := fun c hc => (hd.2 c (z_all_mem.mpr ⟨t, ht, Or.inl hc⟩)).1
  have hsq := z_sq1 h0 h1
  have hvk : z_vk (z_ee (en a) (vSq v + 1) (vBs v)) := ⟨hv, by show 0 ≤ (vSq v + 1).toInt; omega, by show (vSq v + 1).toInt < 1048576; omega⟩
  refine (c_enter hI ht ha hb hb2 (z_srt_mo (hd.1 t ht).1 hokm hvk (fun c hc => z_eu_n _ _ (z_mne hne hc))) wt.2.2.1).mono (fun _ val h' k n _ hp => ?_)
  obtain ⟨e1, p, La', r1, r2, r3, r4, r5, r6, r7, r8⟩ := hp
  have hsr := z_srt_eu (e := z_ee (en a) (vSq v + 1) (vBs v)) hne (hd.1 t ht).1
  obtain ⟨s1, s2⟩ := z_srt_ins (en := z_eu en a (z_ee (en a) (vSq v + 1) (vBs v))) (y := a) (p := p) hsr (fun c hc => by rw [z_eu_n _ _ (z_mne hne hc)]; exact hokm c hc) (by rw [z_eu_s]; exact hvk) (fun c hc => by
    rw [z_eu_n _ _ (z_mne hne hc), z_eu_s]
    intro q
    have z1 := (hd.2 c (z_all_mem.mpr ⟨t, ht, Or.inl hc⟩)).2.1
    rw [q] at z1
    have z2 : (eS (z_ee (en a) (vSq v + 1) (vBs v))).toInt = (vSq v + 1).toInt := rfl
    omega) (by rw [z_eu_s]; exact r2) (by rw [z_eu_s]; exact r3)
  have het : z_ET (bM (tb t)) b a (en, sc, vSq v, wa) (z_eu en a (z_ee (en a) (vSq v + 1) (vBs v)), z_su sc (bM (tb t)) ((sc (bM (tb t))).take p ++ a :: (sc (bM (tb t))).drop p), vSq v + 1, upd wa b (wa b + 1)) := by
    refine ⟨?_, ⟨_, s1, s2, rfl⟩, rfl, rfl⟩
    rw [hb]
  exact ⟨e1, _, La', het, r4, z_Wd_ins hd (by omega) hm hn ht haa hv h0 h1 het, z_tot_ins hTn hm hn ht s2, z_all_ins hm hn ht s2, r5, r6, r7, r8⟩
end WOR
