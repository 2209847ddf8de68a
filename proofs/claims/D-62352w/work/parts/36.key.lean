/-! the entries' order as numbers -/
def z_tk (t : Int) : Int := if t = -1 then 0 else 10000 - t
def z_key (e : z_E7) : Int := (((eR e).toInt * 9 + ((eC e).toInt + 1)) * 10001 + z_tk (eT e).toInt) * 1048576 + (1048575 - (eS e).toInt)
/-- of the kinds that there are, with a sequence number -/
def z_vk (e : z_E7) : Prop := z_va e ∧ 0 ≤ (eS e).toInt ∧ (eS e).toInt < 1048576
theorem z_lt0 (a b : Int32) : z_cmp a b < 0 ↔ a.toInt < b.toInt := by
  unfold z_cmp
  by_cases h : a < b
  · rw [if_pos h]
    exact ⟨fun _ => Int32.lt_iff_toInt_lt.mp h, fun _ => by decide⟩
  · rw [if_neg h]
    have h1 : ¬ a.toInt < b.toInt := fun q => h (Int32.lt_iff_toInt_lt.mpr q)
    split
    · exact ⟨fun q => absurd q (by decide), fun q => absurd q h1⟩
    · exact ⟨fun q => absurd q (by decide), fun q => absurd q h1⟩
theorem z_eqI {a b : Int32} : a = b ↔ a.toInt = b.toInt := Int32.toInt_inj.symm
theorem z_ag_key {e f : z_E7} (he : z_vk e) (hf : z_vk f) : z_ag e f < 0 ↔ z_key e < z_key f := by
  obtain ⟨⟨a1, a2, a3, a4, a5, a6, a7, a8, a9⟩, b1, b2⟩ := he
  obtain ⟨⟨c1, c2, c3, c4, c5, c6, c7, c8, c9⟩, d1, d2⟩ := hf
  unfold z_ag z_key
  have em : (-1 : Int32).toInt = -1 := by decide
  by_cases h1 : eR e = eR f
  · rw [if_pos h1]
    have h1' := z_eqI.mp h1
    by_cases h2 : eC e = eC f
    · rw [if_pos h2]
      have h2' := z_eqI.mp h2
      by_cases h3 : eT e = eT f
      · rw [if_pos h3, z_lt0]
        have h3' := z_eqI.mp h3
        rw [h1', h2', h3']
        omega
      · rw [if_neg h3]
        have h3' : (eT e).toInt ≠ (eT f).toInt := fun q => h3 (z_eqI.mpr q)
        by_cases h4 : eT e = -1
        · rw [if_pos h4]
          have h4' : (eT e).toInt = -1 := by rw [h4]; exact em
          refine ⟨fun _ => ?_, fun _ => by decide⟩
          rw [h1', h2']
          unfold z_tk
          rw [if_pos h4', if_neg (by omega)]
          omega
        · rw [if_neg h4]
          have h4' : (eT e).toInt ≠ -1 := fun q => h4 (z_eqI.mpr (q.trans em.symm))
          by_cases h5 : eT f = -1
          · rw [if_pos h5]
            have h5' : (eT f).toInt = -1 := by rw [h5]; exact em
            refine ⟨fun q => absurd q (by decide), fun q => ?_⟩
            rw [h1', h2'] at q
            unfold z_tk at q
            rw [if_pos h5', if_neg h4'] at q
            omega
          · rw [if_neg h5, z_lt0]
            have h5' : (eT f).toInt ≠ -1 := fun q => h5 (z_eqI.mpr (q.trans em.symm))
            rw [h1', h2']
            unfold z_tk
            rw [if_neg h5', if_neg h4']
            omega
    · rw [if_neg h2, z_lt0]
      have h2' : (eC e).toInt ≠ (eC f).toInt := fun q => h2 (z_eqI.mpr q)
      rw [h1']
      unfold z_tk
      split <;> split <;> omega
  · rw [if_neg h1, z_lt0]
    have h1' : (eR e).toInt ≠ (eR f).toInt := fun q => h1 (z_eqI.mpr q)
    unfold z_tk
    split <;> split <;> omega
theorem z_key_inj {e f : z_E7} (he : z_vk e) (hf : z_vk f) (hk : z_key e = z_key f) : eS e = eS f ∧ eR e = eR f ∧ eC e = eC f ∧ eT e = eT f := by
  obtain ⟨⟨a1, a2, a3, a4, a5, a6, a7, a8, a9⟩, b1, b2⟩ := he
  obtain ⟨⟨c1, c2, c3, c4, c5, c6, c7, c8, c9⟩, d1, d2⟩ := hf
  unfold z_key z_tk at hk
  refine ⟨z_eqI.mpr ?_, z_eqI.mpr ?_, z_eqI.mpr ?_, z_eqI.mpr ?_⟩
  · split at hk <;> split at hk <;> omega
  · split at hk <;> split at hk <;> omega
  · split at hk <;> split at hk <;> omega
  · split at hk <;> split at hk <;> omega
theorem z_key_row {e f : z_E7} (he : z_vk e) (hf : z_vk f) (hk : z_key e < z_key f) : eR e ≤ eR f := by
  obtain ⟨⟨a1, a2, a3, a4, a5, a6, a7, a8, a9⟩, b1, b2⟩ := he
  obtain ⟨⟨c1, c2, c3, c4, c5, c6, c7, c8, c9⟩, d1, d2⟩ := hf
  unfold z_key z_tk at hk
  rw [Int32.le_iff_toInt_le]
  split at hk <;> split at hk <;> omega
/-- in order -/
def z_srt (en : Nat → z_E7) (l : List Nat) : Prop := l.Pairwise (fun a b => z_key (en a) < z_key (en b))
theorem z_srt_rs {en : Nat → z_E7} {l : List Nat} (hs : z_srt en l) (ho : ∀ a ∈ l, z_vk (en a)) : z_rs en l := by
  refine List.Pairwise.imp_of_mem (fun {a b} ha hb hk => ?_) hs
  exact z_key_row (ho a ha) (ho b hb) hk
theorem z_srt_le {en : Nat → z_E7} {l : List Nat} (hs : z_srt en l) {i j a b : Nat} (hij : i ≤ j) (ha : l[i]? = some a) (hb : l[j]? = some b) : z_key (en a) ≤ z_key (en b) := by
  rcases Nat.lt_or_ge i j with h | h
  · obtain ⟨hi, ea⟩ := List.getElem?_eq_some_iff.mp ha
    obtain ⟨hj, eb⟩ := List.getElem?_eq_some_iff.mp hb
    have := List.pairwise_iff_getElem.mp hs i j hi hj h
    rw [ea, eb] at this
    omega
  · have : i = j := by omega
    subst this
    rw [ha] at hb
    cases hb
    exact Int.le_refl _
/-- the search's premise -/
theorem z_srt_mo {en en' : Nat → z_E7} {l : List Nat} {e : z_E7} (hs : z_srt en l) (ho : ∀ a ∈ l, z_vk (en a)) (he : z_vk e) (hen : ∀ a ∈ l, en' a = en a) : ∀ i j c d : Nat, i ≤ j → l[i]? = some c → l[j]? = some d → z_ag (en' d) e < 0 → z_ag (en' c) e < 0 := by
  intro i j c d hij hc hd hlt
  have mc := List.mem_of_getElem? hc
  have md := List.mem_of_getElem? hd
  rw [hen d md, z_ag_key (ho d md) he] at hlt
  rw [hen c mc, z_ag_key (ho c mc) he]
  have := z_srt_le hs hij hc hd
  omega
/-- put in at its place, it is in order -/
theorem z_srt_insK {en : Nat → z_E7} {l : List Nat} {y p : Nat} (hs : z_srt en l) (ho : ∀ a ∈ l, z_vk (en a)) (hy : z_vk (en y)) (hn : ∀ a ∈ l, z_key (en a) ≠ z_key (en y)) (h1 : ∀ i c : Nat, i < p → l[i]? = some c → z_ag (en c) (en y) < 0) (h2 : ∀ i c : Nat, p ≤ i → l[i]? = some c → ¬ z_ag (en c) (en y) < 0) : z_srt en (l.take p ++ y :: l.drop p) ∧ (l.take p ++ y :: l.drop p).Perm (y :: l) := by
  constructor
  · unfold z_srt
    rw [List.pairwise_append]
    have hc : ∀ a ∈ l.take p, z_key (en a) < z_key (en y) := fun a ha => by
      obtain ⟨i, hi, e⟩ := List.getElem_of_mem ha
      rw [List.length_take] at hi
      rw [List.getElem_take] at e
      have hg : l[i]? = some a := by rw [List.getElem?_eq_getElem (by omega), e]
      exact (z_ag_key (ho a (List.mem_of_mem_take ha)) hy).mp (h1 i a (by omega) hg)
    have hd : ∀ a ∈ l.drop p, z_key (en y) < z_key (en a) := fun a ha => by
      obtain ⟨i, hi, e⟩ := List.getElem_of_mem ha
      rw [List.length_drop] at hi
      rw [List.getElem_drop] at e
      have hg : l[p + i]? = some a := by rw [List.getElem?_eq_getElem (by omega), e]
      have hm := List.mem_of_mem_drop ha
      have k1 := h2 (p + i) a (by omega) hg
      rw [z_ag_key (ho a hm) hy] at k1
      have k2 : z_key (en a) ≠ z_key (en y) := hn a hm
      omega
    refine ⟨hs.sublist (List.take_sublist _ _), List.pairwise_cons.mpr ⟨hd, hs.sublist (List.drop_sublist _ _)⟩, fun a ha b hb => ?_⟩
    rcases List.mem_cons.mp hb with rfl | hb
    · exact hc a ha
    · have := hc a ha
      have := hd b hb
      omega
  · refine List.perm_middle.trans ?_
    rw [List.take_append_drop]
theorem z_srt_ins {en : Nat → z_E7} {l : List Nat} {y p : Nat} (hs : z_srt en l) (ho : ∀ a ∈ l, z_vk (en a)) (hy : z_vk (en y)) (hn : ∀ a ∈ l, eS (en a) ≠ eS (en y)) (h1 : ∀ i c : Nat, i < p → l[i]? = some c → z_ag (en c) (en y) < 0) (h2 : ∀ i c : Nat, p ≤ i → l[i]? = some c → ¬ z_ag (en c) (en y) < 0) : z_srt en (l.take p ++ y :: l.drop p) ∧ (l.take p ++ y :: l.drop p).Perm (y :: l) :=
  z_srt_insK hs ho hy (fun a ha q => hn a ha (z_key_inj (ho a ha) hy q).1) h1 h2
