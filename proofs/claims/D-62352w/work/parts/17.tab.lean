/-! tables, sources -/
def z_bit (r : Int32) : Int64 := ((1 : Int64) <<< (((7 * r + 3) &&& 63).toInt64 &&& 63)) ||| ((1 : Int64) <<< (((13 * r + 29) &&& 63).toInt64 &&& 63))
def z_flt (en : Nat → z_E7) (es : List Nat) : Int64 := es.foldl (fun w a => w ||| z_bit (eR (en a))) 0
def z_era (en : Nat → z_E7) (es : List Nat) : Nat := es.countP (fun a => decide (eL (en a) = 0))
/-- how many entries have a row less than r -/
def z_fo (en : Nat → z_E7) (es : List Nat) (r : Int32) : Nat := es.countP (fun a => decide (eR (en a) < r))
def z_lks (en : Nat → z_E7) (es : List Nat) (r : Int32) : Nat := if z_flt en es &&& z_bit r = z_bit r then (if z_fo en es r = z_fo en es (r + 1) then 1 else (z_fo en es (r + 1) - 1) / 4 - z_fo en es r / 4 + 1) else 0
def z_rs (en : Nat → z_E7) (es : List Nat) : Prop := es.Pairwise (fun a b => eR (en a) ≤ eR (en b))
def z_tab (G : z_G) (h : z_H) (en : Nat → z_E7) (a : Nat) (es : List Nat) : Prop := ∃ (arr : Nat) (f : Nat → Option Nat), h a = some (z_ob 4 [.ref arr, .long (z_flt en es), .int (nI (z_era en es))]) ∧ h arr = some (z_ra (z_cE G) es.length f) ∧ ∀ i, i < es.length → f i = es[i]?
def z_src (G : z_G) (h : z_H) (La : z_LA) (s : Nat) (es : List Nat) : Prop := (∃ al d cap, h s = some (z_ob 3 [.ref al]) ∧ La al = some (d, es, cap)) ∨ (∃ (arr : Nat) (w c : Value) (f : Nat → Option Nat), h s = some (z_ob 4 [.ref arr, w, c]) ∧ h arr = some (z_ra (z_cE G) es.length f) ∧ ∀ i, i < es.length → f i = es[i]?)
theorem z_bs {P : Nat → Bool} {es : List Nat} {p : Nat} (hp : p ≤ es.length) (h1 : ∀ i a : Nat, i < p → es[i]? = some a → P a = true) (h2 : ∀ i a : Nat, p ≤ i → es[i]? = some a → P a = false) : es.countP P = p := by
  have e1 : (es.take p).countP P = p := by
    rw [List.countP_eq_length.mpr, List.length_take]
    · omega
    · intro a ha
      obtain ⟨i, hi⟩ := List.getElem?_of_mem ha
      rw [List.getElem?_take] at hi
      split at hi
      · rename_i q
        exact h1 i a q hi
      · cases hi
  have e2 : (es.drop p).countP P = 0 := by
    rw [List.countP_eq_zero]
    intro a ha
    obtain ⟨i, hi⟩ := List.getElem?_of_mem ha
    rw [List.getElem?_drop] at hi
    rw [h2 (p + i) a (by omega) hi]
    decide
  rw [← List.take_append_drop p es, List.countP_append, e1, e2]
  rfl
theorem z_rs_mo {en : Nat → z_E7} {es : List Nat} (hs : z_rs en es) {i j a b : Nat} (hij : i ≤ j) (ha : es[i]? = some a) (hb : es[j]? = some b) : eR (en a) ≤ eR (en b) := by
  obtain ⟨l1, e1⟩ := List.getElem?_eq_some_iff.mp ha
  obtain ⟨l2, e2⟩ := List.getElem?_eq_some_iff.mp hb
  rcases Nat.lt_or_ge i j with q | q
  · have := List.pairwise_iff_getElem.mp hs i j l1 l2 q
    rw [e1, e2] at this
    exact this
  · have e : i = j := by omega
    subst e
    rw [ha] at hb
    cases hb
    exact Int32.le_refl _
theorem z_flt_app (en : Nat → z_E7) (es : List Nat) (a : Nat) : z_flt en (es ++ [a]) = z_flt en es ||| z_bit (eR (en a)) := by
  unfold z_flt
  rw [List.foldl_append]
  rfl
theorem z_era_app (en : Nat → z_E7) (es : List Nat) (a : Nat) : z_era en (es ++ [a]) = z_era en es + (if eL (en a) = 0 then 1 else 0) := by
  unfold z_era
  rw [List.countP_append]
  congr 1
  by_cases hl : eL (en a) = 0 <;> simp [hl]
section TAB
variable {G : z_G} {A : Nat → Prop} {h : z_H}
theorem z_cne {x : z_X} {M : z_M} {mc ms : Nat} {Post : z_T} (X : z_O G A x M mc ms Post) : z_cE G ≠ z_cO G := by
  obtain ⟨p, e, R, s, m, args, below, meth, c, Q⟩ := x
  obtain ⟨hx, hb, hml, hown, hK, -⟩ := X
  intro he
  obtain ⟨k1, c1, a1, a2, -⟩ := (hK.2.2.2.2.2.1.2 1 (z_cO G, .object "java/lang/Object") rfl).2
  obtain ⟨k2, c2, b1, b2, -⟩ := (hK.2.2.2.2.2.1.2 2 (z_cE G, .object "TabletCells$Entry") rfl).2
  have b1 : s.vm.classes[z_cE G]? = some k2 := b1
  rw [he] at b1
  cases a1.symm.trans b1
  have := a2.symm.trans b2
  simp at this
/-- cells at S move, lists stay -/
theorem z_pool_S {La : z_LA} {hh : z_H} {S : List Nat} (hp : z_pool G h La) (hf : z_fr h hh S) (hS : ∀ b ∈ S, ∀ e, h b = some e → ¬ z_isl G e ∧ (z_isob h b → z_isob hh b)) : z_pool G hh La := by
  refine z_pool_fr hp (fun b e hb hl => hf b e hb (fun hm => (hS b hm e hb).1 hl)) (fun y hy => ?_)
  by_cases hm : y ∈ S
  · obtain ⟨ci, fs, g1, g2⟩ := id hy
    exact (hS y hm _ g1).2 hy
  · exact z_isob_fr hf hy hm
theorem c_Ta_bits {r : Int32} : z_C G A m_Ta_bits 0 0 [.int r] h (z_pu (some (.long (z_bit r))) h) := by
  refine z_C.of (by decide +kernel) rfl (Nat.le_of_ble_eq_true rfl) ?_
  intro x X
  refine z_lconst (pc' := 1) (v := 1) X d_Ta_bits_0 (by decide) rfl ?_
  refine z_bipush (pc' := 3) (v := 7) X d_Ta_bits_1 (by decide) rfl ?_
  refine z_iload_n (pc' := 4) X d_Ta_bits_3 rfl rfl ?_
  refine z_imul (pc' := 5) X d_Ta_bits_4 rfl ?_
  refine z_iconst (pc' := 6) (v := 3) X d_Ta_bits_5 (by decide) rfl ?_
  refine z_iadd (pc' := 7) X d_Ta_bits_6 rfl ?_
  refine z_bipush (pc' := 9) (v := 63) X d_Ta_bits_7 (by decide) rfl ?_
  refine z_iand (pc' := 10) X d_Ta_bits_9 rfl ?_
  refine z_lshl (pc' := 11) X d_Ta_bits_10 rfl ?_
  refine z_lconst (pc' := 12) (v := 1) X d_Ta_bits_11 (by decide) rfl ?_
  refine z_bipush (pc' := 14) (v := 13) X d_Ta_bits_12 (by decide) rfl ?_
  refine z_iload_n (pc' := 15) X d_Ta_bits_14 rfl rfl ?_
  refine z_imul (pc' := 16) X d_Ta_bits_15 rfl ?_
  refine z_bipush (pc' := 18) (v := 29) X d_Ta_bits_16 (by decide) rfl ?_
  refine z_iadd (pc' := 19) X d_Ta_bits_18 rfl ?_
  refine z_bipush (pc' := 21) (v := 63) X d_Ta_bits_19 (by decide) rfl ?_
  refine z_iand (pc' := 22) X d_Ta_bits_21 rfl ?_
  refine z_lshl (pc' := 23) X d_Ta_bits_22 rfl ?_
  refine z_lor (pc' := 24) X d_Ta_bits_23 rfl ?_
  exact z_lret X rfl d_Ta_bits_24 (⟨rfl, rfl, rfl, rfl⟩)
theorem c_Ta_size {s arr n : Nat} {f : Nat → Option Nat} {w c : Value} (h1 : h s = some (z_ob 4 [.ref arr, w, c])) (h2 : h arr = some (z_ra (z_cE G) n f)) : z_C G A m_Ta_size 0 0 [.ref s] h (z_pu (some (.int (nI n))) h) := by
  refine z_C.of (by decide +kernel) rfl (Nat.le_of_ble_eq_true rfl) ?_
  intro x X
  refine z_aload_n (pc' := 1) X d_Ta_size_0 rfl rfl ?_
  refine z_get (pc' := 4) X 0 f_Ta_17 d_Ta_size_1 (by assumption) rfl rfl ?_
  refine z_alen (pc' := 5) X 2 d_Ta_size_4 h2 rfl rfl ?_
  exact z_iret X rfl d_Ta_size_5 (⟨rfl, rfl, rfl, rfl⟩)
theorem c_Ta_at {s arr n i b : Nat} {f : Nat → Option Nat} {w c : Value} (h1 : h s = some (z_ob 4 [.ref arr, w, c])) (h2 : h arr = some (z_ra (z_cE G) n f)) (hi : i < n) (hn : n < 2 ^ 31) (hf : f i = some b) : z_C G A m_Ta_at 0 0 [.ref s, .int (nI i)] h (z_pu (some (.ref b)) h) := by
  refine z_C.of (by decide +kernel) rfl (Nat.le_of_ble_eq_true rfl) ?_
  intro x X
  refine z_aload_n (pc' := 1) X d_Ta_at_0 rfl rfl ?_
  refine z_get (pc' := 4) X 0 f_Ta_17 d_Ta_at_1 (by assumption) rfl rfl ?_
  refine z_iload_n (pc' := 5) X d_Ta_at_4 rfl rfl ?_
  refine z_aaload (pc' := 6) X 2 d_Ta_at_5 h2 rfl hi hn hf rfl ?_
  exact z_aret X rfl (Or.inl ⟨_, rfl⟩) (by first | exact Or.inr ⟨_, rfl⟩ | exact Or.inl rfl) d_Ta_at_6 (⟨rfl, rfl, rfl, rfl⟩)
theorem c_Ta_blocks {s arr n : Nat} {f : Nat → Option Nat} {w c : Value} (h1 : h s = some (z_ob 4 [.ref arr, w, c])) (h2 : h arr = some (z_ra (z_cE G) n f)) (hn : n < 2 ^ 20) : z_C G A m_Ta_blocks 0 0 [.ref s] h (z_pu (some (.int (nI ((n + 3) / 4)))) h) := by
  refine z_C.of (by decide +kernel) rfl (Nat.le_of_ble_eq_true rfl) ?_
  intro x X
  refine z_aload_n (pc' := 1) X d_Ta_blocks_0 rfl rfl ?_
  refine z_get (pc' := 4) X 0 f_Ta_17 d_Ta_blocks_1 (by assumption) rfl rfl ?_
  refine z_alen (pc' := 5) X 2 d_Ta_blocks_4 h2 rfl rfl ?_
  refine z_iconst (pc' := 6) (v := 4) X d_Ta_blocks_5 (by decide) rfl ?_
  refine z_iadd (pc' := 7) X d_Ta_blocks_6 rfl ?_
  refine z_iconst (pc' := 8) (v := 1) X d_Ta_blocks_7 (by decide) rfl ?_
  refine z_isub (pc' := 9) X d_Ta_blocks_8 rfl ?_
  refine z_iconst (pc' := 10) (v := 4) X d_Ta_blocks_9 (by decide) rfl ?_
  refine z_idiv (pc' := 11) X d_Ta_blocks_10 (by decide) rfl ?_
  refine z_top (b := .int (nI ((n + 3) / 4))) ?_ ?_
  · rw [show (4 : Int32) = nI 4 from rfl, show (1 : Int32) = nI 1 from rfl, nI_add, pk_sub (by omega), pk_div (by show n + 4 - 1 < 2 ^ 31; omega) (by decide) (by decide)]
    rfl
  exact z_iret X rfl d_Ta_blocks_11 (⟨rfl, rfl, rfl, rfl⟩)
theorem c_firstOf {La : z_LA} {en : Nat → z_E7} {s : Nat} {es : List Nat} {r : Int32} (hp : z_pool G h La) (hs : z_src G h La s es) (he : z_ens h en es) (hso : z_rs en es) (hl : es.length < 2 ^ 20) : z_C G A m_TC_firstOf 0 0 [.ref s, .int r] h (z_pu (some (.int (nI (z_fo en es r)))) h) := by
  refine z_C.of (by decide +kernel) rfl (Nat.le_of_ble_eq_true rfl) ?_
  intro x X
  have size : ∀ (L : List (Option Value)) (st : List Value), L.length = 5 → (st.map fun v => v.category).sum ≤ 8 → z_V G A x h 0 0 8 L (.int (nI es.length) :: st) → z_V G A x h 0 0 3 L (.ref s :: st) := by
    intro L st hll hst kk
    rcases hs with ⟨al, d, cap, s1, s2⟩ | ⟨arr, w, c, f, s1, s2, s3⟩
    · exact z_callF X (c_Mt_size hp s1 s2) k_TC_1_Mt d_TC_firstOf_3 s1 (show classes[3]? = some _ from rfl) rfl rfl hll (by decide) hst ⟨by omega, by omega⟩ (z_kp kk)
    · exact z_callF X (c_Ta_size s1 s2) k_TC_1_Ta d_TC_firstOf_3 s1 (show classes[4]? = some _ from rfl) rfl rfl hll (by decide) hst ⟨by omega, by omega⟩ (z_kp kk)
  have atr : ∀ (i b : Nat) (L : List (Option Value)) (st : List Value), es[i]? = some b → L.length = 5 → (st.map fun v => v.category).sum ≤ 8 → z_V G A x h 0 0 29 L (.ref b :: st) → z_V G A x h 0 0 24 L (.int (nI i) :: .ref s :: st) := by
    intro i b L st hi hll hst kk
    have hil : i < es.length := (List.getElem?_eq_some_iff.mp hi).1
    rcases hs with ⟨al, d, cap, s1, s2⟩ | ⟨arr, w, c, f, s1, s2, s3⟩
    · exact z_callF X (c_Mt_at hp s1 s2 he hi) k_TC_7_Mt d_TC_firstOf_24 s1 (show classes[3]? = some _ from rfl) rfl rfl hll (by decide) hst ⟨by omega, by omega⟩ (z_kp kk)
    · exact z_callF X (c_Ta_at s1 s2 hil (by omega) ((s3 i hil).trans hi)) k_TC_7_Ta d_TC_firstOf_24 s1 (show classes[4]? = some _ from rfl) rfl rfl hll (by decide) hst ⟨by omega, by omega⟩ (z_kp kk)
  have loop : ∀ (w lo hi : Nat) (o4 : Option Value), hi - lo ≤ w → lo ≤ hi → hi ≤ es.length → (∀ i a : Nat, i < lo → es[i]? = some a → eR (en a) < r) → (∀ i a : Nat, hi ≤ i → es[i]? = some a → ¬ eR (en a) < r) → z_V G A x h 0 0 9 [some (.ref s), some (.int r), some (.int (nI lo)), some (.int (nI hi)), o4] [] := by
    intro w
    induction w with
    | zero =>
      intro lo hi o4 e1 e2 e3 e4 e5
      have e : lo = hi := by omega
      subst e
      have hfo : z_fo en es r = lo := z_bs e3 (fun i a hi ha => by simpa using e4 i a hi ha) (fun i a hi ha => by simpa using e5 i a hi ha)
      refine z_iload_n (pc' := 10) X d_TC_firstOf_9 rfl rfl ?_
      refine z_iload_n (pc' := 11) X d_TC_firstOf_10 rfl rfl ?_
      refine z_icmp_ge (tgt := 50) (pc' := 14) X d_TC_firstOf_11 (by decide) rfl (fun c_11 => ?_) (fun c_11 => ?_)
      · refine z_iload_n (pc' := 51) X d_TC_firstOf_50 rfl rfl ?_
        exact z_iret X rfl d_TC_firstOf_51 (⟨by rw [hfo], rfl, rfl, rfl⟩)
      · exact absurd (nI_le (Nat.le_refl _) (by omega)) c_11
    | succ w ih =>
      intro lo hi o4 e1 e2 e3 e4 e5
      by_cases e6 : lo = hi
      · exact ih lo hi o4 (by omega) e2 e3 e4 e5
      refine z_iload_n (pc' := 10) X d_TC_firstOf_9 rfl rfl ?_
      refine z_iload_n (pc' := 11) X d_TC_firstOf_10 rfl rfl ?_
      refine z_icmp_ge (tgt := 50) (pc' := 14) X d_TC_firstOf_11 (by decide) rfl (fun c_11 => ?_) (fun c_11 => ?_)
      · exact absurd c_11 (nI_ge (by omega) (by omega))
      · refine z_iload_n (pc' := 15) X d_TC_firstOf_14 rfl rfl ?_
        refine z_iload_n (pc' := 16) X d_TC_firstOf_15 rfl rfl ?_
        refine z_iadd (pc' := 17) X d_TC_firstOf_16 rfl ?_
        refine z_top (b := .int (nI (lo + hi))) (by rw [nI_add]) ?_
        refine z_iconst (pc' := 18) (v := 2) X d_TC_firstOf_17 (by decide) rfl ?_
        refine z_idiv (pc' := 19) X d_TC_firstOf_18 (by decide) rfl ?_
        refine z_top (b := .int (nI ((lo + hi) / 2))) (by rw [show (2 : Int32) = nI 2 from rfl, pk_div (by omega) (by omega) (by omega)]) ?_
        generalize hmd : (lo + hi) / 2 = md
        have hml : md < es.length := by omega
        obtain ⟨b, hb⟩ : ∃ b, es[md]? = some b := ⟨_, List.getElem?_eq_getElem hml⟩
        have hbo := he b (List.mem_of_getElem? hb)
        refine z_istore (pc' := 21) X d_TC_firstOf_19 rfl rfl rfl ?_
        refine z_aload_n (pc' := 22) X d_TC_firstOf_21 rfl rfl ?_
        refine z_iload (pc' := 24) X d_TC_firstOf_22 rfl rfl ?_
        refine atr md b _ _ hb rfl (Nat.le_of_ble_eq_true rfl) ?_
        refine z_get (pc' := 32) X 0 f_TC_11 d_TC_firstOf_29 (by assumption) rfl rfl ?_
        refine z_iload_n (pc' := 33) X d_TC_firstOf_32 rfl rfl ?_
        refine z_icmp_ge (tgt := 44) (pc' := 36) X d_TC_firstOf_33 (by decide) rfl (fun c_33 => ?_) (fun c_33 => ?_)
        · refine z_iload (pc' := 46) X d_TC_firstOf_44 rfl rfl ?_
          refine z_istore_n (pc' := 47) X d_TC_firstOf_46 rfl rfl rfl ?_
          refine z_goto (pc' := 9) X d_TC_firstOf_47 (by decide) ?_
          exact ih lo md _ (by omega) (by omega) (by omega) e4 (fun i a hi' ha => Int32.not_lt.mpr (Int32.le_trans c_33 (z_rs_mo hso hi' hb ha)))
        · refine z_iload (pc' := 38) X d_TC_firstOf_36 rfl rfl ?_
          refine z_iconst (pc' := 39) (v := 1) X d_TC_firstOf_38 (by decide) rfl ?_
          refine z_iadd (pc' := 40) X d_TC_firstOf_39 rfl ?_
          refine z_top (b := .int (nI (md + 1))) (by rw [nI_1]) ?_
          refine z_istore_n (pc' := 41) X d_TC_firstOf_40 rfl rfl rfl ?_
          refine z_goto (pc' := 47) X d_TC_firstOf_41 (by decide) ?_
          refine z_goto (pc' := 9) X d_TC_firstOf_47 (by decide) ?_
          exact ih (md + 1) hi _ (by omega) (by omega) e3 (fun i a hi' ha => Int32.lt_of_le_of_lt (z_rs_mo hso (by omega) ha hb) (Int32.not_le.mp c_33)) e5
  refine z_iconst (pc' := 1) (v := 0) X d_TC_firstOf_0 (by decide) rfl ?_
  refine z_istore_n (pc' := 2) X d_TC_firstOf_1 rfl rfl rfl ?_
  refine z_aload_n (pc' := 3) X d_TC_firstOf_2 rfl rfl ?_
  refine size _ _ rfl (Nat.le_of_ble_eq_true rfl) ?_
  refine z_istore_n (pc' := 9) X d_TC_firstOf_8 rfl rfl rfl ?_
  exact loop es.length 0 es.length none (by omega) (by omega) (by omega) (fun i a hi => absurd hi (Nat.not_lt_zero i)) (fun i a hi ha => absurd (List.getElem?_eq_some_iff.mp ha).1 (by omega))
end TAB
