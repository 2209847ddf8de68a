/-! the merger: merging -/
def z_p1 (ps : Nat → Nat) (k : Nat) : Nat → Nat := fun j => if j = k then ps j + 1 else ps j
def z_run (en : Nat → z_E7) (cs : Nat → List Nat) (ss : List Nat) (nd : Int32) : Nat → (Nat → Nat) → z_Q5 → List Nat
  | 0, _, _ => []
  | n + 1, ps, q => match z_bst en cs ss ps nd ss.length with
    | none => []
    | some c => (if (z_st5 q (en c.1)).2 then [c.1] else []) ++ z_run en cs ss nd n (z_p1 ps c.2) (z_st5 q (en c.1)).1
/-- how many entries are left -/
def z_rem (cs : Nat → List Nat) (ss : List Nat) (ps : Nat → Nat) : Nat → Nat
  | 0 => 0
  | k + 1 => z_rem cs ss ps k + ((cs (ss.getD k 0)).length - ps k)
theorem z_hd_lt {cs : Nat → List Nat} {ss : List Nat} {ps : Nat → Nat} {k a : Nat} (h : z_hd cs ss ps k = some a) : ps k < (cs (ss.getD k 0)).length ∧ k < ss.length := by
  unfold z_hd at h
  cases h1 : ss[k]? with
  | none => rw [h1] at h; cases h
  | some s =>
    rw [h1] at h
    have e : ss.getD k 0 = s := by rw [List.getD_eq_getElem?_getD, h1]; rfl
    rw [e]
    exact ⟨(List.getElem?_eq_some_iff.mp h).1, (List.getElem?_eq_some_iff.mp h1).1⟩
theorem z_rem_p1 {cs : Nat → List Nat} {ss : List Nat} {ps : Nat → Nat} {j : Nat} (h : ps j < (cs (ss.getD j 0)).length) : ∀ K, z_rem cs ss (z_p1 ps j) K = (if j < K then z_rem cs ss ps K - 1 else z_rem cs ss ps K) ∧ (j < K → 0 < z_rem cs ss ps K)
  | 0 => ⟨rfl, fun q => absurd q (Nat.not_lt_zero j)⟩
  | K + 1 => by
    have ih := z_rem_p1 h K
    show z_rem cs ss (z_p1 ps j) K + ((cs (ss.getD K 0)).length - z_p1 ps j K) = _ ∧ (j < K + 1 → 0 < z_rem cs ss ps K + ((cs (ss.getD K 0)).length - ps K))
    rw [ih.1]
    have e : z_rem cs ss ps (K + 1) = z_rem cs ss ps K + ((cs (ss.getD K 0)).length - ps K) := rfl
    rw [e]
    by_cases hj : K = j
    · subst hj
      have : z_p1 ps K K = ps K + 1 := by unfold z_p1; rw [if_pos rfl]
      rw [this, if_neg (by omega), if_pos (by omega)]
      constructor
      · omega
      · intro _; omega
    · have : z_p1 ps j K = ps K := by unfold z_p1; rw [if_neg hj]
      rw [this]
      by_cases hjk : j < K
      · have h2 := ih.2 hjk
        rw [if_pos hjk, if_pos (by omega)]
        constructor
        · omega
        · intro _; omega
      · rw [if_neg hjk, if_neg (by omega)]
        exact ⟨rfl, fun q => absurd q (by omega)⟩
theorem z_bst_none {en : Nat → z_E7} {cs : Nat → List Nat} {ss : List Nat} {ps : Nat → Nat} {nd : Int32} (h : z_rem cs ss ps ss.length = 0) : z_bst en cs ss ps nd ss.length = none := by
  cases hb : z_bst en cs ss ps nd ss.length with
  | none => rfl
  | some c =>
    have h1 := z_bst_some _ _ hb
    have h2 := (z_rem_p1 (z_hd_lt h1.2.1).1 ss.length).2 h1.1
    omega
/-- cost of growing, summed -/
def z_cs (c c' k n : Nat) : Prop := c ≤ c' ∧ k ≤ c' - c ∧ n ≤ 4 * (c' - c)
theorem z_gw_b {cap len cap' k n : Nat} (h : z_gw cap len cap' k n) (hc : cap ≤ 1000) (hl : len ≤ 400) : cap' ≤ 1000 := by
  obtain ⟨h1, h2, h3, h4⟩ := h
  rcases h4 with h4 | ⟨h4, h5⟩
  · omega
  · have := (z_grow_lt cap).2.1
    omega
section MG3
variable {G : z_G} {A : Nat → Prop} {h : z_H}
theorem z_src_fm {La La' : z_LA} {g at' s : Nat} {es : List Nat} {h' : z_H} {q : List Value} {f : Nat → Int32} (hcn : z_cE G ≠ z_cO G) (hs : z_src G h La s es) (hf : z_fm G g at' h h') (hg : h g = some (z_ob 1 q)) (ha : h at' = some (z_ia G 300 f)) (hL : ∀ al, h s = some (z_ob 3 [.ref al]) → La' al = La al) : z_src G h' La' s es := by
  rcases hs with ⟨al, d, cap, s1, s2⟩ | ⟨arr, w, c, f', s1, s2, s3⟩
  · exact Or.inl ⟨al, d, cap, hf _ _ s1 (z_isl_ob (by decide)) (fun e => by rw [e, hg] at s1; cases s1) (fun e => by rw [e, ha] at s1; cases s1), by rw [hL al s1]; exact s2⟩
  · refine Or.inr ⟨arr, w, c, f', hf _ _ s1 (z_isl_ob (by decide)) (fun e => by rw [e, hg] at s1; cases s1) (fun e => by rw [e, ha] at s1; cases s1), hf _ _ s2 (z_isl_ra hcn) (fun e => by rw [e, hg] at s2; cases s2) (fun e => by rw [e, ha] at s2; simp at s2), s3⟩
theorem z_ens_fm {g at' : Nat} {en : Nat → z_E7} {es : List Nat} {h' : z_H} {q : List Value} {f : Nat → Int32} (he : z_ens h en es) (hf : z_fm G g at' h h') (hg : h g = some (z_ob 1 q)) (ha : h at' = some (z_ia G 300 f)) : z_ens h' en es := fun a hm => by
  have s1 := he a hm
  exact hf _ _ s1 (z_isl_ob (by decide)) (fun e => by rw [e, hg] at s1; cases s1) (fun e => by rw [e, ha] at s1; cases s1)
theorem c_merge {La : z_LA} {en : Nat → z_E7} {cs : Nat → List Nat} {g srcs at' out ds cap do' co : Nat} {ss : List Nat} {q : z_Q5} {f : Nat → Int32} {fm nd : Int32} (hp : z_pool G h La) (h1 : h g = some (z_ob 1 (z_mgf srcs at' out q))) (h2 : La srcs = some (ds, ss, cap)) (h3 : h at' = some (z_ia G 300 f)) (h4 : La out = some (do', [], co)) (hne : srcs ≠ out) (hco : co ≤ 1000) (hlen : ss.length ≤ 300)
    (hsr : ∀ s ∈ ss, z_src G h La s (cs s) ∧ z_ens h en (cs s) ∧ (cs s).length < 2 ^ 20 ∧ z_rs en (cs s) ∧ ∀ al, h s = some (z_ob 3 [.ref al]) → al ≠ out)
    (htot : z_rem cs ss (fun k => z_fo en (cs (ss.getD k 0)) fm) ss.length ≤ 400) : z_C G A m_Mg_merge 1001 6010 [.ref g, .int fm, .int nd] h (fun v h' k n => v = some (.ref out) ∧ ∃ (d' cap' : Nat) (q' : z_Q5) (f' : Nat → Int32), z_pool G h' (z_lu La out (d', z_run en cs ss nd (z_rem cs ss (fun k => z_fo en (cs (ss.getD k 0)) fm) ss.length) (fun k => z_fo en (cs (ss.getD k 0)) fm) q, cap')) ∧ h' g = some (z_ob 1 (z_mgf srcs at' out q')) ∧ h' at' = some (z_ia G 300 f') ∧ z_fm G g at' h h' ∧ z_cs co cap' k n ∧ cap' ≤ 1000) := by
  obtain ⟨fs1, g1⟩ := P_ob hp h2
  have hga : g ≠ at' := fun e => by rw [e, h3] at h1; cases h1
  refine z_C.of (by decide +kernel) rfl (Nat.le_of_ble_eq_true rfl) ?_
  intro x X
  have hcn := z_cne X
  have cast : ∀ (hh : z_H) (La' : z_LA) (k n s : Nat) (L : List (Option Value)) (st : List Value), z_src G hh La' s (cs s) → z_V G A x hh k n 29 L (.ref s :: st) → z_V G A x hh k n 26 L (.ref s :: st) := by
    intro hh La' k n s L st hs kk
    rcases hs with ⟨al, d, cap, s1, s2⟩ | ⟨arr, w, c, f, s1, s2, s3⟩
    · exact z_cast X cl_Mg_33 cs_Memtable d_Mg_merge_26 s1 rfl rfl kk
    · exact z_cast X cl_Mg_33 cs_Table d_Mg_merge_26 s1 rfl rfl kk
  have loop2 : ∀ (m : Nat) (hh : z_H) (ps : Nat → Nat) (q' : z_Q5) (f' : Nat → Int32) (acc : List Nat) (d' cap' k n : Nat) (res : List Nat), z_rem cs ss ps ss.length = m → acc.length + m ≤ 400 → acc ++ z_run en cs ss nd m ps q' = res → z_pool G hh (z_lu La out (d', acc, cap')) → hh g = some (z_ob 1 (z_mgf srcs at' out q')) → hh at' = some (z_ia G 300 f') → (∀ k, k < ss.length → f' k = nI (ps k) ∧ ps k < 2 ^ 20) → z_fm G g at' h hh → z_cs co cap' k n → cap' ≤ 1000 →
      (∀ (h2 : z_H) (d2 cap2 k2 n2 : Nat) (q2 : z_Q5) (f2 : Nat → Int32) (o3 : Option Value), z_pool G h2 (z_lu La out (d2, res, cap2)) → h2 g = some (z_ob 1 (z_mgf srcs at' out q2)) → h2 at' = some (z_ia G 300 f2) → z_fm G g at' h h2 → z_cs co cap2 k2 n2 → cap2 ≤ 1000 → z_V G A x h2 k2 n2 76 [some (.ref g), some (.int fm), some (.int nd), o3] []) →
      ∀ (o3 : Option Value) (pcn : Nat), (pcn = 40 ∨ pcn = 67) → z_V G A x hh k n pcn [some (.ref g), some (.int fm), some (.int nd), o3] [] := by
    intro m
    induction m with
    | zero =>
      intro hh ps q' f' acc d' cap' k n res hrem hacc hres hp' hg' ha' hps hfm hcs hcap fin o3 pcn hpcn
      have hb := z_bst_none (en := en) (nd := nd) hrem
      have hs' : z_lu La out (d', acc, cap') srcs = some (ds, ss, cap) := by rw [z_lu_n _ _ hne]; exact h2
      have hsr' : ∀ s ∈ ss, z_src G hh (z_lu La out (d', acc, cap')) s (cs s) ∧ z_ens hh en (cs s) ∧ (cs s).length < 2 ^ 20 := fun s hs => by
        obtain ⟨t1, t2, t3, t4, t5⟩ := hsr s hs
        exact ⟨z_src_fm hcn t1 hfm h1 h3 (fun al hal => z_lu_n _ _ (t5 al hal)), z_ens_fm t2 hfm h1 h3, t3⟩
      have hcs0 := hcs.1
      have hcs1 := hcs.2.1
      have hcs2 := hcs.2.2
      have hres' : acc = res := by rw [← hres]; simp [z_run]
      rcases hpcn with rfl | rfl
      · refine z_aload_n (pc' := 41) X d_Mg_merge_40 rfl rfl ?_
        refine z_iload_n (pc' := 42) X d_Mg_merge_41 rfl rfl ?_
        refine z_callV X (c_next (nd := nd) hp' hg' hs' ha' hlen hps hsr') k_Mg_88 d_Mg_merge_42 (by assumption) (show classes[1]? = some _ from rfl) rfl rfl rfl (by decide) (Nat.le_of_ble_eq_true rfl) ⟨by omega, by omega⟩ (fun v_42 h_42 k_42 n_42 p_42 => ?_)
        rw [hb] at p_42
        obtain ⟨rfl, rfl, rfl, rfl⟩ := p_42
        refine z_astore_nN (pc' := 46) X d_Mg_merge_45 rfl rfl rfl ?_
        refine z_aload_nN (pc' := 47) X d_Mg_merge_46 rfl rfl ?_
        refine z_ifnullN (pc' := 76) X d_Mg_merge_47 (by decide) ?_
        exact fin _ _ _ _ _ _ _ _ (hres' ▸ hp') hg' ha' hfm hcs hcap
      · refine z_aload_n (pc' := 68) X d_Mg_merge_67 rfl rfl ?_
        refine z_iload_n (pc' := 69) X d_Mg_merge_68 rfl rfl ?_
        refine z_callV X (c_next (nd := nd) hp' hg' hs' ha' hlen hps hsr') k_Mg_88 d_Mg_merge_69 (by assumption) (show classes[1]? = some _ from rfl) rfl rfl rfl (by decide) (Nat.le_of_ble_eq_true rfl) ⟨by omega, by omega⟩ (fun v_69 h_69 k_69 n_69 p_69 => ?_)
        rw [hb] at p_69
        obtain ⟨rfl, rfl, rfl, rfl⟩ := p_69
        refine z_astore_nN (pc' := 73) X d_Mg_merge_72 rfl rfl rfl ?_
        refine z_goto (pc' := 46) X d_Mg_merge_73 (by decide) ?_
        refine z_aload_nN (pc' := 47) X d_Mg_merge_46 rfl rfl ?_
        refine z_ifnullN (pc' := 76) X d_Mg_merge_47 (by decide) ?_
        exact fin _ _ _ _ _ _ _ _ (hres' ▸ hp') hg' ha' hfm hcs hcap
    | succ m ih =>
      intro hh ps q' f' acc d' cap' k n res hrem hacc hres hp' hg' ha' hps hfm hcs hcap fin o3 pcn hpcn
      have hs' : z_lu La out (d', acc, cap') srcs = some (ds, ss, cap) := by rw [z_lu_n _ _ hne]; exact h2
      have hsr' : ∀ s ∈ ss, z_src G hh (z_lu La out (d', acc, cap')) s (cs s) ∧ z_ens hh en (cs s) ∧ (cs s).length < 2 ^ 20 := fun s hs => by
        obtain ⟨t1, t2, t3, t4, t5⟩ := hsr s hs
        exact ⟨z_src_fm hcn t1 hfm h1 h3 (fun al hal => z_lu_n _ _ (t5 al hal)), z_ens_fm t2 hfm h1 h3, t3⟩
      have hcs0 := hcs.1
      have hcs1 := hcs.2.1
      have hcs2 := hcs.2.2
      have body : ∀ (c : Nat × Nat), z_bst en cs ss ps nd ss.length = some c → z_V G A x (z_up hh at' (z_ia G 300 (upd f' c.2 (nI (ps c.2 + 1))))) k n 46 [some (.ref g), some (.int fm), some (.int nd), some (.ref c.1)] [] := by
        intro c hb
        have hc := z_bst_some _ _ hb
        have hhd := z_hd_lt hc.2.1
        have hrp := z_rem_p1 hhd.1 ss.length
        rw [if_pos hc.1] at hrp
        obtain ⟨s, hs⟩ : ∃ s, ss[c.2]? = some s := ⟨_, List.getElem?_eq_getElem hc.1⟩
        have hgd : ss.getD c.2 0 = s := by rw [List.getD_eq_getElem?_getD, hs]; rfl
        have hcm : c.1 ∈ cs s := by
          have h5 := hc.2.1
          unfold z_hd at h5
          rw [hs] at h5
          exact List.mem_of_getElem? h5
        have hco0 := (hsr' s (List.mem_of_getElem? hs)).2.1 c.1 hcm
        have hca : c.1 ≠ at' := fun e => by rw [e, ha'] at hco0; cases hco0
        have r1 : z_up hh at' (z_ia G 300 (upd f' c.2 (nI (ps c.2 + 1)))) g = some (z_ob 1 (z_mgf srcs at' out q')) := by rw [z_up_n _ _ hga]; exact hg'
        have r2 : z_up hh at' (z_ia G 300 (upd f' c.2 (nI (ps c.2 + 1)))) c.1 = some (z_ob 5 (z_ef (en c.1))) := by rw [z_up_n _ _ hca]; exact hco0
        have r3 : z_pool G (z_up hh at' (z_ia G 300 (upd f' c.2 (nI (ps c.2 + 1))))) (z_lu La out (d', acc, cap')) := z_pool_up hp' ha' z_isl_ia (fun ho => by
          obtain ⟨ci, fs, q1, -⟩ := ho
          rw [ha'] at q1
          cases q1)
        have r4 : z_fm G g at' h (z_up hh at' (z_ia G 300 (upd f' c.2 (nI (ps c.2 + 1))))) := z_fm_a hfm
        have r5 := z_up_s hh at' (z_ia G 300 (upd f' c.2 (nI (ps c.2 + 1))))
        generalize z_up hh at' (z_ia G 300 (upd f' c.2 (nI (ps c.2 + 1)))) = h3' at r1 r2 r3 r4 r5 ⊢
        have hps' : ∀ k, k < ss.length → upd f' c.2 (nI (ps c.2 + 1)) k = nI (z_p1 ps c.2 k) ∧ z_p1 ps c.2 k < 2 ^ 20 := by
          intro k hk
          by_cases hkc : k = c.2
          · subst hkc
            have hl20 := (hsr s (List.mem_of_getElem? hs)).2.2.1
            rw [hgd] at hhd
            unfold z_p1
            rw [pk_us, if_pos rfl]
            exact ⟨rfl, by omega⟩
          · unfold z_p1
            rw [pk_un hkc, if_neg hkc]
            exact hps k hk
        rw [z_run, hb] at hres
        simp only at hres
        refine z_aload_n (pc' := 47) X d_Mg_merge_46 rfl rfl ?_
        refine z_ifnullR (pc' := 50) X d_Mg_merge_47 rfl ?_
        refine z_aload_n (pc' := 51) X d_Mg_merge_50 rfl rfl ?_
        refine z_aload_n (pc' := 52) X d_Mg_merge_51 rfl rfl ?_
        refine z_callV X (c_stands r1 r2) k_Mg_91 d_Mg_merge_52 (by assumption) (show classes[1]? = some _ from rfl) rfl rfl rfl (by decide) (Nat.le_of_ble_eq_true rfl) ⟨by omega, by omega⟩ (fun v_52 h_52 k_52 n_52 p_52 => ?_)
        obtain ⟨rfl, rfl, rfl, p1, p2⟩ := p_52
        have s1 : z_pool G h_52 (z_lu La out (d', acc, cap')) := z_pool_S r3 p2 (fun b hb e he => by
          rw [List.mem_singleton.mp hb] at he ⊢
          rw [r1] at he
          cases he
          exact ⟨z_isl_ob (by decide), fun _ => ⟨1, _, p1, Or.inl (by decide)⟩⟩)
        have s2 : h_52 at' = some (z_ia G 300 (upd f' c.2 (nI (ps c.2 + 1)))) := p2 _ _ r5 (by simpa using Ne.symm hga)
        have s3 : z_fm G g at' h h_52 := z_fm_tr r4 (fun b e hb hl h1 h2 => p2 b e hb (by simpa using h1))
        have s4 : z_isob h_52 c.1 := ⟨5, _, p2 _ _ r2 (by
          have : c.1 ≠ g := fun e => by rw [e, r1] at r2; cases r2
          simpa using this), Or.inl (by decide)⟩
        have hxo : z_lu La out (d', acc, cap') out = some (d', acc, cap') := z_lu_s _ _ _
        obtain ⟨fs2, hob⟩ := P_ob s1 hxo
        cases hst : (z_st5 q' (en c.1)).2 with
        | false =>
          rw [hst] at hres
          refine z_if_eq (tgt := 67) (pc' := 58) X d_Mg_merge_55 (by decide) rfl (fun c_55 => ?_) (fun c_55 => absurd rfl c_55)
          exact ih h_52 (z_p1 ps c.2) _ _ acc d' cap' k n res (by omega) (by omega) (by simpa using hres) s1 p1 s2 hps' s3 hcs hcap fin _ 67 (Or.inr rfl)
        | true =>
          rw [hst] at hres
          refine z_if_eq (tgt := 67) (pc' := 58) X d_Mg_merge_55 (by decide) rfl (fun c_55 => absurd c_55 (by decide)) (fun c_55 => ?_)
          refine z_aload_n (pc' := 59) X d_Mg_merge_58 rfl rfl ?_
          refine z_get (pc' := 62) X 2 f_Mg_22 d_Mg_merge_59 (by assumption) rfl rfl ?_
          refine z_aload_n (pc' := 63) X d_Mg_merge_62 rfl rfl ?_
          refine z_callV X (P_add s1 hxo s4 (by omega)) k_Mg_38 d_Mg_merge_63 (by assumption) (show classes[6]? = some _ from rfl) rfl rfl rfl (by decide) (Nat.le_of_ble_eq_true rfl) ⟨by omega, by omega⟩ (fun v_63 h_63 k_63 n_63 p_63 => ?_)
          obtain ⟨rfl, d2, cap2, p3, p4, p5⟩ := p_63
          refine z_pop (pc' := 67) X d_Mg_merge_66 rfl rfl ?_
          have hcap2 := z_gw_b p5 hcap (by omega)
          obtain ⟨p51, p52, p53, -⟩ := p5
          have hlu : z_lu (z_lu La out (d', acc, cap')) out (d2, acc ++ [c.1], cap2) = z_lu La out (d2, acc ++ [c.1], cap2) := by
            funext b
            unfold z_lu
            split <;> rfl
          rw [hlu] at p3
          exact ih h_63 (z_p1 ps c.2) _ _ (acc ++ [c.1]) d2 cap2 _ _ res (by omega) (by rw [List.length_append]; show acc.length + 1 + m ≤ 400; omega) (by rw [← hres]; simp) p3 (p4 _ _ p1 (z_isl_ob (by decide))) (p4 _ _ s2 z_isl_ia) hps' (z_fm_tr s3 (z_fm_nl p4)) ⟨by omega, by omega, by omega⟩ hcap2 fin _ 67 (Or.inr rfl)
      rcases hpcn with rfl | rfl
      · refine z_aload_n (pc' := 41) X d_Mg_merge_40 rfl rfl ?_
        refine z_iload_n (pc' := 42) X d_Mg_merge_41 rfl rfl ?_
        refine z_callV X (c_next (nd := nd) hp' hg' hs' ha' hlen hps hsr') k_Mg_88 d_Mg_merge_42 (by assumption) (show classes[1]? = some _ from rfl) rfl rfl rfl (by decide) (Nat.le_of_ble_eq_true rfl) ⟨by omega, by omega⟩ (fun v_42 h_42 k_42 n_42 p_42 => ?_)
        cases hb : z_bst en cs ss ps nd ss.length with
        | none =>
          rw [hb] at p_42
          obtain ⟨rfl, rfl, rfl, rfl⟩ := p_42
          have hres' : acc = res := by rw [← hres, z_run, hb]; simp
          refine z_astore_nN (pc' := 46) X d_Mg_merge_45 rfl rfl rfl ?_
          refine z_aload_nN (pc' := 47) X d_Mg_merge_46 rfl rfl ?_
          refine z_ifnullN (pc' := 76) X d_Mg_merge_47 (by decide) ?_
          exact fin _ _ _ _ _ _ _ _ (hres' ▸ hp') hg' ha' hfm hcs hcap
        | some c =>
          rw [hb] at p_42
          obtain ⟨rfl, rfl, rfl, rfl⟩ := p_42
          refine z_astore_n (pc' := 46) X d_Mg_merge_45 rfl rfl rfl ?_
          exact body c hb
      · refine z_aload_n (pc' := 68) X d_Mg_merge_67 rfl rfl ?_
        refine z_iload_n (pc' := 69) X d_Mg_merge_68 rfl rfl ?_
        refine z_callV X (c_next (nd := nd) hp' hg' hs' ha' hlen hps hsr') k_Mg_88 d_Mg_merge_69 (by assumption) (show classes[1]? = some _ from rfl) rfl rfl rfl (by decide) (Nat.le_of_ble_eq_true rfl) ⟨by omega, by omega⟩ (fun v_69 h_69 k_69 n_69 p_69 => ?_)
        cases hb : z_bst en cs ss ps nd ss.length with
        | none =>
          rw [hb] at p_69
          obtain ⟨rfl, rfl, rfl, rfl⟩ := p_69
          have hres' : acc = res := by rw [← hres, z_run, hb]; simp
          refine z_astore_nN (pc' := 73) X d_Mg_merge_72 rfl rfl rfl ?_
          refine z_goto (pc' := 46) X d_Mg_merge_73 (by decide) ?_
          refine z_aload_nN (pc' := 47) X d_Mg_merge_46 rfl rfl ?_
          refine z_ifnullN (pc' := 76) X d_Mg_merge_47 (by decide) ?_
          exact fin _ _ _ _ _ _ _ _ (hres' ▸ hp') hg' ha' hfm hcs hcap
        | some c =>
          rw [hb] at p_69
          obtain ⟨rfl, rfl, rfl, rfl⟩ := p_69
          refine z_astore_n (pc' := 73) X d_Mg_merge_72 rfl rfl rfl ?_
          refine z_goto (pc' := 46) X d_Mg_merge_73 (by decide) ?_
          exact body c hb
  have hlu0 : z_lu La out (do', [], co) = La := by
    funext b
    unfold z_lu
    split
    · rename_i hb
      rw [hb, h4]
    · rfl
  have loop1 : ∀ (m k : Nat) (hh : z_H) (f' : Nat → Int32), m + k = ss.length → hh at' = some (z_ia G 300 f') → (∀ j, j < k → f' j = nI (z_fo en (cs (ss.getD j 0)) fm)) → z_fr h hh [at'] → z_V G A x hh 0 0 2 [some (.ref g), some (.int fm), some (.int nd), some (.int (nI k))] [] := by
    intro m
    induction m with
    | zero =>
      intro k hh f' hk ha' hf' hfr
      have hk : k = ss.length := by omega
      subst hk
      have hg' : hh g = some (z_ob 1 (z_mgf srcs at' out q)) := hfr _ _ h1 (by simpa using hga)
      have hp' : z_pool G hh La := z_pool_S hp hfr (fun b hb e he => by
        rw [List.mem_singleton.mp hb] at he ⊢
        rw [h3] at he
        cases he
        exact ⟨z_isl_ia, fun ho => by
          obtain ⟨ci, fs, q1, -⟩ := ho
          rw [h3] at q1
          cases q1⟩)
      have hfm : z_fm G g at' h hh := fun b e hb _ _ hba => hfr b e hb (by simpa using hba)
      obtain ⟨fs2, g2⟩ := P_ob hp' h2
      refine z_iload_n (pc' := 3) X d_Mg_merge_2 rfl rfl ?_
      refine z_aload_n (pc' := 4) X d_Mg_merge_3 rfl rfl ?_
      refine z_get (pc' := 7) X 0 f_Mg_12 d_Mg_merge_4 (by assumption) rfl rfl ?_
      refine z_callV X (P_size hp' h2) k_Mg_42 d_Mg_merge_7 (by assumption) (show classes[6]? = some _ from rfl) rfl rfl rfl (by decide) (Nat.le_of_ble_eq_true rfl) ⟨by omega, by omega⟩ (z_kp ?_)
      refine z_icmp_ge (tgt := 40) (pc' := 13) X d_Mg_merge_10 (by decide) rfl (fun c_10 => ?_) (fun c_10 => ?_)
      · refine loop2 _ hh (fun k => z_fo en (cs (ss.getD k 0)) fm) q f' [] do' co 0 0 _ rfl (by simpa using htot) rfl (by rw [hlu0]; exact hp') hg' ha' (fun k hk => ⟨hf' k hk, ?_⟩) hfm ⟨Nat.le_refl _, by omega, by omega⟩ hco ?_ _ 40 (Or.inl rfl)
        · have hkm : ss.getD k 0 ∈ ss := by
            rw [List.getD_eq_getElem?_getD, List.getElem?_eq_getElem hk]
            exact List.getElem_mem hk
          have := (hsr _ hkm).2.2.1
          have := z_fo_le en (cs (ss.getD k 0)) fm
          show z_fo en (cs (ss.getD k 0)) fm < 2 ^ 20
          omega
        · intro h2' d2 cap2 k2 n2 q2 f2 o3 r1 r2 r3 r4 r5 r6
          refine z_aload_n (pc' := 77) X d_Mg_merge_76 rfl rfl ?_
          refine z_get (pc' := 80) X 2 f_Mg_22 d_Mg_merge_77 (by assumption) rfl rfl ?_
          rw [List.nil_append] at r1
          exact z_aret X rfl (Or.inl ⟨_, rfl⟩) (by first | exact Or.inr ⟨_, rfl⟩ | exact Or.inl rfl) d_Mg_merge_80 (⟨rfl, d2, cap2, q2, f2, r1, r2, r3, r4, r5, r6⟩)
      · exact absurd (nI_le (Nat.le_refl _) (by omega)) c_10
    | succ m ih =>
      intro k hh f' hk ha' hf' hfr
      have hkl : k < ss.length := by omega
      have hg' : hh g = some (z_ob 1 (z_mgf srcs at' out q)) := hfr _ _ h1 (by simpa using hga)
      have hp' : z_pool G hh La := z_pool_S hp hfr (fun b hb e he => by
        rw [List.mem_singleton.mp hb] at he ⊢
        rw [h3] at he
        cases he
        exact ⟨z_isl_ia, fun ho => by
          obtain ⟨ci, fs, q1, -⟩ := ho
          rw [h3] at q1
          cases q1⟩)
      have hfm : z_fm G g at' h hh := fun b e hb _ _ hba => hfr b e hb (by simpa using hba)
      obtain ⟨fs2, g2⟩ := P_ob hp' h2
      obtain ⟨s, hs⟩ : ∃ s, ss[k]? = some s := ⟨_, List.getElem?_eq_getElem hkl⟩
      have hgd : ss.getD k 0 = s := by rw [List.getD_eq_getElem?_getD, hs]; rfl
      obtain ⟨t1, t2, t3, t4, t5⟩ := hsr s (List.mem_of_getElem? hs)
      have t1' : z_src G hh La s (cs s) := z_src_fm hcn t1 hfm h1 h3 (fun _ _ => rfl)
      refine z_iload_n (pc' := 3) X d_Mg_merge_2 rfl rfl ?_
      refine z_aload_n (pc' := 4) X d_Mg_merge_3 rfl rfl ?_
      refine z_get (pc' := 7) X 0 f_Mg_12 d_Mg_merge_4 (by assumption) rfl rfl ?_
      refine z_callV X (P_size hp' h2) k_Mg_42 d_Mg_merge_7 (by assumption) (show classes[6]? = some _ from rfl) rfl rfl rfl (by decide) (Nat.le_of_ble_eq_true rfl) ⟨by omega, by omega⟩ (z_kp ?_)
      refine z_icmp_ge (tgt := 40) (pc' := 13) X d_Mg_merge_10 (by decide) rfl (fun c_10 => ?_) (fun c_10 => ?_)
      · exact absurd c_10 (nI_ge hkl (by omega))
      · refine z_aload_n (pc' := 14) X d_Mg_merge_13 rfl rfl ?_
        refine z_get (pc' := 17) X 1 f_Mg_18 d_Mg_merge_14 (by assumption) rfl rfl ?_
        refine z_iload_n (pc' := 18) X d_Mg_merge_17 rfl rfl ?_
        refine z_aload_n (pc' := 19) X d_Mg_merge_18 rfl rfl ?_
        refine z_get (pc' := 22) X 0 f_Mg_12 d_Mg_merge_19 (by assumption) rfl rfl ?_
        refine z_iload_n (pc' := 23) X d_Mg_merge_22 rfl rfl ?_
        refine z_callV X (P_get hp' h2 hs) k_Mg_43 d_Mg_merge_23 (by assumption) (show classes[6]? = some _ from rfl) rfl rfl rfl (by decide) (Nat.le_of_ble_eq_true rfl) ⟨by omega, by omega⟩ (z_kp ?_)
        refine cast hh La 0 0 s _ _ t1' ?_
        refine z_iload_n (pc' := 30) X d_Mg_merge_29 rfl rfl ?_
        refine z_callS X (c_firstOf hp' t1' (z_ens_fm t2 hfm h1 h3) t4 t3) k_Mg_84 d_Mg_merge_30 rfl rfl rfl (by decide) (Nat.le_of_ble_eq_true rfl) ⟨by omega, by omega⟩ (z_kp ?_)
        refine z_iastore (pc' := 34) (i := k) X d_Mg_merge_33 ha' (by omega) (by omega) rfl rfl ?_
        refine z_iinc (pc' := 37) (w := nI (k + 1)) X d_Mg_merge_34 rfl (z_i1 _) rfl rfl rfl ?_
        refine z_goto (pc' := 2) X d_Mg_merge_37 (by decide) ?_
        refine ih (k + 1) _ _ (by omega) (z_up_s _ _ _) (fun j hj => ?_) (z_fr_up hfr (by simp))
        by_cases hjk : j = k
        · subst hjk
          rw [pk_us, hgd]
        · rw [pk_un hjk]
          exact hf' j (by omega)
  refine z_iconst (pc' := 1) (v := 0) X d_Mg_merge_0 (by decide) rfl ?_
  refine z_istore_n (pc' := 2) X d_Mg_merge_1 rfl rfl rfl ?_
  exact loop1 ss.length 0 h f (by omega) h3 (fun j hj => absurd hj (Nat.not_lt_zero j)) (z_fr_rf _ _)
end MG3
