/-! ===== the component, 3: save, fetch (as heaps) ===== -/
theorem k_T.put {h : E_H} {a j v : Int} (hT : k_T h) (ha : a ≠ 16 ∨ (j ≠ 0 ∧ j ≠ 6 ∧ j ≠ 10 ∧ j ≠ 11 ∧ j ≠ 12 ∧ j ≠ 24)) : k_T (h_put h a j v) := by
  have e : ∀ k : Int, (k = 0 ∨ k = 6 ∨ k = 10 ∨ k = 11 ∨ k = 12 ∨ k = 24) → h_vl (h_put h a j v) 16 k = h_vl h 16 k := by
    intro k hk
    rw [hv_put, if_neg (by omega)]
  unfold k_T at hT ⊢
  rw [e 0 (by omega), e 6 (by omega), e 10 (by omega), e 11 (by omega), e 12 (by omega), e 24 (by omega)]
  exact hT
theorem k_p1.put {h : E_H} {g a j v : Int} (hP : k_p1 h g) (ha : a ≠ 17 ∧ (a ≠ 26 + 3 * g ∨ 3 ≤ j)) : k_p1 (h_put h a j v) g := by
  have e : ∀ k : Int, k < 3 → h_vl (h_put h a j v) (26 + 3 * g) k = h_vl h (26 + 3 * g) k := by
    intro k hk
    rw [hv_put, if_neg (by omega)]
  unfold k_p1 at hP ⊢
  rw [e 0 (by omega), e 1 (by omega), e 2 (by omega), hv_na (fun z => ha.1 z.symm)]
  exact hP
/-- cells copied -/
def k_cp (s t : Int) : Nat → Int → E_H → E_H
  | 0, _, h => h
  | n + 1, k, h => k_cp s t n (k + 1) (h_put h t k (h_vl h s k))
theorem k_cp_k {s t a : Int} : ∀ {n : Nat} {k : Int} {h : E_H}, h_kd (k_cp s t n k h) a = h_kd h a ∧ h_ln (k_cp s t n k h) a = h_ln h a ∧ h_sz (k_cp s t n k h) = h_sz h ∧ h_sl (k_cp s t n k h) = h_sl h := by
  intro n
  induction n with
  | zero => intro k h; exact ⟨rfl, rfl, rfl, rfl⟩
  | succ n ih => intro k h; rw [k_cp]; exact ih
theorem k_cp_v {s t a j : Int} (hst : s ≠ t) : ∀ {n : Nat} {k : Int} {h : E_H}, h_vl (k_cp s t n k h) a j = if a = t ∧ k ≤ j ∧ j < k + n then h_vl h s j else h_vl h a j := by
  intro n
  induction n with
  | zero => intro k h; rw [if_neg (by omega)]; rfl
  | succ n ih =>
    intro k h
    rw [k_cp, ih, hv_na hst]
    by_cases h1 : a = t ∧ k + 1 ≤ j ∧ j < k + 1 + n
    · rw [if_pos h1, if_pos (by omega)]
    · rw [if_neg h1, hv_put]
      by_cases h2 : a = t ∧ j = k
      · rw [if_pos h2, if_pos (by omega), h2.2]
      · rw [if_neg h2, if_neg (by omega)]
def k_sv2 (h : E_H) (g : Int) : E_H := h_put (h_put (h_put h (26 + 3 * g) 4 (h_vl h (26 + 3 * g) 3)) (26 + 3 * g) 5 0) 16 5 (h_vl h 16 5 + 1)
def k_sv (h : E_H) (g : Int) : E_H := if h_vl h (26 + 3 * g) 5 = 0 then h else k_sv2 (k_cp (27 + 3 * g) (28 + 3 * g) 4 0 (h_put h 16 7 (if h_vl h 16 7 < h_vl h (26 + 3 * g) 3 then h_vl h (26 + 3 * g) 3 else h_vl h 16 7))) g
set_option maxRecDepth 100000 in
set_option maxHeartbeats 4000000 in
theorem c_sv_s {d : Nat} {g k : Int} {h : E_H} {Q : Option E_V → E_H → Prop} (hT : k_T h) (hP : k_p1 h g) (hg : 0 ≤ g) (hw : -1000000000 ≤ h_vl h 16 5 ∧ h_vl h 16 5 ≤ 1000000000) (hk : 0 ≤ k) (hc : k < 4 → h_vl h (27 + 3 * g) k = 0 ∨ h_kd h (h_vl h (27 + 3 * g) k) = 8) (K1 : 4 ≤ k → Q none (k_sv2 h g)) (K2 : k < 4 → e_wpc d 41 25 [some (.inr 16), some (.inr (26 + 3 * g)), some (.inl (k + 1))] [] (h_put h (28 + 3 * g) k (h_vl h (27 + 3 * g) k)) Q) : e_wpc d 41 25 [some (.inr 16), some (.inr (26 + 3 * g)), some (.inl k)] [] h Q := by
  unfold k_T at hT
  unfold k_p1 at hP
  have n1 : (16 : Int) ≠ 26 + 3 * g := by omega
  refine e_wpc_blk 100 [25] ?_
  simp only [e_blk_eq, g_go, g_bks, g_bkn, g_gst, g_gsf, e_cl, e_rt, n_0, n_1, n_2, n_3, n_4, n_5, n_6, n_7, n_8, n_9, n_10, n_11, n_12, n_13, n_14, n_15, n_16, n_17, n_18, n_19, n_20, n_21, n_22, n_23, n_24, n_25, n_26, n_27, n_28, n_29, n_30, n_31, n_32, n_33, n_34, n_35, n_36, n_37, n_40, n_41, n_42, n_43, n_44, n_45, n_46, n_50, n_51, n_52, n_53, n_54, n_55, f_ldi, f_lda, f_sti, f_sta, f_inc, f_bin0, f_bin1, f_bin2, f_bin3, f_bin4, f_bin5, f_bin6, f_bin7, f_i2b, f_dup, f_pop, f_dx1, f_if0, f_ic0, f_if1, f_ic1, f_if2, f_ic2, f_if3, f_ic3, f_if4, f_ic4, f_if5, f_ic5, f_ac0, f_ac1, f_nu0, f_nu1, f_sw, f_sw0, f_sw1, f_gti, f_gta, f_pti, f_pta, f_ptz, f_new, f_nwa, f_ild, f_ist, f_bld, f_bst, f_ald, f_ast, f_len, f_cst, f_oin, f_gcl, f_ord, f_mm0, f_mm1, f_cpy, f_re0, f_re1, f_rea, f_rev, f_t50, f_t51, f_t52, f_t53, f_t54, f_t55, f_st, f_sd, f_s2, f_sn, e_in, e_ent, e_inR, Nat.reduceLT, Nat.reduceEqDiff, reduceIte, Nat.reduceBEq, List.length_cons, List.length_nil, List.map_cons, List.map_nil, List.replicate, List.cons_append, List.nil_append, List.append_nil, List.getElem?_cons_zero, List.getElem?_cons_succ, List.getElem?_nil, List.set_cons_zero, List.set_cons_succ, List.take_succ_cons, List.take_zero, List.take_nil, List.drop_succ_cons, List.drop_zero, List.drop_nil, List.reverse_cons, List.reverse_nil, Option.toList_some, Option.toList_none, Int.reduceToNat, hk_pt, hl_pt, hz_pt, hs_pt, hv_same, hv_ne, hv_na, hz_nw, hs_nw, hk_newS, hl_newS, hv_newS, Int.reduceEq, Int.reduceNe, Int.reduceLE, Int.reduceLT, Int.reduceAdd, Int.reduceSub, Int.reduceMul, Int.reduceNeg, Nat.reduceAdd, Nat.reduceSub, Nat.reduceLeDiff, Bool.or_false, Bool.false_or, Bool.or_true, Bool.true_or, or_self, or_false, false_or, true_or, or_true, and_true, true_and, forall_const, decide_eq_true_eq, decide_eq_false_iff_not, Bool.and_eq_true, Bool.false_eq_true, Nat.lt_add_one, imp_self, implies_true, not_true_eq_false, not_false_eq_true, ne_eq, Bool.true_eq_false, Nat.zero_le, Nat.le_refl, and_self, false_implies, q_41, l_41, hT, hP, n1]
  refine ⟨fun h1 => ⟨by omega, K1 h1⟩, fun h1 => ⟨by omega, ⟨by omega, by omega, ?_⟩, by omega, K2 (by omega)⟩⟩
  rcases hc (by omega) with z | z
  · exact Or.inl z
  · exact Or.inr (by rw [z]; rfl)
theorem c_sv_l {d : Nat} {g : Int} {Q : Option E_V → E_H → Prop} (hg : 0 ≤ g) : ∀ (n : Nat) (k : Int) (h : E_H), k_T h → k_p1 h g → (-1000000000 ≤ h_vl h 16 5 ∧ h_vl h 16 5 ≤ 1000000000) → (∀ j : Int, 0 ≤ j → j < 4 → h_vl h (27 + 3 * g) j = 0 ∨ h_kd h (h_vl h (27 + 3 * g) j) = 8) → k + n = 4 → 0 ≤ k → Q none (k_sv2 (k_cp (27 + 3 * g) (28 + 3 * g) n k h) g) → e_wpc d 41 25 [some (.inr 16), some (.inr (26 + 3 * g)), some (.inl k)] [] h Q := by
  intro n
  induction n with
  | zero => intro k h hT hP hw hc hk h0 hQ; exact c_sv_s hT hP hg hw h0 (hc k h0) (fun _ => hQ) (fun z => absurd z (by omega))
  | succ n ih =>
    intro k h hT hP hw hc hk h0 hQ
    refine c_sv_s hT hP hg hw h0 (hc k h0) (fun z => absurd z (by omega)) (fun z => ih (k + 1) _ (hT.put (by omega)) (hP.put (by omega)) ?_ (fun j j1 j2 => ?_) (by omega) (by omega) hQ)
    · rw [hv_na (by omega)]; exact hw
    · rw [hv_na (by omega), hk_put]; exact hc j j1 j2
set_option maxRecDepth 100000 in
set_option maxHeartbeats 4000000 in
theorem c_save {d : Nat} {g : Int} {h : E_H} {Q : Option E_V → E_H → Prop} (hd : 1 ≤ d) (hT : k_T h) (hP : k_p1 h g) (hg : 0 ≤ g) (hw : -1000000000 ≤ h_vl h 16 5 ∧ h_vl h 16 5 ≤ 1000000000) (hc : ∀ j : Int, 0 ≤ j → j < 4 → h_vl h (27 + 3 * g) j = 0 ∨ h_kd h (h_vl h (27 + 3 * g) j) = 8) (hQ : Q none (k_sv h g)) : e_wpm d 41 [.inr 16, .inr (26 + 3 * g)] h Q := by
  have hT' := hT
  have hP' := hP
  unfold k_T at hT'
  unfold k_p1 at hP'
  unfold k_sv at hQ
  refine e_wpm_blk 100 [25] ?_
  simp only [e_blk_eq, g_go, g_bks, g_bkn, g_gst, g_gsf, e_cl, e_rt, n_0, n_1, n_2, n_3, n_4, n_5, n_6, n_7, n_8, n_9, n_10, n_11, n_12, n_13, n_14, n_15, n_16, n_17, n_18, n_19, n_20, n_21, n_22, n_23, n_24, n_25, n_26, n_27, n_28, n_29, n_30, n_31, n_32, n_33, n_34, n_35, n_36, n_37, n_40, n_41, n_42, n_43, n_44, n_45, n_46, n_50, n_51, n_52, n_53, n_54, n_55, f_ldi, f_lda, f_sti, f_sta, f_inc, f_bin0, f_bin1, f_bin2, f_bin3, f_bin4, f_bin5, f_bin6, f_bin7, f_i2b, f_dup, f_pop, f_dx1, f_if0, f_ic0, f_if1, f_ic1, f_if2, f_ic2, f_if3, f_ic3, f_if4, f_ic4, f_if5, f_ic5, f_ac0, f_ac1, f_nu0, f_nu1, f_sw, f_sw0, f_sw1, f_gti, f_gta, f_pti, f_pta, f_ptz, f_new, f_nwa, f_ild, f_ist, f_bld, f_bst, f_ald, f_ast, f_len, f_cst, f_oin, f_gcl, f_ord, f_mm0, f_mm1, f_cpy, f_re0, f_re1, f_rea, f_rev, f_t50, f_t51, f_t52, f_t53, f_t54, f_t55, f_st, f_sd, f_s2, f_sn, e_in, e_ent, e_inR, Nat.reduceLT, Nat.reduceEqDiff, reduceIte, Nat.reduceBEq, List.length_cons, List.length_nil, List.map_cons, List.map_nil, List.replicate, List.cons_append, List.nil_append, List.append_nil, List.getElem?_cons_zero, List.getElem?_cons_succ, List.getElem?_nil, List.set_cons_zero, List.set_cons_succ, List.take_succ_cons, List.take_zero, List.take_nil, List.drop_succ_cons, List.drop_zero, List.drop_nil, List.reverse_cons, List.reverse_nil, Option.toList_some, Option.toList_none, Int.reduceToNat, hk_pt, hl_pt, hz_pt, hs_pt, hv_same, hv_ne, hv_na, hz_nw, hs_nw, hk_newS, hl_newS, hv_newS, Int.reduceEq, Int.reduceNe, Int.reduceLE, Int.reduceLT, Int.reduceAdd, Int.reduceSub, Int.reduceMul, Int.reduceNeg, Nat.reduceAdd, Nat.reduceSub, Nat.reduceLeDiff, Bool.or_false, Bool.false_or, Bool.or_true, Bool.true_or, or_self, or_false, false_or, true_or, or_true, and_true, true_and, forall_const, decide_eq_true_eq, decide_eq_false_iff_not, Bool.and_eq_true, Bool.false_eq_true, Nat.lt_add_one, imp_self, implies_true, not_true_eq_false, not_false_eq_true, ne_eq, Bool.true_eq_false, Nat.zero_le, Nat.le_refl, and_self, false_implies, q_41, l_41, hT', hP']
  refine ⟨fun h1 => ⟨by omega, ?_⟩, fun h1 => ?_⟩
  · rw [if_neg h1] at hQ
    refine c_sv_l hg 4 0 _ (hT.put (by omega)) (hP.put (by omega)) ?_ (fun j j1 j2 => ?_) (by omega) (by omega) hQ
    · rw [hv_ne (by omega)]; exact hw
    · rw [hv_na (by omega), hk_put]; exact hc j j1 j2
  · rw [if_pos (Decidable.not_not.mp h1)] at hQ
    exact hQ
/-- the same room -/
def f_s (c : Int → Int → Int → Prop) (h h' : E_H) : Prop := f_m c h h' ∧ h_sz h' = h_sz h ∧ h_sl h' = h_sl h
theorem f_s.tr {c : Int → Int → Int → Prop} {h h' h'' : E_H} (h1 : f_s c h h') (h2 : f_s c h' h'') : f_s c h h'' := ⟨h1.1.tr h2.1, h2.2.1.trans h1.2.1, h2.2.2.trans h1.2.2⟩
theorem f_s.rf {c : Int → Int → Int → Prop} {h : E_H} (hZ : k_Z h) : f_s c h h := ⟨f_m.rf hZ, rfl, rfl⟩
theorem f_s.mono {c c' : Int → Int → Int → Prop} {h h' : E_H} (h1 : f_s c h h') (hc : ∀ k a j, c k a j → c' k a j) : f_s c' h h' := ⟨h1.1.mono hc, h1.2⟩
theorem f_s.put {c : Int → Int → Int → Prop} {h h' : E_H} {a k v : Int} (h1 : f_s c h h') (hc : a < h_sz h → c (h_kd h a) a k) : f_s c h (h_put h' a k v) := ⟨h1.1.put hc, h1.2⟩
def k_DL (h : E_H) (l : List Int) : Prop := k_dl h 0 l ∧ h_vl h 16 1 = k_hd l
theorem k_DL.nb {h : E_H} {V : E_K} {l : List Int} {g : Int} (hl : k_rl V l) (hD : k_DL h l) (hg : g ∈ l) : (h_vl h (26 + 3 * g) 7 = 0 ∨ ∃ a : Int, (0 ≤ a ∧ a < 6) ∧ a ≠ g ∧ h_vl h (26 + 3 * g) 7 = 26 + 3 * a) ∧ (h_vl h (26 + 3 * g) 8 = 0 ∨ ∃ a : Int, (0 ≤ a ∧ a < 6) ∧ a ≠ g ∧ h_vl h (26 + 3 * g) 8 = 26 + 3 * a) := by
  obtain ⟨l3, lr, lp⟩ := hl
  obtain ⟨hd, h1⟩ := hD
  rcases l with _ | ⟨a, _ | ⟨b, _ | ⟨c, _ | ⟨e, l⟩⟩⟩⟩
  · simp at hg
  · simp only [List.mem_cons, List.not_mem_nil, or_false] at hg
    subst hg
    simp only [k_dl, k_hd] at hd
    exact ⟨Or.inl hd.1, Or.inl hd.2.1⟩
  · simp only [List.mem_cons, List.not_mem_nil, or_false] at hg
    simp only [List.pairwise_cons, List.mem_cons, List.not_mem_nil, or_false, forall_eq_or_imp, forall_eq] at lp lr
    have ab : a ≠ b := fun z => by rw [z] at lp; omega
    simp only [k_dl, k_hd] at hd
    rcases hg with hg | hg
    · subst hg
      exact ⟨Or.inl hd.1, Or.inr ⟨b, by omega, ab.symm, hd.2.1⟩⟩
    · subst hg
      exact ⟨Or.inr ⟨a, by omega, ab, hd.2.2.1⟩, Or.inl hd.2.2.2.1⟩
  · simp only [List.mem_cons, List.not_mem_nil, or_false] at hg
    simp only [List.pairwise_cons, List.mem_cons, List.not_mem_nil, or_false, forall_eq_or_imp, forall_eq] at lp lr
    have ab : a ≠ b := fun z => by rw [z] at lp; omega
    have ac : a ≠ c := fun z => by rw [z] at lp; omega
    have bc : b ≠ c := fun z => by rw [z] at lp; omega
    simp only [k_dl, k_hd] at hd
    obtain ⟨d1, d2, d3, d4, d5, d6, d7⟩ := hd
    rcases hg with hg | hg | hg
    · subst hg
      exact ⟨Or.inl d1, Or.inr ⟨b, by omega, ab.symm, d2⟩⟩
    · subst hg
      exact ⟨Or.inr ⟨a, by omega, ab, d3⟩, Or.inr ⟨c, by omega, bc.symm, d4⟩⟩
    · subst hg
      exact ⟨Or.inr ⟨b, by omega, bc, d5⟩, Or.inl d6⟩
  · exact absurd l3 (by simp)
theorem k_S.n16 {h : E_H} (hS : k_S h) : h_kd h 16 = 1 := hS.1.1
theorem r_unlink {d : Nat} {g : Int} {V : E_K} {l : List Int} {h : E_H} {Q : Option E_V → E_H → Prop} (hS : k_S h) (hl : k_rl V l) (hD : k_DL h l) (hg : g ∈ l) (K : ∀ h', f_s k_ll h h' → k_DL h' (l.erase g) → Q none h') : e_wpm d 40 [.inr 16, .inr (26 + 3 * g)] h Q := by
  have gr := hl.2.1 g hg
  have nb := hD.nb hl hg
  have kp : ∀ a : Int, 0 ≤ a ∧ a < 6 → h_kd h (26 + 3 * a) = 4 := fun a ha => (hS.pg ha).2.1
  have k7 : h_vl h (26 + 3 * g) 7 ≠ 0 → h_kd h (h_vl h (26 + 3 * g) 7) = 4 := fun z => by
    rcases nb.1 with w | ⟨a, w1, w2, w3⟩
    · exact absurd w z
    · rw [w3]; exact kp a w1
  have k8 : h_vl h (26 + 3 * g) 8 ≠ 0 → h_kd h (h_vl h (26 + 3 * g) 8) = 4 := fun z => by
    rcases nb.2 with w | ⟨a, w1, w2, w3⟩
    · exact absurd w z
    · rw [w3]; exact kp a w1
  refine c_unlink hS.1 (kp g gr) ?_ k7 k8 (K _ ?_ (k_ul_3 hl hD.1 hD.2 hg))
  · rcases nb.1 with w | ⟨a, w1, w2, w3⟩
    · omega
    · omega
  · unfold k_ul
    have k16 := hS.n16
    have z0 : f_s k_ll h h := f_s.rf hS.2.2.1
    split
    · split
      · exact (z0.put (fun _ => Or.inl (by omega))).put (fun _ => Or.inl (by omega))
      · rename_i z
        exact (z0.put (fun _ => Or.inr ⟨k7 z, by omega⟩)).put (fun _ => Or.inl (by omega))
    · rename_i z8
      split
      · exact (z0.put (fun _ => Or.inl (by omega))).put (fun _ => Or.inr ⟨k8 z8, by omega⟩)
      · rename_i z
        exact (z0.put (fun _ => Or.inr ⟨k7 z, by omega⟩)).put (fun _ => Or.inr ⟨k8 z8, by omega⟩)
theorem r_link {d : Nat} {g : Int} {l : List Int} {h : E_H} {Q : Option E_V → E_H → Prop} (hS : k_S h) (l2 : l.length ≤ 2) (hr : ∀ x, x ∈ l → 0 ≤ x ∧ x < 6) (hn : l.Nodup) (hD : k_DL h l) (hg : g ∉ l) (gr : 0 ≤ g ∧ g < 6) (K : ∀ h', f_s k_ll h h' → k_DL h' (g :: l) → Q none h') : e_wpm d 42 [.inr 16, .inr (26 + 3 * g)] h Q := by
  have kp : ∀ a : Int, 0 ≤ a ∧ a < 6 → h_kd h (26 + 3 * a) = 4 := fun a ha => (hS.pg ha).2.1
  have k1 : h_vl h 16 1 ≠ 0 → h_kd h (h_vl h 16 1) = 4 := by
    rw [hD.2]
    intro z
    rcases l with _ | ⟨a, l⟩
    · exact absurd rfl z
    · exact kp a (hr a (by simp))
  refine c_link hS.1 (kp g gr) k1 (K _ ?_ (k_lk_3 l2 hr hD.1 hD.2 hg gr.1 hn))
  unfold k_lk
  have k16 := hS.n16
  have z0 : f_s k_ll h h := f_s.rf hS.2.2.1
  have z1 : f_s k_ll h (h_put (h_put h (26 + 3 * g) 7 0) (26 + 3 * g) 8 (h_vl h 16 1)) := (z0.put (fun _ => Or.inr ⟨kp g gr, by omega⟩)).put (fun _ => Or.inr ⟨kp g gr, by omega⟩)
  split
  · exact (z1.put (fun _ => Or.inl (by omega))).put (fun _ => Or.inl (by omega))
  · rename_i z
    exact (z1.put (fun _ => Or.inr ⟨k1 z, by omega⟩)).put (fun _ => Or.inl (by omega))
def k_sva (g k a j : Int) : Prop := (k = 1 ∧ a = 16 ∧ (j = 7 ∨ j = 5)) ∨ (k = 25 ∧ a = 28 + 3 * g) ∨ (k = 4 ∧ a = 26 + 3 * g ∧ (j = 4 ∨ j = 5))
theorem r_save {d : Nat} {g : Int} {h : E_H} {Q : Option E_V → E_H → Prop} (hd : 1 ≤ d) (hS : k_S h) (gr : 0 ≤ g ∧ g < 6) (hw : -1000000000 ≤ h_vl h 16 5 ∧ h_vl h 16 5 ≤ 1000000000) (hc : ∀ j : Int, 0 ≤ j → j < 4 → h_vl h (27 + 3 * g) j = 0 ∨ h_kd h (h_vl h (27 + 3 * g) j) = 8) (K1 : h_vl h (26 + 3 * g) 5 = 0 → Q none h) (K2 : h_vl h (26 + 3 * g) 5 ≠ 0 → ∀ h', f_s (k_sva g) h h' → h_vl h' 16 7 = (if h_vl h 16 7 < h_vl h (26 + 3 * g) 3 then h_vl h (26 + 3 * g) 3 else h_vl h 16 7) → (∀ j : Int, 0 ≤ j → j < 4 → h_vl h' (28 + 3 * g) j = h_vl h (27 + 3 * g) j) → h_vl h' (26 + 3 * g) 4 = h_vl h (26 + 3 * g) 3 → h_vl h' (26 + 3 * g) 5 = 0 → h_vl h' 16 5 = h_vl h 16 5 + 1 → Q none h') : e_wpm d 41 [.inr 16, .inr (26 + 3 * g)] h Q := by
  refine c_save hd hS.1 (hS.pg gr) gr.1 hw hc ?_
  unfold k_sv
  by_cases h5 : h_vl h (26 + 3 * g) 5 = 0
  · rw [if_pos h5]; exact K1 h5
  · rw [if_neg h5]
    generalize hm : (if h_vl h 16 7 < h_vl h (26 + 3 * g) 3 then h_vl h (26 + 3 * g) 3 else h_vl h 16 7) = m at K2
    have cv := fun a j => @k_cp_v (27 + 3 * g) (28 + 3 * g) a j (by omega) 4 0 (h_put h 16 7 m)
    have ck := fun a => @k_cp_k (27 + 3 * g) (28 + 3 * g) a 4 0 (h_put h 16 7 m)
    generalize k_cp (27 + 3 * g) (28 + 3 * g) 4 0 (h_put h 16 7 m) = h1 at cv ck
    have sz := (ck 0).2.2
    have z0 : f_s (k_sva g) h h1 := by
      refine ⟨⟨⟨by rw [sz.1]; exact Int.le_refl _, fun a ha => ?_⟩, fun a ha => ⟨(ck a).1, (ck a).2.1⟩, fun a j ha hn => ?_⟩, sz.1, sz.2⟩
      · rw [(ck a).1]
        exact hS.2.2.1 a (by rw [sz.1] at ha; exact ha)
      · unfold k_sva at hn
        have q1 := hS.n16
        have q2 := (hS.pg gr).2.2.2.2.2.2.2.1
        have w1 : ¬ (a = 28 + 3 * g ∧ 0 ≤ j ∧ j < 0 + ((4 : Nat) : Int)) := fun z => hn (Or.inr (Or.inl ⟨by rw [z.1]; exact q2, z.1⟩))
        have w2 : ¬ (a = 16 ∧ j = 7) := fun z => hn (Or.inl ⟨by rw [z.1]; exact q1, z.1, Or.inl z.2⟩)
        rw [cv a j, if_neg w1, hv_put, if_neg w2]
    have e3 : h_vl h1 (26 + 3 * g) 3 = h_vl h (26 + 3 * g) 3 := by rw [cv, if_neg (by omega), hv_na (by omega)]
    have e5 : h_vl h1 16 5 = h_vl h 16 5 := by rw [cv, if_neg (by omega), hv_ne (by omega)]
    have q1 := hS.n16
    have q2 := (hS.pg gr).2.1
    unfold k_sv2
    refine K2 h5 _ (((z0.put (fun _ => Or.inr (Or.inr (by omega)))).put (fun _ => Or.inr (Or.inr (by omega)))).put (fun _ => Or.inl (by omega))) ?_ (fun j j1 j2 => ?_) ?_ ?_ ?_
    · rw [hv_ne (by omega), hv_na (by omega), hv_na (by omega), cv, if_neg (by omega), hv_same]
    · rw [hv_na (by omega), hv_na (by omega), hv_na (by omega), cv, if_pos (by omega), hv_na (by omega)]
    · rw [hv_na (by omega), hv_ne (by omega), hv_same, e3]
    · rw [hv_na (by omega), hv_same]
    · rw [hv_same, e5]
