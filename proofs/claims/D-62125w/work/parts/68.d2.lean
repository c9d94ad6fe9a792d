/-! ===== the component, 9: leaves of the tree ===== -/
def t_L (h : E_H) (a : Int) : Prop := (h_kd h a = 3 ∧ h_vl h a 0 = a + 1 ∧ h_vl h a 1 = a + 2 ∧ h_kd h (a + 1) = 20 ∧ h_ln h (a + 1) = 4 ∧ h_kd h (a + 2) = 20 ∧ h_ln h (a + 2) = 4) ∧ 16 ≤ a
theorem t_ne {a : Int} : ¬ a = a + 1 ∧ ¬ a = a + 2 ∧ ¬ a + 1 = a + 2 ∧ ¬ a + 1 = a ∧ ¬ a + 2 = a ∧ ¬ a + 2 = a + 1 := by omega
set_option maxRecDepth 100000 in
set_option maxHeartbeats 4000000 in
theorem c_lf_s {d : Nat} {a key k : Int} {h : E_H} {Q : Option E_V → E_H → Prop} (hL : t_L h a) (hn : h_vl h a 2 ≤ 4) (hk : 0 ≤ k) (K1 : h_vl h a 2 ≤ k → Q (some (.inl (-1))) h) (K2 : k < h_vl h a 2 → h_vl h (a + 1) k = key → Q (some (.inl (h_vl h (a + 2) k))) h) (K3 : k < h_vl h a 2 → h_vl h (a + 1) k ≠ key → e_wpc d 35 2 [some (.inr a), some (.inl key), some (.inl (k + 1))] [] h Q) : e_wpc d 35 2 [some (.inr a), some (.inl key), some (.inl k)] [] h Q := by
  have hL' := hL.1
  refine e_wpc_blk 100 [2] ?_
  simp only [e_blk_eq, g_go, g_bks, g_bkn, g_gst, g_gsf, e_cl, e_rt, n_0, n_1, n_2, n_3, n_4, n_5, n_6, n_7, n_8, n_9, n_10, n_11, n_12, n_13, n_14, n_15, n_16, n_17, n_18, n_19, n_20, n_21, n_22, n_23, n_24, n_25, n_26, n_27, n_28, n_29, n_30, n_31, n_32, n_33, n_34, n_35, n_36, n_37, n_40, n_41, n_42, n_43, n_44, n_45, n_46, n_50, n_51, n_52, n_53, n_54, n_55, f_ldi, f_lda, f_sti, f_sta, f_inc, f_bin0, f_bin1, f_bin2, f_bin3, f_bin4, f_bin5, f_bin6, f_bin7, f_i2b, f_dup, f_pop, f_dx1, f_if0, f_ic0, f_if1, f_ic1, f_if2, f_ic2, f_if3, f_ic3, f_if4, f_ic4, f_if5, f_ic5, f_ac0, f_ac1, f_nu0, f_nu1, f_sw, f_sw0, f_sw1, f_gti, f_gta, f_pti, f_pta, f_ptz, f_new, f_nwa, f_ild, f_ist, f_bld, f_bst, f_ald, f_ast, f_len, f_cst, f_oin, f_gcl, f_ord, f_mm0, f_mm1, f_cpy, f_re0, f_re1, f_rea, f_rev, f_t50, f_t51, f_t52, f_t53, f_t54, f_t55, f_st, f_sd, f_s2, f_sn, e_in, e_ent, e_inR, Nat.reduceLT, Nat.reduceEqDiff, reduceIte, Nat.reduceBEq, List.length_cons, List.length_nil, List.map_cons, List.map_nil, List.replicate, List.cons_append, List.nil_append, List.append_nil, List.getElem?_cons_zero, List.getElem?_cons_succ, List.getElem?_nil, List.set_cons_zero, List.set_cons_succ, List.take_succ_cons, List.take_zero, List.take_nil, List.drop_succ_cons, List.drop_zero, List.drop_nil, List.reverse_cons, List.reverse_nil, Option.toList_some, Option.toList_none, Int.reduceToNat, hk_pt, hl_pt, hz_pt, hs_pt, hv_same, hv_ne, hv_na, hz_nw, hs_nw, hk_newS, hl_newS, hv_newS, Int.reduceEq, Int.reduceNe, Int.reduceLE, Int.reduceLT, Int.reduceAdd, Int.reduceSub, Int.reduceMul, Int.reduceNeg, Nat.reduceAdd, Nat.reduceSub, Nat.reduceLeDiff, Bool.or_false, Bool.false_or, Bool.or_true, Bool.true_or, or_self, or_false, false_or, true_or, or_true, and_true, true_and, forall_const, decide_eq_true_eq, decide_eq_false_iff_not, Bool.and_eq_true, Bool.false_eq_true, Nat.lt_add_one, imp_self, implies_true, not_true_eq_false, not_false_eq_true, ne_eq, Bool.true_eq_false, Nat.zero_le, Nat.le_refl, and_self, false_implies, q_35, l_35, hL']
  exact ⟨K1, fun h1 => ⟨by omega, fun h2 => ⟨by omega, K3 (by omega) h2⟩, fun h2 => ⟨by omega, K2 (by omega) (Decidable.not_not.mp h2)⟩⟩⟩
set_option maxRecDepth 100000 in
set_option maxHeartbeats 4000000 in
theorem r_lfind {d : Nat} {a key : Int} {h : E_H} {Q : Option E_V → E_H → Prop} (hL : t_L h a) (hn : 0 ≤ h_vl h a 2 ∧ h_vl h a 2 ≤ 4) (K1 : ∀ i : Int, 0 ≤ i → i < h_vl h a 2 → h_vl h (a + 1) i = key → Q (some (.inl (h_vl h (a + 2) i))) h) (K2 : (∀ i : Int, 0 ≤ i → i < h_vl h a 2 → h_vl h (a + 1) i ≠ key) → Q (some (.inl (-1))) h) : e_wpm d 35 [.inr a, .inl key] h Q := by
  have loop : ∀ (m : Nat) (k : Int), k + m = h_vl h a 2 → 0 ≤ k → (∀ i : Int, 0 ≤ i → i < k → h_vl h (a + 1) i ≠ key) → e_wpc d 35 2 [some (.inr a), some (.inl key), some (.inl k)] [] h Q := by
    intro m
    induction m with
    | zero => intro k hk h0 hi; exact c_lf_s hL hn.2 h0 (fun _ => K2 (fun i i1 i2 => hi i i1 (by omega))) (fun z => absurd z (by omega)) (fun z => absurd z (by omega))
    | succ m ih =>
      intro k hk h0 hi
      refine c_lf_s hL hn.2 h0 (fun z => absurd z (by omega)) (fun z w => K1 k h0 z w) (fun z w => ih (k + 1) (by omega) (by omega) (fun i i1 i2 => ?_))
      by_cases hik : i = k
      · rw [hik]; exact w
      · exact hi i i1 (by omega)
  refine e_wpm_blk 100 [2] ?_
  simp only [e_blk_eq, g_go, g_bks, g_bkn, g_gst, g_gsf, e_cl, e_rt, n_0, n_1, n_2, n_3, n_4, n_5, n_6, n_7, n_8, n_9, n_10, n_11, n_12, n_13, n_14, n_15, n_16, n_17, n_18, n_19, n_20, n_21, n_22, n_23, n_24, n_25, n_26, n_27, n_28, n_29, n_30, n_31, n_32, n_33, n_34, n_35, n_36, n_37, n_40, n_41, n_42, n_43, n_44, n_45, n_46, n_50, n_51, n_52, n_53, n_54, n_55, f_ldi, f_lda, f_sti, f_sta, f_inc, f_bin0, f_bin1, f_bin2, f_bin3, f_bin4, f_bin5, f_bin6, f_bin7, f_i2b, f_dup, f_pop, f_dx1, f_if0, f_ic0, f_if1, f_ic1, f_if2, f_ic2, f_if3, f_ic3, f_if4, f_ic4, f_if5, f_ic5, f_ac0, f_ac1, f_nu0, f_nu1, f_sw, f_sw0, f_sw1, f_gti, f_gta, f_pti, f_pta, f_ptz, f_new, f_nwa, f_ild, f_ist, f_bld, f_bst, f_ald, f_ast, f_len, f_cst, f_oin, f_gcl, f_ord, f_mm0, f_mm1, f_cpy, f_re0, f_re1, f_rea, f_rev, f_t50, f_t51, f_t52, f_t53, f_t54, f_t55, f_st, f_sd, f_s2, f_sn, e_in, e_ent, e_inR, Nat.reduceLT, Nat.reduceEqDiff, reduceIte, Nat.reduceBEq, List.length_cons, List.length_nil, List.map_cons, List.map_nil, List.replicate, List.cons_append, List.nil_append, List.append_nil, List.getElem?_cons_zero, List.getElem?_cons_succ, List.getElem?_nil, List.set_cons_zero, List.set_cons_succ, List.take_succ_cons, List.take_zero, List.take_nil, List.drop_succ_cons, List.drop_zero, List.drop_nil, List.reverse_cons, List.reverse_nil, Option.toList_some, Option.toList_none, Int.reduceToNat, hk_pt, hl_pt, hz_pt, hs_pt, hv_same, hv_ne, hv_na, hz_nw, hs_nw, hk_newS, hl_newS, hv_newS, Int.reduceEq, Int.reduceNe, Int.reduceLE, Int.reduceLT, Int.reduceAdd, Int.reduceSub, Int.reduceMul, Int.reduceNeg, Nat.reduceAdd, Nat.reduceSub, Nat.reduceLeDiff, Bool.or_false, Bool.false_or, Bool.or_true, Bool.true_or, or_self, or_false, false_or, true_or, or_true, and_true, true_and, forall_const, decide_eq_true_eq, decide_eq_false_iff_not, Bool.and_eq_true, Bool.false_eq_true, Nat.lt_add_one, imp_self, implies_true, not_true_eq_false, not_false_eq_true, ne_eq, Bool.true_eq_false, Nat.zero_le, Nat.le_refl, and_self, false_implies, q_35, l_35]
  exact loop (h_vl h a 2).toNat 0 (by omega) (by omega) (fun i i1 i2 => by omega)
set_option maxRecDepth 100000 in
set_option maxHeartbeats 4000000 in
theorem c_la_s {d : Nat} {a key k : Int} {h : E_H} {Q : Option E_V → E_H → Prop} (hL : t_L h a) (hn : h_vl h a 2 ≤ 4) (hk : 0 ≤ k) (K1 : h_vl h a 2 ≤ k → Q (some (.inl (-1))) h) (K2 : k < h_vl h a 2 → key < h_vl h (a + 1) k → Q (some (.inl (h_vl h (a + 1) k))) h) (K3 : k < h_vl h a 2 → h_vl h (a + 1) k ≤ key → e_wpc d 92 2 [some (.inr a), some (.inl key), some (.inl (k + 1))] [] h Q) : e_wpc d 92 2 [some (.inr a), some (.inl key), some (.inl k)] [] h Q := by
  have hL' := hL.1
  refine e_wpc_blk 100 [2] ?_
  simp only [e_blk_eq, g_go, g_bks, g_bkn, g_gst, g_gsf, e_cl, e_rt, n_0, n_1, n_2, n_3, n_4, n_5, n_6, n_7, n_8, n_9, n_10, n_11, n_12, n_13, n_14, n_15, n_16, n_17, n_18, n_19, n_20, n_21, n_22, n_23, n_24, n_25, n_26, n_27, n_28, n_29, n_30, n_31, n_32, n_33, n_34, n_35, n_36, n_37, n_40, n_41, n_42, n_43, n_44, n_45, n_46, n_50, n_51, n_52, n_53, n_54, n_55, f_ldi, f_lda, f_sti, f_sta, f_inc, f_bin0, f_bin1, f_bin2, f_bin3, f_bin4, f_bin5, f_bin6, f_bin7, f_i2b, f_dup, f_pop, f_dx1, f_if0, f_ic0, f_if1, f_ic1, f_if2, f_ic2, f_if3, f_ic3, f_if4, f_ic4, f_if5, f_ic5, f_ac0, f_ac1, f_nu0, f_nu1, f_sw, f_sw0, f_sw1, f_gti, f_gta, f_pti, f_pta, f_ptz, f_new, f_nwa, f_ild, f_ist, f_bld, f_bst, f_ald, f_ast, f_len, f_cst, f_oin, f_gcl, f_ord, f_mm0, f_mm1, f_cpy, f_re0, f_re1, f_rea, f_rev, f_t50, f_t51, f_t52, f_t53, f_t54, f_t55, f_st, f_sd, f_s2, f_sn, e_in, e_ent, e_inR, Nat.reduceLT, Nat.reduceEqDiff, reduceIte, Nat.reduceBEq, List.length_cons, List.length_nil, List.map_cons, List.map_nil, List.replicate, List.cons_append, List.nil_append, List.append_nil, List.getElem?_cons_zero, List.getElem?_cons_succ, List.getElem?_nil, List.set_cons_zero, List.set_cons_succ, List.take_succ_cons, List.take_zero, List.take_nil, List.drop_succ_cons, List.drop_zero, List.drop_nil, List.reverse_cons, List.reverse_nil, Option.toList_some, Option.toList_none, Int.reduceToNat, hk_pt, hl_pt, hz_pt, hs_pt, hv_same, hv_ne, hv_na, hz_nw, hs_nw, hk_newS, hl_newS, hv_newS, Int.reduceEq, Int.reduceNe, Int.reduceLE, Int.reduceLT, Int.reduceAdd, Int.reduceSub, Int.reduceMul, Int.reduceNeg, Nat.reduceAdd, Nat.reduceSub, Nat.reduceLeDiff, Bool.or_false, Bool.false_or, Bool.or_true, Bool.true_or, or_self, or_false, false_or, true_or, or_true, and_true, true_and, forall_const, decide_eq_true_eq, decide_eq_false_iff_not, Bool.and_eq_true, Bool.false_eq_true, Nat.lt_add_one, imp_self, implies_true, not_true_eq_false, not_false_eq_true, ne_eq, Bool.true_eq_false, Nat.zero_le, Nat.le_refl, and_self, false_implies, q_92, l_92, hL']
  exact ⟨K1, fun h1 => ⟨by omega, fun h2 => ⟨by omega, K3 (by omega) h2⟩, fun h2 => ⟨by omega, K2 (by omega) (by omega)⟩⟩⟩
set_option maxRecDepth 100000 in
set_option maxHeartbeats 4000000 in
theorem r_lafter {d : Nat} {a key : Int} {h : E_H} {Q : Option E_V → E_H → Prop} (hL : t_L h a) (hn : 0 ≤ h_vl h a 2 ∧ h_vl h a 2 ≤ 4) (K1 : ∀ i : Int, 0 ≤ i → i < h_vl h a 2 → key < h_vl h (a + 1) i → (∀ j : Int, 0 ≤ j → j < i → h_vl h (a + 1) j ≤ key) → Q (some (.inl (h_vl h (a + 1) i))) h) (K2 : (∀ i : Int, 0 ≤ i → i < h_vl h a 2 → h_vl h (a + 1) i ≤ key) → Q (some (.inl (-1))) h) : e_wpm d 92 [.inr a, .inl key] h Q := by
  have loop : ∀ (m : Nat) (k : Int), k + m = h_vl h a 2 → 0 ≤ k → (∀ i : Int, 0 ≤ i → i < k → h_vl h (a + 1) i ≤ key) → e_wpc d 92 2 [some (.inr a), some (.inl key), some (.inl k)] [] h Q := by
    intro m
    induction m with
    | zero => intro k hk h0 hi; exact c_la_s hL hn.2 h0 (fun _ => K2 (fun i i1 i2 => hi i i1 (by omega))) (fun z => absurd z (by omega)) (fun z => absurd z (by omega))
    | succ m ih =>
      intro k hk h0 hi
      refine c_la_s hL hn.2 h0 (fun z => absurd z (by omega)) (fun z w => K1 k h0 z w hi) (fun z w => ih (k + 1) (by omega) (by omega) (fun i i1 i2 => ?_))
      by_cases hik : i = k
      · rw [hik]; exact w
      · exact hi i i1 (by omega)
  refine e_wpm_blk 100 [2] ?_
  simp only [e_blk_eq, g_go, g_bks, g_bkn, g_gst, g_gsf, e_cl, e_rt, n_0, n_1, n_2, n_3, n_4, n_5, n_6, n_7, n_8, n_9, n_10, n_11, n_12, n_13, n_14, n_15, n_16, n_17, n_18, n_19, n_20, n_21, n_22, n_23, n_24, n_25, n_26, n_27, n_28, n_29, n_30, n_31, n_32, n_33, n_34, n_35, n_36, n_37, n_40, n_41, n_42, n_43, n_44, n_45, n_46, n_50, n_51, n_52, n_53, n_54, n_55, f_ldi, f_lda, f_sti, f_sta, f_inc, f_bin0, f_bin1, f_bin2, f_bin3, f_bin4, f_bin5, f_bin6, f_bin7, f_i2b, f_dup, f_pop, f_dx1, f_if0, f_ic0, f_if1, f_ic1, f_if2, f_ic2, f_if3, f_ic3, f_if4, f_ic4, f_if5, f_ic5, f_ac0, f_ac1, f_nu0, f_nu1, f_sw, f_sw0, f_sw1, f_gti, f_gta, f_pti, f_pta, f_ptz, f_new, f_nwa, f_ild, f_ist, f_bld, f_bst, f_ald, f_ast, f_len, f_cst, f_oin, f_gcl, f_ord, f_mm0, f_mm1, f_cpy, f_re0, f_re1, f_rea, f_rev, f_t50, f_t51, f_t52, f_t53, f_t54, f_t55, f_st, f_sd, f_s2, f_sn, e_in, e_ent, e_inR, Nat.reduceLT, Nat.reduceEqDiff, reduceIte, Nat.reduceBEq, List.length_cons, List.length_nil, List.map_cons, List.map_nil, List.replicate, List.cons_append, List.nil_append, List.append_nil, List.getElem?_cons_zero, List.getElem?_cons_succ, List.getElem?_nil, List.set_cons_zero, List.set_cons_succ, List.take_succ_cons, List.take_zero, List.take_nil, List.drop_succ_cons, List.drop_zero, List.drop_nil, List.reverse_cons, List.reverse_nil, Option.toList_some, Option.toList_none, Int.reduceToNat, hk_pt, hl_pt, hz_pt, hs_pt, hv_same, hv_ne, hv_na, hz_nw, hs_nw, hk_newS, hl_newS, hv_newS, Int.reduceEq, Int.reduceNe, Int.reduceLE, Int.reduceLT, Int.reduceAdd, Int.reduceSub, Int.reduceMul, Int.reduceNeg, Nat.reduceAdd, Nat.reduceSub, Nat.reduceLeDiff, Bool.or_false, Bool.false_or, Bool.or_true, Bool.true_or, or_self, or_false, false_or, true_or, or_true, and_true, true_and, forall_const, decide_eq_true_eq, decide_eq_false_iff_not, Bool.and_eq_true, Bool.false_eq_true, Nat.lt_add_one, imp_self, implies_true, not_true_eq_false, not_false_eq_true, ne_eq, Bool.true_eq_false, Nat.zero_le, Nat.le_refl, and_self, false_implies, q_92, l_92]
  exact loop (h_vl h a 2).toNat 0 (by omega) (by omega) (fun i i1 i2 => by omega)
/-- what a leaf's own steps change -/
def t_lc (a k b j : Int) : Prop := (k = 3 ∧ b = a ∧ j = 2) ∨ (k = 20 ∧ (b = a + 1 ∨ b = a + 2))
theorem t_L.put {h : E_H} {a b j v : Int} (hL : t_L h a) (hb : b ≠ a ∨ j = 2) : t_L (h_put h b j v) a := by
  unfold t_L at hL ⊢
  have e : ∀ i : Int, i ≠ 2 → h_vl (h_put h b j v) a i = h_vl h a i := fun i hi => by rw [hv_put, if_neg (by omega)]
  rw [e 0 (by omega), e 1 (by omega)]
  exact hL
def t_sh (h : E_H) (a k : Int) : E_H := h_put (h_put h (a + 1) k (h_vl h (a + 1) (k - 1))) (a + 2) k (h_vl h (a + 2) (k - 1))
set_option maxRecDepth 100000 in
set_option maxHeartbeats 4000000 in
theorem c_lad_s {d : Nat} {a key p k : Int} {h : E_H} {Q : Option E_V → E_H → Prop} (hL : t_L h a) (hk : 0 ≤ k ∧ k < 4) (K1 : (k = 0 ∨ h_vl h (a + 1) (k - 1) ≤ key) → Q none (h_put (h_put h (a + 1) k key) (a + 2) k p)) (K2 : 0 < k → key < h_vl h (a + 1) (k - 1) → e_wpc d 52 12 [some (.inr a), some (.inl key), some (.inl p), some (.inl (k - 1))] [] (t_sh h a k) Q) : e_wpc d 52 12 [some (.inr a), some (.inl key), some (.inl p), some (.inl k)] [] h Q := by
  have hL' := hL.1
  have h16 := hL.2
  have ne := @t_ne a
  refine e_wpc_blk 100 [12] ?_
  simp only [e_blk_eq, g_go, g_bks, g_bkn, g_gst, g_gsf, e_cl, e_rt, n_0, n_1, n_2, n_3, n_4, n_5, n_6, n_7, n_8, n_9, n_10, n_11, n_12, n_13, n_14, n_15, n_16, n_17, n_18, n_19, n_20, n_21, n_22, n_23, n_24, n_25, n_26, n_27, n_28, n_29, n_30, n_31, n_32, n_33, n_34, n_35, n_36, n_37, n_40, n_41, n_42, n_43, n_44, n_45, n_46, n_50, n_51, n_52, n_53, n_54, n_55, f_ldi, f_lda, f_sti, f_sta, f_inc, f_bin0, f_bin1, f_bin2, f_bin3, f_bin4, f_bin5, f_bin6, f_bin7, f_i2b, f_dup, f_pop, f_dx1, f_if0, f_ic0, f_if1, f_ic1, f_if2, f_ic2, f_if3, f_ic3, f_if4, f_ic4, f_if5, f_ic5, f_ac0, f_ac1, f_nu0, f_nu1, f_sw, f_sw0, f_sw1, f_gti, f_gta, f_pti, f_pta, f_ptz, f_new, f_nwa, f_ild, f_ist, f_bld, f_bst, f_ald, f_ast, f_len, f_cst, f_oin, f_gcl, f_ord, f_mm0, f_mm1, f_cpy, f_re0, f_re1, f_rea, f_rev, f_t50, f_t51, f_t52, f_t53, f_t54, f_t55, f_st, f_sd, f_s2, f_sn, e_in, e_ent, e_inR, Nat.reduceLT, Nat.reduceEqDiff, reduceIte, Nat.reduceBEq, List.length_cons, List.length_nil, List.map_cons, List.map_nil, List.replicate, List.cons_append, List.nil_append, List.append_nil, List.getElem?_cons_zero, List.getElem?_cons_succ, List.getElem?_nil, List.set_cons_zero, List.set_cons_succ, List.take_succ_cons, List.take_zero, List.take_nil, List.drop_succ_cons, List.drop_zero, List.drop_nil, List.reverse_cons, List.reverse_nil, Option.toList_some, Option.toList_none, Int.reduceToNat, hk_pt, hl_pt, hz_pt, hs_pt, hv_same, hv_ne, hv_na, hz_nw, hs_nw, hk_newS, hl_newS, hv_newS, Int.reduceEq, Int.reduceNe, Int.reduceLE, Int.reduceLT, Int.reduceAdd, Int.reduceSub, Int.reduceMul, Int.reduceNeg, Nat.reduceAdd, Nat.reduceSub, Nat.reduceLeDiff, Bool.or_false, Bool.false_or, Bool.or_true, Bool.true_or, or_self, or_false, false_or, true_or, or_true, and_true, true_and, forall_const, decide_eq_true_eq, decide_eq_false_iff_not, Bool.and_eq_true, Bool.false_eq_true, Nat.lt_add_one, imp_self, implies_true, not_true_eq_false, not_false_eq_true, ne_eq, Bool.true_eq_false, Nat.zero_le, Nat.le_refl, and_self, false_implies, q_52, l_52, hL', ne]
  refine ⟨fun h1 => ⟨by omega, by omega, K1 (by omega)⟩, fun h1 => ⟨by omega, by omega, fun h2 => ⟨by omega, by omega, K1 (Or.inr h2)⟩, fun h2 => ⟨by omega, by omega, by omega, by omega, by omega, by omega, by omega, ?_⟩⟩⟩
  exact K2 (by omega) (by omega)
set_option maxRecDepth 100000 in
set_option maxHeartbeats 4000000 in
theorem r_ladd {d : Nat} {a key p n : Int} {h : E_H} {Q : Option E_V → E_H → Prop} (hZ : k_Z h) (hL : t_L h a) (h2 : h_vl h a 2 = n) (hn : 0 ≤ n ∧ n < 4)
    (K : ∀ h' x, f_s (t_lc a) h h' → (0 ≤ x ∧ x ≤ n) → (∀ j : Int, 0 ≤ j → j < x → h_vl h' (a + 1) j = h_vl h (a + 1) j ∧ h_vl h' (a + 2) j = h_vl h (a + 2) j) → h_vl h' (a + 1) x = key → h_vl h' (a + 2) x = p → (∀ j : Int, x ≤ j → j < n → h_vl h' (a + 1) (j + 1) = h_vl h (a + 1) j ∧ h_vl h' (a + 2) (j + 1) = h_vl h (a + 2) j) → (x = 0 ∨ h_vl h (a + 1) (x - 1) ≤ key) → (∀ j : Int, x ≤ j → j < n → key < h_vl h (a + 1) j) → h_vl h' a 2 = n + 1 → Q none h') : e_wpm d 52 [.inr a, .inl key, .inl p] h Q := by
  have hL' := hL.1
  have ne := @t_ne a
  have loop : ∀ (m : Nat) (k : Int) (h1 : E_H), k = m → k ≤ n → t_L h1 a → f_s (t_lc a) h h1 → (∀ j : Int, 0 ≤ j → j < k → h_vl h1 (a + 1) j = h_vl h (a + 1) j ∧ h_vl h1 (a + 2) j = h_vl h (a + 2) j) → (∀ j : Int, k ≤ j → j < n → h_vl h1 (a + 1) (j + 1) = h_vl h (a + 1) j ∧ h_vl h1 (a + 2) (j + 1) = h_vl h (a + 2) j) → (∀ j : Int, k ≤ j → j < n → key < h_vl h (a + 1) j) → h_vl h1 a 2 = n + 1 → e_wpc d 52 12 [some (.inr a), some (.inl key), some (.inl p), some (.inl k)] [] h1 Q := by
    intro m
    induction m with
    | zero =>
      intro k h1 hk hkn L1 f1 b1 b2 b3 b4
      refine c_lad_s L1 (by omega) (fun _ => ?_) (fun z => absurd z (by omega))
      refine K _ k ((f1.put (fun _ => Or.inr ⟨hL'.2.2.2.1, Or.inl rfl⟩)).put (fun _ => Or.inr ⟨hL'.2.2.2.2.2.1, Or.inr rfl⟩)) (by omega) (fun j j1 j2 => by omega) ?_ ?_ (fun j j1 j2 => ?_) (Or.inl (by omega)) b3 ?_
      · rw [hv_na (by omega), hv_same]
      · rw [hv_same]
      · rw [hv_na (by omega), hv_ne (by omega), hv_ne (by omega), hv_na (by omega)]; exact b2 j j1 j2
      · rw [hv_na (by omega), hv_na (by omega)]; exact b4
    | succ m ih =>
      intro k h1 hk hkn L1 f1 b1 b2 b3 b4
      refine c_lad_s L1 (by omega) (fun hc => ?_) (fun z hc => ?_)
      · refine K _ k ((f1.put (fun _ => Or.inr ⟨hL'.2.2.2.1, Or.inl rfl⟩)).put (fun _ => Or.inr ⟨hL'.2.2.2.2.2.1, Or.inr rfl⟩)) (by omega) (fun j j1 j2 => ?_) ?_ ?_ (fun j j1 j2 => ?_) (Or.inr ?_) b3 ?_
        · rw [hv_na (by omega), hv_ne (by omega), hv_ne (by omega), hv_na (by omega)]; exact b1 j j1 j2
        · rw [hv_na (by omega), hv_same]
        · rw [hv_same]
        · rw [hv_na (by omega), hv_ne (by omega), hv_ne (by omega), hv_na (by omega)]; exact b2 j j1 j2
        · rw [← (b1 (k - 1) (by omega) (by omega)).1]; omega
        · rw [hv_na (by omega), hv_na (by omega)]; exact b4
      · unfold t_sh
        refine ih (k - 1) _ (by omega) (by omega) ((L1.put (by omega)).put (by omega)) ((f1.put (fun _ => Or.inr ⟨hL'.2.2.2.1, Or.inl rfl⟩)).put (fun _ => Or.inr ⟨hL'.2.2.2.2.2.1, Or.inr rfl⟩)) (fun j j1 j2 => ?_) (fun j j1 j2 => ?_) (fun j j1 j2 => ?_) ?_
        · rw [hv_na (by omega), hv_ne (by omega), hv_ne (by omega), hv_na (by omega)]; exact b1 j j1 (by omega)
        · by_cases hj : j = k - 1
          · rw [show j + 1 = k by omega, hv_na (by omega), hv_same, hv_same, hj]
            exact b1 (k - 1) (by omega) (by omega)
          · rw [hv_na (by omega), hv_ne (by omega), hv_ne (by omega), hv_na (by omega)]; exact b2 j (by omega) j2
        · by_cases hj : j = k - 1
          · rw [hj, ← (b1 (k - 1) (by omega) (by omega)).1]; exact hc
          · exact b3 j (by omega) j2
        · rw [hv_na (by omega), hv_na (by omega)]; exact b4
  refine e_wpm_blk 100 [12] ?_
  simp only [e_blk_eq, g_go, g_bks, g_bkn, g_gst, g_gsf, e_cl, e_rt, n_0, n_1, n_2, n_3, n_4, n_5, n_6, n_7, n_8, n_9, n_10, n_11, n_12, n_13, n_14, n_15, n_16, n_17, n_18, n_19, n_20, n_21, n_22, n_23, n_24, n_25, n_26, n_27, n_28, n_29, n_30, n_31, n_32, n_33, n_34, n_35, n_36, n_37, n_40, n_41, n_42, n_43, n_44, n_45, n_46, n_50, n_51, n_52, n_53, n_54, n_55, f_ldi, f_lda, f_sti, f_sta, f_inc, f_bin0, f_bin1, f_bin2, f_bin3, f_bin4, f_bin5, f_bin6, f_bin7, f_i2b, f_dup, f_pop, f_dx1, f_if0, f_ic0, f_if1, f_ic1, f_if2, f_ic2, f_if3, f_ic3, f_if4, f_ic4, f_if5, f_ic5, f_ac0, f_ac1, f_nu0, f_nu1, f_sw, f_sw0, f_sw1, f_gti, f_gta, f_pti, f_pta, f_ptz, f_new, f_nwa, f_ild, f_ist, f_bld, f_bst, f_ald, f_ast, f_len, f_cst, f_oin, f_gcl, f_ord, f_mm0, f_mm1, f_cpy, f_re0, f_re1, f_rea, f_rev, f_t50, f_t51, f_t52, f_t53, f_t54, f_t55, f_st, f_sd, f_s2, f_sn, e_in, e_ent, e_inR, Nat.reduceLT, Nat.reduceEqDiff, reduceIte, Nat.reduceBEq, List.length_cons, List.length_nil, List.map_cons, List.map_nil, List.replicate, List.cons_append, List.nil_append, List.append_nil, List.getElem?_cons_zero, List.getElem?_cons_succ, List.getElem?_nil, List.set_cons_zero, List.set_cons_succ, List.take_succ_cons, List.take_zero, List.take_nil, List.drop_succ_cons, List.drop_zero, List.drop_nil, List.reverse_cons, List.reverse_nil, Option.toList_some, Option.toList_none, Int.reduceToNat, hk_pt, hl_pt, hz_pt, hs_pt, hv_same, hv_ne, hv_na, hz_nw, hs_nw, hk_newS, hl_newS, hv_newS, Int.reduceEq, Int.reduceNe, Int.reduceLE, Int.reduceLT, Int.reduceAdd, Int.reduceSub, Int.reduceMul, Int.reduceNeg, Nat.reduceAdd, Nat.reduceSub, Nat.reduceLeDiff, Bool.or_false, Bool.false_or, Bool.or_true, Bool.true_or, or_self, or_false, false_or, true_or, or_true, and_true, true_and, forall_const, decide_eq_true_eq, decide_eq_false_iff_not, Bool.and_eq_true, Bool.false_eq_true, Nat.lt_add_one, imp_self, implies_true, not_true_eq_false, not_false_eq_true, ne_eq, Bool.true_eq_false, Nat.zero_le, Nat.le_refl, and_self, false_implies, q_52, l_52, hL', h2]
  refine ⟨by omega, loop n.toNat n _ (by omega) (by omega) (hL.put (Or.inr rfl)) ((f_s.rf hZ).put (fun _ => Or.inl ⟨hL'.1, rfl, rfl⟩)) (fun j j1 j2 => ?_) (fun j j1 j2 => by omega) (fun j j1 j2 => by omega) ?_⟩
  · rw [hv_na (by omega), hv_na (by omega)]; exact ⟨rfl, rfl⟩
  · rw [hv_same]
def t_mv (h : E_H) (a x k : Int) : E_H := h_put (h_put h (a + 1) x (h_vl h (a + 1) k)) (a + 2) x (h_vl h (a + 2) k)
set_option maxRecDepth 100000 in
set_option maxHeartbeats 4000000 in
theorem c_lrm_s {d : Nat} {a key x k : Int} {h : E_H} {Q : Option E_V → E_H → Prop} (hL : t_L h a) (hn : h_vl h a 2 ≤ 4) (hk : 0 ≤ k) (hx : 0 ≤ x ∧ x ≤ k) (K1 : h_vl h a 2 ≤ k → Q none (h_put h a 2 x)) (K2 : k < h_vl h a 2 → h_vl h (a + 1) k = key → e_wpc d 58 4 [some (.inr a), some (.inl key), some (.inl x), some (.inl (k + 1))] [] h Q) (K3 : k < h_vl h a 2 → h_vl h (a + 1) k ≠ key → e_wpc d 58 4 [some (.inr a), some (.inl key), some (.inl (x + 1)), some (.inl (k + 1))] [] (t_mv h a x k) Q) : e_wpc d 58 4 [some (.inr a), some (.inl key), some (.inl x), some (.inl k)] [] h Q := by
  have hL' := hL.1
  have h16 := hL.2
  have ne := @t_ne a
  refine e_wpc_blk 100 [4] ?_
  simp only [e_blk_eq, g_go, g_bks, g_bkn, g_gst, g_gsf, e_cl, e_rt, n_0, n_1, n_2, n_3, n_4, n_5, n_6, n_7, n_8, n_9, n_10, n_11, n_12, n_13, n_14, n_15, n_16, n_17, n_18, n_19, n_20, n_21, n_22, n_23, n_24, n_25, n_26, n_27, n_28, n_29, n_30, n_31, n_32, n_33, n_34, n_35, n_36, n_37, n_40, n_41, n_42, n_43, n_44, n_45, n_46, n_50, n_51, n_52, n_53, n_54, n_55, f_ldi, f_lda, f_sti, f_sta, f_inc, f_bin0, f_bin1, f_bin2, f_bin3, f_bin4, f_bin5, f_bin6, f_bin7, f_i2b, f_dup, f_pop, f_dx1, f_if0, f_ic0, f_if1, f_ic1, f_if2, f_ic2, f_if3, f_ic3, f_if4, f_ic4, f_if5, f_ic5, f_ac0, f_ac1, f_nu0, f_nu1, f_sw, f_sw0, f_sw1, f_gti, f_gta, f_pti, f_pta, f_ptz, f_new, f_nwa, f_ild, f_ist, f_bld, f_bst, f_ald, f_ast, f_len, f_cst, f_oin, f_gcl, f_ord, f_mm0, f_mm1, f_cpy, f_re0, f_re1, f_rea, f_rev, f_t50, f_t51, f_t52, f_t53, f_t54, f_t55, f_st, f_sd, f_s2, f_sn, e_in, e_ent, e_inR, Nat.reduceLT, Nat.reduceEqDiff, reduceIte, Nat.reduceBEq, List.length_cons, List.length_nil, List.map_cons, List.map_nil, List.replicate, List.cons_append, List.nil_append, List.append_nil, List.getElem?_cons_zero, List.getElem?_cons_succ, List.getElem?_nil, List.set_cons_zero, List.set_cons_succ, List.take_succ_cons, List.take_zero, List.take_nil, List.drop_succ_cons, List.drop_zero, List.drop_nil, List.reverse_cons, List.reverse_nil, Option.toList_some, Option.toList_none, Int.reduceToNat, hk_pt, hl_pt, hz_pt, hs_pt, hv_same, hv_ne, hv_na, hz_nw, hs_nw, hk_newS, hl_newS, hv_newS, Int.reduceEq, Int.reduceNe, Int.reduceLE, Int.reduceLT, Int.reduceAdd, Int.reduceSub, Int.reduceMul, Int.reduceNeg, Nat.reduceAdd, Nat.reduceSub, Nat.reduceLeDiff, Bool.or_false, Bool.false_or, Bool.or_true, Bool.true_or, or_self, or_false, false_or, true_or, or_true, and_true, true_and, forall_const, decide_eq_true_eq, decide_eq_false_iff_not, Bool.and_eq_true, Bool.false_eq_true, Nat.lt_add_one, imp_self, implies_true, not_true_eq_false, not_false_eq_true, ne_eq, Bool.true_eq_false, Nat.zero_le, Nat.le_refl, and_self, false_implies, q_58, l_58, hL', ne]
  exact ⟨fun h1 => K1 h1, fun h1 => ⟨by omega, fun h2 => ⟨by omega, by omega, by omega, by omega, by omega, by omega, K3 (by omega) h2⟩, fun h2 => ⟨by omega, K2 (by omega) (Decidable.not_not.mp h2)⟩⟩⟩
set_option maxRecDepth 100000 in
set_option maxHeartbeats 4000000 in
theorem r_lremove {d : Nat} {a key n : Int} {h : E_H} {Q : Option E_V → E_H → Prop} (hZ : k_Z h) (hL : t_L h a) (h2 : h_vl h a 2 = n) (hn : 0 ≤ n ∧ n ≤ 4) (hs : ∀ i j : Int, 0 ≤ i → i < j → j < n → h_vl h (a + 1) i < h_vl h (a + 1) j)
    (K1 : ∀ h', f_s (t_lc a) h h' → (∀ i : Int, 0 ≤ i → i < n → h_vl h (a + 1) i ≠ key) → (∀ j : Int, 0 ≤ j → j < n → h_vl h' (a + 1) j = h_vl h (a + 1) j ∧ h_vl h' (a + 2) j = h_vl h (a + 2) j) → h_vl h' a 2 = n → Q none h')
    (K2 : ∀ h' x, f_s (t_lc a) h h' → (0 ≤ x ∧ x < n) → h_vl h (a + 1) x = key → (∀ j : Int, 0 ≤ j → j < n - 1 → h_vl h' (a + 1) j = h_vl h (a + 1) (if j < x then j else j + 1) ∧ h_vl h' (a + 2) j = h_vl h (a + 2) (if j < x then j else j + 1)) → h_vl h' a 2 = n - 1 → Q none h') : e_wpm d 58 [.inr a, .inl key] h Q := by
  have hL' := hL.1
  have ne := @t_ne a
  have pf : ∀ {h1 : E_H} {x k : Int}, f_s (t_lc a) h h1 → f_s (t_lc a) h (t_mv h1 a x k) := fun {h1 x k} f1 => (f1.put (fun _ => Or.inr ⟨hL'.2.2.2.1, Or.inl rfl⟩)).put (fun _ => Or.inr ⟨hL'.2.2.2.2.2.1, Or.inr rfl⟩)
  have mv1 : ∀ (h1 : E_H) (x k j : Int), h_vl (t_mv h1 a x k) (a + 1) j = if j = x then h_vl h1 (a + 1) k else h_vl h1 (a + 1) j := by
    intro h1 x k j
    unfold t_mv
    rw [hv_na (by omega), hv_put]
    by_cases hj : j = x
    · rw [if_pos ⟨rfl, hj⟩, if_pos hj]
    · rw [if_neg (fun z => hj z.2), if_neg hj]
  have mv2 : ∀ (h1 : E_H) (x k j : Int), h_vl (t_mv h1 a x k) (a + 2) j = if j = x then h_vl h1 (a + 2) k else h_vl h1 (a + 2) j := by
    intro h1 x k j
    unfold t_mv
    rw [hv_put]
    by_cases hj : j = x
    · rw [if_pos ⟨rfl, hj⟩, if_pos hj]
    · rw [if_neg (fun z => hj z.2), if_neg hj, hv_na (by omega)]
  have mv0 : ∀ (h1 : E_H) (x k : Int), h_vl (t_mv h1 a x k) a 2 = h_vl h1 a 2 := fun h1 x k => by
    unfold t_mv
    rw [hv_na (by omega), hv_na (by omega)]
  have loop2 : ∀ (m : Nat) (k x : Int) (h1 : E_H), k + m = n → x < k → 0 ≤ x → h_vl h (a + 1) x = key → t_L h1 a → f_s (t_lc a) h h1 → h_vl h1 a 2 = n → (∀ j : Int, 0 ≤ j → j < n → (j < x → h_vl h1 (a + 1) j = h_vl h (a + 1) j ∧ h_vl h1 (a + 2) j = h_vl h (a + 2) j) ∧ (x ≤ j → j < k - 1 → h_vl h1 (a + 1) j = h_vl h (a + 1) (j + 1) ∧ h_vl h1 (a + 2) j = h_vl h (a + 2) (j + 1)) ∧ (k ≤ j → h_vl h1 (a + 1) j = h_vl h (a + 1) j ∧ h_vl h1 (a + 2) j = h_vl h (a + 2) j)) → e_wpc d 58 4 [some (.inr a), some (.inl key), some (.inl (k - 1)), some (.inl k)] [] h1 Q := by
    intro m
    induction m with
    | zero =>
      intro k x h1 hk hx x0 xk L1 f1 e2 b
      refine c_lrm_s L1 (by omega) (by omega) (by omega) (fun z => ?_) (fun z => absurd z (by omega)) (fun z => absurd z (by omega))
      refine K2 _ x (f1.put (fun _ => Or.inl ⟨hL'.1, rfl, rfl⟩)) (by omega) xk (fun j j1 j2 => ?_) (by rw [hv_same]; omega)
      rw [hv_na (by omega), hv_na (by omega)]
      have bj := b j j1 (by omega)
      by_cases hj : j < x
      · rw [if_pos hj]; exact bj.1 hj
      · rw [if_neg hj]; exact bj.2.1 (by omega) (by omega)
    | succ m ih =>
      intro k x h1 hk hx x0 xk L1 f1 e2 b
      have bk := (b k (by omega) (by omega)).2.2 (by omega)
      refine c_lrm_s L1 (by omega) (by omega) (by omega) (fun z => absurd z (by omega)) (fun z w => ?_) (fun z w => ?_)
      · exfalso
        rw [bk.1] at w
        have := hs x k x0 hx (by omega)
        omega
      · have e : k + 1 - 1 = k - 1 + 1 := by omega
        have g := ih (k + 1) x (t_mv h1 a (k - 1) k) (by omega) (by omega) x0 xk ((L1.put (by omega)).put (by omega)) (pf f1) (by rw [mv0]; exact e2) (fun j j1 j2 => ?_)
        · rw [e] at g; exact g
        · rw [mv1, mv2]
          have bj := b j j1 j2
          by_cases hj : j = k - 1
          · rw [if_pos hj, if_pos hj, hj, bk.1, bk.2, show k - 1 + 1 = k by omega]
            exact ⟨fun z => by omega, fun _ _ => ⟨rfl, rfl⟩, fun z => by omega⟩
          · rw [if_neg hj, if_neg hj]
            exact ⟨bj.1, fun z1 z2 => bj.2.1 z1 (by omega), fun z => bj.2.2 (by omega)⟩
  have loop1 : ∀ (m : Nat) (k : Int) (h1 : E_H), k + m = n → 0 ≤ k → t_L h1 a → f_s (t_lc a) h h1 → h_vl h1 a 2 = n → (∀ j : Int, 0 ≤ j → j < n → h_vl h1 (a + 1) j = h_vl h (a + 1) j ∧ h_vl h1 (a + 2) j = h_vl h (a + 2) j) → (∀ j : Int, 0 ≤ j → j < k → h_vl h (a + 1) j ≠ key) → e_wpc d 58 4 [some (.inr a), some (.inl key), some (.inl k), some (.inl k)] [] h1 Q := by
    intro m
    induction m with
    | zero =>
      intro k h1 hk k0 L1 f1 e2 b nb
      refine c_lrm_s L1 (by omega) (by omega) (by omega) (fun z => ?_) (fun z => absurd z (by omega)) (fun z => absurd z (by omega))
      refine K1 _ (f1.put (fun _ => Or.inl ⟨hL'.1, rfl, rfl⟩)) (fun i i1 i2 => nb i i1 (by omega)) (fun j j1 j2 => ?_) (by rw [hv_same]; omega)
      rw [hv_na (by omega), hv_na (by omega)]
      exact b j j1 j2
    | succ m ih =>
      intro k h1 hk k0 L1 f1 e2 b nb
      have bk := b k (by omega) (by omega)
      refine c_lrm_s L1 (by omega) (by omega) (by omega) (fun z => absurd z (by omega)) (fun z w => ?_) (fun z w => ?_)
      · have g := loop2 m (k + 1) k h1 (by omega) (by omega) k0 (by rw [← bk.1]; exact w) L1 f1 e2 (fun j j1 j2 => ⟨fun _ => b j j1 j2, fun z1 z2 => by omega, fun _ => b j j1 j2⟩)
        rw [show k + 1 - 1 = k by omega] at g
        exact g
      · refine ih (k + 1) (t_mv h1 a k k) (by omega) (by omega) ((L1.put (by omega)).put (by omega)) (pf f1) (by rw [mv0]; exact e2) (fun j j1 j2 => ?_) (fun j j1 j2 => ?_)
        · rw [mv1, mv2]
          by_cases hj : j = k
          · rw [if_pos hj, if_pos hj, hj]; exact bk
          · rw [if_neg hj, if_neg hj]; exact b j j1 j2
        · by_cases hj : j = k
          · rw [hj, ← bk.1]; exact w
          · exact nb j j1 (by omega)
  refine e_wpm_blk 100 [4] ?_
  simp only [e_blk_eq, g_go, g_bks, g_bkn, g_gst, g_gsf, e_cl, e_rt, n_0, n_1, n_2, n_3, n_4, n_5, n_6, n_7, n_8, n_9, n_10, n_11, n_12, n_13, n_14, n_15, n_16, n_17, n_18, n_19, n_20, n_21, n_22, n_23, n_24, n_25, n_26, n_27, n_28, n_29, n_30, n_31, n_32, n_33, n_34, n_35, n_36, n_37, n_40, n_41, n_42, n_43, n_44, n_45, n_46, n_50, n_51, n_52, n_53, n_54, n_55, f_ldi, f_lda, f_sti, f_sta, f_inc, f_bin0, f_bin1, f_bin2, f_bin3, f_bin4, f_bin5, f_bin6, f_bin7, f_i2b, f_dup, f_pop, f_dx1, f_if0, f_ic0, f_if1, f_ic1, f_if2, f_ic2, f_if3, f_ic3, f_if4, f_ic4, f_if5, f_ic5, f_ac0, f_ac1, f_nu0, f_nu1, f_sw, f_sw0, f_sw1, f_gti, f_gta, f_pti, f_pta, f_ptz, f_new, f_nwa, f_ild, f_ist, f_bld, f_bst, f_ald, f_ast, f_len, f_cst, f_oin, f_gcl, f_ord, f_mm0, f_mm1, f_cpy, f_re0, f_re1, f_rea, f_rev, f_t50, f_t51, f_t52, f_t53, f_t54, f_t55, f_st, f_sd, f_s2, f_sn, e_in, e_ent, e_inR, Nat.reduceLT, Nat.reduceEqDiff, reduceIte, Nat.reduceBEq, List.length_cons, List.length_nil, List.map_cons, List.map_nil, List.replicate, List.cons_append, List.nil_append, List.append_nil, List.getElem?_cons_zero, List.getElem?_cons_succ, List.getElem?_nil, List.set_cons_zero, List.set_cons_succ, List.take_succ_cons, List.take_zero, List.take_nil, List.drop_succ_cons, List.drop_zero, List.drop_nil, List.reverse_cons, List.reverse_nil, Option.toList_some, Option.toList_none, Int.reduceToNat, hk_pt, hl_pt, hz_pt, hs_pt, hv_same, hv_ne, hv_na, hz_nw, hs_nw, hk_newS, hl_newS, hv_newS, Int.reduceEq, Int.reduceNe, Int.reduceLE, Int.reduceLT, Int.reduceAdd, Int.reduceSub, Int.reduceMul, Int.reduceNeg, Nat.reduceAdd, Nat.reduceSub, Nat.reduceLeDiff, Bool.or_false, Bool.false_or, Bool.or_true, Bool.true_or, or_self, or_false, false_or, true_or, or_true, and_true, true_and, forall_const, decide_eq_true_eq, decide_eq_false_iff_not, Bool.and_eq_true, Bool.false_eq_true, Nat.lt_add_one, imp_self, implies_true, not_true_eq_false, not_false_eq_true, ne_eq, Bool.true_eq_false, Nat.zero_le, Nat.le_refl, and_self, false_implies, q_58, l_58, hL', h2]
  exact loop1 n.toNat 0 h (by omega) (by omega) hL (f_s.rf hZ) h2 (fun j j1 j2 => ⟨rfl, rfl⟩) (fun j j1 j2 => by omega)
set_option maxRecDepth 100000 in
set_option maxHeartbeats 4000000 in
theorem r_linit {d : Nat} {h : E_H} {Q : Option E_V → E_H → Prop} (hd : 1 ≤ d) (hZ : k_Z h) (hz : 16 ≤ h_sz h)
    (K : ∀ h', f_m (fun _ _ _ => False) h h' → t_L h' (h_sz h) → h_vl h' (h_sz h) 2 = 0 → h_sz h' = h_sz h + 3 → h_sl h' = h_sl h + 11 → Q none h') : e_wpm d 4 [.inr (h_sz h)] (h_new h 3 0 3) Q := by
  have e1 : h_kd (h_new h 3 0 3) (h_sz h) = 3 := hk_newS
  generalize hh : h_new h 3 0 3 = h1 at *
  have z1 : h_sz h1 = h_sz h + 1 := by rw [← hh]; rfl
  have Z1 : k_Z h1 := by rw [← hh]; exact hZ.new
  have v1 : ∀ j, h_vl h1 (h_sz h) j = 0 := fun j => by rw [← hh]; exact hv_newS
  have f1 : f_m (fun _ _ _ => False) h h1 := by rw [← hh]; exact (f_m.rf hZ).new
  have s1 : h_sl h1 = h_sl h + 3 := by rw [← hh]; rfl
  refine e_wpm_blk 100 [] ?_
  simp only [e_blk_eq, g_go, g_bks, g_bkn, g_gst, g_gsf, e_cl, e_rt, n_0, n_1, n_2, n_3, n_4, n_5, n_6, n_7, n_8, n_9, n_10, n_11, n_12, n_13, n_14, n_15, n_16, n_17, n_18, n_19, n_20, n_21, n_22, n_23, n_24, n_25, n_26, n_27, n_28, n_29, n_30, n_31, n_32, n_33, n_34, n_35, n_36, n_37, n_40, n_41, n_42, n_43, n_44, n_45, n_46, n_50, n_51, n_52, n_53, n_54, n_55, f_ldi, f_lda, f_sti, f_sta, f_inc, f_bin0, f_bin1, f_bin2, f_bin3, f_bin4, f_bin5, f_bin6, f_bin7, f_i2b, f_dup, f_pop, f_dx1, f_if0, f_ic0, f_if1, f_ic1, f_if2, f_ic2, f_if3, f_ic3, f_if4, f_ic4, f_if5, f_ic5, f_ac0, f_ac1, f_nu0, f_nu1, f_sw, f_sw0, f_sw1, f_gti, f_gta, f_pti, f_pta, f_ptz, f_new, f_nwa, f_ild, f_ist, f_bld, f_bst, f_ald, f_ast, f_len, f_cst, f_oin, f_gcl, f_ord, f_mm0, f_mm1, f_cpy, f_re0, f_re1, f_rea, f_rev, f_t50, f_t51, f_t52, f_t53, f_t54, f_t55, f_st, f_sd, f_s2, f_sn, e_in, e_ent, e_inR, Nat.reduceLT, Nat.reduceEqDiff, reduceIte, Nat.reduceBEq, List.length_cons, List.length_nil, List.map_cons, List.map_nil, List.replicate, List.cons_append, List.nil_append, List.append_nil, List.getElem?_cons_zero, List.getElem?_cons_succ, List.getElem?_nil, List.set_cons_zero, List.set_cons_succ, List.take_succ_cons, List.take_zero, List.take_nil, List.drop_succ_cons, List.drop_zero, List.drop_nil, List.reverse_cons, List.reverse_nil, Option.toList_some, Option.toList_none, Int.reduceToNat, hk_pt, hl_pt, hz_pt, hs_pt, hv_same, hv_ne, hv_na, hz_nw, hs_nw, hk_newS, hl_newS, hv_newS, Int.reduceEq, Int.reduceNe, Int.reduceLE, Int.reduceLT, Int.reduceAdd, Int.reduceSub, Int.reduceMul, Int.reduceNeg, Nat.reduceAdd, Nat.reduceSub, Nat.reduceLeDiff, Bool.or_false, Bool.false_or, Bool.or_true, Bool.true_or, or_self, or_false, false_or, true_or, or_true, and_true, true_and, forall_const, decide_eq_true_eq, decide_eq_false_iff_not, Bool.and_eq_true, Bool.false_eq_true, Nat.lt_add_one, imp_self, implies_true, not_true_eq_false, not_false_eq_true, ne_eq, Bool.true_eq_false, Nat.zero_le, Nat.le_refl, and_self, false_implies, q_4, l_4, e1]
  have k2 : h_kd (h_new h1 20 4 4) (h_sz h) = 3 := by rw [hk_newN (by omega)]; exact e1
  have k3 : h_kd (h_new (h_put (h_new h1 20 4 4) (h_sz h) 0 (h_sz h1)) 20 4 4) (h_sz h) = 3 := by
    rw [hk_newN (by rw [hz_put, hz_new]; omega)]; exact k2
  refine ⟨⟨by omega, by omega⟩, k2, k3, ?_⟩
  refine K _ (((f1.new.put (fun z => absurd z (by omega))).new).put (fun z => absurd z (by omega))) ⟨⟨k3, ?_, ?_, ?_, ?_, ?_, ?_⟩, hz⟩ ?_ (by rw [hz_put, hz_new, hz_put, hz_new]; omega) (by rw [hs_put, hs_new, hs_put, hs_new]; omega)
  · rw [hv_ne (by omega), hv_newN (by rw [hz_put, hz_new]; omega), hv_same]; exact z1
  · rw [hv_same]; omega
  · rw [hk_put, hk_newN (by rw [hz_put, hz_new]; omega), hk_put, ← z1]; exact hk_newS
  · rw [hl_put, hl_newN (by rw [hz_put, hz_new]; omega), hl_put, ← z1]; exact hl_newS
  · have e : h_sz h + 2 = h_sz (h_put (h_new h1 20 4 4) (h_sz h) 0 (h_sz h1)) := by rw [hz_put, hz_new]; omega
    rw [hk_put, e]; exact hk_newS
  · have e : h_sz h + 2 = h_sz (h_put (h_new h1 20 4 4) (h_sz h) 0 (h_sz h1)) := by rw [hz_put, hz_new]; omega
    rw [hl_put, e]; exact hl_newS
  · rw [hv_ne (by omega), hv_newN (by rw [hz_put, hz_new]; omega), hv_ne (by omega), hv_newN (by omega)]
    exact v1 2
