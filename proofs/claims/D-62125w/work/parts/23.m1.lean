/-! ===== the twin, 1: places, pages, records ===== -/
def q_first (P : Int → Bool) : Nat → Int → Int
  | 0, _ => -1
  | n + 1, x => if P x = true then x else q_first P n (x + 1)
def q_any (P : Int → Bool) : Nat → Int → Bool
  | 0, _ => false
  | n + 1, x => if P x = true then true else q_any P n (x + 1)
def q_b (b : Bool) : Int := if b = true then 1 else 0
theorem m_T.put {h : E_H} {a k x : Int} (hM : m_T h) (ha : 45 ≤ a ∧ a ≤ 71) : m_T (h_put h a k x) := hM.wv (m_ok.rf.up ha)
theorem m_T.pus {h : E_H} {k x : Int} (hM : m_T h) (hk : k = 0 ∨ k = 1 ∨ (19 ≤ k ∧ k ≤ 22) ∨ (32 ≤ k ∧ k ≤ 35)) : m_T (h_put h 44 k x) := hM.wv (m_ok.rf.us hk)
def m_keyAt (V : Int → Int → Int) (x : Int) : Int := if 0 < V 61 (x / 4) then V 57 x else V 54 x
def m_valAt (V : Int → Int → Int) (x : Int) : Int := if 0 < V 61 (x / 4) then V 58 x else V 55 x
set_option maxRecDepth 100000 in
set_option maxHeartbeats 4000000 in
theorem c_keyAt {d : Nat} {h : E_H} {x : Int} {Q : Option E_V → E_H → Prop} (hM : m_T h) (hx : 0 ≤ x ∧ x < 24) (hQ : Q (some (.inl (m_keyAt (h_vl h) x))) h) : e_wpm d 106 [.inr 44, .inl x] h Q := by
  unfold m_T at hM
  refine e_wpm_blk 100 [] ?_
  simp only [e_blk_eq, g_go, g_bks, g_bkn, g_gst, g_gsf, e_cl, e_rt, n_0, n_1, n_2, n_3, n_4, n_5, n_6, n_7, n_8, n_9, n_10, n_11, n_12, n_13, n_14, n_15, n_16, n_17, n_18, n_19, n_20, n_21, n_22, n_23, n_24, n_25, n_26, n_27, n_28, n_29, n_30, n_31, n_32, n_33, n_34, n_35, n_36, n_37, n_40, n_41, n_42, n_43, n_44, n_45, n_46, n_50, n_51, n_52, n_53, n_54, n_55, f_ldi, f_lda, f_sti, f_sta, f_inc, f_bin0, f_bin1, f_bin2, f_bin3, f_bin4, f_bin5, f_bin6, f_bin7, f_i2b, f_dup, f_pop, f_dx1, f_if0, f_ic0, f_if1, f_ic1, f_if2, f_ic2, f_if3, f_ic3, f_if4, f_ic4, f_if5, f_ic5, f_ac0, f_ac1, f_nu0, f_nu1, f_sw, f_sw0, f_sw1, f_gti, f_gta, f_pti, f_pta, f_ptz, f_new, f_nwa, f_ild, f_ist, f_bld, f_bst, f_ald, f_ast, f_len, f_cst, f_oin, f_gcl, f_ord, f_mm0, f_mm1, f_cpy, f_re0, f_re1, f_rea, f_rev, f_t50, f_t51, f_t52, f_t53, f_t54, f_t55, f_st, f_sd, f_s2, f_sn, e_in, e_ent, e_inR, Nat.reduceLT, Nat.reduceEqDiff, reduceIte, Nat.reduceBEq, List.length_cons, List.length_nil, List.map_cons, List.map_nil, List.replicate, List.cons_append, List.nil_append, List.append_nil, List.getElem?_cons_zero, List.getElem?_cons_succ, List.getElem?_nil, List.set_cons_zero, List.set_cons_succ, List.take_succ_cons, List.take_zero, List.take_nil, List.drop_succ_cons, List.drop_zero, List.drop_nil, List.reverse_cons, List.reverse_nil, Option.toList_some, Option.toList_none, Int.reduceToNat, hk_put, hl_put, hz_put, hs_put, hv_same, hv_ne, hv_na, hz_new, hs_new, hk_newS, hl_newS, hv_newS, Int.reduceEq, Int.reduceNe, Int.reduceLE, Int.reduceLT, Int.reduceAdd, Int.reduceSub, Int.reduceMul, Int.reduceNeg, Nat.reduceAdd, Nat.reduceSub, Nat.reduceLeDiff, Bool.or_false, Bool.false_or, Bool.or_true, Bool.true_or, or_self, or_false, false_or, true_or, or_true, and_true, true_and, forall_const, decide_eq_true_eq, decide_eq_false_iff_not, Bool.and_eq_true, Bool.false_eq_true, Nat.lt_add_one, imp_self, implies_true, not_true_eq_false, not_false_eq_true, ne_eq, Bool.true_eq_false, Nat.zero_le, Nat.le_refl, and_self, false_implies, q_106, l_106, hM, hx]
  refine ⟨by omega, fun hc => ?_, fun hc => ?_⟩
  · rw [m_keyAt, if_neg (by omega)] at hQ; exact hQ
  · rw [m_keyAt, if_pos (by omega)] at hQ; exact hQ
set_option maxRecDepth 100000 in
set_option maxHeartbeats 4000000 in
theorem c_valAt {d : Nat} {h : E_H} {x : Int} {Q : Option E_V → E_H → Prop} (hM : m_T h) (hx : 0 ≤ x ∧ x < 24) (hQ : Q (some (.inl (m_valAt (h_vl h) x))) h) : e_wpm d 141 [.inr 44, .inl x] h Q := by
  unfold m_T at hM
  refine e_wpm_blk 100 [] ?_
  simp only [e_blk_eq, g_go, g_bks, g_bkn, g_gst, g_gsf, e_cl, e_rt, n_0, n_1, n_2, n_3, n_4, n_5, n_6, n_7, n_8, n_9, n_10, n_11, n_12, n_13, n_14, n_15, n_16, n_17, n_18, n_19, n_20, n_21, n_22, n_23, n_24, n_25, n_26, n_27, n_28, n_29, n_30, n_31, n_32, n_33, n_34, n_35, n_36, n_37, n_40, n_41, n_42, n_43, n_44, n_45, n_46, n_50, n_51, n_52, n_53, n_54, n_55, f_ldi, f_lda, f_sti, f_sta, f_inc, f_bin0, f_bin1, f_bin2, f_bin3, f_bin4, f_bin5, f_bin6, f_bin7, f_i2b, f_dup, f_pop, f_dx1, f_if0, f_ic0, f_if1, f_ic1, f_if2, f_ic2, f_if3, f_ic3, f_if4, f_ic4, f_if5, f_ic5, f_ac0, f_ac1, f_nu0, f_nu1, f_sw, f_sw0, f_sw1, f_gti, f_gta, f_pti, f_pta, f_ptz, f_new, f_nwa, f_ild, f_ist, f_bld, f_bst, f_ald, f_ast, f_len, f_cst, f_oin, f_gcl, f_ord, f_mm0, f_mm1, f_cpy, f_re0, f_re1, f_rea, f_rev, f_t50, f_t51, f_t52, f_t53, f_t54, f_t55, f_st, f_sd, f_s2, f_sn, e_in, e_ent, e_inR, Nat.reduceLT, Nat.reduceEqDiff, reduceIte, Nat.reduceBEq, List.length_cons, List.length_nil, List.map_cons, List.map_nil, List.replicate, List.cons_append, List.nil_append, List.append_nil, List.getElem?_cons_zero, List.getElem?_cons_succ, List.getElem?_nil, List.set_cons_zero, List.set_cons_succ, List.take_succ_cons, List.take_zero, List.take_nil, List.drop_succ_cons, List.drop_zero, List.drop_nil, List.reverse_cons, List.reverse_nil, Option.toList_some, Option.toList_none, Int.reduceToNat, hk_put, hl_put, hz_put, hs_put, hv_same, hv_ne, hv_na, hz_new, hs_new, hk_newS, hl_newS, hv_newS, Int.reduceEq, Int.reduceNe, Int.reduceLE, Int.reduceLT, Int.reduceAdd, Int.reduceSub, Int.reduceMul, Int.reduceNeg, Nat.reduceAdd, Nat.reduceSub, Nat.reduceLeDiff, Bool.or_false, Bool.false_or, Bool.or_true, Bool.true_or, or_self, or_false, false_or, true_or, or_true, and_true, true_and, forall_const, decide_eq_true_eq, decide_eq_false_iff_not, Bool.and_eq_true, Bool.false_eq_true, Nat.lt_add_one, imp_self, implies_true, not_true_eq_false, not_false_eq_true, ne_eq, Bool.true_eq_false, Nat.zero_le, Nat.le_refl, and_self, false_implies, q_141, l_141, hM, hx]
  refine ⟨by omega, fun hc => ?_, fun hc => ?_⟩
  · rw [m_valAt, if_neg (by omega)] at hQ; exact hQ
  · rw [m_valAt, if_pos (by omega)] at hQ; exact hQ
def m_find (V : Int → Int → Int) (key : Int) : Int := q_first (fun x => decide (m_keyAt V x = key)) 24 0
set_option maxRecDepth 100000 in
set_option maxHeartbeats 4000000 in
theorem c_find_l {d : Nat} {h : E_H} {key : Int} {Q : Option E_V → E_H → Prop} (hd : 1 ≤ d) (hM : m_T h) : ∀ (n : Nat) (x : Int), x + n = 24 → 0 ≤ x → Q (some (.inl (q_first (fun x => decide (m_keyAt (h_vl h) x = key)) n x))) h → e_wpc d 105 2 [some (.inr 44), some (.inl key), some (.inl x)] [] h Q := by
  have hM' := hM
  unfold m_T at hM'
  intro n
  induction n with
  | zero =>
    intro x hx h0 hQ
    refine e_wpc_blk 100 [2] ?_
    simp only [e_blk_eq, g_go, g_bks, g_bkn, g_gst, g_gsf, e_cl, e_rt, n_0, n_1, n_2, n_3, n_4, n_5, n_6, n_7, n_8, n_9, n_10, n_11, n_12, n_13, n_14, n_15, n_16, n_17, n_18, n_19, n_20, n_21, n_22, n_23, n_24, n_25, n_26, n_27, n_28, n_29, n_30, n_31, n_32, n_33, n_34, n_35, n_36, n_37, n_40, n_41, n_42, n_43, n_44, n_45, n_46, n_50, n_51, n_52, n_53, n_54, n_55, f_ldi, f_lda, f_sti, f_sta, f_inc, f_bin0, f_bin1, f_bin2, f_bin3, f_bin4, f_bin5, f_bin6, f_bin7, f_i2b, f_dup, f_pop, f_dx1, f_if0, f_ic0, f_if1, f_ic1, f_if2, f_ic2, f_if3, f_ic3, f_if4, f_ic4, f_if5, f_ic5, f_ac0, f_ac1, f_nu0, f_nu1, f_sw, f_sw0, f_sw1, f_gti, f_gta, f_pti, f_pta, f_ptz, f_new, f_nwa, f_ild, f_ist, f_bld, f_bst, f_ald, f_ast, f_len, f_cst, f_oin, f_gcl, f_ord, f_mm0, f_mm1, f_cpy, f_re0, f_re1, f_rea, f_rev, f_t50, f_t51, f_t52, f_t53, f_t54, f_t55, f_st, f_sd, f_s2, f_sn, e_in, e_ent, e_inR, Nat.reduceLT, Nat.reduceEqDiff, reduceIte, Nat.reduceBEq, List.length_cons, List.length_nil, List.map_cons, List.map_nil, List.replicate, List.cons_append, List.nil_append, List.append_nil, List.getElem?_cons_zero, List.getElem?_cons_succ, List.getElem?_nil, List.set_cons_zero, List.set_cons_succ, List.take_succ_cons, List.take_zero, List.take_nil, List.drop_succ_cons, List.drop_zero, List.drop_nil, List.reverse_cons, List.reverse_nil, Option.toList_some, Option.toList_none, Int.reduceToNat, hk_put, hl_put, hz_put, hs_put, hv_same, hv_ne, hv_na, hz_new, hs_new, hk_newS, hl_newS, hv_newS, Int.reduceEq, Int.reduceNe, Int.reduceLE, Int.reduceLT, Int.reduceAdd, Int.reduceSub, Int.reduceMul, Int.reduceNeg, Nat.reduceAdd, Nat.reduceSub, Nat.reduceLeDiff, Bool.or_false, Bool.false_or, Bool.or_true, Bool.true_or, or_self, or_false, false_or, true_or, or_true, and_true, true_and, forall_const, decide_eq_true_eq, decide_eq_false_iff_not, Bool.and_eq_true, Bool.false_eq_true, Nat.lt_add_one, imp_self, implies_true, not_true_eq_false, not_false_eq_true, ne_eq, Bool.true_eq_false, Nat.zero_le, Nat.le_refl, and_self, false_implies, q_105, l_105, l_106, hM']
    exact ⟨fun _ => hQ, fun hc => absurd hc (by omega)⟩
  | succ n ih =>
    intro x hx h0 hQ
    refine e_wpc_blk 100 [2] ?_
    simp only [e_blk_eq, g_go, g_bks, g_bkn, g_gst, g_gsf, e_cl, e_rt, n_0, n_1, n_2, n_3, n_4, n_5, n_6, n_7, n_8, n_9, n_10, n_11, n_12, n_13, n_14, n_15, n_16, n_17, n_18, n_19, n_20, n_21, n_22, n_23, n_24, n_25, n_26, n_27, n_28, n_29, n_30, n_31, n_32, n_33, n_34, n_35, n_36, n_37, n_40, n_41, n_42, n_43, n_44, n_45, n_46, n_50, n_51, n_52, n_53, n_54, n_55, f_ldi, f_lda, f_sti, f_sta, f_inc, f_bin0, f_bin1, f_bin2, f_bin3, f_bin4, f_bin5, f_bin6, f_bin7, f_i2b, f_dup, f_pop, f_dx1, f_if0, f_ic0, f_if1, f_ic1, f_if2, f_ic2, f_if3, f_ic3, f_if4, f_ic4, f_if5, f_ic5, f_ac0, f_ac1, f_nu0, f_nu1, f_sw, f_sw0, f_sw1, f_gti, f_gta, f_pti, f_pta, f_ptz, f_new, f_nwa, f_ild, f_ist, f_bld, f_bst, f_ald, f_ast, f_len, f_cst, f_oin, f_gcl, f_ord, f_mm0, f_mm1, f_cpy, f_re0, f_re1, f_rea, f_rev, f_t50, f_t51, f_t52, f_t53, f_t54, f_t55, f_st, f_sd, f_s2, f_sn, e_in, e_ent, e_inR, Nat.reduceLT, Nat.reduceEqDiff, reduceIte, Nat.reduceBEq, List.length_cons, List.length_nil, List.map_cons, List.map_nil, List.replicate, List.cons_append, List.nil_append, List.append_nil, List.getElem?_cons_zero, List.getElem?_cons_succ, List.getElem?_nil, List.set_cons_zero, List.set_cons_succ, List.take_succ_cons, List.take_zero, List.take_nil, List.drop_succ_cons, List.drop_zero, List.drop_nil, List.reverse_cons, List.reverse_nil, Option.toList_some, Option.toList_none, Int.reduceToNat, hk_put, hl_put, hz_put, hs_put, hv_same, hv_ne, hv_na, hz_new, hs_new, hk_newS, hl_newS, hv_newS, Int.reduceEq, Int.reduceNe, Int.reduceLE, Int.reduceLT, Int.reduceAdd, Int.reduceSub, Int.reduceMul, Int.reduceNeg, Nat.reduceAdd, Nat.reduceSub, Nat.reduceLeDiff, Bool.or_false, Bool.false_or, Bool.or_true, Bool.true_or, or_self, or_false, false_or, true_or, or_true, and_true, true_and, forall_const, decide_eq_true_eq, decide_eq_false_iff_not, Bool.and_eq_true, Bool.false_eq_true, Nat.lt_add_one, imp_self, implies_true, not_true_eq_false, not_false_eq_true, ne_eq, Bool.true_eq_false, Nat.zero_le, Nat.le_refl, and_self, false_implies, q_105, l_105, l_106, hM']
    refine ⟨fun hc => absurd hc (by omega), fun hc => ⟨by omega, ?_⟩⟩
    refine c_keyAt hM ⟨by omega, by omega⟩ ?_
    simp only [e_blk_eq, g_go, g_bks, g_bkn, g_gst, g_gsf, e_cl, e_rt, n_0, n_1, n_2, n_3, n_4, n_5, n_6, n_7, n_8, n_9, n_10, n_11, n_12, n_13, n_14, n_15, n_16, n_17, n_18, n_19, n_20, n_21, n_22, n_23, n_24, n_25, n_26, n_27, n_28, n_29, n_30, n_31, n_32, n_33, n_34, n_35, n_36, n_37, n_40, n_41, n_42, n_43, n_44, n_45, n_46, n_50, n_51, n_52, n_53, n_54, n_55, f_ldi, f_lda, f_sti, f_sta, f_inc, f_bin0, f_bin1, f_bin2, f_bin3, f_bin4, f_bin5, f_bin6, f_bin7, f_i2b, f_dup, f_pop, f_dx1, f_if0, f_ic0, f_if1, f_ic1, f_if2, f_ic2, f_if3, f_ic3, f_if4, f_ic4, f_if5, f_ic5, f_ac0, f_ac1, f_nu0, f_nu1, f_sw, f_sw0, f_sw1, f_gti, f_gta, f_pti, f_pta, f_ptz, f_new, f_nwa, f_ild, f_ist, f_bld, f_bst, f_ald, f_ast, f_len, f_cst, f_oin, f_gcl, f_ord, f_mm0, f_mm1, f_cpy, f_re0, f_re1, f_rea, f_rev, f_t50, f_t51, f_t52, f_t53, f_t54, f_t55, f_st, f_sd, f_s2, f_sn, e_in, e_ent, e_inR, Nat.reduceLT, Nat.reduceEqDiff, reduceIte, Nat.reduceBEq, List.length_cons, List.length_nil, List.map_cons, List.map_nil, List.replicate, List.cons_append, List.nil_append, List.append_nil, List.getElem?_cons_zero, List.getElem?_cons_succ, List.getElem?_nil, List.set_cons_zero, List.set_cons_succ, List.take_succ_cons, List.take_zero, List.take_nil, List.drop_succ_cons, List.drop_zero, List.drop_nil, List.reverse_cons, List.reverse_nil, Option.toList_some, Option.toList_none, Int.reduceToNat, hk_put, hl_put, hz_put, hs_put, hv_same, hv_ne, hv_na, hz_new, hs_new, hk_newS, hl_newS, hv_newS, Int.reduceEq, Int.reduceNe, Int.reduceLE, Int.reduceLT, Int.reduceAdd, Int.reduceSub, Int.reduceMul, Int.reduceNeg, Nat.reduceAdd, Nat.reduceSub, Nat.reduceLeDiff, Bool.or_false, Bool.false_or, Bool.or_true, Bool.true_or, or_self, or_false, false_or, true_or, or_true, and_true, true_and, forall_const, decide_eq_true_eq, decide_eq_false_iff_not, Bool.and_eq_true, Bool.false_eq_true, Nat.lt_add_one, imp_self, implies_true, not_true_eq_false, not_false_eq_true, ne_eq, Bool.true_eq_false, Nat.zero_le, Nat.le_refl, and_self, false_implies, q_105, l_105, hM']
    refine ⟨fun hk => ⟨⟨by omega, by omega⟩, ?_⟩, fun hk => ?_⟩
    · refine ih (x + 1) (by omega) (by omega) ?_
      rw [q_first, if_neg (by simpa using hk)] at hQ
      exact hQ
    · rw [q_first, if_pos (by simpa using hk)] at hQ
      exact hQ
set_option maxRecDepth 100000 in
set_option maxHeartbeats 4000000 in
theorem c_find {d : Nat} {h : E_H} {key : Int} {Q : Option E_V → E_H → Prop} (hd : 1 ≤ d) (hM : m_T h) (hQ : Q (some (.inl (m_find (h_vl h) key))) h) : e_wpm d 105 [.inr 44, .inl key] h Q := by
  refine e_wpm_blk 100 [2] ?_
  simp only [e_blk_eq, g_go, g_bks, g_bkn, g_gst, g_gsf, e_cl, e_rt, n_0, n_1, n_2, n_3, n_4, n_5, n_6, n_7, n_8, n_9, n_10, n_11, n_12, n_13, n_14, n_15, n_16, n_17, n_18, n_19, n_20, n_21, n_22, n_23, n_24, n_25, n_26, n_27, n_28, n_29, n_30, n_31, n_32, n_33, n_34, n_35, n_36, n_37, n_40, n_41, n_42, n_43, n_44, n_45, n_46, n_50, n_51, n_52, n_53, n_54, n_55, f_ldi, f_lda, f_sti, f_sta, f_inc, f_bin0, f_bin1, f_bin2, f_bin3, f_bin4, f_bin5, f_bin6, f_bin7, f_i2b, f_dup, f_pop, f_dx1, f_if0, f_ic0, f_if1, f_ic1, f_if2, f_ic2, f_if3, f_ic3, f_if4, f_ic4, f_if5, f_ic5, f_ac0, f_ac1, f_nu0, f_nu1, f_sw, f_sw0, f_sw1, f_gti, f_gta, f_pti, f_pta, f_ptz, f_new, f_nwa, f_ild, f_ist, f_bld, f_bst, f_ald, f_ast, f_len, f_cst, f_oin, f_gcl, f_ord, f_mm0, f_mm1, f_cpy, f_re0, f_re1, f_rea, f_rev, f_t50, f_t51, f_t52, f_t53, f_t54, f_t55, f_st, f_sd, f_s2, f_sn, e_in, e_ent, e_inR, Nat.reduceLT, Nat.reduceEqDiff, reduceIte, Nat.reduceBEq, List.length_cons, List.length_nil, List.map_cons, List.map_nil, List.replicate, List.cons_append, List.nil_append, List.append_nil, List.getElem?_cons_zero, List.getElem?_cons_succ, List.getElem?_nil, List.set_cons_zero, List.set_cons_succ, List.take_succ_cons, List.take_zero, List.take_nil, List.drop_succ_cons, List.drop_zero, List.drop_nil, List.reverse_cons, List.reverse_nil, Option.toList_some, Option.toList_none, Int.reduceToNat, hk_put, hl_put, hz_put, hs_put, hv_same, hv_ne, hv_na, hz_new, hs_new, hk_newS, hl_newS, hv_newS, Int.reduceEq, Int.reduceNe, Int.reduceLE, Int.reduceLT, Int.reduceAdd, Int.reduceSub, Int.reduceMul, Int.reduceNeg, Nat.reduceAdd, Nat.reduceSub, Nat.reduceLeDiff, Bool.or_false, Bool.false_or, Bool.or_true, Bool.true_or, or_self, or_false, false_or, true_or, or_true, and_true, true_and, forall_const, decide_eq_true_eq, decide_eq_false_iff_not, Bool.and_eq_true, Bool.false_eq_true, Nat.lt_add_one, imp_self, implies_true, not_true_eq_false, not_false_eq_true, ne_eq, Bool.true_eq_false, Nat.zero_le, Nat.le_refl, and_self, false_implies, q_105, l_105]
  exact c_find_l hd hM 24 0 (by omega) (by omega) hQ
/-- the pool's page to the disk -/
def m_spl (V : Int → Int → Int) : Nat → Int → (Int → Int → Int)
  | 0, _ => V
  | n + 1, x => m_spl (v_up (v_up V 54 x (V 57 x)) 55 x (V 58 x)) n (x + 1)
def m_spl2 (V : Int → Int → Int) (g : Int) : Int → Int → Int := v_up (v_up (v_up V 56 g (V 59 g)) 60 g 0) 44 21 (V 44 21 + 1)
def m_spill (V : Int → Int → Int) (g : Int) : Int → Int → Int := m_spl2 (m_spl (v_up V 44 1 (if V 44 1 < V 59 g then V 59 g else V 44 1)) 4 (4 * g)) g
set_option maxRecDepth 100000 in
set_option maxHeartbeats 4000000 in
theorem c_spill_s {d : Nat} {g x : Int} {h : E_H} {Q : Option E_V → E_H → Prop} (hg : 0 ≤ g ∧ g < 6) (hM : m_T h) (hov : -1000000000 ≤ h_vl h 44 21 ∧ h_vl h 44 21 ≤ 1000000000) (h0 : 4 * g ≤ x) (K1 : 4 * g + 4 ≤ x → Q none (h_wv h (m_spl2 (h_vl h) g))) (K2 : x < 4 * g + 4 → e_wpc d 108 34 [some (.inr 44), some (.inl g), some (.inl (x + 1))] [] (h_put (h_put h 54 x (h_vl h 57 x)) 55 x (h_vl h 58 x)) Q) : e_wpc d 108 34 [some (.inr 44), some (.inl g), some (.inl x)] [] h Q := by
  unfold m_T at hM
  refine e_wpc_blk 100 [34] ?_
  simp only [e_blk_eq, g_go, g_bks, g_bkn, g_gst, g_gsf, e_cl, e_rt, n_0, n_1, n_2, n_3, n_4, n_5, n_6, n_7, n_8, n_9, n_10, n_11, n_12, n_13, n_14, n_15, n_16, n_17, n_18, n_19, n_20, n_21, n_22, n_23, n_24, n_25, n_26, n_27, n_28, n_29, n_30, n_31, n_32, n_33, n_34, n_35, n_36, n_37, n_40, n_41, n_42, n_43, n_44, n_45, n_46, n_50, n_51, n_52, n_53, n_54, n_55, f_ldi, f_lda, f_sti, f_sta, f_inc, f_bin0, f_bin1, f_bin2, f_bin3, f_bin4, f_bin5, f_bin6, f_bin7, f_i2b, f_dup, f_pop, f_dx1, f_if0, f_ic0, f_if1, f_ic1, f_if2, f_ic2, f_if3, f_ic3, f_if4, f_ic4, f_if5, f_ic5, f_ac0, f_ac1, f_nu0, f_nu1, f_sw, f_sw0, f_sw1, f_gti, f_gta, f_pti, f_pta, f_ptz, f_new, f_nwa, f_ild, f_ist, f_bld, f_bst, f_ald, f_ast, f_len, f_cst, f_oin, f_gcl, f_ord, f_mm0, f_mm1, f_cpy, f_re0, f_re1, f_rea, f_rev, f_t50, f_t51, f_t52, f_t53, f_t54, f_t55, f_st, f_sd, f_s2, f_sn, e_in, e_ent, e_inR, Nat.reduceLT, Nat.reduceEqDiff, reduceIte, Nat.reduceBEq, List.length_cons, List.length_nil, List.map_cons, List.map_nil, List.replicate, List.cons_append, List.nil_append, List.append_nil, List.getElem?_cons_zero, List.getElem?_cons_succ, List.getElem?_nil, List.set_cons_zero, List.set_cons_succ, List.take_succ_cons, List.take_zero, List.take_nil, List.drop_succ_cons, List.drop_zero, List.drop_nil, List.reverse_cons, List.reverse_nil, Option.toList_some, Option.toList_none, Int.reduceToNat, hk_put, hl_put, hz_put, hs_put, hv_same, hv_ne, hv_na, hz_new, hs_new, hk_newS, hl_newS, hv_newS, Int.reduceEq, Int.reduceNe, Int.reduceLE, Int.reduceLT, Int.reduceAdd, Int.reduceSub, Int.reduceMul, Int.reduceNeg, Nat.reduceAdd, Nat.reduceSub, Nat.reduceLeDiff, Bool.or_false, Bool.false_or, Bool.or_true, Bool.true_or, or_self, or_false, false_or, true_or, or_true, and_true, true_and, forall_const, decide_eq_true_eq, decide_eq_false_iff_not, Bool.and_eq_true, Bool.false_eq_true, Nat.lt_add_one, imp_self, implies_true, not_true_eq_false, not_false_eq_true, ne_eq, Bool.true_eq_false, Nat.zero_le, Nat.le_refl, and_self, false_implies, q_108, l_108, hM]
  exact ⟨by omega, by omega, fun hc => ⟨by omega, by omega, by omega, by omega, K1 hc⟩, fun hc => ⟨by omega, by omega, by omega, by omega, by omega, K2 (by omega)⟩⟩
theorem c_spill_l {d : Nat} {g : Int} {Q : Option E_V → E_H → Prop} (hg : 0 ≤ g ∧ g < 6) : ∀ (n : Nat) (x : Int) (h : E_H), m_T h → (-1000000000 ≤ h_vl h 44 21 ∧ h_vl h 44 21 ≤ 1000000000) → x + n = 4 * g + 4 → 4 * g ≤ x → Q none (h_wv h (m_spl2 (m_spl (h_vl h) n x) g)) → e_wpc d 108 34 [some (.inr 44), some (.inl g), some (.inl x)] [] h Q := by
  intro n
  induction n with
  | zero =>
    intro x h hM hov hx h0 hQ
    exact c_spill_s hg hM hov h0 (fun _ => hQ) (fun hc => absurd hc (by omega))
  | succ n ih =>
    intro x h hM hov hx h0 hQ
    refine c_spill_s hg hM hov h0 (fun hc => absurd hc (by omega)) (fun hc => ih (x + 1) _ ((hM.put (by omega)).put (by omega)) ?_ (by omega) (by omega) hQ)
    rw [hv_na (by omega), hv_na (by omega)]
    exact hov
set_option maxRecDepth 100000 in
set_option maxHeartbeats 4000000 in
theorem c_spill {d : Nat} {g : Int} {h : E_H} {Q : Option E_V → E_H → Prop} (hM : m_T h) (hg : 0 ≤ g ∧ g < 6) (hov : -1000000000 ≤ h_vl h 44 21 ∧ h_vl h 44 21 ≤ 1000000000) (hQ : Q none (h_wv h (m_spill (h_vl h) g))) : e_wpm d 108 [.inr 44, .inl g] h Q := by
  have hM' := hM
  unfold m_T at hM'
  refine e_wpm_blk 100 [34] ?_
  simp only [e_blk_eq, g_go, g_bks, g_bkn, g_gst, g_gsf, e_cl, e_rt, n_0, n_1, n_2, n_3, n_4, n_5, n_6, n_7, n_8, n_9, n_10, n_11, n_12, n_13, n_14, n_15, n_16, n_17, n_18, n_19, n_20, n_21, n_22, n_23, n_24, n_25, n_26, n_27, n_28, n_29, n_30, n_31, n_32, n_33, n_34, n_35, n_36, n_37, n_40, n_41, n_42, n_43, n_44, n_45, n_46, n_50, n_51, n_52, n_53, n_54, n_55, f_ldi, f_lda, f_sti, f_sta, f_inc, f_bin0, f_bin1, f_bin2, f_bin3, f_bin4, f_bin5, f_bin6, f_bin7, f_i2b, f_dup, f_pop, f_dx1, f_if0, f_ic0, f_if1, f_ic1, f_if2, f_ic2, f_if3, f_ic3, f_if4, f_ic4, f_if5, f_ic5, f_ac0, f_ac1, f_nu0, f_nu1, f_sw, f_sw0, f_sw1, f_gti, f_gta, f_pti, f_pta, f_ptz, f_new, f_nwa, f_ild, f_ist, f_bld, f_bst, f_ald, f_ast, f_len, f_cst, f_oin, f_gcl, f_ord, f_mm0, f_mm1, f_cpy, f_re0, f_re1, f_rea, f_rev, f_t50, f_t51, f_t52, f_t53, f_t54, f_t55, f_st, f_sd, f_s2, f_sn, e_in, e_ent, e_inR, Nat.reduceLT, Nat.reduceEqDiff, reduceIte, Nat.reduceBEq, List.length_cons, List.length_nil, List.map_cons, List.map_nil, List.replicate, List.cons_append, List.nil_append, List.append_nil, List.getElem?_cons_zero, List.getElem?_cons_succ, List.getElem?_nil, List.set_cons_zero, List.set_cons_succ, List.take_succ_cons, List.take_zero, List.take_nil, List.drop_succ_cons, List.drop_zero, List.drop_nil, List.reverse_cons, List.reverse_nil, Option.toList_some, Option.toList_none, Int.reduceToNat, hk_put, hl_put, hz_put, hs_put, hv_same, hv_ne, hv_na, hz_new, hs_new, hk_newS, hl_newS, hv_newS, Int.reduceEq, Int.reduceNe, Int.reduceLE, Int.reduceLT, Int.reduceAdd, Int.reduceSub, Int.reduceMul, Int.reduceNeg, Nat.reduceAdd, Nat.reduceSub, Nat.reduceLeDiff, Bool.or_false, Bool.false_or, Bool.or_true, Bool.true_or, or_self, or_false, false_or, true_or, or_true, and_true, true_and, forall_const, decide_eq_true_eq, decide_eq_false_iff_not, Bool.and_eq_true, Bool.false_eq_true, Nat.lt_add_one, imp_self, implies_true, not_true_eq_false, not_false_eq_true, ne_eq, Bool.true_eq_false, Nat.zero_le, Nat.le_refl, and_self, false_implies, q_108, l_108, hM']
  unfold m_spill at hQ
  refine ⟨by omega, fun hc => ⟨by omega, ?_⟩, fun hc => ⟨by omega, by omega, ?_⟩⟩
  · rw [if_neg (by omega)] at hQ
    exact c_spill_l hg 4 _ _ (hM.pus (by omega)) (by rw [hv_ne (by omega)]; exact hov) (by omega) (by omega) hQ
  · rw [if_pos (by omega)] at hQ
    exact c_spill_l hg 4 _ _ (hM.pus (by omega)) (by rw [hv_ne (by omega)]; exact hov) (by omega) (by omega) hQ
/-- the page that was fetched the longest ago; how many there are -/
def m_old (V : Int → Int → Int) : Nat → Int → Int → Int → Int × Int
  | 0, _, m, o => (m, o)
  | n + 1, k, m, o => m_old V n (k + 1) (m + (if 0 < V 61 k then 1 else 0)) (if 0 < V 61 k ∧ (o < 0 ∨ V 61 k < V 61 o) then k else o)
def m_ftl (V : Int → Int → Int) : Nat → Int → (Int → Int → Int)
  | 0, _ => V
  | n + 1, x => m_ftl (v_up (v_up V 57 x (V 54 x)) 58 x (V 55 x)) n (x + 1)
def m_ft3 (V : Int → Int → Int) (g : Int) : Int → Int → Int := v_up (v_up (v_up (v_up V 59 g (V 56 g)) 60 g 0) 44 20 (V 44 20 + 1)) 61 g (V 44 19)
def m_ft2 (V : Int → Int → Int) (g m o : Int) : Int → Int → Int := if m = 3 then v_up (if 0 < V 60 o then m_spill V o else V) 61 o 0 else V
def m_fetch (V : Int → Int → Int) (g : Int) : Int → Int → Int :=
  if V 61 g = 0 then m_ft3 (m_ftl (m_ft2 (v_up V 44 19 (V 44 19 + 1)) g (m_old (v_up V 44 19 (V 44 19 + 1)) 6 0 0 (-1)).1 (m_old (v_up V 44 19 (V 44 19 + 1)) 6 0 0 (-1)).2) 4 (4 * g)) g
  else v_up (v_up V 44 19 (V 44 19 + 1)) 61 g (V 44 19 + 1)
def m_ov (V : Int → Int → Int) : Prop := (-1000000000 ≤ V 44 19 ∧ V 44 19 ≤ 1000000000) ∧ (-1000000000 ≤ V 44 20 ∧ V 44 20 ≤ 1000000000) ∧ (-1000000000 ≤ V 44 21 ∧ V 44 21 ≤ 1000000000)
set_option maxRecDepth 100000 in
set_option maxHeartbeats 4000000 in
theorem c_fetch_s2 {d : Nat} {g x m o : Int} {h : E_H} {Q : Option E_V → E_H → Prop} (hg : 0 ≤ g ∧ g < 6) (hM : m_T h) (hov : -1000000000 ≤ h_vl h 44 20 ∧ h_vl h 44 20 ≤ 1000000000) (h0 : 4 * g ≤ x) (K1 : 4 * g + 4 ≤ x → Q none (h_wv h (m_ft3 (h_vl h) g))) (K2 : x < 4 * g + 4 → e_wpc d 107 125 [some (.inr 44), some (.inl g), some (.inl m), some (.inl o), some (.inl (x + 1))] [] (h_put (h_put h 57 x (h_vl h 54 x)) 58 x (h_vl h 55 x)) Q) : e_wpc d 107 125 [some (.inr 44), some (.inl g), some (.inl m), some (.inl o), some (.inl x)] [] h Q := by
  unfold m_T at hM
  refine e_wpc_blk 100 [125] ?_
  simp only [e_blk_eq, g_go, g_bks, g_bkn, g_gst, g_gsf, e_cl, e_rt, n_0, n_1, n_2, n_3, n_4, n_5, n_6, n_7, n_8, n_9, n_10, n_11, n_12, n_13, n_14, n_15, n_16, n_17, n_18, n_19, n_20, n_21, n_22, n_23, n_24, n_25, n_26, n_27, n_28, n_29, n_30, n_31, n_32, n_33, n_34, n_35, n_36, n_37, n_40, n_41, n_42, n_43, n_44, n_45, n_46, n_50, n_51, n_52, n_53, n_54, n_55, f_ldi, f_lda, f_sti, f_sta, f_inc, f_bin0, f_bin1, f_bin2, f_bin3, f_bin4, f_bin5, f_bin6, f_bin7, f_i2b, f_dup, f_pop, f_dx1, f_if0, f_ic0, f_if1, f_ic1, f_if2, f_ic2, f_if3, f_ic3, f_if4, f_ic4, f_if5, f_ic5, f_ac0, f_ac1, f_nu0, f_nu1, f_sw, f_sw0, f_sw1, f_gti, f_gta, f_pti, f_pta, f_ptz, f_new, f_nwa, f_ild, f_ist, f_bld, f_bst, f_ald, f_ast, f_len, f_cst, f_oin, f_gcl, f_ord, f_mm0, f_mm1, f_cpy, f_re0, f_re1, f_rea, f_rev, f_t50, f_t51, f_t52, f_t53, f_t54, f_t55, f_st, f_sd, f_s2, f_sn, e_in, e_ent, e_inR, Nat.reduceLT, Nat.reduceEqDiff, reduceIte, Nat.reduceBEq, List.length_cons, List.length_nil, List.map_cons, List.map_nil, List.replicate, List.cons_append, List.nil_append, List.append_nil, List.getElem?_cons_zero, List.getElem?_cons_succ, List.getElem?_nil, List.set_cons_zero, List.set_cons_succ, List.take_succ_cons, List.take_zero, List.take_nil, List.drop_succ_cons, List.drop_zero, List.drop_nil, List.reverse_cons, List.reverse_nil, Option.toList_some, Option.toList_none, Int.reduceToNat, hk_put, hl_put, hz_put, hs_put, hv_same, hv_ne, hv_na, hz_new, hs_new, hk_newS, hl_newS, hv_newS, Int.reduceEq, Int.reduceNe, Int.reduceLE, Int.reduceLT, Int.reduceAdd, Int.reduceSub, Int.reduceMul, Int.reduceNeg, Nat.reduceAdd, Nat.reduceSub, Nat.reduceLeDiff, Bool.or_false, Bool.false_or, Bool.or_true, Bool.true_or, or_self, or_false, false_or, true_or, or_true, and_true, true_and, forall_const, decide_eq_true_eq, decide_eq_false_iff_not, Bool.and_eq_true, Bool.false_eq_true, Nat.lt_add_one, imp_self, implies_true, not_true_eq_false, not_false_eq_true, ne_eq, Bool.true_eq_false, Nat.zero_le, Nat.le_refl, and_self, false_implies, q_107, l_107, hM]
  exact ⟨by omega, by omega, fun hc => ⟨by omega, by omega, by omega, by omega, by omega, K1 hc⟩, fun hc => ⟨by omega, by omega, by omega, by omega, by omega, K2 (by omega)⟩⟩
theorem c_fetch_l2 {d : Nat} {g m o : Int} {Q : Option E_V → E_H → Prop} (hg : 0 ≤ g ∧ g < 6) : ∀ (n : Nat) (x : Int) (h : E_H), m_T h → (-1000000000 ≤ h_vl h 44 20 ∧ h_vl h 44 20 ≤ 1000000000) → x + n = 4 * g + 4 → 4 * g ≤ x → Q none (h_wv h (m_ft3 (m_ftl (h_vl h) n x) g)) → e_wpc d 107 125 [some (.inr 44), some (.inl g), some (.inl m), some (.inl o), some (.inl x)] [] h Q := by
  intro n
  induction n with
  | zero =>
    intro x h hM hov hx h0 hQ
    exact c_fetch_s2 hg hM hov h0 (fun _ => hQ) (fun hc => absurd hc (by omega))
  | succ n ih =>
    intro x h hM hov hx h0 hQ
    refine c_fetch_s2 hg hM hov h0 (fun hc => absurd hc (by omega)) (fun hc => ih (x + 1) _ ((hM.put (by omega)).put (by omega)) ?_ (by omega) (by omega) hQ)
    rw [hv_na (by omega), hv_na (by omega)]
    exact hov
set_option maxRecDepth 100000 in
set_option maxHeartbeats 4000000 in
theorem c_fetch_s0 {d : Nat} {g k m o v : Int} {h : E_H} {Q : Option E_V → E_H → Prop} (hM : m_T h) (hk : 0 ≤ k ∧ k < 6) (ho : -1 ≤ o ∧ o < 6) (hm : 0 ≤ m ∧ m ≤ 10) (hv : 0 ≤ v ∧ v ≤ 1) (K2 : e_wpc d 107 26 [some (.inr 44), some (.inl g), some (.inl (m + v)), some (.inl (if 0 < h_vl h 61 k ∧ (o < 0 ∨ h_vl h 61 k < h_vl h 61 o) then k else o)), some (.inl (k + 1))] [] h Q) : e_wpc d 107 49 [some (.inr 44), some (.inl g), some (.inl m), some (.inl o), some (.inl k)] [.inl v, .inl m] h Q := by
  unfold m_T at hM
  refine e_wpc_blk 100 [26] ?_
  simp only [e_blk_eq, g_go, g_bks, g_bkn, g_gst, g_gsf, e_cl, e_rt, n_0, n_1, n_2, n_3, n_4, n_5, n_6, n_7, n_8, n_9, n_10, n_11, n_12, n_13, n_14, n_15, n_16, n_17, n_18, n_19, n_20, n_21, n_22, n_23, n_24, n_25, n_26, n_27, n_28, n_29, n_30, n_31, n_32, n_33, n_34, n_35, n_36, n_37, n_40, n_41, n_42, n_43, n_44, n_45, n_46, n_50, n_51, n_52, n_53, n_54, n_55, f_ldi, f_lda, f_sti, f_sta, f_inc, f_bin0, f_bin1, f_bin2, f_bin3, f_bin4, f_bin5, f_bin6, f_bin7, f_i2b, f_dup, f_pop, f_dx1, f_if0, f_ic0, f_if1, f_ic1, f_if2, f_ic2, f_if3, f_ic3, f_if4, f_ic4, f_if5, f_ic5, f_ac0, f_ac1, f_nu0, f_nu1, f_sw, f_sw0, f_sw1, f_gti, f_gta, f_pti, f_pta, f_ptz, f_new, f_nwa, f_ild, f_ist, f_bld, f_bst, f_ald, f_ast, f_len, f_cst, f_oin, f_gcl, f_ord, f_mm0, f_mm1, f_cpy, f_re0, f_re1, f_rea, f_rev, f_t50, f_t51, f_t52, f_t53, f_t54, f_t55, f_st, f_sd, f_s2, f_sn, e_in, e_ent, e_inR, Nat.reduceLT, Nat.reduceEqDiff, reduceIte, Nat.reduceBEq, List.length_cons, List.length_nil, List.map_cons, List.map_nil, List.replicate, List.cons_append, List.nil_append, List.append_nil, List.getElem?_cons_zero, List.getElem?_cons_succ, List.getElem?_nil, List.set_cons_zero, List.set_cons_succ, List.take_succ_cons, List.take_zero, List.take_nil, List.drop_succ_cons, List.drop_zero, List.drop_nil, List.reverse_cons, List.reverse_nil, Option.toList_some, Option.toList_none, Int.reduceToNat, hk_put, hl_put, hz_put, hs_put, hv_same, hv_ne, hv_na, hz_new, hs_new, hk_newS, hl_newS, hv_newS, Int.reduceEq, Int.reduceNe, Int.reduceLE, Int.reduceLT, Int.reduceAdd, Int.reduceSub, Int.reduceMul, Int.reduceNeg, Nat.reduceAdd, Nat.reduceSub, Nat.reduceLeDiff, Bool.or_false, Bool.false_or, Bool.or_true, Bool.true_or, or_self, or_false, false_or, true_or, or_true, and_true, true_and, forall_const, decide_eq_true_eq, decide_eq_false_iff_not, Bool.and_eq_true, Bool.false_eq_true, Nat.lt_add_one, imp_self, implies_true, not_true_eq_false, not_false_eq_true, ne_eq, Bool.true_eq_false, Nat.zero_le, Nat.le_refl, and_self, false_implies, q_107, l_107, hM]
  refine ⟨by omega, by omega, fun h1 => ⟨by omega, ?_⟩, fun h1 => ⟨fun h2 => ⟨by omega, ?_⟩, fun h2 => ⟨by omega, by omega, fun h3 => ⟨by omega, ?_⟩, fun h3 => ⟨by omega, ?_⟩⟩⟩⟩
  · rw [if_neg (by omega)] at K2; exact K2
  · rw [if_pos (by omega)] at K2; exact K2
  · rw [if_neg (by omega)] at K2; exact K2
  · rw [if_pos (by omega)] at K2; exact K2
set_option maxRecDepth 100000 in
set_option maxHeartbeats 4000000 in
theorem c_fetch_s1 {d : Nat} {g k m o : Int} {h : E_H} {Q : Option E_V → E_H → Prop} (hM : m_T h) (hk : 0 ≤ k) (ho : -1 ≤ o ∧ o < 6) (hm : 0 ≤ m ∧ m ≤ 10) (K1 : 6 ≤ k → e_wpc d 107 94 [some (.inr 44), some (.inl g), some (.inl m), some (.inl o), some (.inl k)] [] h Q) (K2 : k < 6 → e_wpc d 107 26 [some (.inr 44), some (.inl g), some (.inl (m + (if 0 < h_vl h 61 k then 1 else 0))), some (.inl (if 0 < h_vl h 61 k ∧ (o < 0 ∨ h_vl h 61 k < h_vl h 61 o) then k else o)), some (.inl (k + 1))] [] h Q) : e_wpc d 107 26 [some (.inr 44), some (.inl g), some (.inl m), some (.inl o), some (.inl k)] [] h Q := by
  have hM' := hM
  unfold m_T at hM'
  refine e_wpc_blk 100 [49, 94] ?_
  simp only [e_blk_eq, g_go, g_bks, g_bkn, g_gst, g_gsf, e_cl, e_rt, n_0, n_1, n_2, n_3, n_4, n_5, n_6, n_7, n_8, n_9, n_10, n_11, n_12, n_13, n_14, n_15, n_16, n_17, n_18, n_19, n_20, n_21, n_22, n_23, n_24, n_25, n_26, n_27, n_28, n_29, n_30, n_31, n_32, n_33, n_34, n_35, n_36, n_37, n_40, n_41, n_42, n_43, n_44, n_45, n_46, n_50, n_51, n_52, n_53, n_54, n_55, f_ldi, f_lda, f_sti, f_sta, f_inc, f_bin0, f_bin1, f_bin2, f_bin3, f_bin4, f_bin5, f_bin6, f_bin7, f_i2b, f_dup, f_pop, f_dx1, f_if0, f_ic0, f_if1, f_ic1, f_if2, f_ic2, f_if3, f_ic3, f_if4, f_ic4, f_if5, f_ic5, f_ac0, f_ac1, f_nu0, f_nu1, f_sw, f_sw0, f_sw1, f_gti, f_gta, f_pti, f_pta, f_ptz, f_new, f_nwa, f_ild, f_ist, f_bld, f_bst, f_ald, f_ast, f_len, f_cst, f_oin, f_gcl, f_ord, f_mm0, f_mm1, f_cpy, f_re0, f_re1, f_rea, f_rev, f_t50, f_t51, f_t52, f_t53, f_t54, f_t55, f_st, f_sd, f_s2, f_sn, e_in, e_ent, e_inR, Nat.reduceLT, Nat.reduceEqDiff, reduceIte, Nat.reduceBEq, List.length_cons, List.length_nil, List.map_cons, List.map_nil, List.replicate, List.cons_append, List.nil_append, List.append_nil, List.getElem?_cons_zero, List.getElem?_cons_succ, List.getElem?_nil, List.set_cons_zero, List.set_cons_succ, List.take_succ_cons, List.take_zero, List.take_nil, List.drop_succ_cons, List.drop_zero, List.drop_nil, List.reverse_cons, List.reverse_nil, Option.toList_some, Option.toList_none, Int.reduceToNat, hk_put, hl_put, hz_put, hs_put, hv_same, hv_ne, hv_na, hz_new, hs_new, hk_newS, hl_newS, hv_newS, Int.reduceEq, Int.reduceNe, Int.reduceLE, Int.reduceLT, Int.reduceAdd, Int.reduceSub, Int.reduceMul, Int.reduceNeg, Nat.reduceAdd, Nat.reduceSub, Nat.reduceLeDiff, Bool.or_false, Bool.false_or, Bool.or_true, Bool.true_or, or_self, or_false, false_or, true_or, or_true, and_true, true_and, forall_const, decide_eq_true_eq, decide_eq_false_iff_not, Bool.and_eq_true, Bool.false_eq_true, Nat.lt_add_one, imp_self, implies_true, not_true_eq_false, not_false_eq_true, ne_eq, Bool.true_eq_false, Nat.zero_le, Nat.le_refl, and_self, false_implies, q_107, l_107, hM']
  refine ⟨K1, fun hc => ⟨by omega, fun h1 => ?_, fun h1 => ?_⟩⟩
  · refine c_fetch_s0 hM ⟨hk, by omega⟩ ho hm (by omega) ?_
    have := K2 (by omega)
    rw [if_neg (by omega : ¬ 0 < h_vl h 61 k)] at this
    exact this
  · refine c_fetch_s0 hM ⟨hk, by omega⟩ ho hm (by omega) ?_
    have := K2 (by omega)
    rw [if_pos (by omega : 0 < h_vl h 61 k)] at this
    exact this
theorem c_fetch_l1 {d : Nat} {g : Int} {h : E_H} {Q : Option E_V → E_H → Prop} (hM : m_T h) (K : ∀ m o : Int, (m, o) = m_old (h_vl h) 6 0 0 (-1) → (-1 ≤ o ∧ o < 6) → e_wpc d 107 94 [some (.inr 44), some (.inl g), some (.inl m), some (.inl o), some (.inl 6)] [] h Q) : ∀ (n : Nat) (k m o : Int), k + n = 6 → 0 ≤ k → (-1 ≤ o ∧ o < 6) → (0 ≤ m ∧ m ≤ k) → m_old (h_vl h) n k m o = m_old (h_vl h) 6 0 0 (-1) → e_wpc d 107 26 [some (.inr 44), some (.inl g), some (.inl m), some (.inl o), some (.inl k)] [] h Q := by
  intro n
  induction n with
  | zero =>
    intro k m o hk h0 ho hm he
    obtain rfl : k = 6 := by omega
    exact c_fetch_s1 hM h0 ho (by omega) (fun _ => K m o he ho) (fun hc => absurd hc (by omega))
  | succ n ih =>
    intro k m o hk h0 ho hm he
    refine c_fetch_s1 hM h0 ho (by omega) (fun hc => absurd hc (by omega)) (fun hc => ih (k + 1) _ _ (by omega) (by omega) ?_ ?_ he)
    · split <;> omega
    · split <;> omega
theorem m_old_nonneg {V : Int → Int → Int} : ∀ {n : Nat} {k m o : Int}, 0 ≤ k → (m = 0 → o = -1) → (0 < m → 0 ≤ o) → 0 ≤ m → 0 < (m_old V n k m o).1 → 0 ≤ (m_old V n k m o).2 := by
  intro n
  induction n with
  | zero => intro k m o hk h1 h2 h3 h4; exact h2 h4
  | succ n ih =>
    intro k m o hk h1 h2 h3 h4
    refine ih (by omega) ?_ ?_ ?_ h4
    · intro h5
      split at h5
      · omega
      · rw [if_neg (by omega)]
        exact h1 (by omega)
    · intro h5
      split
      · omega
      · rename_i h6
        by_cases h7 : 0 < V 61 k
        · rw [if_pos h7] at h5
          by_cases h8 : m = 0
          · have := h1 h8
            exact absurd ⟨h7, Or.inl (by omega)⟩ h6
          · exact h2 (by omega)
        · rw [if_neg h7] at h5
          exact h2 (by omega)
    · split <;> omega
theorem m_spl_na {c j : Int} (h1 : c ≠ 54) (h2 : c ≠ 55) : ∀ {n : Nat} {V : Int → Int → Int} {x : Int}, m_spl V n x c j = V c j := by
  intro n
  induction n with
  | zero => intro V x; rfl
  | succ n ih => intro V x; rw [m_spl, ih, v_na h2, v_na h1]
theorem m_spl_ok {V : Int → Int → Int} {n : Nat} {x : Int} : m_ok V (m_spl V n x) := ⟨fun b j hb => m_spl_na (by omega) (by omega), fun k hk => m_spl_na (by omega) (by omega)⟩
theorem m_spill_ok {V : Int → Int → Int} {g : Int} : m_ok V (m_spill V g) := by
  unfold m_spill m_spl2
  exact (((((m_ok.rf.us (by omega)).tr m_spl_ok).up (by omega)).up (by omega)).us (by omega))
theorem m_spill_44 {V : Int → Int → Int} {g k : Int} (h1 : k ≠ 1) (h2 : k ≠ 21) : m_spill V g 44 k = V 44 k := by
  unfold m_spill m_spl2
  rw [v_ne h2, v_na (by omega), v_na (by omega), m_spl_na (by omega) (by omega), v_ne h1]
set_option maxRecDepth 100000 in
set_option maxHeartbeats 4000000 in
theorem c_fetch_3 {d : Nat} {g m o : Int} {h : E_H} {Q : Option E_V → E_H → Prop} (hd : 1 ≤ d) (hg : 0 ≤ g ∧ g < 6) (hM : m_T h) (ov2 : -1000000000 ≤ h_vl h 44 20 ∧ h_vl h 44 20 ≤ 1000000000) (ov3 : -1000000000 ≤ h_vl h 44 21 ∧ h_vl h 44 21 ≤ 1000000000) (ho : m = 3 → 0 ≤ o ∧ o < 6) (hQ : Q none (h_wv h (m_ft3 (m_ftl (m_ft2 (h_vl h) g m o) 4 (4 * g)) g))) : e_wpc d 107 94 [some (.inr 44), some (.inl g), some (.inl m), some (.inl o), some (.inl 6)] [] h Q := by
  have hM' := hM
  unfold m_T at hM'
  refine e_wpc_blk 100 [125, 113, 120] ?_
  simp only [e_blk_eq, g_go, g_bks, g_bkn, g_gst, g_gsf, e_cl, e_rt, n_0, n_1, n_2, n_3, n_4, n_5, n_6, n_7, n_8, n_9, n_10, n_11, n_12, n_13, n_14, n_15, n_16, n_17, n_18, n_19, n_20, n_21, n_22, n_23, n_24, n_25, n_26, n_27, n_28, n_29, n_30, n_31, n_32, n_33, n_34, n_35, n_36, n_37, n_40, n_41, n_42, n_43, n_44, n_45, n_46, n_50, n_51, n_52, n_53, n_54, n_55, f_ldi, f_lda, f_sti, f_sta, f_inc, f_bin0, f_bin1, f_bin2, f_bin3, f_bin4, f_bin5, f_bin6, f_bin7, f_i2b, f_dup, f_pop, f_dx1, f_if0, f_ic0, f_if1, f_ic1, f_if2, f_ic2, f_if3, f_ic3, f_if4, f_ic4, f_if5, f_ic5, f_ac0, f_ac1, f_nu0, f_nu1, f_sw, f_sw0, f_sw1, f_gti, f_gta, f_pti, f_pta, f_ptz, f_new, f_nwa, f_ild, f_ist, f_bld, f_bst, f_ald, f_ast, f_len, f_cst, f_oin, f_gcl, f_ord, f_mm0, f_mm1, f_cpy, f_re0, f_re1, f_rea, f_rev, f_t50, f_t51, f_t52, f_t53, f_t54, f_t55, f_st, f_sd, f_s2, f_sn, e_in, e_ent, e_inR, Nat.reduceLT, Nat.reduceEqDiff, reduceIte, Nat.reduceBEq, List.length_cons, List.length_nil, List.map_cons, List.map_nil, List.replicate, List.cons_append, List.nil_append, List.append_nil, List.getElem?_cons_zero, List.getElem?_cons_succ, List.getElem?_nil, List.set_cons_zero, List.set_cons_succ, List.take_succ_cons, List.take_zero, List.take_nil, List.drop_succ_cons, List.drop_zero, List.drop_nil, List.reverse_cons, List.reverse_nil, Option.toList_some, Option.toList_none, Int.reduceToNat, hk_put, hl_put, hz_put, hs_put, hv_same, hv_ne, hv_na, hz_new, hs_new, hk_newS, hl_newS, hv_newS, Int.reduceEq, Int.reduceNe, Int.reduceLE, Int.reduceLT, Int.reduceAdd, Int.reduceSub, Int.reduceMul, Int.reduceNeg, Nat.reduceAdd, Nat.reduceSub, Nat.reduceLeDiff, Bool.or_false, Bool.false_or, Bool.or_true, Bool.true_or, or_self, or_false, false_or, true_or, or_true, and_true, true_and, forall_const, decide_eq_true_eq, decide_eq_false_iff_not, Bool.and_eq_true, Bool.false_eq_true, Nat.lt_add_one, imp_self, implies_true, not_true_eq_false, not_false_eq_true, ne_eq, Bool.true_eq_false, Nat.zero_le, Nat.le_refl, and_self, false_implies, q_107, l_107, l_108, hM']
  have J : ∀ h1 : E_H, m_T h1 → (-1000000000 ≤ h_vl h1 44 20 ∧ h_vl h1 44 20 ≤ 1000000000) → Q none (h_wv h1 (m_ft3 (m_ftl (h_vl h1) 4 (4 * g)) g)) → e_wpc d 107 120 [some (.inr 44), some (.inl g), some (.inl m), some (.inl o), some (.inl 6)] [] h1 Q := by
    intro h1 hM1 hv1 hQ1
    refine e_wpc_blk 100 [125] ?_
    simp only [e_blk_eq, g_go, g_bks, g_bkn, g_gst, g_gsf, e_cl, e_rt, n_0, n_1, n_2, n_3, n_4, n_5, n_6, n_7, n_8, n_9, n_10, n_11, n_12, n_13, n_14, n_15, n_16, n_17, n_18, n_19, n_20, n_21, n_22, n_23, n_24, n_25, n_26, n_27, n_28, n_29, n_30, n_31, n_32, n_33, n_34, n_35, n_36, n_37, n_40, n_41, n_42, n_43, n_44, n_45, n_46, n_50, n_51, n_52, n_53, n_54, n_55, f_ldi, f_lda, f_sti, f_sta, f_inc, f_bin0, f_bin1, f_bin2, f_bin3, f_bin4, f_bin5, f_bin6, f_bin7, f_i2b, f_dup, f_pop, f_dx1, f_if0, f_ic0, f_if1, f_ic1, f_if2, f_ic2, f_if3, f_ic3, f_if4, f_ic4, f_if5, f_ic5, f_ac0, f_ac1, f_nu0, f_nu1, f_sw, f_sw0, f_sw1, f_gti, f_gta, f_pti, f_pta, f_ptz, f_new, f_nwa, f_ild, f_ist, f_bld, f_bst, f_ald, f_ast, f_len, f_cst, f_oin, f_gcl, f_ord, f_mm0, f_mm1, f_cpy, f_re0, f_re1, f_rea, f_rev, f_t50, f_t51, f_t52, f_t53, f_t54, f_t55, f_st, f_sd, f_s2, f_sn, e_in, e_ent, e_inR, Nat.reduceLT, Nat.reduceEqDiff, reduceIte, Nat.reduceBEq, List.length_cons, List.length_nil, List.map_cons, List.map_nil, List.replicate, List.cons_append, List.nil_append, List.append_nil, List.getElem?_cons_zero, List.getElem?_cons_succ, List.getElem?_nil, List.set_cons_zero, List.set_cons_succ, List.take_succ_cons, List.take_zero, List.take_nil, List.drop_succ_cons, List.drop_zero, List.drop_nil, List.reverse_cons, List.reverse_nil, Option.toList_some, Option.toList_none, Int.reduceToNat, hk_put, hl_put, hz_put, hs_put, hv_same, hv_ne, hv_na, hz_new, hs_new, hk_newS, hl_newS, hv_newS, Int.reduceEq, Int.reduceNe, Int.reduceLE, Int.reduceLT, Int.reduceAdd, Int.reduceSub, Int.reduceMul, Int.reduceNeg, Nat.reduceAdd, Nat.reduceSub, Nat.reduceLeDiff, Bool.or_false, Bool.false_or, Bool.or_true, Bool.true_or, or_self, or_false, false_or, true_or, or_true, and_true, true_and, forall_const, decide_eq_true_eq, decide_eq_false_iff_not, Bool.and_eq_true, Bool.false_eq_true, Nat.lt_add_one, imp_self, implies_true, not_true_eq_false, not_false_eq_true, ne_eq, Bool.true_eq_false, Nat.zero_le, Nat.le_refl, and_self, false_implies, q_107, l_107]
    exact ⟨by omega, c_fetch_l2 hg 4 (4 * g) h1 hM1 hv1 (by omega) (by omega) hQ1⟩
  refine ⟨fun hc => ?_, fun hc => ?_⟩
  · refine J h hM ov2 ?_
    rw [m_ft2, if_neg hc] at hQ
    exact hQ
  · obtain ⟨ho1, ho2⟩ := ho (by omega)
    rw [m_ft2, if_pos (by omega)] at hQ
    have J2 : ∀ h1 : E_H, m_T h1 → (-1000000000 ≤ h_vl h1 44 20 ∧ h_vl h1 44 20 ≤ 1000000000) → Q none (h_wv h1 (m_ft3 (m_ftl (v_up (h_vl h1) 61 o 0) 4 (4 * g)) g)) → e_wpc d 107 113 [some (.inr 44), some (.inl g), some (.inl m), some (.inl o), some (.inl 6)] [] h1 Q := by
      intro h1 hM1 hv1 hQ1
      have hM1' := hM1
      unfold m_T at hM1'
      refine e_wpc_blk 100 [120] ?_
      simp only [e_blk_eq, g_go, g_bks, g_bkn, g_gst, g_gsf, e_cl, e_rt, n_0, n_1, n_2, n_3, n_4, n_5, n_6, n_7, n_8, n_9, n_10, n_11, n_12, n_13, n_14, n_15, n_16, n_17, n_18, n_19, n_20, n_21, n_22, n_23, n_24, n_25, n_26, n_27, n_28, n_29, n_30, n_31, n_32, n_33, n_34, n_35, n_36, n_37, n_40, n_41, n_42, n_43, n_44, n_45, n_46, n_50, n_51, n_52, n_53, n_54, n_55, f_ldi, f_lda, f_sti, f_sta, f_inc, f_bin0, f_bin1, f_bin2, f_bin3, f_bin4, f_bin5, f_bin6, f_bin7, f_i2b, f_dup, f_pop, f_dx1, f_if0, f_ic0, f_if1, f_ic1, f_if2, f_ic2, f_if3, f_ic3, f_if4, f_ic4, f_if5, f_ic5, f_ac0, f_ac1, f_nu0, f_nu1, f_sw, f_sw0, f_sw1, f_gti, f_gta, f_pti, f_pta, f_ptz, f_new, f_nwa, f_ild, f_ist, f_bld, f_bst, f_ald, f_ast, f_len, f_cst, f_oin, f_gcl, f_ord, f_mm0, f_mm1, f_cpy, f_re0, f_re1, f_rea, f_rev, f_t50, f_t51, f_t52, f_t53, f_t54, f_t55, f_st, f_sd, f_s2, f_sn, e_in, e_ent, e_inR, Nat.reduceLT, Nat.reduceEqDiff, reduceIte, Nat.reduceBEq, List.length_cons, List.length_nil, List.map_cons, List.map_nil, List.replicate, List.cons_append, List.nil_append, List.append_nil, List.getElem?_cons_zero, List.getElem?_cons_succ, List.getElem?_nil, List.set_cons_zero, List.set_cons_succ, List.take_succ_cons, List.take_zero, List.take_nil, List.drop_succ_cons, List.drop_zero, List.drop_nil, List.reverse_cons, List.reverse_nil, Option.toList_some, Option.toList_none, Int.reduceToNat, hk_put, hl_put, hz_put, hs_put, hv_same, hv_ne, hv_na, hz_new, hs_new, hk_newS, hl_newS, hv_newS, Int.reduceEq, Int.reduceNe, Int.reduceLE, Int.reduceLT, Int.reduceAdd, Int.reduceSub, Int.reduceMul, Int.reduceNeg, Nat.reduceAdd, Nat.reduceSub, Nat.reduceLeDiff, Bool.or_false, Bool.false_or, Bool.or_true, Bool.true_or, or_self, or_false, false_or, true_or, or_true, and_true, true_and, forall_const, decide_eq_true_eq, decide_eq_false_iff_not, Bool.and_eq_true, Bool.false_eq_true, Nat.lt_add_one, imp_self, implies_true, not_true_eq_false, not_false_eq_true, ne_eq, Bool.true_eq_false, Nat.zero_le, Nat.le_refl, and_self, false_implies, q_107, l_107, hM1']
      exact ⟨by omega, J _ (hM1.put (by omega)) (by rw [hv_na (by omega)]; exact hv1) hQ1⟩
    refine ⟨by omega, fun hc2 => ?_, fun hc2 => ⟨by omega, ?_⟩⟩
    · rw [if_neg (by omega)] at hQ
      exact J2 h hM ov2 hQ
    · rw [if_pos (by omega)] at hQ
      refine c_spill hM ⟨ho1, ho2⟩ ov3 ?_
      simp only [e_blk_eq, g_go, g_bks, g_bkn, g_gst, g_gsf, e_cl, e_rt, n_0, n_1, n_2, n_3, n_4, n_5, n_6, n_7, n_8, n_9, n_10, n_11, n_12, n_13, n_14, n_15, n_16, n_17, n_18, n_19, n_20, n_21, n_22, n_23, n_24, n_25, n_26, n_27, n_28, n_29, n_30, n_31, n_32, n_33, n_34, n_35, n_36, n_37, n_40, n_41, n_42, n_43, n_44, n_45, n_46, n_50, n_51, n_52, n_53, n_54, n_55, f_ldi, f_lda, f_sti, f_sta, f_inc, f_bin0, f_bin1, f_bin2, f_bin3, f_bin4, f_bin5, f_bin6, f_bin7, f_i2b, f_dup, f_pop, f_dx1, f_if0, f_ic0, f_if1, f_ic1, f_if2, f_ic2, f_if3, f_ic3, f_if4, f_ic4, f_if5, f_ic5, f_ac0, f_ac1, f_nu0, f_nu1, f_sw, f_sw0, f_sw1, f_gti, f_gta, f_pti, f_pta, f_ptz, f_new, f_nwa, f_ild, f_ist, f_bld, f_bst, f_ald, f_ast, f_len, f_cst, f_oin, f_gcl, f_ord, f_mm0, f_mm1, f_cpy, f_re0, f_re1, f_rea, f_rev, f_t50, f_t51, f_t52, f_t53, f_t54, f_t55, f_st, f_sd, f_s2, f_sn, e_in, e_ent, e_inR, Nat.reduceLT, Nat.reduceEqDiff, reduceIte, Nat.reduceBEq, List.length_cons, List.length_nil, List.map_cons, List.map_nil, List.replicate, List.cons_append, List.nil_append, List.append_nil, List.getElem?_cons_zero, List.getElem?_cons_succ, List.getElem?_nil, List.set_cons_zero, List.set_cons_succ, List.take_succ_cons, List.take_zero, List.take_nil, List.drop_succ_cons, List.drop_zero, List.drop_nil, List.reverse_cons, List.reverse_nil, Option.toList_some, Option.toList_none, Int.reduceToNat, hk_put, hl_put, hz_put, hs_put, hv_same, hv_ne, hv_na, hz_new, hs_new, hk_newS, hl_newS, hv_newS, Int.reduceEq, Int.reduceNe, Int.reduceLE, Int.reduceLT, Int.reduceAdd, Int.reduceSub, Int.reduceMul, Int.reduceNeg, Nat.reduceAdd, Nat.reduceSub, Nat.reduceLeDiff, Bool.or_false, Bool.false_or, Bool.or_true, Bool.true_or, or_self, or_false, false_or, true_or, or_true, and_true, true_and, forall_const, decide_eq_true_eq, decide_eq_false_iff_not, Bool.and_eq_true, Bool.false_eq_true, Nat.lt_add_one, imp_self, implies_true, not_true_eq_false, not_false_eq_true, ne_eq, Bool.true_eq_false, Nat.zero_le, Nat.le_refl, and_self, false_implies, q_107, l_107]
      refine J2 _ (hM.wv m_spill_ok) ?_ hQ
      rw [hv_wv, m_spill_44 (by omega) (by omega)]
      exact ov2
theorem m_old_lt {V : Int → Int → Int} : ∀ {n : Nat} {k m o : Int}, o < k + n → (m_old V n k m o).2 < k + n := by
  intro n
  induction n with
  | zero => intro k m o h; exact h
  | succ n ih =>
    intro k m o h
    have := @ih (k + 1) (m + (if 0 < V 61 k then 1 else 0)) (if 0 < V 61 k ∧ (o < 0 ∨ V 61 k < V 61 o) then k else o) (by split <;> omega)
    rw [m_old]
    omega
set_option maxRecDepth 100000 in
set_option maxHeartbeats 4000000 in
theorem c_fetch {d : Nat} {g : Int} {h : E_H} {Q : Option E_V → E_H → Prop} (hd : 1 ≤ d) (hM : m_T h) (hg : 0 ≤ g ∧ g < 6) (hov : m_ov (h_vl h)) (hQ : Q none (h_wv h (m_fetch (h_vl h) g))) : e_wpm d 107 [.inr 44, .inl g] h Q := by
  have hM' := hM
  unfold m_T at hM'
  obtain ⟨ov1, ov2, ov3⟩ := id hov
  refine e_wpm_blk 100 [26] ?_
  simp only [e_blk_eq, g_go, g_bks, g_bkn, g_gst, g_gsf, e_cl, e_rt, n_0, n_1, n_2, n_3, n_4, n_5, n_6, n_7, n_8, n_9, n_10, n_11, n_12, n_13, n_14, n_15, n_16, n_17, n_18, n_19, n_20, n_21, n_22, n_23, n_24, n_25, n_26, n_27, n_28, n_29, n_30, n_31, n_32, n_33, n_34, n_35, n_36, n_37, n_40, n_41, n_42, n_43, n_44, n_45, n_46, n_50, n_51, n_52, n_53, n_54, n_55, f_ldi, f_lda, f_sti, f_sta, f_inc, f_bin0, f_bin1, f_bin2, f_bin3, f_bin4, f_bin5, f_bin6, f_bin7, f_i2b, f_dup, f_pop, f_dx1, f_if0, f_ic0, f_if1, f_ic1, f_if2, f_ic2, f_if3, f_ic3, f_if4, f_ic4, f_if5, f_ic5, f_ac0, f_ac1, f_nu0, f_nu1, f_sw, f_sw0, f_sw1, f_gti, f_gta, f_pti, f_pta, f_ptz, f_new, f_nwa, f_ild, f_ist, f_bld, f_bst, f_ald, f_ast, f_len, f_cst, f_oin, f_gcl, f_ord, f_mm0, f_mm1, f_cpy, f_re0, f_re1, f_rea, f_rev, f_t50, f_t51, f_t52, f_t53, f_t54, f_t55, f_st, f_sd, f_s2, f_sn, e_in, e_ent, e_inR, Nat.reduceLT, Nat.reduceEqDiff, reduceIte, Nat.reduceBEq, List.length_cons, List.length_nil, List.map_cons, List.map_nil, List.replicate, List.cons_append, List.nil_append, List.append_nil, List.getElem?_cons_zero, List.getElem?_cons_succ, List.getElem?_nil, List.set_cons_zero, List.set_cons_succ, List.take_succ_cons, List.take_zero, List.take_nil, List.drop_succ_cons, List.drop_zero, List.drop_nil, List.reverse_cons, List.reverse_nil, Option.toList_some, Option.toList_none, Int.reduceToNat, hk_put, hl_put, hz_put, hs_put, hv_same, hv_ne, hv_na, hz_new, hs_new, hk_newS, hl_newS, hv_newS, Int.reduceEq, Int.reduceNe, Int.reduceLE, Int.reduceLT, Int.reduceAdd, Int.reduceSub, Int.reduceMul, Int.reduceNeg, Nat.reduceAdd, Nat.reduceSub, Nat.reduceLeDiff, Bool.or_false, Bool.false_or, Bool.or_true, Bool.true_or, or_self, or_false, false_or, true_or, or_true, and_true, true_and, forall_const, decide_eq_true_eq, decide_eq_false_iff_not, Bool.and_eq_true, Bool.false_eq_true, Nat.lt_add_one, imp_self, implies_true, not_true_eq_false, not_false_eq_true, ne_eq, Bool.true_eq_false, Nat.zero_le, Nat.le_refl, and_self, false_implies, q_107, l_107, hM']
  unfold m_fetch at hQ
  refine ⟨by omega, by omega, fun hc => ⟨by omega, ?_⟩, fun hc => ?_⟩
  · rw [if_neg hc] at hQ
    exact hQ
  · rw [if_pos (by omega)] at hQ
    refine c_fetch_l1 (hM.pus (by omega)) (fun m o he ho => ?_) 6 0 0 (-1) (by omega) (by omega) (by omega) (by omega) rfl
    have e1 : m = (m_old (h_vl (h_put h 44 19 (h_vl h 44 19 + 1))) 6 0 0 (-1)).1 := congrArg (fun q => q.1) he
    have e2 : o = (m_old (h_vl (h_put h 44 19 (h_vl h 44 19 + 1))) 6 0 0 (-1)).2 := congrArg (fun q => q.2) he
    refine c_fetch_3 hd hg (hM.pus (by omega)) (by rw [hv_ne (by omega)]; exact ov2) (by rw [hv_ne (by omega)]; exact ov3) (fun h3 => ⟨?_, ho.2⟩) ?_
    · rw [e2]
      exact m_old_nonneg (by omega) (fun _ => rfl) (fun z => absurd z (by omega)) (by omega) (by rw [← e1]; omega)
    · rw [e1, e2]
      exact hQ
/-- records -/
def m_apply (V : Int → Int → Int) (lsn : Int) : Int → Int → Int := v_up (v_up (v_up (v_up V 57 (V 47 lsn) (V 50 lsn)) 58 (V 47 lsn) (V 51 lsn)) 59 (V 47 lsn / 4) lsn) 60 (V 47 lsn / 4) (if V 60 (V 47 lsn / 4) = 0 then lsn else V 60 (V 47 lsn / 4))
set_option maxRecDepth 100000 in
set_option maxHeartbeats 4000000 in
theorem c_apply {d : Nat} {lsn : Int} {h : E_H} {Q : Option E_V → E_H → Prop} (hM : m_T h) (hl : 0 ≤ lsn ∧ lsn < 204) (hs : 0 ≤ h_vl h 47 lsn ∧ h_vl h 47 lsn < 24) (hQ : Q none (h_wv h (m_apply (h_vl h) lsn))) : e_wpm d 111 [.inr 44, .inl lsn] h Q := by
  unfold m_T at hM
  refine e_wpm_blk 100 [] ?_
  simp only [e_blk_eq, g_go, g_bks, g_bkn, g_gst, g_gsf, e_cl, e_rt, n_0, n_1, n_2, n_3, n_4, n_5, n_6, n_7, n_8, n_9, n_10, n_11, n_12, n_13, n_14, n_15, n_16, n_17, n_18, n_19, n_20, n_21, n_22, n_23, n_24, n_25, n_26, n_27, n_28, n_29, n_30, n_31, n_32, n_33, n_34, n_35, n_36, n_37, n_40, n_41, n_42, n_43, n_44, n_45, n_46, n_50, n_51, n_52, n_53, n_54, n_55, f_ldi, f_lda, f_sti, f_sta, f_inc, f_bin0, f_bin1, f_bin2, f_bin3, f_bin4, f_bin5, f_bin6, f_bin7, f_i2b, f_dup, f_pop, f_dx1, f_if0, f_ic0, f_if1, f_ic1, f_if2, f_ic2, f_if3, f_ic3, f_if4, f_ic4, f_if5, f_ic5, f_ac0, f_ac1, f_nu0, f_nu1, f_sw, f_sw0, f_sw1, f_gti, f_gta, f_pti, f_pta, f_ptz, f_new, f_nwa, f_ild, f_ist, f_bld, f_bst, f_ald, f_ast, f_len, f_cst, f_oin, f_gcl, f_ord, f_mm0, f_mm1, f_cpy, f_re0, f_re1, f_rea, f_rev, f_t50, f_t51, f_t52, f_t53, f_t54, f_t55, f_st, f_sd, f_s2, f_sn, e_in, e_ent, e_inR, Nat.reduceLT, Nat.reduceEqDiff, reduceIte, Nat.reduceBEq, List.length_cons, List.length_nil, List.map_cons, List.map_nil, List.replicate, List.cons_append, List.nil_append, List.append_nil, List.getElem?_cons_zero, List.getElem?_cons_succ, List.getElem?_nil, List.set_cons_zero, List.set_cons_succ, List.take_succ_cons, List.take_zero, List.take_nil, List.drop_succ_cons, List.drop_zero, List.drop_nil, List.reverse_cons, List.reverse_nil, Option.toList_some, Option.toList_none, Int.reduceToNat, hk_put, hl_put, hz_put, hs_put, hv_same, hv_ne, hv_na, hz_new, hs_new, hk_newS, hl_newS, hv_newS, Int.reduceEq, Int.reduceNe, Int.reduceLE, Int.reduceLT, Int.reduceAdd, Int.reduceSub, Int.reduceMul, Int.reduceNeg, Nat.reduceAdd, Nat.reduceSub, Nat.reduceLeDiff, Bool.or_false, Bool.false_or, Bool.or_true, Bool.true_or, or_self, or_false, false_or, true_or, or_true, and_true, true_and, forall_const, decide_eq_true_eq, decide_eq_false_iff_not, Bool.and_eq_true, Bool.false_eq_true, Nat.lt_add_one, imp_self, implies_true, not_true_eq_false, not_false_eq_true, ne_eq, Bool.true_eq_false, Nat.zero_le, Nat.le_refl, and_self, false_implies, q_111, l_111, hM]
  unfold m_apply at hQ
  refine ⟨by omega, by omega, by omega, by omega, by omega, by omega, by omega, by omega, fun hc => ⟨by omega, by omega, ?_⟩, fun hc => ⟨by omega, ?_⟩⟩
  · rw [if_neg hc] at hQ
    exact hQ
  · rw [if_pos (by omega)] at hQ
    exact hQ
def m_put (V : Int → Int → Int) (k t x : Int) : Int → Int → Int := v_up (v_up (v_up (v_up V 44 0 (V 44 0 + 1)) 45 (V 44 0 + 1) k) 46 (V 44 0 + 1) t) 47 (V 44 0 + 1) x
set_option maxRecDepth 100000 in
set_option maxHeartbeats 4000000 in
theorem c_put {d : Nat} {k t x : Int} {h : E_H} {Q : Option E_V → E_H → Prop} (hM : m_T h) (hs : 0 ≤ h_vl h 44 0 ∧ h_vl h 44 0 < 203) (hQ : Q (some (.inl (h_vl h 44 0 + 1))) (h_wv h (m_put (h_vl h) k t x))) : e_wpm d 110 [.inr 44, .inl k, .inl t, .inl x] h Q := by
  unfold m_T at hM
  refine e_wpm_blk 100 [] ?_
  simp only [e_blk_eq, g_go, g_bks, g_bkn, g_gst, g_gsf, e_cl, e_rt, n_0, n_1, n_2, n_3, n_4, n_5, n_6, n_7, n_8, n_9, n_10, n_11, n_12, n_13, n_14, n_15, n_16, n_17, n_18, n_19, n_20, n_21, n_22, n_23, n_24, n_25, n_26, n_27, n_28, n_29, n_30, n_31, n_32, n_33, n_34, n_35, n_36, n_37, n_40, n_41, n_42, n_43, n_44, n_45, n_46, n_50, n_51, n_52, n_53, n_54, n_55, f_ldi, f_lda, f_sti, f_sta, f_inc, f_bin0, f_bin1, f_bin2, f_bin3, f_bin4, f_bin5, f_bin6, f_bin7, f_i2b, f_dup, f_pop, f_dx1, f_if0, f_ic0, f_if1, f_ic1, f_if2, f_ic2, f_if3, f_ic3, f_if4, f_ic4, f_if5, f_ic5, f_ac0, f_ac1, f_nu0, f_nu1, f_sw, f_sw0, f_sw1, f_gti, f_gta, f_pti, f_pta, f_ptz, f_new, f_nwa, f_ild, f_ist, f_bld, f_bst, f_ald, f_ast, f_len, f_cst, f_oin, f_gcl, f_ord, f_mm0, f_mm1, f_cpy, f_re0, f_re1, f_rea, f_rev, f_t50, f_t51, f_t52, f_t53, f_t54, f_t55, f_st, f_sd, f_s2, f_sn, e_in, e_ent, e_inR, Nat.reduceLT, Nat.reduceEqDiff, reduceIte, Nat.reduceBEq, List.length_cons, List.length_nil, List.map_cons, List.map_nil, List.replicate, List.cons_append, List.nil_append, List.append_nil, List.getElem?_cons_zero, List.getElem?_cons_succ, List.getElem?_nil, List.set_cons_zero, List.set_cons_succ, List.take_succ_cons, List.take_zero, List.take_nil, List.drop_succ_cons, List.drop_zero, List.drop_nil, List.reverse_cons, List.reverse_nil, Option.toList_some, Option.toList_none, Int.reduceToNat, hk_put, hl_put, hz_put, hs_put, hv_same, hv_ne, hv_na, hz_new, hs_new, hk_newS, hl_newS, hv_newS, Int.reduceEq, Int.reduceNe, Int.reduceLE, Int.reduceLT, Int.reduceAdd, Int.reduceSub, Int.reduceMul, Int.reduceNeg, Nat.reduceAdd, Nat.reduceSub, Nat.reduceLeDiff, Bool.or_false, Bool.false_or, Bool.or_true, Bool.true_or, or_self, or_false, false_or, true_or, or_true, and_true, true_and, forall_const, decide_eq_true_eq, decide_eq_false_iff_not, Bool.and_eq_true, Bool.false_eq_true, Nat.lt_add_one, imp_self, implies_true, not_true_eq_false, not_false_eq_true, ne_eq, Bool.true_eq_false, Nat.zero_le, Nat.le_refl, and_self, false_implies, q_110, l_110, hM]
  exact ⟨by omega, by omega, by omega, by omega, hQ⟩
def m_cntL (V : Int → Int → Int) (k : Int) : Nat → Int → Int → Int
  | 0, _, n => n
  | m + 1, i, n => m_cntL V k m (i + 1) (n + (if V 45 i = k then 1 else 0))
def m_count (V : Int → Int → Int) (k : Int) : Int := m_cntL V k (V 44 0).toNat 1 0
set_option maxRecDepth 100000 in
set_option maxHeartbeats 4000000 in
theorem c_count_s {d : Nat} {k i n : Int} {h : E_H} {Q : Option E_V → E_H → Prop} (hM : m_T h) (hs : 0 ≤ h_vl h 44 0 ∧ h_vl h 44 0 < 204) (hi : 1 ≤ i) (hn : 0 ≤ n ∧ n ≤ 300) (K1 : h_vl h 44 0 < i → Q (some (.inl n)) h) (K2 : i ≤ h_vl h 44 0 → e_wpc d 109 4 [some (.inr 44), some (.inl k), some (.inl (n + (if h_vl h 45 i = k then 1 else 0))), some (.inl (i + 1))] [] h Q) : e_wpc d 109 4 [some (.inr 44), some (.inl k), some (.inl n), some (.inl i)] [] h Q := by
  unfold m_T at hM
  refine e_wpc_blk 100 [4] ?_
  simp only [e_blk_eq, g_go, g_bks, g_bkn, g_gst, g_gsf, e_cl, e_rt, n_0, n_1, n_2, n_3, n_4, n_5, n_6, n_7, n_8, n_9, n_10, n_11, n_12, n_13, n_14, n_15, n_16, n_17, n_18, n_19, n_20, n_21, n_22, n_23, n_24, n_25, n_26, n_27, n_28, n_29, n_30, n_31, n_32, n_33, n_34, n_35, n_36, n_37, n_40, n_41, n_42, n_43, n_44, n_45, n_46, n_50, n_51, n_52, n_53, n_54, n_55, f_ldi, f_lda, f_sti, f_sta, f_inc, f_bin0, f_bin1, f_bin2, f_bin3, f_bin4, f_bin5, f_bin6, f_bin7, f_i2b, f_dup, f_pop, f_dx1, f_if0, f_ic0, f_if1, f_ic1, f_if2, f_ic2, f_if3, f_ic3, f_if4, f_ic4, f_if5, f_ic5, f_ac0, f_ac1, f_nu0, f_nu1, f_sw, f_sw0, f_sw1, f_gti, f_gta, f_pti, f_pta, f_ptz, f_new, f_nwa, f_ild, f_ist, f_bld, f_bst, f_ald, f_ast, f_len, f_cst, f_oin, f_gcl, f_ord, f_mm0, f_mm1, f_cpy, f_re0, f_re1, f_rea, f_rev, f_t50, f_t51, f_t52, f_t53, f_t54, f_t55, f_st, f_sd, f_s2, f_sn, e_in, e_ent, e_inR, Nat.reduceLT, Nat.reduceEqDiff, reduceIte, Nat.reduceBEq, List.length_cons, List.length_nil, List.map_cons, List.map_nil, List.replicate, List.cons_append, List.nil_append, List.append_nil, List.getElem?_cons_zero, List.getElem?_cons_succ, List.getElem?_nil, List.set_cons_zero, List.set_cons_succ, List.take_succ_cons, List.take_zero, List.take_nil, List.drop_succ_cons, List.drop_zero, List.drop_nil, List.reverse_cons, List.reverse_nil, Option.toList_some, Option.toList_none, Int.reduceToNat, hk_put, hl_put, hz_put, hs_put, hv_same, hv_ne, hv_na, hz_new, hs_new, hk_newS, hl_newS, hv_newS, Int.reduceEq, Int.reduceNe, Int.reduceLE, Int.reduceLT, Int.reduceAdd, Int.reduceSub, Int.reduceMul, Int.reduceNeg, Nat.reduceAdd, Nat.reduceSub, Nat.reduceLeDiff, Bool.or_false, Bool.false_or, Bool.or_true, Bool.true_or, or_self, or_false, false_or, true_or, or_true, and_true, true_and, forall_const, decide_eq_true_eq, decide_eq_false_iff_not, Bool.and_eq_true, Bool.false_eq_true, Nat.lt_add_one, imp_self, implies_true, not_true_eq_false, not_false_eq_true, ne_eq, Bool.true_eq_false, Nat.zero_le, Nat.le_refl, and_self, false_implies, q_109, l_109, hM]
  refine ⟨fun hc => K1 (by omega), fun hc => ⟨by omega, fun h1 => ⟨by omega, by omega, ?_⟩, fun h1 => ⟨by omega, by omega, ?_⟩⟩⟩
  · have := K2 (by omega)
    rw [if_neg h1] at this
    exact this
  · have := K2 (by omega)
    rw [if_pos (by omega)] at this
    exact this
theorem c_count_l {d : Nat} {k : Int} {h : E_H} {Q : Option E_V → E_H → Prop} (hM : m_T h) (hs : 0 ≤ h_vl h 44 0 ∧ h_vl h 44 0 < 204) : ∀ (m : Nat) (i n : Int), i + m = h_vl h 44 0 + 1 → 1 ≤ i → (0 ≤ n ∧ n < i) → Q (some (.inl (m_cntL (h_vl h) k m i n))) h → e_wpc d 109 4 [some (.inr 44), some (.inl k), some (.inl n), some (.inl i)] [] h Q := by
  intro m
  induction m with
  | zero =>
    intro i n hi h1 hn hQ
    exact c_count_s hM hs h1 (by omega) (fun _ => hQ) (fun hc => absurd hc (by omega))
  | succ m ih =>
    intro i n hi h1 hn hQ
    refine c_count_s hM hs h1 (by omega) (fun hc => absurd hc (by omega)) (fun hc => ih (i + 1) _ (by omega) (by omega) ?_ hQ)
    split <;> omega
set_option maxRecDepth 100000 in
set_option maxHeartbeats 4000000 in
theorem c_count {d : Nat} {k : Int} {h : E_H} {Q : Option E_V → E_H → Prop} (hM : m_T h) (hs : 0 ≤ h_vl h 44 0 ∧ h_vl h 44 0 < 204) (hQ : Q (some (.inl (m_count (h_vl h) k))) h) : e_wpm d 109 [.inr 44, .inl k] h Q := by
  refine e_wpm_blk 100 [4] ?_
  simp only [e_blk_eq, g_go, g_bks, g_bkn, g_gst, g_gsf, e_cl, e_rt, n_0, n_1, n_2, n_3, n_4, n_5, n_6, n_7, n_8, n_9, n_10, n_11, n_12, n_13, n_14, n_15, n_16, n_17, n_18, n_19, n_20, n_21, n_22, n_23, n_24, n_25, n_26, n_27, n_28, n_29, n_30, n_31, n_32, n_33, n_34, n_35, n_36, n_37, n_40, n_41, n_42, n_43, n_44, n_45, n_46, n_50, n_51, n_52, n_53, n_54, n_55, f_ldi, f_lda, f_sti, f_sta, f_inc, f_bin0, f_bin1, f_bin2, f_bin3, f_bin4, f_bin5, f_bin6, f_bin7, f_i2b, f_dup, f_pop, f_dx1, f_if0, f_ic0, f_if1, f_ic1, f_if2, f_ic2, f_if3, f_ic3, f_if4, f_ic4, f_if5, f_ic5, f_ac0, f_ac1, f_nu0, f_nu1, f_sw, f_sw0, f_sw1, f_gti, f_gta, f_pti, f_pta, f_ptz, f_new, f_nwa, f_ild, f_ist, f_bld, f_bst, f_ald, f_ast, f_len, f_cst, f_oin, f_gcl, f_ord, f_mm0, f_mm1, f_cpy, f_re0, f_re1, f_rea, f_rev, f_t50, f_t51, f_t52, f_t53, f_t54, f_t55, f_st, f_sd, f_s2, f_sn, e_in, e_ent, e_inR, Nat.reduceLT, Nat.reduceEqDiff, reduceIte, Nat.reduceBEq, List.length_cons, List.length_nil, List.map_cons, List.map_nil, List.replicate, List.cons_append, List.nil_append, List.append_nil, List.getElem?_cons_zero, List.getElem?_cons_succ, List.getElem?_nil, List.set_cons_zero, List.set_cons_succ, List.take_succ_cons, List.take_zero, List.take_nil, List.drop_succ_cons, List.drop_zero, List.drop_nil, List.reverse_cons, List.reverse_nil, Option.toList_some, Option.toList_none, Int.reduceToNat, hk_put, hl_put, hz_put, hs_put, hv_same, hv_ne, hv_na, hz_new, hs_new, hk_newS, hl_newS, hv_newS, Int.reduceEq, Int.reduceNe, Int.reduceLE, Int.reduceLT, Int.reduceAdd, Int.reduceSub, Int.reduceMul, Int.reduceNeg, Nat.reduceAdd, Nat.reduceSub, Nat.reduceLeDiff, Bool.or_false, Bool.false_or, Bool.or_true, Bool.true_or, or_self, or_false, false_or, true_or, or_true, and_true, true_and, forall_const, decide_eq_true_eq, decide_eq_false_iff_not, Bool.and_eq_true, Bool.false_eq_true, Nat.lt_add_one, imp_self, implies_true, not_true_eq_false, not_false_eq_true, ne_eq, Bool.true_eq_false, Nat.zero_le, Nat.le_refl, and_self, false_implies, q_109, l_109]
  exact c_count_l hM hs _ 1 0 (by omega) (by omega) (by omega) hQ
def m_comm (V : Int → Int → Int) (t : Int) : Bool := q_any (fun i => decide (V 45 i = 3 ∧ V 46 i = t)) (V 44 0).toNat 1
set_option maxRecDepth 100000 in
set_option maxHeartbeats 4000000 in
theorem c_comm_s {d : Nat} {t i : Int} {h : E_H} {Q : Option E_V → E_H → Prop} (hM : m_T h) (hs : 0 ≤ h_vl h 44 0 ∧ h_vl h 44 0 < 204) (hi : 1 ≤ i) (K1 : h_vl h 44 0 < i → Q (some (.inl 0)) h) (K2 : i ≤ h_vl h 44 0 → (h_vl h 45 i = 3 ∧ h_vl h 46 i = t) → Q (some (.inl 1)) h) (K3 : i ≤ h_vl h 44 0 → ¬ (h_vl h 45 i = 3 ∧ h_vl h 46 i = t) → e_wpc d 116 2 [some (.inr 44), some (.inl t), some (.inl (i + 1))] [] h Q) : e_wpc d 116 2 [some (.inr 44), some (.inl t), some (.inl i)] [] h Q := by
  unfold m_T at hM
  refine e_wpc_blk 100 [2] ?_
  simp only [e_blk_eq, g_go, g_bks, g_bkn, g_gst, g_gsf, e_cl, e_rt, n_0, n_1, n_2, n_3, n_4, n_5, n_6, n_7, n_8, n_9, n_10, n_11, n_12, n_13, n_14, n_15, n_16, n_17, n_18, n_19, n_20, n_21, n_22, n_23, n_24, n_25, n_26, n_27, n_28, n_29, n_30, n_31, n_32, n_33, n_34, n_35, n_36, n_37, n_40, n_41, n_42, n_43, n_44, n_45, n_46, n_50, n_51, n_52, n_53, n_54, n_55, f_ldi, f_lda, f_sti, f_sta, f_inc, f_bin0, f_bin1, f_bin2, f_bin3, f_bin4, f_bin5, f_bin6, f_bin7, f_i2b, f_dup, f_pop, f_dx1, f_if0, f_ic0, f_if1, f_ic1, f_if2, f_ic2, f_if3, f_ic3, f_if4, f_ic4, f_if5, f_ic5, f_ac0, f_ac1, f_nu0, f_nu1, f_sw, f_sw0, f_sw1, f_gti, f_gta, f_pti, f_pta, f_ptz, f_new, f_nwa, f_ild, f_ist, f_bld, f_bst, f_ald, f_ast, f_len, f_cst, f_oin, f_gcl, f_ord, f_mm0, f_mm1, f_cpy, f_re0, f_re1, f_rea, f_rev, f_t50, f_t51, f_t52, f_t53, f_t54, f_t55, f_st, f_sd, f_s2, f_sn, e_in, e_ent, e_inR, Nat.reduceLT, Nat.reduceEqDiff, reduceIte, Nat.reduceBEq, List.length_cons, List.length_nil, List.map_cons, List.map_nil, List.replicate, List.cons_append, List.nil_append, List.append_nil, List.getElem?_cons_zero, List.getElem?_cons_succ, List.getElem?_nil, List.set_cons_zero, List.set_cons_succ, List.take_succ_cons, List.take_zero, List.take_nil, List.drop_succ_cons, List.drop_zero, List.drop_nil, List.reverse_cons, List.reverse_nil, Option.toList_some, Option.toList_none, Int.reduceToNat, hk_put, hl_put, hz_put, hs_put, hv_same, hv_ne, hv_na, hz_new, hs_new, hk_newS, hl_newS, hv_newS, Int.reduceEq, Int.reduceNe, Int.reduceLE, Int.reduceLT, Int.reduceAdd, Int.reduceSub, Int.reduceMul, Int.reduceNeg, Nat.reduceAdd, Nat.reduceSub, Nat.reduceLeDiff, Bool.or_false, Bool.false_or, Bool.or_true, Bool.true_or, or_self, or_false, false_or, true_or, or_true, and_true, true_and, forall_const, decide_eq_true_eq, decide_eq_false_iff_not, Bool.and_eq_true, Bool.false_eq_true, Nat.lt_add_one, imp_self, implies_true, not_true_eq_false, not_false_eq_true, ne_eq, Bool.true_eq_false, Nat.zero_le, Nat.le_refl, and_self, false_implies, q_116, l_116, hM]
  exact ⟨fun hc => K1 (by omega), fun hc => ⟨by omega, fun h1 => ⟨by omega, K3 (by omega) (by omega)⟩, fun h1 => ⟨by omega, fun h2 => ⟨by omega, K3 (by omega) (by omega)⟩, fun h2 => K2 (by omega) (by omega)⟩⟩⟩
theorem c_comm_l {d : Nat} {t : Int} {h : E_H} {Q : Option E_V → E_H → Prop} (hM : m_T h) (hs : 0 ≤ h_vl h 44 0 ∧ h_vl h 44 0 < 204) : ∀ (m : Nat) (i : Int), i + m = h_vl h 44 0 + 1 → 1 ≤ i → Q (some (.inl (q_b (q_any (fun i => decide (h_vl h 45 i = 3 ∧ h_vl h 46 i = t)) m i)))) h → e_wpc d 116 2 [some (.inr 44), some (.inl t), some (.inl i)] [] h Q := by
  intro m
  induction m with
  | zero =>
    intro i hi h1 hQ
    exact c_comm_s hM hs h1 (fun _ => hQ) (fun hc => absurd hc (by omega)) (fun hc => absurd hc (by omega))
  | succ m ih =>
    intro i hi h1 hQ
    refine c_comm_s hM hs h1 (fun hc => absurd hc (by omega)) (fun _ h2 => ?_) (fun hc h2 => ih (i + 1) (by omega) (by omega) ?_)
    · rw [q_any, if_pos (decide_eq_true h2)] at hQ
      exact hQ
    · rw [q_any, if_neg (by rw [decide_eq_true_eq]; exact h2)] at hQ
      exact hQ
set_option maxRecDepth 100000 in
set_option maxHeartbeats 4000000 in
theorem c_comm {d : Nat} {t : Int} {h : E_H} {Q : Option E_V → E_H → Prop} (hM : m_T h) (hs : 0 ≤ h_vl h 44 0 ∧ h_vl h 44 0 < 204) (hQ : Q (some (.inl (q_b (m_comm (h_vl h) t)))) h) : e_wpm d 116 [.inr 44, .inl t] h Q := by
  refine e_wpm_blk 100 [2] ?_
  simp only [e_blk_eq, g_go, g_bks, g_bkn, g_gst, g_gsf, e_cl, e_rt, n_0, n_1, n_2, n_3, n_4, n_5, n_6, n_7, n_8, n_9, n_10, n_11, n_12, n_13, n_14, n_15, n_16, n_17, n_18, n_19, n_20, n_21, n_22, n_23, n_24, n_25, n_26, n_27, n_28, n_29, n_30, n_31, n_32, n_33, n_34, n_35, n_36, n_37, n_40, n_41, n_42, n_43, n_44, n_45, n_46, n_50, n_51, n_52, n_53, n_54, n_55, f_ldi, f_lda, f_sti, f_sta, f_inc, f_bin0, f_bin1, f_bin2, f_bin3, f_bin4, f_bin5, f_bin6, f_bin7, f_i2b, f_dup, f_pop, f_dx1, f_if0, f_ic0, f_if1, f_ic1, f_if2, f_ic2, f_if3, f_ic3, f_if4, f_ic4, f_if5, f_ic5, f_ac0, f_ac1, f_nu0, f_nu1, f_sw, f_sw0, f_sw1, f_gti, f_gta, f_pti, f_pta, f_ptz, f_new, f_nwa, f_ild, f_ist, f_bld, f_bst, f_ald, f_ast, f_len, f_cst, f_oin, f_gcl, f_ord, f_mm0, f_mm1, f_cpy, f_re0, f_re1, f_rea, f_rev, f_t50, f_t51, f_t52, f_t53, f_t54, f_t55, f_st, f_sd, f_s2, f_sn, e_in, e_ent, e_inR, Nat.reduceLT, Nat.reduceEqDiff, reduceIte, Nat.reduceBEq, List.length_cons, List.length_nil, List.map_cons, List.map_nil, List.replicate, List.cons_append, List.nil_append, List.append_nil, List.getElem?_cons_zero, List.getElem?_cons_succ, List.getElem?_nil, List.set_cons_zero, List.set_cons_succ, List.take_succ_cons, List.take_zero, List.take_nil, List.drop_succ_cons, List.drop_zero, List.drop_nil, List.reverse_cons, List.reverse_nil, Option.toList_some, Option.toList_none, Int.reduceToNat, hk_put, hl_put, hz_put, hs_put, hv_same, hv_ne, hv_na, hz_new, hs_new, hk_newS, hl_newS, hv_newS, Int.reduceEq, Int.reduceNe, Int.reduceLE, Int.reduceLT, Int.reduceAdd, Int.reduceSub, Int.reduceMul, Int.reduceNeg, Nat.reduceAdd, Nat.reduceSub, Nat.reduceLeDiff, Bool.or_false, Bool.false_or, Bool.or_true, Bool.true_or, or_self, or_false, false_or, true_or, or_true, and_true, true_and, forall_const, decide_eq_true_eq, decide_eq_false_iff_not, Bool.and_eq_true, Bool.false_eq_true, Nat.lt_add_one, imp_self, implies_true, not_true_eq_false, not_false_eq_true, ne_eq, Bool.true_eq_false, Nat.zero_le, Nat.le_refl, and_self, false_implies, q_116, l_116]
  exact c_comm_l hM hs _ 1 (by omega) (by omega) hQ
