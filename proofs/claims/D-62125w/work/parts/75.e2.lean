/-! ===== the component, 16: build ===== -/
theorem f_m.ttr {h h1 h2 : E_H} (f1 : f_m (k_tr h) h h1) (f2 : f_m (k_tr h1) h1 h2) : f_m (k_tr h) h h2 := by
  have s1 := f1.1.1
  have s2 := f2.1.1
  refine ⟨⟨by omega, f2.1.2⟩, fun a ha => ?_, fun a j ha hn => ?_⟩
  · rw [(f2.2.1 a (by omega)).1, (f2.2.1 a (by omega)).2]
    exact f1.2.1 a ha
  · have e0 := (f1.2.1 a ha).1
    have e1 := (f1.2.1 (a - 1) (by omega)).1
    have e2 := (f1.2.1 (a - 2) (by omega)).1
    rw [f2.2.2 a j (by omega) (fun z => hn ?_)]
    · exact f1.2.2 a j ha hn
    · unfold k_tr at z ⊢
      rw [e0, e1, e2] at z
      exact z
theorem k_pgs.tr {h h' : E_H} {V : E_K} (hP : k_pgs h V) (hS : k_S h) (f : f_m (k_tr h) h h') : k_pgs h' V := fun x x1 x2 =>
  (hP x x1 x2).fr f hS ⟨x1, x2⟩ (fun a j => by unfold k_tr; omega) (fun j => by unfold k_tr; omega) ⟨rfl, Iff.rfl, rfl, rfl⟩ (fun y y1 y2 => ⟨rfl, rfl, rfl, rfl⟩)
theorem q_first_snoc {P : Int → Bool} : ∀ {n : Nat} {x : Int}, 0 ≤ x → q_first P (n + 1) x = if 0 ≤ q_first P n x then q_first P n x else if P (x + n) = true then x + n else -1 := by
  intro n
  induction n with
  | zero =>
    intro x hx
    rw [q_first, q_first, q_first, if_neg (show ¬ (0 : Int) ≤ -1 by omega), show x + ((0 : Nat) : Int) = x by omega]
  | succ n ih =>
    intro x hx
    rw [q_first, ih (by omega)]
    rw [q_first]
    by_cases hp : P x = true
    · rw [if_pos hp, if_pos hp, if_pos hx]
    · rw [if_neg hp, if_neg hp, show x + 1 + (n : Int) = x + ((n + 1 : Nat) : Int) by omega]
def t_fd (V : E_K) (n : Nat) (k : Int) : Int := if k < 0 ∨ 99 < k then -1 else q_first (fun x => decide (m_keyAt V x = k)) n 0
theorem t_fd_s {V : E_K} {n : Nat} {k : Int} : t_fd V (n + 1) k = if (0 ≤ k ∧ k ≤ 99) ∧ m_keyAt V n = k ∧ t_fd V n k < 0 then (n : Int) else t_fd V n k := by
  unfold t_fd
  by_cases hk : k < 0 ∨ 99 < k
  · rw [if_pos hk, if_pos hk, if_neg (by omega)]
  · rw [if_neg hk, if_neg hk, q_first_snoc (by omega)]
    have r := @q_first_rng (fun x => decide (m_keyAt V x = k)) n 0
    by_cases h0 : 0 ≤ q_first (fun x => decide (m_keyAt V x = k)) n 0
    · rw [if_pos h0, if_neg (by omega)]
    · rw [if_neg h0, show (0 : Int) + n = n by omega]
      by_cases he : m_keyAt V n = k
      · rw [if_pos (by simpa using he), if_pos ⟨by omega, he, by omega⟩]
      · rw [if_neg (by simpa using he), if_neg (fun z => he z.2.1)]
        rcases r with z | z <;> omega
theorem t_fd_n {V : E_K} {n : Nat} {k : Int} : t_fd V n k = -1 ∨ (0 ≤ t_fd V n k ∧ t_fd V n k < n) := by
  unfold t_fd
  split
  · exact Or.inl rfl
  · rcases @q_first_rng (fun x => decide (m_keyAt V x = k)) n 0 with z | z
    · exact Or.inl z
    · exact Or.inr ⟨by omega, by omega⟩
set_option maxRecDepth 100000 in
set_option maxHeartbeats 4000000 in
theorem c_bl_s {d n : Nat} {l2 : Option E_V} {V : E_K} {h : E_H} {Q : Option E_V → E_H → Prop} (hd : 13 ≤ d) (hS : k_S h) (hY : k_Y h) (hP : k_pgs h V) (hR : k_R h (t_fd V n)) (hn : n < 24) (h99 : m_keyAt V n ≤ 99)
    (K : ∀ h' l2, f_m (k_tr h) h h' → k_Y h' → k_R h' (t_fd V (n + 1)) → h_sz h' ≤ h_sz h + 30 → h_sl h' ≤ h_sl h + 120 → e_wpc d 49 18 [some (.inr 16), some (.inl (n + 1 : Int)), l2] [] h' Q) : e_wpc d 49 18 [some (.inr 16), some (.inl (n : Int)), l2] [] h Q := by
  have hT := hS.1
  unfold k_T at hT
  obtain ⟨x, hx⟩ : ∃ x : Int, x = n := ⟨n, rfl⟩
  rw [← hx] at K h99 ⊢
  have hZ := hS.2.2.1
  refine e_wpc_blk 100 [18] ?_
  simp only [e_blk_eq, g_go, g_bks, g_bkn, g_gst, g_gsf, e_cl, e_rt, n_0, n_1, n_2, n_3, n_4, n_5, n_6, n_7, n_8, n_9, n_10, n_11, n_12, n_13, n_14, n_15, n_16, n_17, n_18, n_19, n_20, n_21, n_22, n_23, n_24, n_25, n_26, n_27, n_28, n_29, n_30, n_31, n_32, n_33, n_34, n_35, n_36, n_37, n_40, n_41, n_42, n_43, n_44, n_45, n_46, n_50, n_51, n_52, n_53, n_54, n_55, f_ldi, f_lda, f_sti, f_sta, f_inc, f_bin0, f_bin1, f_bin2, f_bin3, f_bin4, f_bin5, f_bin6, f_bin7, f_i2b, f_dup, f_pop, f_dx1, f_if0, f_ic0, f_if1, f_ic1, f_if2, f_ic2, f_if3, f_ic3, f_if4, f_ic4, f_if5, f_ic5, f_ac0, f_ac1, f_nu0, f_nu1, f_sw, f_sw0, f_sw1, f_gti, f_gta, f_pti, f_pta, f_ptz, f_new, f_nwa, f_ild, f_ist, f_bld, f_bst, f_ald, f_ast, f_len, f_cst, f_oin, f_gcl, f_ord, f_mm0, f_mm1, f_cpy, f_re0, f_re1, f_rea, f_rev, f_t50, f_t51, f_t52, f_t53, f_t54, f_t55, f_st, f_sd, f_s2, f_sn, e_in, e_ent, e_inR, Nat.reduceLT, Nat.reduceEqDiff, reduceIte, Nat.reduceBEq, List.length_cons, List.length_nil, List.map_cons, List.map_nil, List.replicate, List.cons_append, List.nil_append, List.append_nil, List.getElem?_cons_zero, List.getElem?_cons_succ, List.getElem?_nil, List.set_cons_zero, List.set_cons_succ, List.take_succ_cons, List.take_zero, List.take_nil, List.drop_succ_cons, List.drop_zero, List.drop_nil, List.reverse_cons, List.reverse_nil, Option.toList_some, Option.toList_none, Int.reduceToNat, hk_pt, hl_pt, hz_pt, hs_pt, hv_same, hv_ne, hv_na, hz_nw, hs_nw, hk_newS, hl_newS, hv_newS, Int.reduceEq, Int.reduceNe, Int.reduceLE, Int.reduceLT, Int.reduceAdd, Int.reduceSub, Int.reduceMul, Int.reduceNeg, Nat.reduceAdd, Nat.reduceSub, Nat.reduceLeDiff, Bool.or_false, Bool.false_or, Bool.or_true, Bool.true_or, or_self, or_false, false_or, true_or, or_true, and_true, true_and, forall_const, decide_eq_true_eq, decide_eq_false_iff_not, Bool.and_eq_true, Bool.false_eq_true, Nat.lt_add_one, imp_self, implies_true, not_true_eq_false, not_false_eq_true, ne_eq, Bool.true_eq_false, Nat.zero_le, Nat.le_refl, and_self, false_implies, q_49, l_49, hT, l_36, x4]
  refine ⟨fun z => by omega, fun z => ?_⟩
  have p := hS.pg (g := x / 4) (by omega)
  unfold k_p1 at p
  rw [p.1]
  refine ⟨by omega, p.2.1, by omega, r_seen hS hP (by omega) (fun c hc => ?_)⟩
  have same : ¬ ((0 ≤ m_keyAt V x) ∧ t_fd V n (m_keyAt V x) < 0) → t_fd V (n + 1) = t_fd V n := fun w => by
    funext k
    rw [t_fd_s, if_neg]
    rintro ⟨z1, z2, z3⟩
    rw [← hx] at z2
    exact w ⟨by omega, by rw [z2]; exact z3⟩
  rcases hc.nz hS with w | w
  · rw [w.1]
    simp only [e_blk_eq, g_go, g_bks, g_bkn, g_gst, g_gsf, e_cl, e_rt, n_0, n_1, n_2, n_3, n_4, n_5, n_6, n_7, n_8, n_9, n_10, n_11, n_12, n_13, n_14, n_15, n_16, n_17, n_18, n_19, n_20, n_21, n_22, n_23, n_24, n_25, n_26, n_27, n_28, n_29, n_30, n_31, n_32, n_33, n_34, n_35, n_36, n_37, n_40, n_41, n_42, n_43, n_44, n_45, n_46, n_50, n_51, n_52, n_53, n_54, n_55, f_ldi, f_lda, f_sti, f_sta, f_inc, f_bin0, f_bin1, f_bin2, f_bin3, f_bin4, f_bin5, f_bin6, f_bin7, f_i2b, f_dup, f_pop, f_dx1, f_if0, f_ic0, f_if1, f_ic1, f_if2, f_ic2, f_if3, f_ic3, f_if4, f_ic4, f_if5, f_ic5, f_ac0, f_ac1, f_nu0, f_nu1, f_sw, f_sw0, f_sw1, f_gti, f_gta, f_pti, f_pta, f_ptz, f_new, f_nwa, f_ild, f_ist, f_bld, f_bst, f_ald, f_ast, f_len, f_cst, f_oin, f_gcl, f_ord, f_mm0, f_mm1, f_cpy, f_re0, f_re1, f_rea, f_rev, f_t50, f_t51, f_t52, f_t53, f_t54, f_t55, f_st, f_sd, f_s2, f_sn, e_in, e_ent, e_inR, Nat.reduceLT, Nat.reduceEqDiff, reduceIte, Nat.reduceBEq, List.length_cons, List.length_nil, List.map_cons, List.map_nil, List.replicate, List.cons_append, List.nil_append, List.append_nil, List.getElem?_cons_zero, List.getElem?_cons_succ, List.getElem?_nil, List.set_cons_zero, List.set_cons_succ, List.take_succ_cons, List.take_zero, List.take_nil, List.drop_succ_cons, List.drop_zero, List.drop_nil, List.reverse_cons, List.reverse_nil, Option.toList_some, Option.toList_none, Int.reduceToNat, hk_pt, hl_pt, hz_pt, hs_pt, hv_same, hv_ne, hv_na, hz_nw, hs_nw, hk_newS, hl_newS, hv_newS, Int.reduceEq, Int.reduceNe, Int.reduceLE, Int.reduceLT, Int.reduceAdd, Int.reduceSub, Int.reduceMul, Int.reduceNeg, Nat.reduceAdd, Nat.reduceSub, Nat.reduceLeDiff, Bool.or_false, Bool.false_or, Bool.or_true, Bool.true_or, or_self, or_false, false_or, true_or, or_true, and_true, true_and, forall_const, decide_eq_true_eq, decide_eq_false_iff_not, Bool.and_eq_true, Bool.false_eq_true, Nat.lt_add_one, imp_self, implies_true, not_true_eq_false, not_false_eq_true, ne_eq, Bool.true_eq_false, Nat.zero_le, Nat.le_refl, and_self, false_implies, q_49, l_49]
    refine ⟨by omega, K h _ (f_m.rf hZ) hY (by rw [same (by omega)]; exact hR) (by omega) (by omega)⟩
  · have w5 := w.2.2.2.2
    have w1 := w.1
    simp only [e_blk_eq, g_go, g_bks, g_bkn, g_gst, g_gsf, e_cl, e_rt, n_0, n_1, n_2, n_3, n_4, n_5, n_6, n_7, n_8, n_9, n_10, n_11, n_12, n_13, n_14, n_15, n_16, n_17, n_18, n_19, n_20, n_21, n_22, n_23, n_24, n_25, n_26, n_27, n_28, n_29, n_30, n_31, n_32, n_33, n_34, n_35, n_36, n_37, n_40, n_41, n_42, n_43, n_44, n_45, n_46, n_50, n_51, n_52, n_53, n_54, n_55, f_ldi, f_lda, f_sti, f_sta, f_inc, f_bin0, f_bin1, f_bin2, f_bin3, f_bin4, f_bin5, f_bin6, f_bin7, f_i2b, f_dup, f_pop, f_dx1, f_if0, f_ic0, f_if1, f_ic1, f_if2, f_ic2, f_if3, f_ic3, f_if4, f_ic4, f_if5, f_ic5, f_ac0, f_ac1, f_nu0, f_nu1, f_sw, f_sw0, f_sw1, f_gti, f_gta, f_pti, f_pta, f_ptz, f_new, f_nwa, f_ild, f_ist, f_bld, f_bst, f_ald, f_ast, f_len, f_cst, f_oin, f_gcl, f_ord, f_mm0, f_mm1, f_cpy, f_re0, f_re1, f_rea, f_rev, f_t50, f_t51, f_t52, f_t53, f_t54, f_t55, f_st, f_sd, f_s2, f_sn, e_in, e_ent, e_inR, Nat.reduceLT, Nat.reduceEqDiff, reduceIte, Nat.reduceBEq, List.length_cons, List.length_nil, List.map_cons, List.map_nil, List.replicate, List.cons_append, List.nil_append, List.append_nil, List.getElem?_cons_zero, List.getElem?_cons_succ, List.getElem?_nil, List.set_cons_zero, List.set_cons_succ, List.take_succ_cons, List.take_zero, List.take_nil, List.drop_succ_cons, List.drop_zero, List.drop_nil, List.reverse_cons, List.reverse_nil, Option.toList_some, Option.toList_none, Int.reduceToNat, hk_pt, hl_pt, hz_pt, hs_pt, hv_same, hv_ne, hv_na, hz_nw, hs_nw, hk_newS, hl_newS, hv_newS, Int.reduceEq, Int.reduceNe, Int.reduceLE, Int.reduceLT, Int.reduceAdd, Int.reduceSub, Int.reduceMul, Int.reduceNeg, Nat.reduceAdd, Nat.reduceSub, Nat.reduceLeDiff, Bool.or_false, Bool.false_or, Bool.or_true, Bool.true_or, or_self, or_false, false_or, true_or, or_true, and_true, true_and, forall_const, decide_eq_true_eq, decide_eq_false_iff_not, Bool.and_eq_true, Bool.false_eq_true, Nat.lt_add_one, imp_self, implies_true, not_true_eq_false, not_false_eq_true, ne_eq, Bool.true_eq_false, Nat.zero_le, Nat.le_refl, and_self, false_implies, q_49, l_49, w5, w1, hT, l_37]
    refine ⟨by omega, r_key w.1 w.2.1 ?_⟩
    have hR' := hR
    obtain ⟨lv, lw, m, r1, ht⟩ := hR
    have m6 := t_ht6 ht
    have kd := ht.kd
    have after : e_bk [18] d 49 Q 79 56 [some (Sum.inr 16), some (Sum.inl x), some (Sum.inr c)] [] (some (Sum.inl (t_fd V n (m_keyAt V x)))) h := by
      simp only [e_blk_eq, g_go, g_bks, g_bkn, g_gst, g_gsf, e_cl, e_rt, n_0, n_1, n_2, n_3, n_4, n_5, n_6, n_7, n_8, n_9, n_10, n_11, n_12, n_13, n_14, n_15, n_16, n_17, n_18, n_19, n_20, n_21, n_22, n_23, n_24, n_25, n_26, n_27, n_28, n_29, n_30, n_31, n_32, n_33, n_34, n_35, n_36, n_37, n_40, n_41, n_42, n_43, n_44, n_45, n_46, n_50, n_51, n_52, n_53, n_54, n_55, f_ldi, f_lda, f_sti, f_sta, f_inc, f_bin0, f_bin1, f_bin2, f_bin3, f_bin4, f_bin5, f_bin6, f_bin7, f_i2b, f_dup, f_pop, f_dx1, f_if0, f_ic0, f_if1, f_ic1, f_if2, f_ic2, f_if3, f_ic3, f_if4, f_ic4, f_if5, f_ic5, f_ac0, f_ac1, f_nu0, f_nu1, f_sw, f_sw0, f_sw1, f_gti, f_gta, f_pti, f_pta, f_ptz, f_new, f_nwa, f_ild, f_ist, f_bld, f_bst, f_ald, f_ast, f_len, f_cst, f_oin, f_gcl, f_ord, f_mm0, f_mm1, f_cpy, f_re0, f_re1, f_rea, f_rev, f_t50, f_t51, f_t52, f_t53, f_t54, f_t55, f_st, f_sd, f_s2, f_sn, e_in, e_ent, e_inR, Nat.reduceLT, Nat.reduceEqDiff, reduceIte, Nat.reduceBEq, List.length_cons, List.length_nil, List.map_cons, List.map_nil, List.replicate, List.cons_append, List.nil_append, List.append_nil, List.getElem?_cons_zero, List.getElem?_cons_succ, List.getElem?_nil, List.set_cons_zero, List.set_cons_succ, List.take_succ_cons, List.take_zero, List.take_nil, List.drop_succ_cons, List.drop_zero, List.drop_nil, List.reverse_cons, List.reverse_nil, Option.toList_some, Option.toList_none, Int.reduceToNat, hk_pt, hl_pt, hz_pt, hs_pt, hv_same, hv_ne, hv_na, hz_nw, hs_nw, hk_newS, hl_newS, hv_newS, Int.reduceEq, Int.reduceNe, Int.reduceLE, Int.reduceLT, Int.reduceAdd, Int.reduceSub, Int.reduceMul, Int.reduceNeg, Nat.reduceAdd, Nat.reduceSub, Nat.reduceLeDiff, Bool.or_false, Bool.false_or, Bool.or_true, Bool.true_or, or_self, or_false, false_or, true_or, or_true, and_true, true_and, forall_const, decide_eq_true_eq, decide_eq_false_iff_not, Bool.and_eq_true, Bool.false_eq_true, Nat.lt_add_one, imp_self, implies_true, not_true_eq_false, not_false_eq_true, ne_eq, Bool.true_eq_false, Nat.zero_le, Nat.le_refl, and_self, false_implies, q_49, l_49, w5, w1, hT, l_37]
      refine ⟨fun z0 => ⟨by omega, K h _ (f_m.rf hZ) hY (by rw [same (by omega)]; exact hR') (by omega) (by omega)⟩, fun z0 => ⟨by omega, r_key w.1 w.2.1 ?_⟩⟩
      simp only [e_blk_eq, g_go, g_bks, g_bkn, g_gst, g_gsf, e_cl, e_rt, n_0, n_1, n_2, n_3, n_4, n_5, n_6, n_7, n_8, n_9, n_10, n_11, n_12, n_13, n_14, n_15, n_16, n_17, n_18, n_19, n_20, n_21, n_22, n_23, n_24, n_25, n_26, n_27, n_28, n_29, n_30, n_31, n_32, n_33, n_34, n_35, n_36, n_37, n_40, n_41, n_42, n_43, n_44, n_45, n_46, n_50, n_51, n_52, n_53, n_54, n_55, f_ldi, f_lda, f_sti, f_sta, f_inc, f_bin0, f_bin1, f_bin2, f_bin3, f_bin4, f_bin5, f_bin6, f_bin7, f_i2b, f_dup, f_pop, f_dx1, f_if0, f_ic0, f_if1, f_ic1, f_if2, f_ic2, f_if3, f_ic3, f_if4, f_ic4, f_if5, f_ic5, f_ac0, f_ac1, f_nu0, f_nu1, f_sw, f_sw0, f_sw1, f_gti, f_gta, f_pti, f_pta, f_ptz, f_new, f_nwa, f_ild, f_ist, f_bld, f_bst, f_ald, f_ast, f_len, f_cst, f_oin, f_gcl, f_ord, f_mm0, f_mm1, f_cpy, f_re0, f_re1, f_rea, f_rev, f_t50, f_t51, f_t52, f_t53, f_t54, f_t55, f_st, f_sd, f_s2, f_sn, e_in, e_ent, e_inR, Nat.reduceLT, Nat.reduceEqDiff, reduceIte, Nat.reduceBEq, List.length_cons, List.length_nil, List.map_cons, List.map_nil, List.replicate, List.cons_append, List.nil_append, List.append_nil, List.getElem?_cons_zero, List.getElem?_cons_succ, List.getElem?_nil, List.set_cons_zero, List.set_cons_succ, List.take_succ_cons, List.take_zero, List.take_nil, List.drop_succ_cons, List.drop_zero, List.drop_nil, List.reverse_cons, List.reverse_nil, Option.toList_some, Option.toList_none, Int.reduceToNat, hk_pt, hl_pt, hz_pt, hs_pt, hv_same, hv_ne, hv_na, hz_nw, hs_nw, hk_newS, hl_newS, hv_newS, Int.reduceEq, Int.reduceNe, Int.reduceLE, Int.reduceLT, Int.reduceAdd, Int.reduceSub, Int.reduceMul, Int.reduceNeg, Nat.reduceAdd, Nat.reduceSub, Nat.reduceLeDiff, Bool.or_false, Bool.false_or, Bool.or_true, Bool.true_or, or_self, or_false, false_or, true_or, or_true, and_true, true_and, forall_const, decide_eq_true_eq, decide_eq_false_iff_not, Bool.and_eq_true, Bool.false_eq_true, Nat.lt_add_one, imp_self, implies_true, not_true_eq_false, not_false_eq_true, ne_eq, Bool.true_eq_false, Nat.zero_le, Nat.le_refl, and_self, false_implies, q_49, l_49, hT, l_48]
      have fn : t_fd V n (m_keyAt V x) = -1 := by
        rcases @t_fd_n V n (m_keyAt V x) with y | y
        · exact y
        · omega
      refine ⟨by omega, r_enter (by omega) hS hY hR' ⟨w.2.2.2.1, h99⟩ fn (by omega) (fun h' f1 Y1 R1 s1 s2 => ?_)⟩
      simp only [e_blk_eq, g_go, g_bks, g_bkn, g_gst, g_gsf, e_cl, e_rt, n_0, n_1, n_2, n_3, n_4, n_5, n_6, n_7, n_8, n_9, n_10, n_11, n_12, n_13, n_14, n_15, n_16, n_17, n_18, n_19, n_20, n_21, n_22, n_23, n_24, n_25, n_26, n_27, n_28, n_29, n_30, n_31, n_32, n_33, n_34, n_35, n_36, n_37, n_40, n_41, n_42, n_43, n_44, n_45, n_46, n_50, n_51, n_52, n_53, n_54, n_55, f_ldi, f_lda, f_sti, f_sta, f_inc, f_bin0, f_bin1, f_bin2, f_bin3, f_bin4, f_bin5, f_bin6, f_bin7, f_i2b, f_dup, f_pop, f_dx1, f_if0, f_ic0, f_if1, f_ic1, f_if2, f_ic2, f_if3, f_ic3, f_if4, f_ic4, f_if5, f_ic5, f_ac0, f_ac1, f_nu0, f_nu1, f_sw, f_sw0, f_sw1, f_gti, f_gta, f_pti, f_pta, f_ptz, f_new, f_nwa, f_ild, f_ist, f_bld, f_bst, f_ald, f_ast, f_len, f_cst, f_oin, f_gcl, f_ord, f_mm0, f_mm1, f_cpy, f_re0, f_re1, f_rea, f_rev, f_t50, f_t51, f_t52, f_t53, f_t54, f_t55, f_st, f_sd, f_s2, f_sn, e_in, e_ent, e_inR, Nat.reduceLT, Nat.reduceEqDiff, reduceIte, Nat.reduceBEq, List.length_cons, List.length_nil, List.map_cons, List.map_nil, List.replicate, List.cons_append, List.nil_append, List.append_nil, List.getElem?_cons_zero, List.getElem?_cons_succ, List.getElem?_nil, List.set_cons_zero, List.set_cons_succ, List.take_succ_cons, List.take_zero, List.take_nil, List.drop_succ_cons, List.drop_zero, List.drop_nil, List.reverse_cons, List.reverse_nil, Option.toList_some, Option.toList_none, Int.reduceToNat, hk_pt, hl_pt, hz_pt, hs_pt, hv_same, hv_ne, hv_na, hz_nw, hs_nw, hk_newS, hl_newS, hv_newS, Int.reduceEq, Int.reduceNe, Int.reduceLE, Int.reduceLT, Int.reduceAdd, Int.reduceSub, Int.reduceMul, Int.reduceNeg, Nat.reduceAdd, Nat.reduceSub, Nat.reduceLeDiff, Bool.or_false, Bool.false_or, Bool.or_true, Bool.true_or, or_self, or_false, false_or, true_or, or_true, and_true, true_and, forall_const, decide_eq_true_eq, decide_eq_false_iff_not, Bool.and_eq_true, Bool.false_eq_true, Nat.lt_add_one, imp_self, implies_true, not_true_eq_false, not_false_eq_true, ne_eq, Bool.true_eq_false, Nat.zero_le, Nat.le_refl, and_self, false_implies, q_49, l_49]
      refine ⟨by omega, K h' _ f1 Y1 ?_ s1 s2⟩
      have e : t_fd V (n + 1) = t_up (t_fd V n) (m_keyAt V x) x := by
        funext k
        rw [t_fd_s]
        unfold t_up
        by_cases hk : k = m_keyAt V x
        · rw [if_pos hk, if_pos ⟨by omega, by rw [← hx]; exact hk.symm, by rw [hk, fn]; omega⟩]; exact hx.symm
        · rw [if_neg hk, if_neg (fun y => hk (by rw [hx]; exact y.2.1.symm))]
      rw [e]
      exact R1
    cases m with
    | zero =>
      have k3 := kd.1 rfl
      simp only [e_blk_eq, g_go, g_bks, g_bkn, g_gst, g_gsf, e_cl, e_rt, n_0, n_1, n_2, n_3, n_4, n_5, n_6, n_7, n_8, n_9, n_10, n_11, n_12, n_13, n_14, n_15, n_16, n_17, n_18, n_19, n_20, n_21, n_22, n_23, n_24, n_25, n_26, n_27, n_28, n_29, n_30, n_31, n_32, n_33, n_34, n_35, n_36, n_37, n_40, n_41, n_42, n_43, n_44, n_45, n_46, n_50, n_51, n_52, n_53, n_54, n_55, f_ldi, f_lda, f_sti, f_sta, f_inc, f_bin0, f_bin1, f_bin2, f_bin3, f_bin4, f_bin5, f_bin6, f_bin7, f_i2b, f_dup, f_pop, f_dx1, f_if0, f_ic0, f_if1, f_ic1, f_if2, f_ic2, f_if3, f_ic3, f_if4, f_ic4, f_if5, f_ic5, f_ac0, f_ac1, f_nu0, f_nu1, f_sw, f_sw0, f_sw1, f_gti, f_gta, f_pti, f_pta, f_ptz, f_new, f_nwa, f_ild, f_ist, f_bld, f_bst, f_ald, f_ast, f_len, f_cst, f_oin, f_gcl, f_ord, f_mm0, f_mm1, f_cpy, f_re0, f_re1, f_rea, f_rev, f_t50, f_t51, f_t52, f_t53, f_t54, f_t55, f_st, f_sd, f_s2, f_sn, e_in, e_ent, e_inR, Nat.reduceLT, Nat.reduceEqDiff, reduceIte, Nat.reduceBEq, List.length_cons, List.length_nil, List.map_cons, List.map_nil, List.replicate, List.cons_append, List.nil_append, List.append_nil, List.getElem?_cons_zero, List.getElem?_cons_succ, List.getElem?_nil, List.set_cons_zero, List.set_cons_succ, List.take_succ_cons, List.take_zero, List.take_nil, List.drop_succ_cons, List.drop_zero, List.drop_nil, List.reverse_cons, List.reverse_nil, Option.toList_some, Option.toList_none, Int.reduceToNat, hk_pt, hl_pt, hz_pt, hs_pt, hv_same, hv_ne, hv_na, hz_nw, hs_nw, hk_newS, hl_newS, hv_newS, Int.reduceEq, Int.reduceNe, Int.reduceLE, Int.reduceLT, Int.reduceAdd, Int.reduceSub, Int.reduceMul, Int.reduceNeg, Nat.reduceAdd, Nat.reduceSub, Nat.reduceLeDiff, Bool.or_false, Bool.false_or, Bool.or_true, Bool.true_or, or_self, or_false, false_or, true_or, or_true, and_true, true_and, forall_const, decide_eq_true_eq, decide_eq_false_iff_not, Bool.and_eq_true, Bool.false_eq_true, Nat.lt_add_one, imp_self, implies_true, not_true_eq_false, not_false_eq_true, ne_eq, Bool.true_eq_false, Nat.zero_le, Nat.le_refl, and_self, false_implies, q_49, l_49, hT, k3, l_35]
      exact ⟨by omega, r_find 0 (d - 1) _ _ _ _ (by omega) ht (by omega) (by omega) after⟩
    | succ m =>
      have k3 := kd.2.1 (by omega)
      simp only [e_blk_eq, g_go, g_bks, g_bkn, g_gst, g_gsf, e_cl, e_rt, n_0, n_1, n_2, n_3, n_4, n_5, n_6, n_7, n_8, n_9, n_10, n_11, n_12, n_13, n_14, n_15, n_16, n_17, n_18, n_19, n_20, n_21, n_22, n_23, n_24, n_25, n_26, n_27, n_28, n_29, n_30, n_31, n_32, n_33, n_34, n_35, n_36, n_37, n_40, n_41, n_42, n_43, n_44, n_45, n_46, n_50, n_51, n_52, n_53, n_54, n_55, f_ldi, f_lda, f_sti, f_sta, f_inc, f_bin0, f_bin1, f_bin2, f_bin3, f_bin4, f_bin5, f_bin6, f_bin7, f_i2b, f_dup, f_pop, f_dx1, f_if0, f_ic0, f_if1, f_ic1, f_if2, f_ic2, f_if3, f_ic3, f_if4, f_ic4, f_if5, f_ic5, f_ac0, f_ac1, f_nu0, f_nu1, f_sw, f_sw0, f_sw1, f_gti, f_gta, f_pti, f_pta, f_ptz, f_new, f_nwa, f_ild, f_ist, f_bld, f_bst, f_ald, f_ast, f_len, f_cst, f_oin, f_gcl, f_ord, f_mm0, f_mm1, f_cpy, f_re0, f_re1, f_rea, f_rev, f_t50, f_t51, f_t52, f_t53, f_t54, f_t55, f_st, f_sd, f_s2, f_sn, e_in, e_ent, e_inR, Nat.reduceLT, Nat.reduceEqDiff, reduceIte, Nat.reduceBEq, List.length_cons, List.length_nil, List.map_cons, List.map_nil, List.replicate, List.cons_append, List.nil_append, List.append_nil, List.getElem?_cons_zero, List.getElem?_cons_succ, List.getElem?_nil, List.set_cons_zero, List.set_cons_succ, List.take_succ_cons, List.take_zero, List.take_nil, List.drop_succ_cons, List.drop_zero, List.drop_nil, List.reverse_cons, List.reverse_nil, Option.toList_some, Option.toList_none, Int.reduceToNat, hk_pt, hl_pt, hz_pt, hs_pt, hv_same, hv_ne, hv_na, hz_nw, hs_nw, hk_newS, hl_newS, hv_newS, Int.reduceEq, Int.reduceNe, Int.reduceLE, Int.reduceLT, Int.reduceAdd, Int.reduceSub, Int.reduceMul, Int.reduceNeg, Nat.reduceAdd, Nat.reduceSub, Nat.reduceLeDiff, Bool.or_false, Bool.false_or, Bool.or_true, Bool.true_or, or_self, or_false, false_or, true_or, or_true, and_true, true_and, forall_const, decide_eq_true_eq, decide_eq_false_iff_not, Bool.and_eq_true, Bool.false_eq_true, Nat.lt_add_one, imp_self, implies_true, not_true_eq_false, not_false_eq_true, ne_eq, Bool.true_eq_false, Nat.zero_le, Nat.le_refl, and_self, false_implies, q_49, l_49, hT, k3, l_33]
      exact ⟨by omega, r_find (m + 1) (d - 1) _ _ _ _ (by omega) ht (by omega) (by omega) after⟩
set_option maxRecDepth 100000 in
set_option maxHeartbeats 4000000 in
theorem r_build {d : Nat} {V : E_K} {h : E_H} {Q : Option E_V → E_H → Prop} (hd : 13 ≤ d) (hS : k_S h) (hY : k_Y h) (hP : k_pgs h V) (h99 : ∀ x : Int, 0 ≤ x → x < 24 → m_keyAt V x ≤ 99)
    (K : ∀ h', f_m (k_tr h) h h' → k_Y h' → k_R h' (m_place V) → h_sz h' ≤ h_sz h + 800 → h_sl h' ≤ h_sl h + 3000 → Q none h') : e_wpm d 49 [.inr 16] h Q := by
  have hT := hS.1
  unfold k_T at hT
  have hZ := hS.2.2.1
  have hz := hS.2.2.2.1
  have n16 := hS.n16
  have loop : ∀ (r n : Nat) (h1 : E_H) (l2 : Option E_V), n + r = 24 → f_m (k_tr h) h h1 → k_Y h1 → k_R h1 (t_fd V n) → h_sz h1 ≤ h_sz h + 10 + 30 * n → h_sl h1 ≤ h_sl h + 20 + 120 * n → e_wpc d 49 18 [some (.inr 16), some (.inl (n : Int)), l2] [] h1 Q := by
    intro r
    induction r with
    | zero =>
      intro n h1 l2 hn f1 Y1 R1 s1 s2
      have S1 : k_S h1 := hS.fr (f1.tA hS)
      have hT1 := S1.1
      unfold k_T at hT1
      obtain ⟨x, hx⟩ : ∃ x : Int, x = n := ⟨n, rfl⟩
      rw [← hx]
      refine e_wpc_blk 100 [18] ?_
      simp only [e_blk_eq, g_go, g_bks, g_bkn, g_gst, g_gsf, e_cl, e_rt, n_0, n_1, n_2, n_3, n_4, n_5, n_6, n_7, n_8, n_9, n_10, n_11, n_12, n_13, n_14, n_15, n_16, n_17, n_18, n_19, n_20, n_21, n_22, n_23, n_24, n_25, n_26, n_27, n_28, n_29, n_30, n_31, n_32, n_33, n_34, n_35, n_36, n_37, n_40, n_41, n_42, n_43, n_44, n_45, n_46, n_50, n_51, n_52, n_53, n_54, n_55, f_ldi, f_lda, f_sti, f_sta, f_inc, f_bin0, f_bin1, f_bin2, f_bin3, f_bin4, f_bin5, f_bin6, f_bin7, f_i2b, f_dup, f_pop, f_dx1, f_if0, f_ic0, f_if1, f_ic1, f_if2, f_ic2, f_if3, f_ic3, f_if4, f_ic4, f_if5, f_ic5, f_ac0, f_ac1, f_nu0, f_nu1, f_sw, f_sw0, f_sw1, f_gti, f_gta, f_pti, f_pta, f_ptz, f_new, f_nwa, f_ild, f_ist, f_bld, f_bst, f_ald, f_ast, f_len, f_cst, f_oin, f_gcl, f_ord, f_mm0, f_mm1, f_cpy, f_re0, f_re1, f_rea, f_rev, f_t50, f_t51, f_t52, f_t53, f_t54, f_t55, f_st, f_sd, f_s2, f_sn, e_in, e_ent, e_inR, Nat.reduceLT, Nat.reduceEqDiff, reduceIte, Nat.reduceBEq, List.length_cons, List.length_nil, List.map_cons, List.map_nil, List.replicate, List.cons_append, List.nil_append, List.append_nil, List.getElem?_cons_zero, List.getElem?_cons_succ, List.getElem?_nil, List.set_cons_zero, List.set_cons_succ, List.take_succ_cons, List.take_zero, List.take_nil, List.drop_succ_cons, List.drop_zero, List.drop_nil, List.reverse_cons, List.reverse_nil, Option.toList_some, Option.toList_none, Int.reduceToNat, hk_pt, hl_pt, hz_pt, hs_pt, hv_same, hv_ne, hv_na, hz_nw, hs_nw, hk_newS, hl_newS, hv_newS, Int.reduceEq, Int.reduceNe, Int.reduceLE, Int.reduceLT, Int.reduceAdd, Int.reduceSub, Int.reduceMul, Int.reduceNeg, Nat.reduceAdd, Nat.reduceSub, Nat.reduceLeDiff, Bool.or_false, Bool.false_or, Bool.or_true, Bool.true_or, or_self, or_false, false_or, true_or, or_true, and_true, true_and, forall_const, decide_eq_true_eq, decide_eq_false_iff_not, Bool.and_eq_true, Bool.false_eq_true, Nat.lt_add_one, imp_self, implies_true, not_true_eq_false, not_false_eq_true, ne_eq, Bool.true_eq_false, Nat.zero_le, Nat.le_refl, and_self, false_implies, q_49, l_49, hT1, l_36, x4]
      have e24 : n = 24 := by omega
      rw [e24] at R1
      refine ⟨fun z => K h1 f1 Y1 R1 (by omega) (by omega), fun z => by omega⟩
    | succ r ih =>
      intro n h1 l2 hn f1 Y1 R1 s1 s2
      have S1 : k_S h1 := hS.fr (f1.tA hS)
      refine c_bl_s hd S1 Y1 (hP.tr hS f1) R1 (by omega) (h99 n (by omega) (by omega)) (fun h2 l2 f2 Y2 R2 t1 t2 => ?_)
      have := ih (n + 1) h2 l2 (by omega) (f1.ttr f2) Y2 R2 (by omega) (by omega)
      rw [show ((n + 1 : Nat) : Int) = (n : Int) + 1 by omega] at this
      exact this
  refine e_wpm_blk 100 [18] ?_
  simp only [e_blk_eq, g_go, g_bks, g_bkn, g_gst, g_gsf, e_cl, e_rt, n_0, n_1, n_2, n_3, n_4, n_5, n_6, n_7, n_8, n_9, n_10, n_11, n_12, n_13, n_14, n_15, n_16, n_17, n_18, n_19, n_20, n_21, n_22, n_23, n_24, n_25, n_26, n_27, n_28, n_29, n_30, n_31, n_32, n_33, n_34, n_35, n_36, n_37, n_40, n_41, n_42, n_43, n_44, n_45, n_46, n_50, n_51, n_52, n_53, n_54, n_55, f_ldi, f_lda, f_sti, f_sta, f_inc, f_bin0, f_bin1, f_bin2, f_bin3, f_bin4, f_bin5, f_bin6, f_bin7, f_i2b, f_dup, f_pop, f_dx1, f_if0, f_ic0, f_if1, f_ic1, f_if2, f_ic2, f_if3, f_ic3, f_if4, f_ic4, f_if5, f_ic5, f_ac0, f_ac1, f_nu0, f_nu1, f_sw, f_sw0, f_sw1, f_gti, f_gta, f_pti, f_pta, f_ptz, f_new, f_nwa, f_ild, f_ist, f_bld, f_bst, f_ald, f_ast, f_len, f_cst, f_oin, f_gcl, f_ord, f_mm0, f_mm1, f_cpy, f_re0, f_re1, f_rea, f_rev, f_t50, f_t51, f_t52, f_t53, f_t54, f_t55, f_st, f_sd, f_s2, f_sn, e_in, e_ent, e_inR, Nat.reduceLT, Nat.reduceEqDiff, reduceIte, Nat.reduceBEq, List.length_cons, List.length_nil, List.map_cons, List.map_nil, List.replicate, List.cons_append, List.nil_append, List.append_nil, List.getElem?_cons_zero, List.getElem?_cons_succ, List.getElem?_nil, List.set_cons_zero, List.set_cons_succ, List.take_succ_cons, List.take_zero, List.take_nil, List.drop_succ_cons, List.drop_zero, List.drop_nil, List.reverse_cons, List.reverse_nil, Option.toList_some, Option.toList_none, Int.reduceToNat, hk_pt, hl_pt, hz_pt, hs_pt, hv_same, hv_ne, hv_na, hz_nw, hs_nw, hk_newS, hl_newS, hv_newS, Int.reduceEq, Int.reduceNe, Int.reduceLE, Int.reduceLT, Int.reduceAdd, Int.reduceSub, Int.reduceMul, Int.reduceNeg, Nat.reduceAdd, Nat.reduceSub, Nat.reduceLeDiff, Bool.or_false, Bool.false_or, Bool.or_true, Bool.true_or, or_self, or_false, false_or, true_or, or_true, and_true, true_and, forall_const, decide_eq_true_eq, decide_eq_false_iff_not, Bool.and_eq_true, Bool.false_eq_true, Nat.lt_add_one, imp_self, implies_true, not_true_eq_false, not_false_eq_true, ne_eq, Bool.true_eq_false, Nat.zero_le, Nat.le_refl, and_self, false_implies, q_49, l_49, hT, l_4]
  refine ⟨by omega, by omega, r_linit (by omega) hZ (by omega) (fun h1 f1 L1 e1 s1 s2 => ?_)⟩
  have T1 : h_kd h1 16 = 1 := by rw [(f1.2.1 16 (by omega)).1]; exact n16
  generalize hr : h_sz h = r at *
  simp only [e_blk_eq, g_go, g_bks, g_bkn, g_gst, g_gsf, e_cl, e_rt, n_0, n_1, n_2, n_3, n_4, n_5, n_6, n_7, n_8, n_9, n_10, n_11, n_12, n_13, n_14, n_15, n_16, n_17, n_18, n_19, n_20, n_21, n_22, n_23, n_24, n_25, n_26, n_27, n_28, n_29, n_30, n_31, n_32, n_33, n_34, n_35, n_36, n_37, n_40, n_41, n_42, n_43, n_44, n_45, n_46, n_50, n_51, n_52, n_53, n_54, n_55, f_ldi, f_lda, f_sti, f_sta, f_inc, f_bin0, f_bin1, f_bin2, f_bin3, f_bin4, f_bin5, f_bin6, f_bin7, f_i2b, f_dup, f_pop, f_dx1, f_if0, f_ic0, f_if1, f_ic1, f_if2, f_ic2, f_if3, f_ic3, f_if4, f_ic4, f_if5, f_ic5, f_ac0, f_ac1, f_nu0, f_nu1, f_sw, f_sw0, f_sw1, f_gti, f_gta, f_pti, f_pta, f_ptz, f_new, f_nwa, f_ild, f_ist, f_bld, f_bst, f_ald, f_ast, f_len, f_cst, f_oin, f_gcl, f_ord, f_mm0, f_mm1, f_cpy, f_re0, f_re1, f_rea, f_rev, f_t50, f_t51, f_t52, f_t53, f_t54, f_t55, f_st, f_sd, f_s2, f_sn, e_in, e_ent, e_inR, Nat.reduceLT, Nat.reduceEqDiff, reduceIte, Nat.reduceBEq, List.length_cons, List.length_nil, List.map_cons, List.map_nil, List.replicate, List.cons_append, List.nil_append, List.append_nil, List.getElem?_cons_zero, List.getElem?_cons_succ, List.getElem?_nil, List.set_cons_zero, List.set_cons_succ, List.take_succ_cons, List.take_zero, List.take_nil, List.drop_succ_cons, List.drop_zero, List.drop_nil, List.reverse_cons, List.reverse_nil, Option.toList_some, Option.toList_none, Int.reduceToNat, hk_pt, hl_pt, hz_pt, hs_pt, hv_same, hv_ne, hv_na, hz_nw, hs_nw, hk_newS, hl_newS, hv_newS, Int.reduceEq, Int.reduceNe, Int.reduceLE, Int.reduceLT, Int.reduceAdd, Int.reduceSub, Int.reduceMul, Int.reduceNeg, Nat.reduceAdd, Nat.reduceSub, Nat.reduceLeDiff, Bool.or_false, Bool.false_or, Bool.or_true, Bool.true_or, or_self, or_false, false_or, true_or, or_true, and_true, true_and, forall_const, decide_eq_true_eq, decide_eq_false_iff_not, Bool.and_eq_true, Bool.false_eq_true, Nat.lt_add_one, imp_self, implies_true, not_true_eq_false, not_false_eq_true, ne_eq, Bool.true_eq_false, Nat.zero_le, Nat.le_refl, and_self, false_implies, q_49, l_49, T1]
  generalize hh : h_put (h_put h1 16 17 r) 16 18 0 = h2
  have f2 : f_m (k_tr h) h h2 := by
    rw [← hh]
    exact ((f1.mono (fun _ _ _ z => z.elim)).put (fun _ => Or.inl (by omega))).put (fun _ => Or.inl (by omega))
  have Z1 : k_Z h1 := f1.1.2
  have Y1 : k_Y h1 := hY.nw hZ f1 (by omega) (Or.inl (by rw [hr]; exact ⟨L1.1.1, L1.1.2.2.2.1, L1.1.2.2.2.2.2.1⟩))
  have Y2 : k_Y h2 := by
    rw [← hh]
    exact Y1.fs (c := fun _ _ _ => True) Z1 (((f_s.rf Z1).put (fun _ => trivial)).put (fun _ => trivial))
  have v2 : ∀ b j : Int, b ≠ 16 → h_vl h2 b j = h_vl h1 b j := fun b j hb => by rw [← hh, hv_na hb, hv_na hb]
  refine loop 24 0 h2 _ (by omega) f2 Y2 ⟨fun _ => 0, fun _ => -3000000000, 0, by rw [← hh, hv_same]; rfl, ?_⟩ (by rw [← hh]; show h_sz h1 ≤ _; omega) (by rw [← hh]; show h_sl h1 ≤ _; omega)
  rw [show h_vl h2 16 17 = r by rw [← hh, hv_ne (by omega), hv_same]]
  have L2 : t_L h2 r := by
    rw [← hh]
    exact (L1.put (by omega)).put (by omega)
  refine ⟨L2, ⟨rfl, rfl⟩, by omega, by rw [v2 _ _ (by omega), e1]; omega, ?_⟩
  rw [v2 _ _ (by omega), e1]
  exact ⟨fun i i1 i2 => by omega, fun i j i1 i2 i3 => by omega, fun k k1 k2 k3 => by
    exfalso
    apply k3
    unfold t_fd
    split <;> rfl⟩
