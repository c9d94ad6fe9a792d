/-! ===== the component, 14: enter, seen, build ===== -/
def k_R (h : E_H) (f : Int → Int) : Prop := ∃ (lv lw : Int → Int) (m : Nat), h_vl h 16 18 = m ∧ t_f h lv lw f m (h_vl h 16 17) (-3000000000) 3000000000
def k_tr (h : E_H) (k b j : Int) : Prop := (k = 1 ∧ b = 16 ∧ (j = 17 ∨ j = 18)) ∨ ((k = 3 ∨ k = 10) ∧ j = 2) ∨ (k = 27 ∧ h_kd h (b - 1) = 10) ∨ (k = 20 ∧ (h_kd h (b - 1) = 3 ∨ h_kd h (b - 2) = 3 ∨ h_kd h (b - 2) = 10))
theorem k_tr.cs {h : E_H} {lv lw : Int → Int} {m lo hi k b j : Int} (z : t_cs h lv lw m lo hi k b j) : k_tr h k b j := by
  rcases z with z | z | z
  · exact Or.inr (Or.inl ⟨z.1, z.2.1⟩)
  · exact Or.inr (Or.inr (Or.inl ⟨z.1, z.2.1⟩))
  · refine Or.inr (Or.inr (Or.inr ⟨z.1, ?_⟩))
    rcases z.2 with w | w
    · exact Or.inl w.1
    · exact Or.inr w.1
theorem k_S.tk {h : E_H} (hS : k_S h) {b : Int} (hb : 44 ≤ b ∧ b ≤ 71) : h_kd h b = 11 ∨ (20 ≤ h_kd h b ∧ h_kd h b ≤ 22) := by
  have M := hS.2.2.2.2.1
  have : b = 44 ∨ b = 45 ∨ b = 46 ∨ b = 47 ∨ b = 48 ∨ b = 49 ∨ b = 50 ∨ b = 51 ∨ b = 52 ∨ b = 53 ∨ b = 54 ∨ b = 55 ∨ b = 56 ∨ b = 57 ∨ b = 58 ∨ b = 59 ∨ b = 60 ∨ b = 61 ∨ b = 62 ∨ b = 63 ∨ b = 64 ∨ b = 65 ∨ b = 66 ∨ b = 67 ∨ b = 68 ∨ b = 69 ∨ b = 70 ∨ b = 71 := by omega
  unfold m_T at M
  rcases this with z | z | z | z | z | z | z | z | z | z | z | z | z | z | z | z | z | z | z | z | z | z | z | z | z | z | z | z <;> (rw [z]; omega)
theorem f_m.tA {h h' : E_H} (hS : k_S h) (h1 : f_m (k_tr h) h h') : f_m k_A h h' := by
  refine ⟨h1.1, h1.2.1, fun a j ha hn => ?_⟩
  by_cases hc : k_tr h (h_kd h a) a j
  · exfalso
    apply hn
    have tk := @k_S.tk h hS
    have n16 := hS.n16
    have t17 := hS.1.2.2.2.2.2.2.2.1
    have p41 := (hS.pg (g := 5) (by omega)).2.2.2.2.2.2.2.1
    have p42 := (hS.pg (g := 5) (by omega)).2.2.2.2.2.1
    have e43 : (28 + 3 * 5 : Int) = 43 := by omega
    have e42 : (27 + 3 * 5 : Int) = 42 := by omega
    rw [e43] at p41
    rw [e42] at p42
    have tw : ¬ (44 ≤ a ∧ a ≤ 71) := by
      intro z
      have t0 := tk z
      unfold k_tr at hc
      have q1 : h_kd h (a - 1) ≠ 3 ∧ h_kd h (a - 1) ≠ 10 := by
        by_cases hb : 44 ≤ a - 1
        · have := tk (b := a - 1) (by omega); omega
        · rw [show a - 1 = 43 by omega]; omega
      have q2 : h_kd h (a - 2) ≠ 3 ∧ h_kd h (a - 2) ≠ 10 := by
        by_cases hb : 44 ≤ a - 2
        · have := tk (b := a - 2) (by omega); omega
        · have : a - 2 = 43 ∨ a - 2 = 42 := by omega
          rcases this with w | w <;> (rw [w]; omega)
      omega
    unfold k_tr at hc
    refine ⟨by omega, fun z => ?_, fun z => ?_, fun z => by omega, by omega, fun z => by omega⟩
    · rw [z, t17] at hc; omega
    · rw [z, n16] at hc; omega
  · exact h1.2.2 a j ha hc
/-- the tree is low -/
theorem t_ht {h : E_H} {lv lw f : Int → Int} : ∀ {m : Nat} {a lo hi : Int}, t_f h lv lw f m a lo hi → lo ≤ 99 → 0 ≤ hi → (2 : Int) ^ m ≤ (if hi < 100 then hi else 100) - (if lo < -1 then -1 else lo) := by
  intro m
  induction m with
  | zero =>
    intro a lo hi ht h1 h2
    have := ht.kd.2.2.2.1
    rw [Int.pow_zero]
    split <;> split <;> omega
  | succ m ih =>
    intro a lo hi ht h1 h2
    obtain ⟨t1, t2, t3, t4, t5, t6, t7⟩ := ht
    have e0 : t_lo h a lo 0 = lo := by unfold t_lo; rw [if_pos rfl]
    have en : t_hi h a hi (h_vl h a 2) (h_vl h a 2 - 1) = hi := by unfold t_hi; rw [if_pos (by omega)]
    have e1 : t_hi h a hi (h_vl h a 2) 0 = h_vl h (a + 2) 1 := by unfold t_hi; rw [if_neg (by omega)]; rfl
    have e2 : t_lo h a lo (h_vl h a 2 - 1) = h_vl h (a + 2) (h_vl h a 2 - 1) := by unfold t_lo; rw [if_neg (by omega)]
    have a1 := ih (t7 0 (by omega) (by omega))
    have a2 := ih (t7 (h_vl h a 2 - 1) (by omega) (by omega))
    have b1 := t5 1 (by omega) (by omega)
    have b2 := t5 (h_vl h a 2 - 1) (by omega) (by omega)
    rw [e0, e1] at a1
    rw [e2, en] at a2
    have c1 := a1 h1 b1.1
    have c2 := a2 b2.2 h2
    have cr := t_in t6 0 (h_vl h a 2 - 1) (by omega) (by omega) (by omega)
    rw [e1, e2] at cr
    have l0 := t6 0 (by omega) (by omega)
    have ln := t6 (h_vl h a 2 - 1) (by omega) (by omega)
    rw [e0, e1] at l0
    rw [e2, en] at ln
    rw [Int.pow_succ]
    rw [if_pos (by omega)] at c1
    rw [if_neg (show ¬ h_vl h (a + 2) (h_vl h a 2 - 1) < -1 by omega)] at c2
    split <;> split <;> rename_i z1 z2
    · rw [if_pos z2] at c1; rw [if_pos z1] at c2; omega
    · rw [if_neg z2] at c1; rw [if_pos z1] at c2; omega
    · rw [if_pos z2] at c1; rw [if_neg z1] at c2; omega
    · rw [if_neg z2] at c1; rw [if_neg z1] at c2; omega
theorem t_ht6 {h : E_H} {lv lw f : Int → Int} {m : Nat} {a : Int} (ht : t_f h lv lw f m a (-3000000000) 3000000000) : m ≤ 6 := by
  have w := t_ht ht (by omega) (by omega)
  rw [if_neg (by omega), if_pos (by omega)] at w
  rcases Nat.lt_or_ge 6 m with z | z
  · exfalso
    have q : 2 ^ 7 ≤ 2 ^ m := Nat.pow_le_pow_right (by omega) z
    have e : ((2 ^ m : Nat) : Int) = (2 : Int) ^ m := by rw [Int.natCast_pow]; rfl
    have e7 : 2 ^ 7 = 128 := by decide
    omega
  · exact z
set_option maxRecDepth 100000 in
set_option maxHeartbeats 4000000 in
theorem r_low {lv lw f : Int → Int} {m M : Nat} {r mid hi : Int} {h : E_H} {Q : Option E_V → E_H → Prop} (hM : 1 ≤ M) (tr : t_f h lv lw f m r mid hi) (lw5 : h_vl h (if m = 0 then r + 1 else r + 2) 0 = mid) (hq : Q (some (.inl mid)) h) : e_wpm M (t_m m 54 53) [.inr r] h Q := by
  cases m with
  | zero =>
    have Lr := tr.1.1
    rw [if_pos rfl] at lw5
    show e_wpm M 54 _ h Q
    refine e_wpm_blk 100 [] ?_
    simp only [e_blk_eq, g_go, g_bks, g_bkn, g_gst, g_gsf, e_cl, e_rt, n_0, n_1, n_2, n_3, n_4, n_5, n_6, n_7, n_8, n_9, n_10, n_11, n_12, n_13, n_14, n_15, n_16, n_17, n_18, n_19, n_20, n_21, n_22, n_23, n_24, n_25, n_26, n_27, n_28, n_29, n_30, n_31, n_32, n_33, n_34, n_35, n_36, n_37, n_40, n_41, n_42, n_43, n_44, n_45, n_46, n_50, n_51, n_52, n_53, n_54, n_55, f_ldi, f_lda, f_sti, f_sta, f_inc, f_bin0, f_bin1, f_bin2, f_bin3, f_bin4, f_bin5, f_bin6, f_bin7, f_i2b, f_dup, f_pop, f_dx1, f_if0, f_ic0, f_if1, f_ic1, f_if2, f_ic2, f_if3, f_ic3, f_if4, f_ic4, f_if5, f_ic5, f_ac0, f_ac1, f_nu0, f_nu1, f_sw, f_sw0, f_sw1, f_gti, f_gta, f_pti, f_pta, f_ptz, f_new, f_nwa, f_ild, f_ist, f_bld, f_bst, f_ald, f_ast, f_len, f_cst, f_oin, f_gcl, f_ord, f_mm0, f_mm1, f_cpy, f_re0, f_re1, f_rea, f_rev, f_t50, f_t51, f_t52, f_t53, f_t54, f_t55, f_st, f_sd, f_s2, f_sn, e_in, e_ent, e_inR, Nat.reduceLT, Nat.reduceEqDiff, reduceIte, Nat.reduceBEq, List.length_cons, List.length_nil, List.map_cons, List.map_nil, List.replicate, List.cons_append, List.nil_append, List.append_nil, List.getElem?_cons_zero, List.getElem?_cons_succ, List.getElem?_nil, List.set_cons_zero, List.set_cons_succ, List.take_succ_cons, List.take_zero, List.take_nil, List.drop_succ_cons, List.drop_zero, List.drop_nil, List.reverse_cons, List.reverse_nil, Option.toList_some, Option.toList_none, Int.reduceToNat, hk_pt, hl_pt, hz_pt, hs_pt, hv_same, hv_ne, hv_na, hz_nw, hs_nw, hk_newS, hl_newS, hv_newS, Int.reduceEq, Int.reduceNe, Int.reduceLE, Int.reduceLT, Int.reduceAdd, Int.reduceSub, Int.reduceMul, Int.reduceNeg, Nat.reduceAdd, Nat.reduceSub, Nat.reduceLeDiff, Bool.or_false, Bool.false_or, Bool.or_true, Bool.true_or, or_self, or_false, false_or, true_or, or_true, and_true, true_and, forall_const, decide_eq_true_eq, decide_eq_false_iff_not, Bool.and_eq_true, Bool.false_eq_true, Nat.lt_add_one, imp_self, implies_true, not_true_eq_false, not_false_eq_true, ne_eq, Bool.true_eq_false, Nat.zero_le, Nat.le_refl, and_self, false_implies, q_54, l_54, Lr, lw5]
    exact hq
  | succ m =>
    have Lr := tr.1.1
    rw [if_neg (by omega)] at lw5
    show e_wpm M 53 _ h Q
    refine e_wpm_blk 100 [] ?_
    simp only [e_blk_eq, g_go, g_bks, g_bkn, g_gst, g_gsf, e_cl, e_rt, n_0, n_1, n_2, n_3, n_4, n_5, n_6, n_7, n_8, n_9, n_10, n_11, n_12, n_13, n_14, n_15, n_16, n_17, n_18, n_19, n_20, n_21, n_22, n_23, n_24, n_25, n_26, n_27, n_28, n_29, n_30, n_31, n_32, n_33, n_34, n_35, n_36, n_37, n_40, n_41, n_42, n_43, n_44, n_45, n_46, n_50, n_51, n_52, n_53, n_54, n_55, f_ldi, f_lda, f_sti, f_sta, f_inc, f_bin0, f_bin1, f_bin2, f_bin3, f_bin4, f_bin5, f_bin6, f_bin7, f_i2b, f_dup, f_pop, f_dx1, f_if0, f_ic0, f_if1, f_ic1, f_if2, f_ic2, f_if3, f_ic3, f_if4, f_ic4, f_if5, f_ic5, f_ac0, f_ac1, f_nu0, f_nu1, f_sw, f_sw0, f_sw1, f_gti, f_gta, f_pti, f_pta, f_ptz, f_new, f_nwa, f_ild, f_ist, f_bld, f_bst, f_ald, f_ast, f_len, f_cst, f_oin, f_gcl, f_ord, f_mm0, f_mm1, f_cpy, f_re0, f_re1, f_rea, f_rev, f_t50, f_t51, f_t52, f_t53, f_t54, f_t55, f_st, f_sd, f_s2, f_sn, e_in, e_ent, e_inR, Nat.reduceLT, Nat.reduceEqDiff, reduceIte, Nat.reduceBEq, List.length_cons, List.length_nil, List.map_cons, List.map_nil, List.replicate, List.cons_append, List.nil_append, List.append_nil, List.getElem?_cons_zero, List.getElem?_cons_succ, List.getElem?_nil, List.set_cons_zero, List.set_cons_succ, List.take_succ_cons, List.take_zero, List.take_nil, List.drop_succ_cons, List.drop_zero, List.drop_nil, List.reverse_cons, List.reverse_nil, Option.toList_some, Option.toList_none, Int.reduceToNat, hk_pt, hl_pt, hz_pt, hs_pt, hv_same, hv_ne, hv_na, hz_nw, hs_nw, hk_newS, hl_newS, hv_newS, Int.reduceEq, Int.reduceNe, Int.reduceLE, Int.reduceLT, Int.reduceAdd, Int.reduceSub, Int.reduceMul, Int.reduceNeg, Nat.reduceAdd, Nat.reduceSub, Nat.reduceLeDiff, Bool.or_false, Bool.false_or, Bool.or_true, Bool.true_or, or_self, or_false, false_or, true_or, or_true, and_true, true_and, forall_const, decide_eq_true_eq, decide_eq_false_iff_not, Bool.and_eq_true, Bool.false_eq_true, Nat.lt_add_one, imp_self, implies_true, not_true_eq_false, not_false_eq_true, ne_eq, Bool.true_eq_false, Nat.zero_le, Nat.le_refl, and_self, false_implies, q_53, l_53, Lr, lw5]
    exact hq
set_option maxRecDepth 100000 in
set_option maxHeartbeats 4000000 in
theorem r_enter_f {d : Nat} {key p : Int} {f lv lw lv1 lw1 : Int → Int} {m : Nat} {r : Int} {h h1 : E_H} {Q : Option E_V → E_H → Prop} (hd : 12 ≤ d) (hS : k_S h) (hY : k_Y h) (r1 : h_vl h 16 18 = m) (ht : t_f h lv lw f m (h_vl h 16 17) (-3000000000) 3000000000) (m6 : m ≤ 6) (K : ∀ h', f_m (k_tr h) h h' → k_Y h' → k_R h' (t_up f key p) → h_sz h' ≤ h_sz h + 30 → h_sl h' ≤ h_sl h + 120 → Q none h') (g1 : ∀ b : Int, b < h_sz h → lv1 b = lv b ∧ lw1 b = lw b) (f1 : f_m (t_cs h lv lw m (-3000000000) 3000000000) h h1) (Y1 : k_Y h1) (s1 : h_sz h1 ≤ h_sz h + 3 * (m + 1)) (sl1 : h_sl h1 ≤ h_sl h + 13 * (m + 1)) (pt : t_pt h h1 lv1 lw1 (t_up f key p) m (h_vl h 16 17) (-3000000000) 3000000000 r) : e_bk [] d 48 Q 86 38 [some (.inr 16), some (.inl key), some (.inl p), none, none] [] (some (.inr r)) h1 := by
  have hZ := hS.2.2.1
  have hz := hS.2.2.2.1
  have n16 := hS.n16
  have f1' : f_m (k_tr h) h h1 := f1.mono (fun _ _ _ z => k_tr.cs z)
  have S1 : k_S h1 := hS.fr (f1'.tA hS)
  have Z1 := S1.2.2.1
  have e16 : ∀ j, h_vl h1 16 j = h_vl h 16 j := fun j => f1.vl hZ n16 (by omega) (by unfold t_cs; omega)
  rcases pt with ⟨r0, tt⟩ | ⟨rs, mid, m1, m2, tl, tr, lw5⟩
  · rw [r0]
    simp only [e_blk_eq, g_go, g_bks, g_bkn, g_gst, g_gsf, e_cl, e_rt, n_0, n_1, n_2, n_3, n_4, n_5, n_6, n_7, n_8, n_9, n_10, n_11, n_12, n_13, n_14, n_15, n_16, n_17, n_18, n_19, n_20, n_21, n_22, n_23, n_24, n_25, n_26, n_27, n_28, n_29, n_30, n_31, n_32, n_33, n_34, n_35, n_36, n_37, n_40, n_41, n_42, n_43, n_44, n_45, n_46, n_50, n_51, n_52, n_53, n_54, n_55, f_ldi, f_lda, f_sti, f_sta, f_inc, f_bin0, f_bin1, f_bin2, f_bin3, f_bin4, f_bin5, f_bin6, f_bin7, f_i2b, f_dup, f_pop, f_dx1, f_if0, f_ic0, f_if1, f_ic1, f_if2, f_ic2, f_if3, f_ic3, f_if4, f_ic4, f_if5, f_ic5, f_ac0, f_ac1, f_nu0, f_nu1, f_sw, f_sw0, f_sw1, f_gti, f_gta, f_pti, f_pta, f_ptz, f_new, f_nwa, f_ild, f_ist, f_bld, f_bst, f_ald, f_ast, f_len, f_cst, f_oin, f_gcl, f_ord, f_mm0, f_mm1, f_cpy, f_re0, f_re1, f_rea, f_rev, f_t50, f_t51, f_t52, f_t53, f_t54, f_t55, f_st, f_sd, f_s2, f_sn, e_in, e_ent, e_inR, Nat.reduceLT, Nat.reduceEqDiff, reduceIte, Nat.reduceBEq, List.length_cons, List.length_nil, List.map_cons, List.map_nil, List.replicate, List.cons_append, List.nil_append, List.append_nil, List.getElem?_cons_zero, List.getElem?_cons_succ, List.getElem?_nil, List.set_cons_zero, List.set_cons_succ, List.take_succ_cons, List.take_zero, List.take_nil, List.drop_succ_cons, List.drop_zero, List.drop_nil, List.reverse_cons, List.reverse_nil, Option.toList_some, Option.toList_none, Int.reduceToNat, hk_pt, hl_pt, hz_pt, hs_pt, hv_same, hv_ne, hv_na, hz_nw, hs_nw, hk_newS, hl_newS, hv_newS, Int.reduceEq, Int.reduceNe, Int.reduceLE, Int.reduceLT, Int.reduceAdd, Int.reduceSub, Int.reduceMul, Int.reduceNeg, Nat.reduceAdd, Nat.reduceSub, Nat.reduceLeDiff, Bool.or_false, Bool.false_or, Bool.or_true, Bool.true_or, or_self, or_false, false_or, true_or, or_true, and_true, true_and, forall_const, decide_eq_true_eq, decide_eq_false_iff_not, Bool.and_eq_true, Bool.false_eq_true, Nat.lt_add_one, imp_self, implies_true, not_true_eq_false, not_false_eq_true, ne_eq, Bool.true_eq_false, Nat.zero_le, Nat.le_refl, and_self, false_implies, q_48, l_48]
    exact K h1 f1' Y1 ⟨lv1, lw1, m, by rw [e16]; exact r1, by rw [e16]; exact tt⟩ (by omega) (by omega)
  · have r00 : ¬ r = 0 := by omega
    have hT1 := S1.1
    unfold k_T at hT1
    have fz := f1.1.1
    generalize hrt : h_vl h 16 17 = rt at *
    have ert : h_vl h1 16 17 = rt := by rw [e16]; exact hrt
    simp only [e_blk_eq, g_go, g_bks, g_bkn, g_gst, g_gsf, e_cl, e_rt, n_0, n_1, n_2, n_3, n_4, n_5, n_6, n_7, n_8, n_9, n_10, n_11, n_12, n_13, n_14, n_15, n_16, n_17, n_18, n_19, n_20, n_21, n_22, n_23, n_24, n_25, n_26, n_27, n_28, n_29, n_30, n_31, n_32, n_33, n_34, n_35, n_36, n_37, n_40, n_41, n_42, n_43, n_44, n_45, n_46, n_50, n_51, n_52, n_53, n_54, n_55, f_ldi, f_lda, f_sti, f_sta, f_inc, f_bin0, f_bin1, f_bin2, f_bin3, f_bin4, f_bin5, f_bin6, f_bin7, f_i2b, f_dup, f_pop, f_dx1, f_if0, f_ic0, f_if1, f_ic1, f_if2, f_ic2, f_if3, f_ic3, f_if4, f_ic4, f_if5, f_ic5, f_ac0, f_ac1, f_nu0, f_nu1, f_sw, f_sw0, f_sw1, f_gti, f_gta, f_pti, f_pta, f_ptz, f_new, f_nwa, f_ild, f_ist, f_bld, f_bst, f_ald, f_ast, f_len, f_cst, f_oin, f_gcl, f_ord, f_mm0, f_mm1, f_cpy, f_re0, f_re1, f_rea, f_rev, f_t50, f_t51, f_t52, f_t53, f_t54, f_t55, f_st, f_sd, f_s2, f_sn, e_in, e_ent, e_inR, Nat.reduceLT, Nat.reduceEqDiff, reduceIte, Nat.reduceBEq, List.length_cons, List.length_nil, List.map_cons, List.map_nil, List.replicate, List.cons_append, List.nil_append, List.append_nil, List.getElem?_cons_zero, List.getElem?_cons_succ, List.getElem?_nil, List.set_cons_zero, List.set_cons_succ, List.take_succ_cons, List.take_zero, List.take_nil, List.drop_succ_cons, List.drop_zero, List.drop_nil, List.reverse_cons, List.reverse_nil, Option.toList_some, Option.toList_none, Int.reduceToNat, hk_pt, hl_pt, hz_pt, hs_pt, hv_same, hv_ne, hv_na, hz_nw, hs_nw, hk_newS, hl_newS, hv_newS, Int.reduceEq, Int.reduceNe, Int.reduceLE, Int.reduceLT, Int.reduceAdd, Int.reduceSub, Int.reduceMul, Int.reduceNeg, Nat.reduceAdd, Nat.reduceSub, Nat.reduceLeDiff, Bool.or_false, Bool.false_or, Bool.or_true, Bool.true_or, or_self, or_false, false_or, true_or, or_true, and_true, true_and, forall_const, decide_eq_true_eq, decide_eq_false_iff_not, Bool.and_eq_true, Bool.false_eq_true, Nat.lt_add_one, imp_self, implies_true, not_true_eq_false, not_false_eq_true, ne_eq, Bool.true_eq_false, Nat.zero_le, Nat.le_refl, and_self, false_implies, q_48, l_48, r00, l_56]
    refine ⟨by omega, by omega, r_iinit (by omega) Z1 (by omega) (fun h2 f2 N2 e2 s2 sl2 => ?_)⟩
    generalize htp : h_sz h1 = tp at *
    have Z2 : k_Z h2 := f2.1.2
    have v2 : ∀ b j : Int, b < tp → h_vl h2 b j = h_vl h1 b j := fun b j hb => f2.2.2 b j (by omega) (fun z => z)
    have k2 : ∀ b : Int, b < tp → h_kd h2 b = h_kd h1 b := fun b hb => (f2.2.1 b (by omega)).1
    have T2 : h_kd h2 16 = 1 := by rw [k2 _ (by omega)]; exact S1.n16
    have ert2 : h_vl h2 16 17 = rt := by rw [v2 _ _ (by omega)]; exact ert
    have N2' := N2.1
    have klr := tl.kd
    have krr := tr.kd
    have kk : ∀ {b lo hi : Int}, t_f h1 lv1 lw1 (t_up f key p) m b lo hi → (h_kd h1 b = 3 ∨ h_kd h1 b = 10) ∧ b < tp := fun {b lo hi} tb => by
      have q := tb.kd
      have q' : h_kd h1 b = 3 ∨ h_kd h1 b = 10 := by
        by_cases hm : m = 0
        · exact Or.inl (q.1 hm)
        · exact Or.inr (q.2.1 hm)
      exact ⟨q', by have := Z1.lt (a := b) (by omega); omega⟩
    have krt := kk tl
    have kr := kk tr
    simp only [e_blk_eq, g_go, g_bks, g_bkn, g_gst, g_gsf, e_cl, e_rt, n_0, n_1, n_2, n_3, n_4, n_5, n_6, n_7, n_8, n_9, n_10, n_11, n_12, n_13, n_14, n_15, n_16, n_17, n_18, n_19, n_20, n_21, n_22, n_23, n_24, n_25, n_26, n_27, n_28, n_29, n_30, n_31, n_32, n_33, n_34, n_35, n_36, n_37, n_40, n_41, n_42, n_43, n_44, n_45, n_46, n_50, n_51, n_52, n_53, n_54, n_55, f_ldi, f_lda, f_sti, f_sta, f_inc, f_bin0, f_bin1, f_bin2, f_bin3, f_bin4, f_bin5, f_bin6, f_bin7, f_i2b, f_dup, f_pop, f_dx1, f_if0, f_ic0, f_if1, f_ic1, f_if2, f_ic2, f_if3, f_ic3, f_if4, f_ic4, f_if5, f_ic5, f_ac0, f_ac1, f_nu0, f_nu1, f_sw, f_sw0, f_sw1, f_gti, f_gta, f_pti, f_pta, f_ptz, f_new, f_nwa, f_ild, f_ist, f_bld, f_bst, f_ald, f_ast, f_len, f_cst, f_oin, f_gcl, f_ord, f_mm0, f_mm1, f_cpy, f_re0, f_re1, f_rea, f_rev, f_t50, f_t51, f_t52, f_t53, f_t54, f_t55, f_st, f_sd, f_s2, f_sn, e_in, e_ent, e_inR, Nat.reduceLT, Nat.reduceEqDiff, reduceIte, Nat.reduceBEq, List.length_cons, List.length_nil, List.map_cons, List.map_nil, List.replicate, List.cons_append, List.nil_append, List.append_nil, List.getElem?_cons_zero, List.getElem?_cons_succ, List.getElem?_nil, List.set_cons_zero, List.set_cons_succ, List.take_succ_cons, List.take_zero, List.take_nil, List.drop_succ_cons, List.drop_zero, List.drop_nil, List.reverse_cons, List.reverse_nil, Option.toList_some, Option.toList_none, Int.reduceToNat, hk_pt, hl_pt, hz_pt, hs_pt, hv_same, hv_ne, hv_na, hz_nw, hs_nw, hk_newS, hl_newS, hv_newS, Int.reduceEq, Int.reduceNe, Int.reduceLE, Int.reduceLT, Int.reduceAdd, Int.reduceSub, Int.reduceMul, Int.reduceNeg, Nat.reduceAdd, Nat.reduceSub, Nat.reduceLeDiff, Bool.or_false, Bool.false_or, Bool.or_true, Bool.true_or, or_self, or_false, false_or, true_or, or_true, and_true, true_and, forall_const, decide_eq_true_eq, decide_eq_false_iff_not, Bool.and_eq_true, Bool.false_eq_true, Nat.lt_add_one, imp_self, implies_true, not_true_eq_false, not_false_eq_true, ne_eq, Bool.true_eq_false, Nat.zero_le, Nat.le_refl, and_self, false_implies, q_48, l_48, T2, ert2, N2', l_55]
    refine ⟨by omega, r_iadd (n := 0) Z2 N2 e2 (by omega) (by omega) (by rw [k2 _ krt.2]; exact krt.1) (fun j j1 j2 => by omega) (fun h3 f3 a1 a2 a3 a4 a5 => ?_)⟩
    have Z3 : k_Z h3 := f3.1.1.2
    have s3 := f3.2.1
    have v3 : ∀ b j : Int, b < tp → h_vl h3 b j = h_vl h1 b j := fun b j hb => by rw [f3.1.2.2 b j (by omega) (fun z => by unfold t_ic at z; omega), v2 b j hb]
    have k3 : ∀ b : Int, b < tp → h_kd h3 b = h_kd h1 b := fun b hb => by rw [(f3.1.2.1 b (by omega)).1, k2 b hb]
    have N3 : t_N h3 tp := N2.fr Z2 f3.1 ⟨fun z => by unfold t_ic at z; omega, fun z => by unfold t_ic at z; omega⟩
    have N3' := N3.1
    have Y2 : k_Y h2 := Y1.nw Z1 f2 (by omega) (Or.inr (by rw [htp]; exact ⟨N2.1.1, N2.1.2.2.2.1, N2.1.2.2.2.2.2.1⟩))
    have Y3 : k_Y h3 := Y2.fs Z2 f3
    have g13 : f_m (fun _ b _ => tp ≤ b) h1 h3 := (f2.mono (fun _ _ _ z => z.elim)).tr (f3.1.mono (fun _ b _ z => by unfold t_ic at z; omega))
    have tr3 : t_f h3 lv1 lw1 (t_up f key p) m r mid 3000000000 := t_f.fr Z1 g13 (fun b _ => ⟨rfl, rfl⟩) tr (fun _ _ _ => rfl) (fun b b1 b2 b3 b4 j => by
      have yb := Y1 b
      have : h_kd h1 (b + 2) ≠ 0 := by omega
      have := Z1.lt this
      omega)
    have lw53 : h_vl h3 (if m = 0 then r + 1 else r + 2) 0 = mid := by
      have yr := Y1 r
      have r2 : h_kd h1 (r + 2) ≠ 0 := by omega
      have := Z1.lt r2
      rw [v3 _ _ (by split <;> omega)]; exact lw5
    have tail : e_bk [] d 48 Q 68 74 [some (.inr 16), some (.inl key), some (.inl p), some (.inr r), some (.inr tp)] [.inr r, .inl 1, .inr tp] (some (.inl mid)) h3 := by
      simp only [e_blk_eq, g_go, g_bks, g_bkn, g_gst, g_gsf, e_cl, e_rt, n_0, n_1, n_2, n_3, n_4, n_5, n_6, n_7, n_8, n_9, n_10, n_11, n_12, n_13, n_14, n_15, n_16, n_17, n_18, n_19, n_20, n_21, n_22, n_23, n_24, n_25, n_26, n_27, n_28, n_29, n_30, n_31, n_32, n_33, n_34, n_35, n_36, n_37, n_40, n_41, n_42, n_43, n_44, n_45, n_46, n_50, n_51, n_52, n_53, n_54, n_55, f_ldi, f_lda, f_sti, f_sta, f_inc, f_bin0, f_bin1, f_bin2, f_bin3, f_bin4, f_bin5, f_bin6, f_bin7, f_i2b, f_dup, f_pop, f_dx1, f_if0, f_ic0, f_if1, f_ic1, f_if2, f_ic2, f_if3, f_ic3, f_if4, f_ic4, f_if5, f_ic5, f_ac0, f_ac1, f_nu0, f_nu1, f_sw, f_sw0, f_sw1, f_gti, f_gta, f_pti, f_pta, f_ptz, f_new, f_nwa, f_ild, f_ist, f_bld, f_bst, f_ald, f_ast, f_len, f_cst, f_oin, f_gcl, f_ord, f_mm0, f_mm1, f_cpy, f_re0, f_re1, f_rea, f_rev, f_t50, f_t51, f_t52, f_t53, f_t54, f_t55, f_st, f_sd, f_s2, f_sn, e_in, e_ent, e_inR, Nat.reduceLT, Nat.reduceEqDiff, reduceIte, Nat.reduceBEq, List.length_cons, List.length_nil, List.map_cons, List.map_nil, List.replicate, List.cons_append, List.nil_append, List.append_nil, List.getElem?_cons_zero, List.getElem?_cons_succ, List.getElem?_nil, List.set_cons_zero, List.set_cons_succ, List.take_succ_cons, List.take_zero, List.take_nil, List.drop_succ_cons, List.drop_zero, List.drop_nil, List.reverse_cons, List.reverse_nil, Option.toList_some, Option.toList_none, Int.reduceToNat, hk_pt, hl_pt, hz_pt, hs_pt, hv_same, hv_ne, hv_na, hz_nw, hs_nw, hk_newS, hl_newS, hv_newS, Int.reduceEq, Int.reduceNe, Int.reduceLE, Int.reduceLT, Int.reduceAdd, Int.reduceSub, Int.reduceMul, Int.reduceNeg, Nat.reduceAdd, Nat.reduceSub, Nat.reduceLeDiff, Bool.or_false, Bool.false_or, Bool.or_true, Bool.true_or, or_self, or_false, false_or, true_or, or_true, and_true, true_and, forall_const, decide_eq_true_eq, decide_eq_false_iff_not, Bool.and_eq_true, Bool.false_eq_true, Nat.lt_add_one, imp_self, implies_true, not_true_eq_false, not_false_eq_true, ne_eq, Bool.true_eq_false, Nat.zero_le, Nat.le_refl, and_self, false_implies, q_48, l_48, N3', l_55]
      refine ⟨by omega, r_iadd (n := 1) Z3 N3 (by rw [a5]; rfl) (by omega) (by omega) (by rw [k3 _ kr.2]; exact kr.1) (fun j j1 j2 => ?_) (fun h4 f4 c1 c2 c3 c4 c5 => ?_)⟩
      · rw [show j = 0 by omega, a2, k3 _ krt.2]; exact krt.1
      · have Z4 : k_Z h4 := f4.1.1.2
        have s4 := f4.2.1
        have v4 : ∀ b j : Int, b < tp → h_vl h4 b j = h_vl h1 b j := fun b j hb => by rw [f4.1.2.2 b j (by omega) (fun z => by unfold t_ic at z; omega), v3 b j hb]
        have T4 : h_kd h4 16 = 1 := by rw [(f4.1.2.1 16 (by omega)).1, k3 _ (by omega)]; exact S1.n16
        obtain ⟨H, hH⟩ : ∃ H : Int, H = m := ⟨m, rfl⟩
        have e18 : h_vl h4 16 18 = H := by rw [v4 _ _ (by omega), e16, hH]; exact r1
        simp only [e_blk_eq, g_go, g_bks, g_bkn, g_gst, g_gsf, e_cl, e_rt, n_0, n_1, n_2, n_3, n_4, n_5, n_6, n_7, n_8, n_9, n_10, n_11, n_12, n_13, n_14, n_15, n_16, n_17, n_18, n_19, n_20, n_21, n_22, n_23, n_24, n_25, n_26, n_27, n_28, n_29, n_30, n_31, n_32, n_33, n_34, n_35, n_36, n_37, n_40, n_41, n_42, n_43, n_44, n_45, n_46, n_50, n_51, n_52, n_53, n_54, n_55, f_ldi, f_lda, f_sti, f_sta, f_inc, f_bin0, f_bin1, f_bin2, f_bin3, f_bin4, f_bin5, f_bin6, f_bin7, f_i2b, f_dup, f_pop, f_dx1, f_if0, f_ic0, f_if1, f_ic1, f_if2, f_ic2, f_if3, f_ic3, f_if4, f_ic4, f_if5, f_ic5, f_ac0, f_ac1, f_nu0, f_nu1, f_sw, f_sw0, f_sw1, f_gti, f_gta, f_pti, f_pta, f_ptz, f_new, f_nwa, f_ild, f_ist, f_bld, f_bst, f_ald, f_ast, f_len, f_cst, f_oin, f_gcl, f_ord, f_mm0, f_mm1, f_cpy, f_re0, f_re1, f_rea, f_rev, f_t50, f_t51, f_t52, f_t53, f_t54, f_t55, f_st, f_sd, f_s2, f_sn, e_in, e_ent, e_inR, Nat.reduceLT, Nat.reduceEqDiff, reduceIte, Nat.reduceBEq, List.length_cons, List.length_nil, List.map_cons, List.map_nil, List.replicate, List.cons_append, List.nil_append, List.append_nil, List.getElem?_cons_zero, List.getElem?_cons_succ, List.getElem?_nil, List.set_cons_zero, List.set_cons_succ, List.take_succ_cons, List.take_zero, List.take_nil, List.drop_succ_cons, List.drop_zero, List.drop_nil, List.reverse_cons, List.reverse_nil, Option.toList_some, Option.toList_none, Int.reduceToNat, hk_pt, hl_pt, hz_pt, hs_pt, hv_same, hv_ne, hv_na, hz_nw, hs_nw, hk_newS, hl_newS, hv_newS, Int.reduceEq, Int.reduceNe, Int.reduceLE, Int.reduceLT, Int.reduceAdd, Int.reduceSub, Int.reduceMul, Int.reduceNeg, Nat.reduceAdd, Nat.reduceSub, Nat.reduceLeDiff, Bool.or_false, Bool.false_or, Bool.or_true, Bool.true_or, or_self, or_false, false_or, true_or, or_true, and_true, true_and, forall_const, decide_eq_true_eq, decide_eq_false_iff_not, Bool.and_eq_true, Bool.false_eq_true, Nat.lt_add_one, imp_self, implies_true, not_true_eq_false, not_false_eq_true, ne_eq, Bool.true_eq_false, Nat.zero_le, Nat.le_refl, and_self, false_implies, q_48, l_48, T4, e18]
        refine ⟨by omega, ?_⟩
        generalize hh : h_put (h_put h4 16 17 tp) 16 18 (H + 1) = h5
        have v5 : ∀ b j : Int, b ≠ 16 → h_vl h5 b j = h_vl h4 b j := fun b j hb => by rw [← hh, hv_na hb, hv_na hb]
        have f5 : f_m (k_tr h) h h5 := by
          have g2 : f_m (fun k b j => k_tr h k b j ∨ tp ≤ b) h h4 := ((f1'.mono (fun _ _ _ z => Or.inl z)).tr (g13.mono (fun _ _ _ z => Or.inr z))).tr (f4.1.mono (fun _ b _ z => Or.inr (by unfold t_ic at z; omega)))
          have g3 : f_m (k_tr h) h h4 := ⟨g2.1, g2.2.1, fun b j hb hn => g2.2.2 b j hb (fun z => by
            rcases z with z | z
            · exact hn z
            · omega)⟩
          rw [← hh]
          exact (g3.put (fun _ => Or.inl (by omega))).put (fun _ => Or.inl (by omega))
        have Y5 : k_Y h5 := by
          rw [← hh]
          exact (Y3.fs Z3 f4).fs (c := fun _ _ _ => True) Z4 (((f_s.rf Z4).put (fun _ => trivial)).put (fun _ => trivial))
        have g15 : f_m (fun _ b _ => tp ≤ b ∨ b = 16) h1 h5 := by
          rw [← hh]
          have gg : f_m (fun _ b _ => tp ≤ b ∨ b = 16) h1 h4 := (g13.mono (fun _ _ _ z => Or.inl z)).tr (f4.1.mono (fun _ b _ z => Or.inl (by unfold t_ic at z; omega)))
          exact (gg.put (fun _ => Or.inr rfl)).put (fun _ => Or.inr rfl)
        have sub : ∀ {b lo hi : Int}, t_f h1 lv1 lw1 (t_up f key p) m b lo hi → t_f h5 (fun b => if b = tp then (m : Int) + 1 else lv1 b) (fun b => if b = tp then -3000000000 else lw1 b) (t_up f key p) m b lo hi := fun {b lo hi} tb => t_f.fr Z1 g15 (fun b hb => ⟨if_neg (by omega), if_neg (by omega)⟩) tb (fun _ _ _ => rfl) (fun b b1 b2 b3 b4 j => by
          have yb := Y1 b
          have : h_kd h1 (b + 2) ≠ 0 := by omega
          have := Z1.lt this
          have hS16 := S1.n16
          have b16 : b ≠ 16 := fun z => by rw [z] at b1; omega
          have b17 : b + 1 ≠ 16 := fun z => by rw [z] at yb; omega
          have b18 : b + 2 ≠ 16 := fun z => by rw [z] at yb; omega
          omega)
        have N5 : t_N h5 tp := by
          rw [← hh]
          exact ((N3.fr Z3 f4.1 ⟨fun z => by unfold t_ic at z; omega, fun z => by unfold t_ic at z; omega⟩).put (by omega)).put (by omega)
        have c10 := c1 0 (by omega) (by omega)
        rw [a2, a3] at c10
        refine K h5 f5 Y5 ⟨fun b => if b = tp then (m : Int) + 1 else lv1 b, fun b => if b = tp then -3000000000 else lw1 b, m + 1, by rw [← hh, hv_same]; omega, ?_⟩ (by rw [← hh]; show h_sz h4 ≤ _; omega) (by rw [← hh]; show h_sl h4 ≤ _; have := f4.2.2; have := f3.2.2; omega)
        rw [show h_vl h5 16 17 = tp by rw [← hh, hv_ne (by omega), hv_same]]
        have el0 : t_lo h5 tp (-3000000000) 0 = -3000000000 := by unfold t_lo; rw [if_pos rfl]
        have el1 : t_lo h5 tp (-3000000000) 1 = mid := by unfold t_lo; rw [if_neg (by omega), v5 _ _ (by omega)]; exact c3
        have eh0 : t_hi h5 tp 3000000000 2 0 = mid := by unfold t_hi; rw [if_neg (by omega), v5 _ _ (by omega)]; exact c3
        have eh1 : t_hi h5 tp 3000000000 2 1 = 3000000000 := by unfold t_hi; rw [if_pos (by omega)]
        refine t_f.of_C (n := 2) N5 ⟨if_pos rfl, if_pos rfl⟩ (by omega) (by rw [v5 _ _ (by omega), c5]; rfl) (by omega) ⟨fun j j1 j2 => ?_, fun j j1 j2 => ?_, fun j j1 j2 => ?_⟩
        · rw [show j = 1 by omega, v5 _ _ (by omega), c3]; exact m2
        · have hj : j = 0 ∨ j = 1 := by omega
          rcases hj with hj | hj
          · rw [hj, el0, eh0]; omega
          · rw [hj, el1, eh1]; omega
        · have hj : j = 0 ∨ j = 1 := by omega
          rcases hj with hj | hj
          · rw [hj, el0, eh0, v5 _ _ (by omega), c10.1]; exact sub tl
          · rw [hj, el1, eh1, v5 _ _ (by omega), c2]; exact sub tr
    cases m with
    | zero =>
      have k33 : h_kd h3 r = 3 := by rw [k3 _ kr.2]; exact krr.1 rfl
      simp only [e_blk_eq, g_go, g_bks, g_bkn, g_gst, g_gsf, e_cl, e_rt, n_0, n_1, n_2, n_3, n_4, n_5, n_6, n_7, n_8, n_9, n_10, n_11, n_12, n_13, n_14, n_15, n_16, n_17, n_18, n_19, n_20, n_21, n_22, n_23, n_24, n_25, n_26, n_27, n_28, n_29, n_30, n_31, n_32, n_33, n_34, n_35, n_36, n_37, n_40, n_41, n_42, n_43, n_44, n_45, n_46, n_50, n_51, n_52, n_53, n_54, n_55, f_ldi, f_lda, f_sti, f_sta, f_inc, f_bin0, f_bin1, f_bin2, f_bin3, f_bin4, f_bin5, f_bin6, f_bin7, f_i2b, f_dup, f_pop, f_dx1, f_if0, f_ic0, f_if1, f_ic1, f_if2, f_ic2, f_if3, f_ic3, f_if4, f_ic4, f_if5, f_ic5, f_ac0, f_ac1, f_nu0, f_nu1, f_sw, f_sw0, f_sw1, f_gti, f_gta, f_pti, f_pta, f_ptz, f_new, f_nwa, f_ild, f_ist, f_bld, f_bst, f_ald, f_ast, f_len, f_cst, f_oin, f_gcl, f_ord, f_mm0, f_mm1, f_cpy, f_re0, f_re1, f_rea, f_rev, f_t50, f_t51, f_t52, f_t53, f_t54, f_t55, f_st, f_sd, f_s2, f_sn, e_in, e_ent, e_inR, Nat.reduceLT, Nat.reduceEqDiff, reduceIte, Nat.reduceBEq, List.length_cons, List.length_nil, List.map_cons, List.map_nil, List.replicate, List.cons_append, List.nil_append, List.append_nil, List.getElem?_cons_zero, List.getElem?_cons_succ, List.getElem?_nil, List.set_cons_zero, List.set_cons_succ, List.take_succ_cons, List.take_zero, List.take_nil, List.drop_succ_cons, List.drop_zero, List.drop_nil, List.reverse_cons, List.reverse_nil, Option.toList_some, Option.toList_none, Int.reduceToNat, hk_pt, hl_pt, hz_pt, hs_pt, hv_same, hv_ne, hv_na, hz_nw, hs_nw, hk_newS, hl_newS, hv_newS, Int.reduceEq, Int.reduceNe, Int.reduceLE, Int.reduceLT, Int.reduceAdd, Int.reduceSub, Int.reduceMul, Int.reduceNeg, Nat.reduceAdd, Nat.reduceSub, Nat.reduceLeDiff, Bool.or_false, Bool.false_or, Bool.or_true, Bool.true_or, or_self, or_false, false_or, true_or, or_true, and_true, true_and, forall_const, decide_eq_true_eq, decide_eq_false_iff_not, Bool.and_eq_true, Bool.false_eq_true, Nat.lt_add_one, imp_self, implies_true, not_true_eq_false, not_false_eq_true, ne_eq, Bool.true_eq_false, Nat.zero_le, Nat.le_refl, and_self, false_implies, q_48, l_48, k33, l_54]
      exact ⟨by omega, r_low (by omega) tr3 lw53 tail⟩
    | succ m =>
      have k33 : h_kd h3 r = 10 := by rw [k3 _ kr.2]; exact krr.2.1 (by omega)
      simp only [e_blk_eq, g_go, g_bks, g_bkn, g_gst, g_gsf, e_cl, e_rt, n_0, n_1, n_2, n_3, n_4, n_5, n_6, n_7, n_8, n_9, n_10, n_11, n_12, n_13, n_14, n_15, n_16, n_17, n_18, n_19, n_20, n_21, n_22, n_23, n_24, n_25, n_26, n_27, n_28, n_29, n_30, n_31, n_32, n_33, n_34, n_35, n_36, n_37, n_40, n_41, n_42, n_43, n_44, n_45, n_46, n_50, n_51, n_52, n_53, n_54, n_55, f_ldi, f_lda, f_sti, f_sta, f_inc, f_bin0, f_bin1, f_bin2, f_bin3, f_bin4, f_bin5, f_bin6, f_bin7, f_i2b, f_dup, f_pop, f_dx1, f_if0, f_ic0, f_if1, f_ic1, f_if2, f_ic2, f_if3, f_ic3, f_if4, f_ic4, f_if5, f_ic5, f_ac0, f_ac1, f_nu0, f_nu1, f_sw, f_sw0, f_sw1, f_gti, f_gta, f_pti, f_pta, f_ptz, f_new, f_nwa, f_ild, f_ist, f_bld, f_bst, f_ald, f_ast, f_len, f_cst, f_oin, f_gcl, f_ord, f_mm0, f_mm1, f_cpy, f_re0, f_re1, f_rea, f_rev, f_t50, f_t51, f_t52, f_t53, f_t54, f_t55, f_st, f_sd, f_s2, f_sn, e_in, e_ent, e_inR, Nat.reduceLT, Nat.reduceEqDiff, reduceIte, Nat.reduceBEq, List.length_cons, List.length_nil, List.map_cons, List.map_nil, List.replicate, List.cons_append, List.nil_append, List.append_nil, List.getElem?_cons_zero, List.getElem?_cons_succ, List.getElem?_nil, List.set_cons_zero, List.set_cons_succ, List.take_succ_cons, List.take_zero, List.take_nil, List.drop_succ_cons, List.drop_zero, List.drop_nil, List.reverse_cons, List.reverse_nil, Option.toList_some, Option.toList_none, Int.reduceToNat, hk_pt, hl_pt, hz_pt, hs_pt, hv_same, hv_ne, hv_na, hz_nw, hs_nw, hk_newS, hl_newS, hv_newS, Int.reduceEq, Int.reduceNe, Int.reduceLE, Int.reduceLT, Int.reduceAdd, Int.reduceSub, Int.reduceMul, Int.reduceNeg, Nat.reduceAdd, Nat.reduceSub, Nat.reduceLeDiff, Bool.or_false, Bool.false_or, Bool.or_true, Bool.true_or, or_self, or_false, false_or, true_or, or_true, and_true, true_and, forall_const, decide_eq_true_eq, decide_eq_false_iff_not, Bool.and_eq_true, Bool.false_eq_true, Nat.lt_add_one, imp_self, implies_true, not_true_eq_false, not_false_eq_true, ne_eq, Bool.true_eq_false, Nat.zero_le, Nat.le_refl, and_self, false_implies, q_48, l_48, k33, l_53]
      exact ⟨by omega, r_low (by omega) tr3 lw53 tail⟩
set_option maxRecDepth 100000 in
set_option maxHeartbeats 4000000 in
theorem r_enter {d : Nat} {key p : Int} {f : Int → Int} {h : E_H} {Q : Option E_V → E_H → Prop} (hd : 12 ≤ d) (hS : k_S h) (hY : k_Y h) (hR : k_R h f) (hk : 0 ≤ key ∧ key ≤ 99) (hf : f key = -1) (hp : 0 ≤ p) (K : ∀ h', f_m (k_tr h) h h' → k_Y h' → k_R h' (t_up f key p) → h_sz h' ≤ h_sz h + 30 → h_sl h' ≤ h_sl h + 120 → Q none h') : e_wpm d 48 [.inr 16, .inl key, .inl p] h Q := by
  obtain ⟨lv, lw, m, r1, ht⟩ := hR
  have m6 := t_ht6 ht
  have hT' := hS.1
  unfold k_T at hT'
  have hZ := hS.2.2.1
  have hz := hS.2.2.2.1
  have kd := ht.kd
  have n16 := hS.n16
  refine e_wpm_blk 100 [] ?_
  cases m with
  | zero =>
    have k3 := kd.1 rfl
    simp only [e_blk_eq, g_go, g_bks, g_bkn, g_gst, g_gsf, e_cl, e_rt, n_0, n_1, n_2, n_3, n_4, n_5, n_6, n_7, n_8, n_9, n_10, n_11, n_12, n_13, n_14, n_15, n_16, n_17, n_18, n_19, n_20, n_21, n_22, n_23, n_24, n_25, n_26, n_27, n_28, n_29, n_30, n_31, n_32, n_33, n_34, n_35, n_36, n_37, n_40, n_41, n_42, n_43, n_44, n_45, n_46, n_50, n_51, n_52, n_53, n_54, n_55, f_ldi, f_lda, f_sti, f_sta, f_inc, f_bin0, f_bin1, f_bin2, f_bin3, f_bin4, f_bin5, f_bin6, f_bin7, f_i2b, f_dup, f_pop, f_dx1, f_if0, f_ic0, f_if1, f_ic1, f_if2, f_ic2, f_if3, f_ic3, f_if4, f_ic4, f_if5, f_ic5, f_ac0, f_ac1, f_nu0, f_nu1, f_sw, f_sw0, f_sw1, f_gti, f_gta, f_pti, f_pta, f_ptz, f_new, f_nwa, f_ild, f_ist, f_bld, f_bst, f_ald, f_ast, f_len, f_cst, f_oin, f_gcl, f_ord, f_mm0, f_mm1, f_cpy, f_re0, f_re1, f_rea, f_rev, f_t50, f_t51, f_t52, f_t53, f_t54, f_t55, f_st, f_sd, f_s2, f_sn, e_in, e_ent, e_inR, Nat.reduceLT, Nat.reduceEqDiff, reduceIte, Nat.reduceBEq, List.length_cons, List.length_nil, List.map_cons, List.map_nil, List.replicate, List.cons_append, List.nil_append, List.append_nil, List.getElem?_cons_zero, List.getElem?_cons_succ, List.getElem?_nil, List.set_cons_zero, List.set_cons_succ, List.take_succ_cons, List.take_zero, List.take_nil, List.drop_succ_cons, List.drop_zero, List.drop_nil, List.reverse_cons, List.reverse_nil, Option.toList_some, Option.toList_none, Int.reduceToNat, hk_pt, hl_pt, hz_pt, hs_pt, hv_same, hv_ne, hv_na, hz_nw, hs_nw, hk_newS, hl_newS, hv_newS, Int.reduceEq, Int.reduceNe, Int.reduceLE, Int.reduceLT, Int.reduceAdd, Int.reduceSub, Int.reduceMul, Int.reduceNeg, Nat.reduceAdd, Nat.reduceSub, Nat.reduceLeDiff, Bool.or_false, Bool.false_or, Bool.or_true, Bool.true_or, or_self, or_false, false_or, true_or, or_true, and_true, true_and, forall_const, decide_eq_true_eq, decide_eq_false_iff_not, Bool.and_eq_true, Bool.false_eq_true, Nat.lt_add_one, imp_self, implies_true, not_true_eq_false, not_false_eq_true, ne_eq, Bool.true_eq_false, Nat.zero_le, Nat.le_refl, and_self, false_implies, q_48, l_48, hT', k3, l_35, l_49]
    refine ⟨fun z => ⟨by omega, r_find 0 (d - 1) _ _ _ _ (by omega) ht (by omega) (by omega) ?_⟩, fun z => by omega⟩
    rw [hf]
    simp only [e_blk_eq, g_go, g_bks, g_bkn, g_gst, g_gsf, e_cl, e_rt, n_0, n_1, n_2, n_3, n_4, n_5, n_6, n_7, n_8, n_9, n_10, n_11, n_12, n_13, n_14, n_15, n_16, n_17, n_18, n_19, n_20, n_21, n_22, n_23, n_24, n_25, n_26, n_27, n_28, n_29, n_30, n_31, n_32, n_33, n_34, n_35, n_36, n_37, n_40, n_41, n_42, n_43, n_44, n_45, n_46, n_50, n_51, n_52, n_53, n_54, n_55, f_ldi, f_lda, f_sti, f_sta, f_inc, f_bin0, f_bin1, f_bin2, f_bin3, f_bin4, f_bin5, f_bin6, f_bin7, f_i2b, f_dup, f_pop, f_dx1, f_if0, f_ic0, f_if1, f_ic1, f_if2, f_ic2, f_if3, f_ic3, f_if4, f_ic4, f_if5, f_ic5, f_ac0, f_ac1, f_nu0, f_nu1, f_sw, f_sw0, f_sw1, f_gti, f_gta, f_pti, f_pta, f_ptz, f_new, f_nwa, f_ild, f_ist, f_bld, f_bst, f_ald, f_ast, f_len, f_cst, f_oin, f_gcl, f_ord, f_mm0, f_mm1, f_cpy, f_re0, f_re1, f_rea, f_rev, f_t50, f_t51, f_t52, f_t53, f_t54, f_t55, f_st, f_sd, f_s2, f_sn, e_in, e_ent, e_inR, Nat.reduceLT, Nat.reduceEqDiff, reduceIte, Nat.reduceBEq, List.length_cons, List.length_nil, List.map_cons, List.map_nil, List.replicate, List.cons_append, List.nil_append, List.append_nil, List.getElem?_cons_zero, List.getElem?_cons_succ, List.getElem?_nil, List.set_cons_zero, List.set_cons_succ, List.take_succ_cons, List.take_zero, List.take_nil, List.drop_succ_cons, List.drop_zero, List.drop_nil, List.reverse_cons, List.reverse_nil, Option.toList_some, Option.toList_none, Int.reduceToNat, hk_pt, hl_pt, hz_pt, hs_pt, hv_same, hv_ne, hv_na, hz_nw, hs_nw, hk_newS, hl_newS, hv_newS, Int.reduceEq, Int.reduceNe, Int.reduceLE, Int.reduceLT, Int.reduceAdd, Int.reduceSub, Int.reduceMul, Int.reduceNeg, Nat.reduceAdd, Nat.reduceSub, Nat.reduceLeDiff, Bool.or_false, Bool.false_or, Bool.or_true, Bool.true_or, or_self, or_false, false_or, true_or, or_true, and_true, true_and, forall_const, decide_eq_true_eq, decide_eq_false_iff_not, Bool.and_eq_true, Bool.false_eq_true, Nat.lt_add_one, imp_self, implies_true, not_true_eq_false, not_false_eq_true, ne_eq, Bool.true_eq_false, Nat.zero_le, Nat.le_refl, and_self, false_implies, q_48, l_48, hT', k3, l_51]
    refine ⟨by omega, r_tput hZ (by omega) hY hk hf hp 0 (d - 1) _ _ _ _ (by omega) ht (by omega) (by omega) (fun h1 lv1 lw1 r g1 f1 Y1 s1 sl1 pt => ?_)⟩
    exact r_enter_f (by omega) hS hY r1 ht m6 K g1 f1 Y1 s1 sl1 pt
  | succ m =>
    have k3 := kd.2.1 (by omega)
    simp only [e_blk_eq, g_go, g_bks, g_bkn, g_gst, g_gsf, e_cl, e_rt, n_0, n_1, n_2, n_3, n_4, n_5, n_6, n_7, n_8, n_9, n_10, n_11, n_12, n_13, n_14, n_15, n_16, n_17, n_18, n_19, n_20, n_21, n_22, n_23, n_24, n_25, n_26, n_27, n_28, n_29, n_30, n_31, n_32, n_33, n_34, n_35, n_36, n_37, n_40, n_41, n_42, n_43, n_44, n_45, n_46, n_50, n_51, n_52, n_53, n_54, n_55, f_ldi, f_lda, f_sti, f_sta, f_inc, f_bin0, f_bin1, f_bin2, f_bin3, f_bin4, f_bin5, f_bin6, f_bin7, f_i2b, f_dup, f_pop, f_dx1, f_if0, f_ic0, f_if1, f_ic1, f_if2, f_ic2, f_if3, f_ic3, f_if4, f_ic4, f_if5, f_ic5, f_ac0, f_ac1, f_nu0, f_nu1, f_sw, f_sw0, f_sw1, f_gti, f_gta, f_pti, f_pta, f_ptz, f_new, f_nwa, f_ild, f_ist, f_bld, f_bst, f_ald, f_ast, f_len, f_cst, f_oin, f_gcl, f_ord, f_mm0, f_mm1, f_cpy, f_re0, f_re1, f_rea, f_rev, f_t50, f_t51, f_t52, f_t53, f_t54, f_t55, f_st, f_sd, f_s2, f_sn, e_in, e_ent, e_inR, Nat.reduceLT, Nat.reduceEqDiff, reduceIte, Nat.reduceBEq, List.length_cons, List.length_nil, List.map_cons, List.map_nil, List.replicate, List.cons_append, List.nil_append, List.append_nil, List.getElem?_cons_zero, List.getElem?_cons_succ, List.getElem?_nil, List.set_cons_zero, List.set_cons_succ, List.take_succ_cons, List.take_zero, List.take_nil, List.drop_succ_cons, List.drop_zero, List.drop_nil, List.reverse_cons, List.reverse_nil, Option.toList_some, Option.toList_none, Int.reduceToNat, hk_pt, hl_pt, hz_pt, hs_pt, hv_same, hv_ne, hv_na, hz_nw, hs_nw, hk_newS, hl_newS, hv_newS, Int.reduceEq, Int.reduceNe, Int.reduceLE, Int.reduceLT, Int.reduceAdd, Int.reduceSub, Int.reduceMul, Int.reduceNeg, Nat.reduceAdd, Nat.reduceSub, Nat.reduceLeDiff, Bool.or_false, Bool.false_or, Bool.or_true, Bool.true_or, or_self, or_false, false_or, true_or, or_true, and_true, true_and, forall_const, decide_eq_true_eq, decide_eq_false_iff_not, Bool.and_eq_true, Bool.false_eq_true, Nat.lt_add_one, imp_self, implies_true, not_true_eq_false, not_false_eq_true, ne_eq, Bool.true_eq_false, Nat.zero_le, Nat.le_refl, and_self, false_implies, q_48, l_48, hT', k3, l_33, l_49]
    refine ⟨fun z => ⟨by omega, r_find (m + 1) (d - 1) _ _ _ _ (by omega) ht (by omega) (by omega) ?_⟩, fun z => by omega⟩
    rw [hf]
    simp only [e_blk_eq, g_go, g_bks, g_bkn, g_gst, g_gsf, e_cl, e_rt, n_0, n_1, n_2, n_3, n_4, n_5, n_6, n_7, n_8, n_9, n_10, n_11, n_12, n_13, n_14, n_15, n_16, n_17, n_18, n_19, n_20, n_21, n_22, n_23, n_24, n_25, n_26, n_27, n_28, n_29, n_30, n_31, n_32, n_33, n_34, n_35, n_36, n_37, n_40, n_41, n_42, n_43, n_44, n_45, n_46, n_50, n_51, n_52, n_53, n_54, n_55, f_ldi, f_lda, f_sti, f_sta, f_inc, f_bin0, f_bin1, f_bin2, f_bin3, f_bin4, f_bin5, f_bin6, f_bin7, f_i2b, f_dup, f_pop, f_dx1, f_if0, f_ic0, f_if1, f_ic1, f_if2, f_ic2, f_if3, f_ic3, f_if4, f_ic4, f_if5, f_ic5, f_ac0, f_ac1, f_nu0, f_nu1, f_sw, f_sw0, f_sw1, f_gti, f_gta, f_pti, f_pta, f_ptz, f_new, f_nwa, f_ild, f_ist, f_bld, f_bst, f_ald, f_ast, f_len, f_cst, f_oin, f_gcl, f_ord, f_mm0, f_mm1, f_cpy, f_re0, f_re1, f_rea, f_rev, f_t50, f_t51, f_t52, f_t53, f_t54, f_t55, f_st, f_sd, f_s2, f_sn, e_in, e_ent, e_inR, Nat.reduceLT, Nat.reduceEqDiff, reduceIte, Nat.reduceBEq, List.length_cons, List.length_nil, List.map_cons, List.map_nil, List.replicate, List.cons_append, List.nil_append, List.append_nil, List.getElem?_cons_zero, List.getElem?_cons_succ, List.getElem?_nil, List.set_cons_zero, List.set_cons_succ, List.take_succ_cons, List.take_zero, List.take_nil, List.drop_succ_cons, List.drop_zero, List.drop_nil, List.reverse_cons, List.reverse_nil, Option.toList_some, Option.toList_none, Int.reduceToNat, hk_pt, hl_pt, hz_pt, hs_pt, hv_same, hv_ne, hv_na, hz_nw, hs_nw, hk_newS, hl_newS, hv_newS, Int.reduceEq, Int.reduceNe, Int.reduceLE, Int.reduceLT, Int.reduceAdd, Int.reduceSub, Int.reduceMul, Int.reduceNeg, Nat.reduceAdd, Nat.reduceSub, Nat.reduceLeDiff, Bool.or_false, Bool.false_or, Bool.or_true, Bool.true_or, or_self, or_false, false_or, true_or, or_true, and_true, true_and, forall_const, decide_eq_true_eq, decide_eq_false_iff_not, Bool.and_eq_true, Bool.false_eq_true, Nat.lt_add_one, imp_self, implies_true, not_true_eq_false, not_false_eq_true, ne_eq, Bool.true_eq_false, Nat.zero_le, Nat.le_refl, and_self, false_implies, q_48, l_48, hT', k3, l_50]
    refine ⟨by omega, r_tput hZ (by omega) hY hk hf hp (m + 1) (d - 1) _ _ _ _ (by omega) ht (by omega) (by omega) (fun h1 lv1 lw1 r g1 f1 Y1 s1 sl1 pt => ?_)⟩
    exact r_enter_f (by omega) hS hY r1 ht m6 K g1 f1 Y1 s1 sl1 pt
