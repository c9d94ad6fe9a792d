/-! ===== the twin, 7: crash and restart ===== -/
def m_cr1 (V : Int → Int → Int) (k : Int) : Int → Int → Int := v_up (v_up (v_up (v_up (v_up V 44 33 (V 44 33 + 1)) 44 1 (if k ≤ V 44 0 - V 44 1 then V 44 1 + k else V 44 0)) 44 0 (if k ≤ V 44 0 - V 44 1 then V 44 1 + k else V 44 0)) 44 32 1) 44 34 0
def m_crA : Nat → Int → (Int → Int → Int) → (Int → Int → Int)
  | 0, _, V => V
  | n + 1, g, V => m_crA n (g + 1) (v_up (v_up V 61 g 0) 60 g 0)
def m_crB : Nat → Int → (Int → Int → Int) → (Int → Int → Int)
  | 0, _, V => V
  | n + 1, t, V => m_crB n (t + 1) (if m_live V t = true then m_unlock (v_up V 62 t 6) t else V)
def m_crash (V : Int → Int → Int) (k : Int) : Int → Int → Int := m_crB (V 44 22).toNat 1 (m_crA 6 0 (m_cr1 V k))
theorem m_crA_na {c j : Int} (h1 : c ≠ 60) (h2 : c ≠ 61) : ∀ {n : Nat} {g : Int} {V : Int → Int → Int}, m_crA n g V c j = V c j := by
  intro n
  induction n with
  | zero => intro g V; rfl
  | succ n ih => intro g V; rw [m_crA, ih, v_na h1, v_na h2]
theorem m_crB_na {c j : Int} (h1 : c ≠ 62) (h2 : c ≠ 69) : ∀ {n : Nat} {t : Int} {V : Int → Int → Int}, m_crB n t V c j = V c j := by
  intro n
  induction n with
  | zero => intro t V; rfl
  | succ n ih =>
    intro t V
    rw [m_crB, ih]
    split
    · rw [m_unlock_na h2, v_na h1]
    · rfl
theorem m_cr1_ok {V : Int → Int → Int} {k : Int} : m_ok V (m_cr1 V k) := ((((m_ok.rf.us (by omega)).us (by omega)).us (by omega)).us (by omega)).us (by omega)
theorem m_crA_ok {n : Nat} {g : Int} {V : Int → Int → Int} : m_ok V (m_crA n g V) := ⟨fun b j hb => m_crA_na (by omega) (by omega), fun k hk => m_crA_na (by omega) (by omega)⟩
theorem m_crB_ok {n : Nat} {g : Int} {V : Int → Int → Int} : m_ok V (m_crB n g V) := ⟨fun b j hb => m_crB_na (by omega) (by omega), fun k hk => m_crB_na (by omega) (by omega)⟩
theorem m_crash_ok {V : Int → Int → Int} {k : Int} : m_ok V (m_crash V k) := (m_cr1_ok.tr m_crA_ok).tr m_crB_ok
set_option maxRecDepth 100000 in
set_option maxHeartbeats 4000000 in
theorem c_crA_s {d : Nat} {k g : Int} {h : E_H} {Q : Option E_V → E_H → Prop} (hM : m_T h) (hg : 0 ≤ g) (K1 : 6 ≤ g → e_wpc d 128 101 [some (.inr 44), some (.inl k), some (.inl g)] [] h Q) (K2 : g < 6 → e_wpc d 128 75 [some (.inr 44), some (.inl k), some (.inl (g + 1))] [] (h_put (h_put h 61 g 0) 60 g 0) Q) : e_wpc d 128 75 [some (.inr 44), some (.inl k), some (.inl g)] [] h Q := by
  unfold m_T at hM
  refine e_wpc_blk 100 [75, 101] ?_
  simp only [e_blk_eq, g_go, g_bks, g_bkn, g_gst, g_gsf, e_cl, e_rt, n_0, n_1, n_2, n_3, n_4, n_5, n_6, n_7, n_8, n_9, n_10, n_11, n_12, n_13, n_14, n_15, n_16, n_17, n_18, n_19, n_20, n_21, n_22, n_23, n_24, n_25, n_26, n_27, n_28, n_29, n_30, n_31, n_32, n_33, n_34, n_35, n_36, n_37, n_40, n_41, n_42, n_43, n_44, n_45, n_46, n_50, n_51, n_52, n_53, n_54, n_55, f_ldi, f_lda, f_sti, f_sta, f_inc, f_bin0, f_bin1, f_bin2, f_bin3, f_bin4, f_bin5, f_bin6, f_bin7, f_i2b, f_dup, f_pop, f_dx1, f_if0, f_ic0, f_if1, f_ic1, f_if2, f_ic2, f_if3, f_ic3, f_if4, f_ic4, f_if5, f_ic5, f_ac0, f_ac1, f_nu0, f_nu1, f_sw, f_sw0, f_sw1, f_gti, f_gta, f_pti, f_pta, f_ptz, f_new, f_nwa, f_ild, f_ist, f_bld, f_bst, f_ald, f_ast, f_len, f_cst, f_oin, f_gcl, f_ord, f_mm0, f_mm1, f_cpy, f_re0, f_re1, f_rea, f_rev, f_t50, f_t51, f_t52, f_t53, f_t54, f_t55, f_st, f_sd, f_s2, f_sn, e_in, e_ent, e_inR, Nat.reduceLT, Nat.reduceEqDiff, reduceIte, Nat.reduceBEq, List.length_cons, List.length_nil, List.map_cons, List.map_nil, List.replicate, List.cons_append, List.nil_append, List.append_nil, List.getElem?_cons_zero, List.getElem?_cons_succ, List.getElem?_nil, List.set_cons_zero, List.set_cons_succ, List.take_succ_cons, List.take_zero, List.take_nil, List.drop_succ_cons, List.drop_zero, List.drop_nil, List.reverse_cons, List.reverse_nil, Option.toList_some, Option.toList_none, Int.reduceToNat, hk_put, hl_put, hz_put, hs_put, hv_same, hv_ne, hv_na, hz_new, hs_new, hk_newS, hl_newS, hv_newS, Int.reduceEq, Int.reduceNe, Int.reduceLE, Int.reduceLT, Int.reduceAdd, Int.reduceSub, Int.reduceMul, Int.reduceNeg, Nat.reduceAdd, Nat.reduceSub, Nat.reduceLeDiff, Bool.or_false, Bool.false_or, Bool.or_true, Bool.true_or, or_self, or_false, false_or, true_or, or_true, and_true, true_and, forall_const, decide_eq_true_eq, decide_eq_false_iff_not, Bool.and_eq_true, Bool.false_eq_true, Nat.lt_add_one, imp_self, implies_true, not_true_eq_false, not_false_eq_true, ne_eq, Bool.true_eq_false, Nat.zero_le, Nat.le_refl, and_self, false_implies, q_128, l_128, hM]
  exact ⟨fun h1 => K1 h1, fun h1 => ⟨by omega, by omega, by omega, K2 (by omega)⟩⟩
theorem c_crA_l {d : Nat} {k : Int} {Q : Option E_V → E_H → Prop} : ∀ (n : Nat) (g : Int) (h : E_H), m_T h → g + n = 6 → 0 ≤ g → (∀ g', e_wpc d 128 101 [some (.inr 44), some (.inl k), some (.inl g')] [] (h_wv h (m_crA n g (h_vl h))) Q) → e_wpc d 128 75 [some (.inr 44), some (.inl k), some (.inl g)] [] h Q := by
  intro n
  induction n with
  | zero => intro g h hM hg h0 K; exact c_crA_s hM h0 (fun _ => K g) (fun hc => absurd hc (by omega))
  | succ n ih => intro g h hM hg h0 K; exact c_crA_s hM h0 (fun hc => absurd hc (by omega)) (fun _ => ih (g + 1) _ ((hM.put (by omega)).put (by omega)) (by omega) (by omega) K)
set_option maxRecDepth 100000 in
set_option maxHeartbeats 4000000 in
theorem c_crB_s {d : Nat} {k t : Int} {h : E_H} {Q : Option E_V → E_H → Prop} (hd : 1 ≤ d) (hM : m_T h) (hb : h_vl h 44 22 ≤ 60) (ht : 1 ≤ t) (K1 : h_vl h 44 22 < t → Q (some (.inl (h_vl h 44 0))) h) (K2 : t ≤ h_vl h 44 22 → e_wpc d 128 103 [some (.inr 44), some (.inl k), some (.inl (t + 1))] [] (h_wv h (if m_live (h_vl h) t = true then m_unlock (v_up (h_vl h) 62 t 6) t else h_vl h)) Q) : e_wpc d 128 103 [some (.inr 44), some (.inl k), some (.inl t)] [] h Q := by
  have hM' := hM
  unfold m_T at hM'
  refine e_wpc_blk 100 [103] ?_
  simp only [e_blk_eq, g_go, g_bks, g_bkn, g_gst, g_gsf, e_cl, e_rt, n_0, n_1, n_2, n_3, n_4, n_5, n_6, n_7, n_8, n_9, n_10, n_11, n_12, n_13, n_14, n_15, n_16, n_17, n_18, n_19, n_20, n_21, n_22, n_23, n_24, n_25, n_26, n_27, n_28, n_29, n_30, n_31, n_32, n_33, n_34, n_35, n_36, n_37, n_40, n_41, n_42, n_43, n_44, n_45, n_46, n_50, n_51, n_52, n_53, n_54, n_55, f_ldi, f_lda, f_sti, f_sta, f_inc, f_bin0, f_bin1, f_bin2, f_bin3, f_bin4, f_bin5, f_bin6, f_bin7, f_i2b, f_dup, f_pop, f_dx1, f_if0, f_ic0, f_if1, f_ic1, f_if2, f_ic2, f_if3, f_ic3, f_if4, f_ic4, f_if5, f_ic5, f_ac0, f_ac1, f_nu0, f_nu1, f_sw, f_sw0, f_sw1, f_gti, f_gta, f_pti, f_pta, f_ptz, f_new, f_nwa, f_ild, f_ist, f_bld, f_bst, f_ald, f_ast, f_len, f_cst, f_oin, f_gcl, f_ord, f_mm0, f_mm1, f_cpy, f_re0, f_re1, f_rea, f_rev, f_t50, f_t51, f_t52, f_t53, f_t54, f_t55, f_st, f_sd, f_s2, f_sn, e_in, e_ent, e_inR, Nat.reduceLT, Nat.reduceEqDiff, reduceIte, Nat.reduceBEq, List.length_cons, List.length_nil, List.map_cons, List.map_nil, List.replicate, List.cons_append, List.nil_append, List.append_nil, List.getElem?_cons_zero, List.getElem?_cons_succ, List.getElem?_nil, List.set_cons_zero, List.set_cons_succ, List.take_succ_cons, List.take_zero, List.take_nil, List.drop_succ_cons, List.drop_zero, List.drop_nil, List.reverse_cons, List.reverse_nil, Option.toList_some, Option.toList_none, Int.reduceToNat, hk_put, hl_put, hz_put, hs_put, hv_same, hv_ne, hv_na, hz_new, hs_new, hk_newS, hl_newS, hv_newS, Int.reduceEq, Int.reduceNe, Int.reduceLE, Int.reduceLT, Int.reduceAdd, Int.reduceSub, Int.reduceMul, Int.reduceNeg, Nat.reduceAdd, Nat.reduceSub, Nat.reduceLeDiff, Bool.or_false, Bool.false_or, Bool.or_true, Bool.true_or, or_self, or_false, false_or, true_or, or_true, and_true, true_and, forall_const, decide_eq_true_eq, decide_eq_false_iff_not, Bool.and_eq_true, Bool.false_eq_true, Nat.lt_add_one, imp_self, implies_true, not_true_eq_false, not_false_eq_true, ne_eq, Bool.true_eq_false, Nat.zero_le, Nat.le_refl, and_self, false_implies, q_128, l_128, l_97, hM']
  refine ⟨fun h1 => K1 (by omega), fun h1 => ⟨by omega, c_live hM (by omega) ?_⟩⟩
  have K2 := K2 (by omega)
  simp only [e_blk_eq, g_go, g_bks, g_bkn, g_gst, g_gsf, e_cl, e_rt, n_0, n_1, n_2, n_3, n_4, n_5, n_6, n_7, n_8, n_9, n_10, n_11, n_12, n_13, n_14, n_15, n_16, n_17, n_18, n_19, n_20, n_21, n_22, n_23, n_24, n_25, n_26, n_27, n_28, n_29, n_30, n_31, n_32, n_33, n_34, n_35, n_36, n_37, n_40, n_41, n_42, n_43, n_44, n_45, n_46, n_50, n_51, n_52, n_53, n_54, n_55, f_ldi, f_lda, f_sti, f_sta, f_inc, f_bin0, f_bin1, f_bin2, f_bin3, f_bin4, f_bin5, f_bin6, f_bin7, f_i2b, f_dup, f_pop, f_dx1, f_if0, f_ic0, f_if1, f_ic1, f_if2, f_ic2, f_if3, f_ic3, f_if4, f_ic4, f_if5, f_ic5, f_ac0, f_ac1, f_nu0, f_nu1, f_sw, f_sw0, f_sw1, f_gti, f_gta, f_pti, f_pta, f_ptz, f_new, f_nwa, f_ild, f_ist, f_bld, f_bst, f_ald, f_ast, f_len, f_cst, f_oin, f_gcl, f_ord, f_mm0, f_mm1, f_cpy, f_re0, f_re1, f_rea, f_rev, f_t50, f_t51, f_t52, f_t53, f_t54, f_t55, f_st, f_sd, f_s2, f_sn, e_in, e_ent, e_inR, Nat.reduceLT, Nat.reduceEqDiff, reduceIte, Nat.reduceBEq, List.length_cons, List.length_nil, List.map_cons, List.map_nil, List.replicate, List.cons_append, List.nil_append, List.append_nil, List.getElem?_cons_zero, List.getElem?_cons_succ, List.getElem?_nil, List.set_cons_zero, List.set_cons_succ, List.take_succ_cons, List.take_zero, List.take_nil, List.drop_succ_cons, List.drop_zero, List.drop_nil, List.reverse_cons, List.reverse_nil, Option.toList_some, Option.toList_none, Int.reduceToNat, hk_put, hl_put, hz_put, hs_put, hv_same, hv_ne, hv_na, hz_new, hs_new, hk_newS, hl_newS, hv_newS, Int.reduceEq, Int.reduceNe, Int.reduceLE, Int.reduceLT, Int.reduceAdd, Int.reduceSub, Int.reduceMul, Int.reduceNeg, Nat.reduceAdd, Nat.reduceSub, Nat.reduceLeDiff, Bool.or_false, Bool.false_or, Bool.or_true, Bool.true_or, or_self, or_false, false_or, true_or, or_true, and_true, true_and, forall_const, decide_eq_true_eq, decide_eq_false_iff_not, Bool.and_eq_true, Bool.false_eq_true, Nat.lt_add_one, imp_self, implies_true, not_true_eq_false, not_false_eq_true, ne_eq, Bool.true_eq_false, Nat.zero_le, Nat.le_refl, and_self, false_implies, q_128, l_128, l_118, hM']
  refine ⟨fun h2 => ⟨by omega, ?_⟩, fun h2 => ⟨by omega, by omega, c_unlock (hM.put (by omega)) (by omega) ?_⟩⟩
  · rw [if_neg (by rw [q_b0 h2]; decide)] at K2
    exact K2
  · rw [if_pos (q_b1 h2)] at K2
    simp only [e_blk_eq, g_go, g_bks, g_bkn, g_gst, g_gsf, e_cl, e_rt, n_0, n_1, n_2, n_3, n_4, n_5, n_6, n_7, n_8, n_9, n_10, n_11, n_12, n_13, n_14, n_15, n_16, n_17, n_18, n_19, n_20, n_21, n_22, n_23, n_24, n_25, n_26, n_27, n_28, n_29, n_30, n_31, n_32, n_33, n_34, n_35, n_36, n_37, n_40, n_41, n_42, n_43, n_44, n_45, n_46, n_50, n_51, n_52, n_53, n_54, n_55, f_ldi, f_lda, f_sti, f_sta, f_inc, f_bin0, f_bin1, f_bin2, f_bin3, f_bin4, f_bin5, f_bin6, f_bin7, f_i2b, f_dup, f_pop, f_dx1, f_if0, f_ic0, f_if1, f_ic1, f_if2, f_ic2, f_if3, f_ic3, f_if4, f_ic4, f_if5, f_ic5, f_ac0, f_ac1, f_nu0, f_nu1, f_sw, f_sw0, f_sw1, f_gti, f_gta, f_pti, f_pta, f_ptz, f_new, f_nwa, f_ild, f_ist, f_bld, f_bst, f_ald, f_ast, f_len, f_cst, f_oin, f_gcl, f_ord, f_mm0, f_mm1, f_cpy, f_re0, f_re1, f_rea, f_rev, f_t50, f_t51, f_t52, f_t53, f_t54, f_t55, f_st, f_sd, f_s2, f_sn, e_in, e_ent, e_inR, Nat.reduceLT, Nat.reduceEqDiff, reduceIte, Nat.reduceBEq, List.length_cons, List.length_nil, List.map_cons, List.map_nil, List.replicate, List.cons_append, List.nil_append, List.append_nil, List.getElem?_cons_zero, List.getElem?_cons_succ, List.getElem?_nil, List.set_cons_zero, List.set_cons_succ, List.take_succ_cons, List.take_zero, List.take_nil, List.drop_succ_cons, List.drop_zero, List.drop_nil, List.reverse_cons, List.reverse_nil, Option.toList_some, Option.toList_none, Int.reduceToNat, hk_put, hl_put, hz_put, hs_put, hv_same, hv_ne, hv_na, hz_new, hs_new, hk_newS, hl_newS, hv_newS, Int.reduceEq, Int.reduceNe, Int.reduceLE, Int.reduceLT, Int.reduceAdd, Int.reduceSub, Int.reduceMul, Int.reduceNeg, Nat.reduceAdd, Nat.reduceSub, Nat.reduceLeDiff, Bool.or_false, Bool.false_or, Bool.or_true, Bool.true_or, or_self, or_false, false_or, true_or, or_true, and_true, true_and, forall_const, decide_eq_true_eq, decide_eq_false_iff_not, Bool.and_eq_true, Bool.false_eq_true, Nat.lt_add_one, imp_self, implies_true, not_true_eq_false, not_false_eq_true, ne_eq, Bool.true_eq_false, Nat.zero_le, Nat.le_refl, and_self, false_implies, q_128, l_128]
    exact ⟨by omega, K2⟩
theorem c_crB_l {d : Nat} {k : Int} {B : Int} {Q : Option E_V → E_H → Prop} (hd : 1 ≤ d) (hB : B ≤ 60) : ∀ (n : Nat) (t : Int) (h : E_H), m_T h → h_vl h 44 22 = B → t + n = B + 1 → 1 ≤ t → Q (some (.inl (h_vl h 44 0))) (h_wv h (m_crB n t (h_vl h))) → e_wpc d 128 103 [some (.inr 44), some (.inl k), some (.inl t)] [] h Q := by
  intro n
  induction n with
  | zero => intro t h hM hb ht h1 hQ; exact c_crB_s hd hM (by omega) h1 (fun _ => hQ) (fun hc => absurd hc (by omega))
  | succ n ih =>
    intro t h hM hb ht h1 hQ
    refine c_crB_s hd hM (by omega) h1 (fun hc => absurd hc (by omega)) (fun _ => ?_)
    have hk : ∀ c j : Int, c ≠ 62 → c ≠ 69 → (if m_live (h_vl h) t = true then m_unlock (v_up (h_vl h) 62 t 6) t else h_vl h) c j = h_vl h c j := by
      intro c j h2 h3
      split
      · rw [m_unlock_na h3, v_na h2]
      · rfl
    refine ih (t + 1) _ (hM.wv ⟨fun b j hb => hk b j (by omega) (by omega), fun j hj => hk 44 j (by omega) (by omega)⟩) ?_ (by omega) (by omega) ?_
    · rw [hv_wv, hk _ _ (by omega) (by omega)]; exact hb
    · rw [hv_wv, hk _ _ (by omega) (by omega)]; exact hQ
set_option maxRecDepth 100000 in
set_option maxHeartbeats 4000000 in
theorem c_crash {d : Nat} {k : Int} {h : E_H} {Q : Option E_V → E_H → Prop} (hd : 1 ≤ d) (hM : m_T h) (hb : 0 ≤ h_vl h 44 22 ∧ h_vl h 44 22 ≤ 60) (hs : 0 ≤ h_vl h 44 1 ∧ h_vl h 44 1 ≤ h_vl h 44 0 ∧ h_vl h 44 0 < 204) (hc : -1000000000 ≤ h_vl h 44 33) (K1 : (k < 0 ∨ 8 ≤ h_vl h 44 33) → Q (some (.inl (-1))) h) (K2 : 0 ≤ k → h_vl h 44 33 < 8 → Q (some (.inl (m_crash (h_vl h) k 44 0))) (h_wv h (m_crash (h_vl h) k))) : e_wpm d 128 [.inr 44, .inl k] h Q := by
  have hM' := hM
  unfold m_T at hM'
  refine e_wpm_blk 100 [75] ?_
  simp only [e_blk_eq, g_go, g_bks, g_bkn, g_gst, g_gsf, e_cl, e_rt, n_0, n_1, n_2, n_3, n_4, n_5, n_6, n_7, n_8, n_9, n_10, n_11, n_12, n_13, n_14, n_15, n_16, n_17, n_18, n_19, n_20, n_21, n_22, n_23, n_24, n_25, n_26, n_27, n_28, n_29, n_30, n_31, n_32, n_33, n_34, n_35, n_36, n_37, n_40, n_41, n_42, n_43, n_44, n_45, n_46, n_50, n_51, n_52, n_53, n_54, n_55, f_ldi, f_lda, f_sti, f_sta, f_inc, f_bin0, f_bin1, f_bin2, f_bin3, f_bin4, f_bin5, f_bin6, f_bin7, f_i2b, f_dup, f_pop, f_dx1, f_if0, f_ic0, f_if1, f_ic1, f_if2, f_ic2, f_if3, f_ic3, f_if4, f_ic4, f_if5, f_ic5, f_ac0, f_ac1, f_nu0, f_nu1, f_sw, f_sw0, f_sw1, f_gti, f_gta, f_pti, f_pta, f_ptz, f_new, f_nwa, f_ild, f_ist, f_bld, f_bst, f_ald, f_ast, f_len, f_cst, f_oin, f_gcl, f_ord, f_mm0, f_mm1, f_cpy, f_re0, f_re1, f_rea, f_rev, f_t50, f_t51, f_t52, f_t53, f_t54, f_t55, f_st, f_sd, f_s2, f_sn, e_in, e_ent, e_inR, Nat.reduceLT, Nat.reduceEqDiff, reduceIte, Nat.reduceBEq, List.length_cons, List.length_nil, List.map_cons, List.map_nil, List.replicate, List.cons_append, List.nil_append, List.append_nil, List.getElem?_cons_zero, List.getElem?_cons_succ, List.getElem?_nil, List.set_cons_zero, List.set_cons_succ, List.take_succ_cons, List.take_zero, List.take_nil, List.drop_succ_cons, List.drop_zero, List.drop_nil, List.reverse_cons, List.reverse_nil, Option.toList_some, Option.toList_none, Int.reduceToNat, hk_put, hl_put, hz_put, hs_put, hv_same, hv_ne, hv_na, hz_new, hs_new, hk_newS, hl_newS, hv_newS, Int.reduceEq, Int.reduceNe, Int.reduceLE, Int.reduceLT, Int.reduceAdd, Int.reduceSub, Int.reduceMul, Int.reduceNeg, Nat.reduceAdd, Nat.reduceSub, Nat.reduceLeDiff, Bool.or_false, Bool.false_or, Bool.or_true, Bool.true_or, or_self, or_false, false_or, true_or, or_true, and_true, true_and, forall_const, decide_eq_true_eq, decide_eq_false_iff_not, Bool.and_eq_true, Bool.false_eq_true, Nat.lt_add_one, imp_self, implies_true, not_true_eq_false, not_false_eq_true, ne_eq, Bool.true_eq_false, Nat.zero_le, Nat.le_refl, and_self, false_implies, q_128, l_128, hM']
  refine ⟨fun h1 => K1 (Or.inl h1), fun h1 => ⟨fun h2 => ⟨by omega, by omega, ?_⟩, fun h2 => K1 (Or.inr (by omega))⟩⟩
  have K2 := K2 (by omega) h2
  clear K1
  have J : ∀ h1 : E_H, h1 = h_wv h (m_cr1 (h_vl h) k) → e_wpc d 128 75 [some (.inr 44), some (.inl k), some (.inl 0)] [] h1 Q := by
    intro h1 e
    subst e
    have hM1 : m_T (h_wv h (m_cr1 (h_vl h) k)) := hM.wv m_cr1_ok
    refine c_crA_l 6 0 _ hM1 (by omega) (by omega) (fun g' => ?_)
    have hM2 := hM1.wv (m_crA_ok (n := 6) (g := 0) (V := h_vl (h_wv h (m_cr1 (h_vl h) k))))
    refine e_wpc_blk 100 [103] ?_
    simp only [e_blk_eq, g_go, g_bks, g_bkn, g_gst, g_gsf, e_cl, e_rt, n_0, n_1, n_2, n_3, n_4, n_5, n_6, n_7, n_8, n_9, n_10, n_11, n_12, n_13, n_14, n_15, n_16, n_17, n_18, n_19, n_20, n_21, n_22, n_23, n_24, n_25, n_26, n_27, n_28, n_29, n_30, n_31, n_32, n_33, n_34, n_35, n_36, n_37, n_40, n_41, n_42, n_43, n_44, n_45, n_46, n_50, n_51, n_52, n_53, n_54, n_55, f_ldi, f_lda, f_sti, f_sta, f_inc, f_bin0, f_bin1, f_bin2, f_bin3, f_bin4, f_bin5, f_bin6, f_bin7, f_i2b, f_dup, f_pop, f_dx1, f_if0, f_ic0, f_if1, f_ic1, f_if2, f_ic2, f_if3, f_ic3, f_if4, f_ic4, f_if5, f_ic5, f_ac0, f_ac1, f_nu0, f_nu1, f_sw, f_sw0, f_sw1, f_gti, f_gta, f_pti, f_pta, f_ptz, f_new, f_nwa, f_ild, f_ist, f_bld, f_bst, f_ald, f_ast, f_len, f_cst, f_oin, f_gcl, f_ord, f_mm0, f_mm1, f_cpy, f_re0, f_re1, f_rea, f_rev, f_t50, f_t51, f_t52, f_t53, f_t54, f_t55, f_st, f_sd, f_s2, f_sn, e_in, e_ent, e_inR, Nat.reduceLT, Nat.reduceEqDiff, reduceIte, Nat.reduceBEq, List.length_cons, List.length_nil, List.map_cons, List.map_nil, List.replicate, List.cons_append, List.nil_append, List.append_nil, List.getElem?_cons_zero, List.getElem?_cons_succ, List.getElem?_nil, List.set_cons_zero, List.set_cons_succ, List.take_succ_cons, List.take_zero, List.take_nil, List.drop_succ_cons, List.drop_zero, List.drop_nil, List.reverse_cons, List.reverse_nil, Option.toList_some, Option.toList_none, Int.reduceToNat, hk_put, hl_put, hz_put, hs_put, hv_same, hv_ne, hv_na, hz_new, hs_new, hk_newS, hl_newS, hv_newS, Int.reduceEq, Int.reduceNe, Int.reduceLE, Int.reduceLT, Int.reduceAdd, Int.reduceSub, Int.reduceMul, Int.reduceNeg, Nat.reduceAdd, Nat.reduceSub, Nat.reduceLeDiff, Bool.or_false, Bool.false_or, Bool.or_true, Bool.true_or, or_self, or_false, false_or, true_or, or_true, and_true, true_and, forall_const, decide_eq_true_eq, decide_eq_false_iff_not, Bool.and_eq_true, Bool.false_eq_true, Nat.lt_add_one, imp_self, implies_true, not_true_eq_false, not_false_eq_true, ne_eq, Bool.true_eq_false, Nat.zero_le, Nat.le_refl, and_self, false_implies, q_128, l_128]
    have e22 : h_vl (h_wv (h_wv h (m_cr1 (h_vl h) k)) (m_crA 6 0 (h_vl (h_wv h (m_cr1 (h_vl h) k))))) 44 22 = h_vl h 44 22 := by
      rw [hv_wv, m_crA_na (by omega) (by omega)]
      rfl
    refine c_crB_l hd hb.2 (h_vl h 44 22).toNat 1 _ hM2 e22 (by omega) (by omega) ?_
    rw [m_crash, m_crB_na (by omega) (by omega)] at K2
    exact K2
  refine ⟨fun h3 => ⟨by omega, J _ ?_⟩, fun h3 => J _ ?_⟩
  · rw [m_cr1, if_pos h3]; rfl
  · rw [m_cr1, if_neg h3]; rfl
