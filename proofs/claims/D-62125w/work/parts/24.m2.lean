/-! ===== the twin, 2: what a fetch leaves; open records; locks ===== -/
theorem m_ftl_na {c j : Int} (h1 : c ≠ 57) (h2 : c ≠ 58) : ∀ {n : Nat} {V : Int → Int → Int} {x : Int}, m_ftl V n x c j = V c j := by
  intro n
  induction n with
  | zero => intro V x; rfl
  | succ n ih => intro V x; rw [m_ftl, ih, v_na h2, v_na h1]
theorem m_spill_na {V : Int → Int → Int} {g c j : Int} (h : c < 44 ∨ (44 < c ∧ c < 54) ∨ 61 ≤ c) : m_spill V g c j = V c j := by
  unfold m_spill m_spl2
  rw [v_na (by omega), v_na (by omega), v_na (by omega), m_spl_na (by omega) (by omega), v_na (by omega)]
theorem m_ft2_na {V : Int → Int → Int} {g m o c j : Int} (h : c < 44 ∨ (44 < c ∧ c < 54) ∨ 61 < c) : m_ft2 V g m o c j = V c j := by
  unfold m_ft2
  split
  · rw [v_na (by omega)]
    split
    · exact m_spill_na (by omega)
    · rfl
  · rfl
theorem m_fetch_na {V : Int → Int → Int} {g c j : Int} (h : c < 44 ∨ (44 < c ∧ c < 54) ∨ 61 < c) : m_fetch V g c j = V c j := by
  unfold m_fetch
  split
  · unfold m_ft3
    rw [v_na (by omega), v_na (by omega), v_na (by omega), v_na (by omega), m_ftl_na (by omega) (by omega), m_ft2_na h, v_na (by omega)]
  · rw [v_na (by omega), v_na (by omega)]
theorem m_fetch_44 {V : Int → Int → Int} {g k : Int} (h : k ≠ 1 ∧ k ≠ 19 ∧ k ≠ 20 ∧ k ≠ 21) : m_fetch V g 44 k = V 44 k := by
  unfold m_fetch
  split
  · unfold m_ft3
    rw [v_na (by omega), v_ne (by omega), v_na (by omega), v_na (by omega), m_ftl_na (by omega) (by omega)]
    unfold m_ft2
    split
    · rw [v_na (by omega)]
      split
      · rw [m_spill_44 (by omega) (by omega), v_ne (by omega)]
      · rw [v_ne (by omega)]
    · rw [v_ne (by omega)]
  · rw [v_na (by omega), v_ne (by omega)]
theorem m_fetch_ok {V : Int → Int → Int} {g : Int} : m_ok V (m_fetch V g) := ⟨fun b j hb => m_fetch_na (by omega), fun k hk => m_fetch_44 (by omega)⟩
def q_last (P : Int → Bool) : Nat → Int
  | 0 => 0
  | n + 1 => if P ((n : Int) + 1) = true then (n : Int) + 1 else q_last P n
def m_back (V : Int → Int → Int) (i : Int) : Bool := q_any (fun j => decide (V 45 j = 2 ∧ V 52 j = i)) (V 44 0 - i).toNat (i + 1)
def m_isop (V : Int → Int → Int) (t i : Int) : Bool := decide (V 45 i = 1 ∧ (t = 0 ∨ V 46 i = t)) && (!m_comm V (V 46 i) && !m_back V i)
def m_open (V : Int → Int → Int) (t : Int) : Int := q_last (m_isop V t) (V 44 0).toNat
set_option maxRecDepth 100000 in
set_option maxHeartbeats 4000000 in
theorem c_open_s0 {d : Nat} {t i gd j : Int} {h : E_H} {Q : Option E_V → E_H → Prop} (hM : m_T h) (hs : 0 ≤ h_vl h 44 0 ∧ h_vl h 44 0 < 204) (hj : 1 ≤ j) (K1 : (h_vl h 44 0 < j ∨ gd = 0) → e_wpc d 115 104 [some (.inr 44), some (.inl t), some (.inl i), some (.inl gd), some (.inl j)] [] h Q) (K2 : j ≤ h_vl h 44 0 → gd ≠ 0 → (h_vl h 45 j = 2 ∧ h_vl h 52 j = i) → e_wpc d 115 57 [some (.inr 44), some (.inl t), some (.inl i), some (.inl 0), some (.inl (j + 1))] [] h Q) (K3 : j ≤ h_vl h 44 0 → gd ≠ 0 → ¬ (h_vl h 45 j = 2 ∧ h_vl h 52 j = i) → e_wpc d 115 57 [some (.inr 44), some (.inl t), some (.inl i), some (.inl 1), some (.inl (j + 1))] [] h Q) : e_wpc d 115 57 [some (.inr 44), some (.inl t), some (.inl i), some (.inl gd), some (.inl j)] [] h Q := by
  unfold m_T at hM
  refine e_wpc_blk 100 [57, 104] ?_
  simp only [e_blk_eq, g_go, g_bks, g_bkn, g_gst, g_gsf, e_cl, e_rt, n_0, n_1, n_2, n_3, n_4, n_5, n_6, n_7, n_8, n_9, n_10, n_11, n_12, n_13, n_14, n_15, n_16, n_17, n_18, n_19, n_20, n_21, n_22, n_23, n_24, n_25, n_26, n_27, n_28, n_29, n_30, n_31, n_32, n_33, n_34, n_35, n_36, n_37, n_40, n_41, n_42, n_43, n_44, n_45, n_46, n_50, n_51, n_52, n_53, n_54, n_55, f_ldi, f_lda, f_sti, f_sta, f_inc, f_bin0, f_bin1, f_bin2, f_bin3, f_bin4, f_bin5, f_bin6, f_bin7, f_i2b, f_dup, f_pop, f_dx1, f_if0, f_ic0, f_if1, f_ic1, f_if2, f_ic2, f_if3, f_ic3, f_if4, f_ic4, f_if5, f_ic5, f_ac0, f_ac1, f_nu0, f_nu1, f_sw, f_sw0, f_sw1, f_gti, f_gta, f_pti, f_pta, f_ptz, f_new, f_nwa, f_ild, f_ist, f_bld, f_bst, f_ald, f_ast, f_len, f_cst, f_oin, f_gcl, f_ord, f_mm0, f_mm1, f_cpy, f_re0, f_re1, f_rea, f_rev, f_t50, f_t51, f_t52, f_t53, f_t54, f_t55, f_st, f_sd, f_s2, f_sn, e_in, e_ent, e_inR, Nat.reduceLT, Nat.reduceEqDiff, reduceIte, Nat.reduceBEq, List.length_cons, List.length_nil, List.map_cons, List.map_nil, List.replicate, List.cons_append, List.nil_append, List.append_nil, List.getElem?_cons_zero, List.getElem?_cons_succ, List.getElem?_nil, List.set_cons_zero, List.set_cons_succ, List.take_succ_cons, List.take_zero, List.take_nil, List.drop_succ_cons, List.drop_zero, List.drop_nil, List.reverse_cons, List.reverse_nil, Option.toList_some, Option.toList_none, Int.reduceToNat, hk_put, hl_put, hz_put, hs_put, hv_same, hv_ne, hv_na, hz_new, hs_new, hk_newS, hl_newS, hv_newS, Int.reduceEq, Int.reduceNe, Int.reduceLE, Int.reduceLT, Int.reduceAdd, Int.reduceSub, Int.reduceMul, Int.reduceNeg, Nat.reduceAdd, Nat.reduceSub, Nat.reduceLeDiff, Bool.or_false, Bool.false_or, Bool.or_true, Bool.true_or, or_self, or_false, false_or, true_or, or_true, and_true, true_and, forall_const, decide_eq_true_eq, decide_eq_false_iff_not, Bool.and_eq_true, Bool.false_eq_true, Nat.lt_add_one, imp_self, implies_true, not_true_eq_false, not_false_eq_true, ne_eq, Bool.true_eq_false, Nat.zero_le, Nat.le_refl, and_self, false_implies, q_115, l_115, hM]
  exact ⟨fun hc => K1 (Or.inl (by omega)), fun hc => ⟨fun h1 => K1 (Or.inr h1), fun h1 => ⟨by omega, fun h2 => ⟨by omega, K3 (by omega) h1 (by omega)⟩, fun h2 => ⟨by omega, fun h3 => ⟨by omega, K2 (by omega) h1 (by omega)⟩, fun h3 => ⟨by omega, K3 (by omega) h1 (by omega)⟩⟩⟩⟩⟩
theorem c_open_l0 {d : Nat} {t i : Int} {h : E_H} {Q : Option E_V → E_H → Prop} (hM : m_T h) (hs : 0 ≤ h_vl h 44 0 ∧ h_vl h 44 0 < 204) : ∀ (n : Nat) (j : Int), j + n = h_vl h 44 0 + 1 → 1 ≤ j → (∀ j', e_wpc d 115 104 [some (.inr 44), some (.inl t), some (.inl i), some (.inl (q_b (!q_any (fun j => decide (h_vl h 45 j = 2 ∧ h_vl h 52 j = i)) n j))), some (.inl j')] [] h Q) → e_wpc d 115 57 [some (.inr 44), some (.inl t), some (.inl i), some (.inl 1), some (.inl j)] [] h Q := by
  intro n
  induction n with
  | zero =>
    intro j hj h1 K
    exact c_open_s0 hM hs h1 (fun _ => K j) (fun hc => absurd hc (by omega)) (fun hc => absurd hc (by omega))
  | succ n ih =>
    intro j hj h1 K
    refine c_open_s0 hM hs h1 (fun hc => absurd hc (by omega)) (fun _ _ h2 => ?_) (fun hc _ h2 => ih (j + 1) (by omega) (by omega) (fun j' => ?_))
    · have K' := fun j' => K j'
      simp only [q_any, decide_eq_true h2, if_true] at K'
      exact c_open_s0 hM hs (by omega) (fun _ => K' _) (fun _ z => absurd rfl z) (fun _ z => absurd rfl z)
    · have K' := K j'
      rw [q_any, if_neg (by rw [decide_eq_true_eq]; exact h2)] at K'
      exact K'
set_option maxRecDepth 100000 in
set_option maxHeartbeats 4000000 in
theorem c_open_s1 {d : Nat} {t i : Int} {h : E_H} {Q : Option E_V → E_H → Prop} {l3 l4 : Option E_V} (hd : 1 ≤ d) (hM : m_T h) (hs : 0 ≤ h_vl h 44 0 ∧ h_vl h 44 0 < 204) (hi : i ≤ h_vl h 44 0) (K1 : i ≤ 0 → Q (some (.inl 0)) h) (K2 : 0 < i → m_isop (h_vl h) t i = true → Q (some (.inl i)) h) (K3 : ∀ l3 l4, 0 < i → m_isop (h_vl h) t i = false → e_wpc d 115 5 [some (.inr 44), some (.inl t), some (.inl (i - 1)), l3, l4] [] h Q) : e_wpc d 115 5 [some (.inr 44), some (.inl t), some (.inl i), l3, l4] [] h Q := by
  have hM' := hM
  unfold m_T at hM'
  have J : 0 < i → ∀ gd j : Int, (gd = 0 ∨ gd = 1) → (gd = 1 ↔ m_isop (h_vl h) t i = true) → e_wpc d 115 104 [some (.inr 44), some (.inl t), some (.inl i), some (.inl gd), some (.inl j)] [] h Q := by
    intro h0 gd j hg hgi
    refine e_wpc_blk 100 [5] ?_
    simp only [e_blk_eq, g_go, g_bks, g_bkn, g_gst, g_gsf, e_cl, e_rt, n_0, n_1, n_2, n_3, n_4, n_5, n_6, n_7, n_8, n_9, n_10, n_11, n_12, n_13, n_14, n_15, n_16, n_17, n_18, n_19, n_20, n_21, n_22, n_23, n_24, n_25, n_26, n_27, n_28, n_29, n_30, n_31, n_32, n_33, n_34, n_35, n_36, n_37, n_40, n_41, n_42, n_43, n_44, n_45, n_46, n_50, n_51, n_52, n_53, n_54, n_55, f_ldi, f_lda, f_sti, f_sta, f_inc, f_bin0, f_bin1, f_bin2, f_bin3, f_bin4, f_bin5, f_bin6, f_bin7, f_i2b, f_dup, f_pop, f_dx1, f_if0, f_ic0, f_if1, f_ic1, f_if2, f_ic2, f_if3, f_ic3, f_if4, f_ic4, f_if5, f_ic5, f_ac0, f_ac1, f_nu0, f_nu1, f_sw, f_sw0, f_sw1, f_gti, f_gta, f_pti, f_pta, f_ptz, f_new, f_nwa, f_ild, f_ist, f_bld, f_bst, f_ald, f_ast, f_len, f_cst, f_oin, f_gcl, f_ord, f_mm0, f_mm1, f_cpy, f_re0, f_re1, f_rea, f_rev, f_t50, f_t51, f_t52, f_t53, f_t54, f_t55, f_st, f_sd, f_s2, f_sn, e_in, e_ent, e_inR, Nat.reduceLT, Nat.reduceEqDiff, reduceIte, Nat.reduceBEq, List.length_cons, List.length_nil, List.map_cons, List.map_nil, List.replicate, List.cons_append, List.nil_append, List.append_nil, List.getElem?_cons_zero, List.getElem?_cons_succ, List.getElem?_nil, List.set_cons_zero, List.set_cons_succ, List.take_succ_cons, List.take_zero, List.take_nil, List.drop_succ_cons, List.drop_zero, List.drop_nil, List.reverse_cons, List.reverse_nil, Option.toList_some, Option.toList_none, Int.reduceToNat, hk_put, hl_put, hz_put, hs_put, hv_same, hv_ne, hv_na, hz_new, hs_new, hk_newS, hl_newS, hv_newS, Int.reduceEq, Int.reduceNe, Int.reduceLE, Int.reduceLT, Int.reduceAdd, Int.reduceSub, Int.reduceMul, Int.reduceNeg, Nat.reduceAdd, Nat.reduceSub, Nat.reduceLeDiff, Bool.or_false, Bool.false_or, Bool.or_true, Bool.true_or, or_self, or_false, false_or, true_or, or_true, and_true, true_and, forall_const, decide_eq_true_eq, decide_eq_false_iff_not, Bool.and_eq_true, Bool.false_eq_true, Nat.lt_add_one, imp_self, implies_true, not_true_eq_false, not_false_eq_true, ne_eq, Bool.true_eq_false, Nat.zero_le, Nat.le_refl, and_self, false_implies, q_115, l_115]
    refine ⟨fun h1 => ⟨by omega, ?_⟩, fun h1 => K2 h0 (hgi.mp (by omega))⟩
    have := K3 (some (.inl gd)) (some (.inl j)) h0 (by
      cases hb : m_isop (h_vl h) t i
      · rfl
      · have := hgi.mpr hb
        omega)
    rw [show i - 1 = i + -1 by omega] at this
    exact this
  have J2 : 0 < i → ∀ gd : Int, (gd = 0 ∨ gd = 1) → (gd = 1 ↔ (h_vl h 45 i = 1 ∧ (t = 0 ∨ h_vl h 46 i = t)) ∧ m_comm (h_vl h) (h_vl h 46 i) = false) → ∀ l3 l4, e_wpc d 115 51 [some (.inr 44), some (.inl t), some (.inl i), l3, l4] [.inl gd] h Q := by
    intro h0 gd hg hgi l3 l4
    refine e_wpc_blk 100 [57] ?_
    simp only [e_blk_eq, g_go, g_bks, g_bkn, g_gst, g_gsf, e_cl, e_rt, n_0, n_1, n_2, n_3, n_4, n_5, n_6, n_7, n_8, n_9, n_10, n_11, n_12, n_13, n_14, n_15, n_16, n_17, n_18, n_19, n_20, n_21, n_22, n_23, n_24, n_25, n_26, n_27, n_28, n_29, n_30, n_31, n_32, n_33, n_34, n_35, n_36, n_37, n_40, n_41, n_42, n_43, n_44, n_45, n_46, n_50, n_51, n_52, n_53, n_54, n_55, f_ldi, f_lda, f_sti, f_sta, f_inc, f_bin0, f_bin1, f_bin2, f_bin3, f_bin4, f_bin5, f_bin6, f_bin7, f_i2b, f_dup, f_pop, f_dx1, f_if0, f_ic0, f_if1, f_ic1, f_if2, f_ic2, f_if3, f_ic3, f_if4, f_ic4, f_if5, f_ic5, f_ac0, f_ac1, f_nu0, f_nu1, f_sw, f_sw0, f_sw1, f_gti, f_gta, f_pti, f_pta, f_ptz, f_new, f_nwa, f_ild, f_ist, f_bld, f_bst, f_ald, f_ast, f_len, f_cst, f_oin, f_gcl, f_ord, f_mm0, f_mm1, f_cpy, f_re0, f_re1, f_rea, f_rev, f_t50, f_t51, f_t52, f_t53, f_t54, f_t55, f_st, f_sd, f_s2, f_sn, e_in, e_ent, e_inR, Nat.reduceLT, Nat.reduceEqDiff, reduceIte, Nat.reduceBEq, List.length_cons, List.length_nil, List.map_cons, List.map_nil, List.replicate, List.cons_append, List.nil_append, List.append_nil, List.getElem?_cons_zero, List.getElem?_cons_succ, List.getElem?_nil, List.set_cons_zero, List.set_cons_succ, List.take_succ_cons, List.take_zero, List.take_nil, List.drop_succ_cons, List.drop_zero, List.drop_nil, List.reverse_cons, List.reverse_nil, Option.toList_some, Option.toList_none, Int.reduceToNat, hk_put, hl_put, hz_put, hs_put, hv_same, hv_ne, hv_na, hz_new, hs_new, hk_newS, hl_newS, hv_newS, Int.reduceEq, Int.reduceNe, Int.reduceLE, Int.reduceLT, Int.reduceAdd, Int.reduceSub, Int.reduceMul, Int.reduceNeg, Nat.reduceAdd, Nat.reduceSub, Nat.reduceLeDiff, Bool.or_false, Bool.false_or, Bool.or_true, Bool.true_or, or_self, or_false, false_or, true_or, or_true, and_true, true_and, forall_const, decide_eq_true_eq, decide_eq_false_iff_not, Bool.and_eq_true, Bool.false_eq_true, Nat.lt_add_one, imp_self, implies_true, not_true_eq_false, not_false_eq_true, ne_eq, Bool.true_eq_false, Nat.zero_le, Nat.le_refl, and_self, false_implies, q_115, l_115]
    refine ⟨by omega, ?_⟩
    rcases hg with rfl | rfl
    · refine c_open_s0 hM hs (by omega) (fun _ => J h0 0 _ (Or.inl rfl) ⟨fun z => absurd z (by omega), fun z => ?_⟩) (fun _ z => absurd rfl z) (fun _ z => absurd rfl z)
      simp only [m_isop, Bool.and_eq_true, decide_eq_true_eq, Bool.not_eq_true'] at z
      exact hgi.mpr ⟨z.1, z.2.1⟩
    · refine c_open_l0 hM hs (h_vl h 44 0 - i).toNat (i + 1) (by omega) (by omega) (fun j' => J h0 _ _ ?_ ?_)
      · unfold q_b
        split <;> omega
      · have hg := hgi.mp rfl
        simp only [m_isop, m_back, hg.1, hg.2, q_b]
        cases q_any (fun j => decide (h_vl h 45 j = 2 ∧ h_vl h 52 j = i)) (h_vl h 44 0 - i).toNat (i + 1) <;> simp
  refine e_wpc_blk 100 [5, 51] ?_
  simp only [e_blk_eq, g_go, g_bks, g_bkn, g_gst, g_gsf, e_cl, e_rt, n_0, n_1, n_2, n_3, n_4, n_5, n_6, n_7, n_8, n_9, n_10, n_11, n_12, n_13, n_14, n_15, n_16, n_17, n_18, n_19, n_20, n_21, n_22, n_23, n_24, n_25, n_26, n_27, n_28, n_29, n_30, n_31, n_32, n_33, n_34, n_35, n_36, n_37, n_40, n_41, n_42, n_43, n_44, n_45, n_46, n_50, n_51, n_52, n_53, n_54, n_55, f_ldi, f_lda, f_sti, f_sta, f_inc, f_bin0, f_bin1, f_bin2, f_bin3, f_bin4, f_bin5, f_bin6, f_bin7, f_i2b, f_dup, f_pop, f_dx1, f_if0, f_ic0, f_if1, f_ic1, f_if2, f_ic2, f_if3, f_ic3, f_if4, f_ic4, f_if5, f_ic5, f_ac0, f_ac1, f_nu0, f_nu1, f_sw, f_sw0, f_sw1, f_gti, f_gta, f_pti, f_pta, f_ptz, f_new, f_nwa, f_ild, f_ist, f_bld, f_bst, f_ald, f_ast, f_len, f_cst, f_oin, f_gcl, f_ord, f_mm0, f_mm1, f_cpy, f_re0, f_re1, f_rea, f_rev, f_t50, f_t51, f_t52, f_t53, f_t54, f_t55, f_st, f_sd, f_s2, f_sn, e_in, e_ent, e_inR, Nat.reduceLT, Nat.reduceEqDiff, reduceIte, Nat.reduceBEq, List.length_cons, List.length_nil, List.map_cons, List.map_nil, List.replicate, List.cons_append, List.nil_append, List.append_nil, List.getElem?_cons_zero, List.getElem?_cons_succ, List.getElem?_nil, List.set_cons_zero, List.set_cons_succ, List.take_succ_cons, List.take_zero, List.take_nil, List.drop_succ_cons, List.drop_zero, List.drop_nil, List.reverse_cons, List.reverse_nil, Option.toList_some, Option.toList_none, Int.reduceToNat, hk_put, hl_put, hz_put, hs_put, hv_same, hv_ne, hv_na, hz_new, hs_new, hk_newS, hl_newS, hv_newS, Int.reduceEq, Int.reduceNe, Int.reduceLE, Int.reduceLT, Int.reduceAdd, Int.reduceSub, Int.reduceMul, Int.reduceNeg, Nat.reduceAdd, Nat.reduceSub, Nat.reduceLeDiff, Bool.or_false, Bool.false_or, Bool.or_true, Bool.true_or, or_self, or_false, false_or, true_or, or_true, and_true, true_and, forall_const, decide_eq_true_eq, decide_eq_false_iff_not, Bool.and_eq_true, Bool.false_eq_true, Nat.lt_add_one, imp_self, implies_true, not_true_eq_false, not_false_eq_true, ne_eq, Bool.true_eq_false, Nat.zero_le, Nat.le_refl, and_self, false_implies, q_115, l_115, l_116, hM']
  refine ⟨K1, fun h0 => ⟨by omega, fun h1 => ?_, fun h1 => ⟨fun h2 => ⟨by omega, by omega, ?_⟩, fun h2 => ⟨by omega, fun h3 => ?_, fun h3 => ⟨by omega, by omega, ?_⟩⟩⟩⟩⟩
  · exact J2 (by omega) 0 (Or.inl rfl) ⟨fun z => absurd z (by omega), fun z => absurd z.1.1 h1⟩ _ _
  · refine c_comm hM hs ?_
    simp only [e_blk_eq, g_go, g_bks, g_bkn, g_gst, g_gsf, e_cl, e_rt, n_0, n_1, n_2, n_3, n_4, n_5, n_6, n_7, n_8, n_9, n_10, n_11, n_12, n_13, n_14, n_15, n_16, n_17, n_18, n_19, n_20, n_21, n_22, n_23, n_24, n_25, n_26, n_27, n_28, n_29, n_30, n_31, n_32, n_33, n_34, n_35, n_36, n_37, n_40, n_41, n_42, n_43, n_44, n_45, n_46, n_50, n_51, n_52, n_53, n_54, n_55, f_ldi, f_lda, f_sti, f_sta, f_inc, f_bin0, f_bin1, f_bin2, f_bin3, f_bin4, f_bin5, f_bin6, f_bin7, f_i2b, f_dup, f_pop, f_dx1, f_if0, f_ic0, f_if1, f_ic1, f_if2, f_ic2, f_if3, f_ic3, f_if4, f_ic4, f_if5, f_ic5, f_ac0, f_ac1, f_nu0, f_nu1, f_sw, f_sw0, f_sw1, f_gti, f_gta, f_pti, f_pta, f_ptz, f_new, f_nwa, f_ild, f_ist, f_bld, f_bst, f_ald, f_ast, f_len, f_cst, f_oin, f_gcl, f_ord, f_mm0, f_mm1, f_cpy, f_re0, f_re1, f_rea, f_rev, f_t50, f_t51, f_t52, f_t53, f_t54, f_t55, f_st, f_sd, f_s2, f_sn, e_in, e_ent, e_inR, Nat.reduceLT, Nat.reduceEqDiff, reduceIte, Nat.reduceBEq, List.length_cons, List.length_nil, List.map_cons, List.map_nil, List.replicate, List.cons_append, List.nil_append, List.append_nil, List.getElem?_cons_zero, List.getElem?_cons_succ, List.getElem?_nil, List.set_cons_zero, List.set_cons_succ, List.take_succ_cons, List.take_zero, List.take_nil, List.drop_succ_cons, List.drop_zero, List.drop_nil, List.reverse_cons, List.reverse_nil, Option.toList_some, Option.toList_none, Int.reduceToNat, hk_put, hl_put, hz_put, hs_put, hv_same, hv_ne, hv_na, hz_new, hs_new, hk_newS, hl_newS, hv_newS, Int.reduceEq, Int.reduceNe, Int.reduceLE, Int.reduceLT, Int.reduceAdd, Int.reduceSub, Int.reduceMul, Int.reduceNeg, Nat.reduceAdd, Nat.reduceSub, Nat.reduceLeDiff, Bool.or_false, Bool.false_or, Bool.or_true, Bool.true_or, or_self, or_false, false_or, true_or, or_true, and_true, true_and, forall_const, decide_eq_true_eq, decide_eq_false_iff_not, Bool.and_eq_true, Bool.false_eq_true, Nat.lt_add_one, imp_self, implies_true, not_true_eq_false, not_false_eq_true, ne_eq, Bool.true_eq_false, Nat.zero_le, Nat.le_refl, and_self, false_implies, q_115, l_115]
    refine ⟨fun h3 => ?_, fun h3 => ?_⟩
    · refine J2 (by omega) 0 (Or.inl rfl) ⟨fun z => absurd z (by omega), fun z => ?_⟩ _ _
      rw [z.2] at h3
      exact absurd rfl h3
    · refine J2 (by omega) 1 (Or.inr rfl) ⟨fun _ => ⟨⟨by omega, Or.inl h2⟩, ?_⟩, fun _ => rfl⟩ _ _
      cases hb : m_comm (h_vl h) (h_vl h 46 i)
      · rfl
      · rw [hb] at h3
        exact absurd (Decidable.not_not.mp h3) (by decide)
  · exact J2 (by omega) 0 (Or.inl rfl) ⟨fun z => absurd z (by omega), fun z => by rcases z.1.2 with z | z <;> contradiction⟩ _ _
  · refine c_comm hM hs ?_
    simp only [e_blk_eq, g_go, g_bks, g_bkn, g_gst, g_gsf, e_cl, e_rt, n_0, n_1, n_2, n_3, n_4, n_5, n_6, n_7, n_8, n_9, n_10, n_11, n_12, n_13, n_14, n_15, n_16, n_17, n_18, n_19, n_20, n_21, n_22, n_23, n_24, n_25, n_26, n_27, n_28, n_29, n_30, n_31, n_32, n_33, n_34, n_35, n_36, n_37, n_40, n_41, n_42, n_43, n_44, n_45, n_46, n_50, n_51, n_52, n_53, n_54, n_55, f_ldi, f_lda, f_sti, f_sta, f_inc, f_bin0, f_bin1, f_bin2, f_bin3, f_bin4, f_bin5, f_bin6, f_bin7, f_i2b, f_dup, f_pop, f_dx1, f_if0, f_ic0, f_if1, f_ic1, f_if2, f_ic2, f_if3, f_ic3, f_if4, f_ic4, f_if5, f_ic5, f_ac0, f_ac1, f_nu0, f_nu1, f_sw, f_sw0, f_sw1, f_gti, f_gta, f_pti, f_pta, f_ptz, f_new, f_nwa, f_ild, f_ist, f_bld, f_bst, f_ald, f_ast, f_len, f_cst, f_oin, f_gcl, f_ord, f_mm0, f_mm1, f_cpy, f_re0, f_re1, f_rea, f_rev, f_t50, f_t51, f_t52, f_t53, f_t54, f_t55, f_st, f_sd, f_s2, f_sn, e_in, e_ent, e_inR, Nat.reduceLT, Nat.reduceEqDiff, reduceIte, Nat.reduceBEq, List.length_cons, List.length_nil, List.map_cons, List.map_nil, List.replicate, List.cons_append, List.nil_append, List.append_nil, List.getElem?_cons_zero, List.getElem?_cons_succ, List.getElem?_nil, List.set_cons_zero, List.set_cons_succ, List.take_succ_cons, List.take_zero, List.take_nil, List.drop_succ_cons, List.drop_zero, List.drop_nil, List.reverse_cons, List.reverse_nil, Option.toList_some, Option.toList_none, Int.reduceToNat, hk_put, hl_put, hz_put, hs_put, hv_same, hv_ne, hv_na, hz_new, hs_new, hk_newS, hl_newS, hv_newS, Int.reduceEq, Int.reduceNe, Int.reduceLE, Int.reduceLT, Int.reduceAdd, Int.reduceSub, Int.reduceMul, Int.reduceNeg, Nat.reduceAdd, Nat.reduceSub, Nat.reduceLeDiff, Bool.or_false, Bool.false_or, Bool.or_true, Bool.true_or, or_self, or_false, false_or, true_or, or_true, and_true, true_and, forall_const, decide_eq_true_eq, decide_eq_false_iff_not, Bool.and_eq_true, Bool.false_eq_true, Nat.lt_add_one, imp_self, implies_true, not_true_eq_false, not_false_eq_true, ne_eq, Bool.true_eq_false, Nat.zero_le, Nat.le_refl, and_self, false_implies, q_115, l_115]
    refine ⟨fun h4 => ?_, fun h4 => ?_⟩
    · refine J2 (by omega) 0 (Or.inl rfl) ⟨fun z => absurd z (by omega), fun z => ?_⟩ _ _
      rw [z.2] at h4
      exact absurd rfl h4
    · refine J2 (by omega) 1 (Or.inr rfl) ⟨fun _ => ⟨⟨by omega, Or.inr (by omega)⟩, ?_⟩, fun _ => rfl⟩ _ _
      cases hb : m_comm (h_vl h) (h_vl h 46 i)
      · rfl
      · rw [hb] at h4
        exact absurd (Decidable.not_not.mp h4) (by decide)
theorem c_open_l1 {d : Nat} {t : Int} {h : E_H} {Q : Option E_V → E_H → Prop} (hd : 1 ≤ d) (hM : m_T h) (hs : 0 ≤ h_vl h 44 0 ∧ h_vl h 44 0 < 204) : ∀ (n : Nat) (l3 l4 : Option E_V), n ≤ h_vl h 44 0 → Q (some (.inl (q_last (m_isop (h_vl h) t) n))) h → e_wpc d 115 5 [some (.inr 44), some (.inl t), some (.inl n), l3, l4] [] h Q := by
  intro n
  induction n with
  | zero =>
    intro l3 l4 hi hQ
    exact c_open_s1 hd hM hs hi (fun _ => hQ) (fun z => absurd z (by omega)) (fun _ _ z => absurd z (by omega))
  | succ n ih =>
    intro l3 l4 hi hQ
    refine c_open_s1 hd hM hs hi (fun z => absurd z (by omega)) (fun _ h1 => ?_) (fun l3 l4 _ h1 => ?_)
    · rw [q_last, if_pos (by exact_mod_cast h1)] at hQ
      exact_mod_cast hQ
    · rw [q_last, if_neg (by
        have : ((n + 1 : Nat) : Int) = (n : Int) + 1 := by omega
        rw [← this, h1]
        decide)] at hQ
      rw [show ((n + 1 : Nat) : Int) - 1 = n by omega]
      exact ih l3 l4 (by omega) hQ
set_option maxRecDepth 100000 in
set_option maxHeartbeats 4000000 in
theorem c_open {d : Nat} {t : Int} {h : E_H} {Q : Option E_V → E_H → Prop} (hd : 1 ≤ d) (hM : m_T h) (hs : 0 ≤ h_vl h 44 0 ∧ h_vl h 44 0 < 204) (hQ : Q (some (.inl (m_open (h_vl h) t))) h) : e_wpm d 115 [.inr 44, .inl t] h Q := by
  have hM' := hM
  unfold m_T at hM'
  refine e_wpm_blk 100 [5] ?_
  simp only [e_blk_eq, g_go, g_bks, g_bkn, g_gst, g_gsf, e_cl, e_rt, n_0, n_1, n_2, n_3, n_4, n_5, n_6, n_7, n_8, n_9, n_10, n_11, n_12, n_13, n_14, n_15, n_16, n_17, n_18, n_19, n_20, n_21, n_22, n_23, n_24, n_25, n_26, n_27, n_28, n_29, n_30, n_31, n_32, n_33, n_34, n_35, n_36, n_37, n_40, n_41, n_42, n_43, n_44, n_45, n_46, n_50, n_51, n_52, n_53, n_54, n_55, f_ldi, f_lda, f_sti, f_sta, f_inc, f_bin0, f_bin1, f_bin2, f_bin3, f_bin4, f_bin5, f_bin6, f_bin7, f_i2b, f_dup, f_pop, f_dx1, f_if0, f_ic0, f_if1, f_ic1, f_if2, f_ic2, f_if3, f_ic3, f_if4, f_ic4, f_if5, f_ic5, f_ac0, f_ac1, f_nu0, f_nu1, f_sw, f_sw0, f_sw1, f_gti, f_gta, f_pti, f_pta, f_ptz, f_new, f_nwa, f_ild, f_ist, f_bld, f_bst, f_ald, f_ast, f_len, f_cst, f_oin, f_gcl, f_ord, f_mm0, f_mm1, f_cpy, f_re0, f_re1, f_rea, f_rev, f_t50, f_t51, f_t52, f_t53, f_t54, f_t55, f_st, f_sd, f_s2, f_sn, e_in, e_ent, e_inR, Nat.reduceLT, Nat.reduceEqDiff, reduceIte, Nat.reduceBEq, List.length_cons, List.length_nil, List.map_cons, List.map_nil, List.replicate, List.cons_append, List.nil_append, List.append_nil, List.getElem?_cons_zero, List.getElem?_cons_succ, List.getElem?_nil, List.set_cons_zero, List.set_cons_succ, List.take_succ_cons, List.take_zero, List.take_nil, List.drop_succ_cons, List.drop_zero, List.drop_nil, List.reverse_cons, List.reverse_nil, Option.toList_some, Option.toList_none, Int.reduceToNat, hk_put, hl_put, hz_put, hs_put, hv_same, hv_ne, hv_na, hz_new, hs_new, hk_newS, hl_newS, hv_newS, Int.reduceEq, Int.reduceNe, Int.reduceLE, Int.reduceLT, Int.reduceAdd, Int.reduceSub, Int.reduceMul, Int.reduceNeg, Nat.reduceAdd, Nat.reduceSub, Nat.reduceLeDiff, Bool.or_false, Bool.false_or, Bool.or_true, Bool.true_or, or_self, or_false, false_or, true_or, or_true, and_true, true_and, forall_const, decide_eq_true_eq, decide_eq_false_iff_not, Bool.and_eq_true, Bool.false_eq_true, Nat.lt_add_one, imp_self, implies_true, not_true_eq_false, not_false_eq_true, ne_eq, Bool.true_eq_false, Nat.zero_le, Nat.le_refl, and_self, false_implies, q_115, l_115, hM']
  have := c_open_l1 hd hM hs (h_vl h 44 0).toNat none none (by omega) hQ
  rw [Int.toNat_of_nonneg hs.1] at this
  exact this
def m_tb2 (V1 : Int → Int → Int) (lsn : Int) : Int → Int → Int := v_up (v_up (v_up (m_put V1 2 (V1 46 lsn) (V1 47 lsn)) 52 (V1 44 0 + 1) lsn) 50 (V1 44 0 + 1) (m_put V1 2 (V1 46 lsn) (V1 47 lsn) 48 lsn)) 51 (V1 44 0 + 1) (m_put V1 2 (V1 46 lsn) (V1 47 lsn) 49 lsn)
def m_takeBack (V : Int → Int → Int) (lsn : Int) : Int → Int → Int := m_apply (m_tb2 (m_fetch V (V 47 lsn / 4)) lsn) (V 44 0 + 1)
theorem m_put_ok {V : Int → Int → Int} {k t x : Int} : m_ok V (m_put V k t x) := (((m_ok.rf.us (by omega)).up (by omega)).up (by omega)).up (by omega)
theorem m_apply_ok {V : Int → Int → Int} {x : Int} : m_ok V (m_apply V x) := (((m_ok.rf.up (by omega)).up (by omega)).up (by omega)).up (by omega)
theorem m_tb2_ok {V : Int → Int → Int} {x : Int} : m_ok V (m_tb2 V x) := ((m_put_ok.up (by omega)).up (by omega)).up (by omega)
theorem m_takeBack_ok {V : Int → Int → Int} {x : Int} : m_ok V (m_takeBack V x) := (m_fetch_ok.tr m_tb2_ok).tr m_apply_ok
set_option maxRecDepth 100000 in
set_option maxHeartbeats 4000000 in
theorem c_takeBack {d : Nat} {lsn : Int} {h : E_H} {Q : Option E_V → E_H → Prop} (hd : 2 ≤ d) (hM : m_T h) (hl : 0 ≤ lsn ∧ lsn < 204) (hs : 0 ≤ h_vl h 44 0 ∧ h_vl h 44 0 < 203) (hsp : 0 ≤ h_vl h 47 lsn ∧ h_vl h 47 lsn < 24) (hov : m_ov (h_vl h)) (hne : lsn ≤ h_vl h 44 0) (hQ : Q none (h_wv h (m_takeBack (h_vl h) lsn))) : e_wpm d 117 [.inr 44, .inl lsn] h Q := by
  have hM' := hM
  unfold m_T at hM'
  refine e_wpm_blk 100 [] ?_
  simp only [e_blk_eq, g_go, g_bks, g_bkn, g_gst, g_gsf, e_cl, e_rt, n_0, n_1, n_2, n_3, n_4, n_5, n_6, n_7, n_8, n_9, n_10, n_11, n_12, n_13, n_14, n_15, n_16, n_17, n_18, n_19, n_20, n_21, n_22, n_23, n_24, n_25, n_26, n_27, n_28, n_29, n_30, n_31, n_32, n_33, n_34, n_35, n_36, n_37, n_40, n_41, n_42, n_43, n_44, n_45, n_46, n_50, n_51, n_52, n_53, n_54, n_55, f_ldi, f_lda, f_sti, f_sta, f_inc, f_bin0, f_bin1, f_bin2, f_bin3, f_bin4, f_bin5, f_bin6, f_bin7, f_i2b, f_dup, f_pop, f_dx1, f_if0, f_ic0, f_if1, f_ic1, f_if2, f_ic2, f_if3, f_ic3, f_if4, f_ic4, f_if5, f_ic5, f_ac0, f_ac1, f_nu0, f_nu1, f_sw, f_sw0, f_sw1, f_gti, f_gta, f_pti, f_pta, f_ptz, f_new, f_nwa, f_ild, f_ist, f_bld, f_bst, f_ald, f_ast, f_len, f_cst, f_oin, f_gcl, f_ord, f_mm0, f_mm1, f_cpy, f_re0, f_re1, f_rea, f_rev, f_t50, f_t51, f_t52, f_t53, f_t54, f_t55, f_st, f_sd, f_s2, f_sn, e_in, e_ent, e_inR, Nat.reduceLT, Nat.reduceEqDiff, reduceIte, Nat.reduceBEq, List.length_cons, List.length_nil, List.map_cons, List.map_nil, List.replicate, List.cons_append, List.nil_append, List.append_nil, List.getElem?_cons_zero, List.getElem?_cons_succ, List.getElem?_nil, List.set_cons_zero, List.set_cons_succ, List.take_succ_cons, List.take_zero, List.take_nil, List.drop_succ_cons, List.drop_zero, List.drop_nil, List.reverse_cons, List.reverse_nil, Option.toList_some, Option.toList_none, Int.reduceToNat, hk_put, hl_put, hz_put, hs_put, hv_same, hv_ne, hv_na, hz_new, hs_new, hk_newS, hl_newS, hv_newS, Int.reduceEq, Int.reduceNe, Int.reduceLE, Int.reduceLT, Int.reduceAdd, Int.reduceSub, Int.reduceMul, Int.reduceNeg, Nat.reduceAdd, Nat.reduceSub, Nat.reduceLeDiff, Bool.or_false, Bool.false_or, Bool.or_true, Bool.true_or, or_self, or_false, false_or, true_or, or_true, and_true, true_and, forall_const, decide_eq_true_eq, decide_eq_false_iff_not, Bool.and_eq_true, Bool.false_eq_true, Nat.lt_add_one, imp_self, implies_true, not_true_eq_false, not_false_eq_true, ne_eq, Bool.true_eq_false, Nat.zero_le, Nat.le_refl, and_self, false_implies, q_117, l_117, l_107, hM']
  refine ⟨by omega, by omega, by omega, ?_⟩
  refine c_fetch (by omega) hM (by omega) hov ?_
  have hM1 : m_T (h_wv h (m_fetch (h_vl h) (h_vl h 47 lsn / 4))) := hM.wv m_fetch_ok
  have hM1' := hM1
  unfold m_T at hM1'
  simp only [e_blk_eq, g_go, g_bks, g_bkn, g_gst, g_gsf, e_cl, e_rt, n_0, n_1, n_2, n_3, n_4, n_5, n_6, n_7, n_8, n_9, n_10, n_11, n_12, n_13, n_14, n_15, n_16, n_17, n_18, n_19, n_20, n_21, n_22, n_23, n_24, n_25, n_26, n_27, n_28, n_29, n_30, n_31, n_32, n_33, n_34, n_35, n_36, n_37, n_40, n_41, n_42, n_43, n_44, n_45, n_46, n_50, n_51, n_52, n_53, n_54, n_55, f_ldi, f_lda, f_sti, f_sta, f_inc, f_bin0, f_bin1, f_bin2, f_bin3, f_bin4, f_bin5, f_bin6, f_bin7, f_i2b, f_dup, f_pop, f_dx1, f_if0, f_ic0, f_if1, f_ic1, f_if2, f_ic2, f_if3, f_ic3, f_if4, f_ic4, f_if5, f_ic5, f_ac0, f_ac1, f_nu0, f_nu1, f_sw, f_sw0, f_sw1, f_gti, f_gta, f_pti, f_pta, f_ptz, f_new, f_nwa, f_ild, f_ist, f_bld, f_bst, f_ald, f_ast, f_len, f_cst, f_oin, f_gcl, f_ord, f_mm0, f_mm1, f_cpy, f_re0, f_re1, f_rea, f_rev, f_t50, f_t51, f_t52, f_t53, f_t54, f_t55, f_st, f_sd, f_s2, f_sn, e_in, e_ent, e_inR, Nat.reduceLT, Nat.reduceEqDiff, reduceIte, Nat.reduceBEq, List.length_cons, List.length_nil, List.map_cons, List.map_nil, List.replicate, List.cons_append, List.nil_append, List.append_nil, List.getElem?_cons_zero, List.getElem?_cons_succ, List.getElem?_nil, List.set_cons_zero, List.set_cons_succ, List.take_succ_cons, List.take_zero, List.take_nil, List.drop_succ_cons, List.drop_zero, List.drop_nil, List.reverse_cons, List.reverse_nil, Option.toList_some, Option.toList_none, Int.reduceToNat, hk_put, hl_put, hz_put, hs_put, hv_same, hv_ne, hv_na, hz_new, hs_new, hk_newS, hl_newS, hv_newS, Int.reduceEq, Int.reduceNe, Int.reduceLE, Int.reduceLT, Int.reduceAdd, Int.reduceSub, Int.reduceMul, Int.reduceNeg, Nat.reduceAdd, Nat.reduceSub, Nat.reduceLeDiff, Bool.or_false, Bool.false_or, Bool.or_true, Bool.true_or, or_self, or_false, false_or, true_or, or_true, and_true, true_and, forall_const, decide_eq_true_eq, decide_eq_false_iff_not, Bool.and_eq_true, Bool.false_eq_true, Nat.lt_add_one, imp_self, implies_true, not_true_eq_false, not_false_eq_true, ne_eq, Bool.true_eq_false, Nat.zero_le, Nat.le_refl, and_self, false_implies, q_117, l_117, l_110, hM1']
  have e1 : m_fetch (h_vl h) (h_vl h 47 lsn / 4) 44 0 = h_vl h 44 0 := m_fetch_44 (by omega)
  refine ⟨by omega, by omega, by omega, ?_⟩
  refine c_put hM1 (by rw [hv_wv, e1]; exact hs) ?_
  have hM2 := hM1.wv (m_put_ok (V := h_vl (h_wv h (m_fetch (h_vl h) (h_vl h 47 lsn / 4)))) (k := 2) (t := h_vl (h_wv h (m_fetch (h_vl h) (h_vl h 47 lsn / 4))) 46 lsn) (x := h_vl (h_wv h (m_fetch (h_vl h) (h_vl h 47 lsn / 4))) 47 lsn))
  have hM2' := hM2
  unfold m_T at hM2'
  simp only [e_blk_eq, g_go, g_bks, g_bkn, g_gst, g_gsf, e_cl, e_rt, n_0, n_1, n_2, n_3, n_4, n_5, n_6, n_7, n_8, n_9, n_10, n_11, n_12, n_13, n_14, n_15, n_16, n_17, n_18, n_19, n_20, n_21, n_22, n_23, n_24, n_25, n_26, n_27, n_28, n_29, n_30, n_31, n_32, n_33, n_34, n_35, n_36, n_37, n_40, n_41, n_42, n_43, n_44, n_45, n_46, n_50, n_51, n_52, n_53, n_54, n_55, f_ldi, f_lda, f_sti, f_sta, f_inc, f_bin0, f_bin1, f_bin2, f_bin3, f_bin4, f_bin5, f_bin6, f_bin7, f_i2b, f_dup, f_pop, f_dx1, f_if0, f_ic0, f_if1, f_ic1, f_if2, f_ic2, f_if3, f_ic3, f_if4, f_ic4, f_if5, f_ic5, f_ac0, f_ac1, f_nu0, f_nu1, f_sw, f_sw0, f_sw1, f_gti, f_gta, f_pti, f_pta, f_ptz, f_new, f_nwa, f_ild, f_ist, f_bld, f_bst, f_ald, f_ast, f_len, f_cst, f_oin, f_gcl, f_ord, f_mm0, f_mm1, f_cpy, f_re0, f_re1, f_rea, f_rev, f_t50, f_t51, f_t52, f_t53, f_t54, f_t55, f_st, f_sd, f_s2, f_sn, e_in, e_ent, e_inR, Nat.reduceLT, Nat.reduceEqDiff, reduceIte, Nat.reduceBEq, List.length_cons, List.length_nil, List.map_cons, List.map_nil, List.replicate, List.cons_append, List.nil_append, List.append_nil, List.getElem?_cons_zero, List.getElem?_cons_succ, List.getElem?_nil, List.set_cons_zero, List.set_cons_succ, List.take_succ_cons, List.take_zero, List.take_nil, List.drop_succ_cons, List.drop_zero, List.drop_nil, List.reverse_cons, List.reverse_nil, Option.toList_some, Option.toList_none, Int.reduceToNat, hk_put, hl_put, hz_put, hs_put, hv_same, hv_ne, hv_na, hz_new, hs_new, hk_newS, hl_newS, hv_newS, Int.reduceEq, Int.reduceNe, Int.reduceLE, Int.reduceLT, Int.reduceAdd, Int.reduceSub, Int.reduceMul, Int.reduceNeg, Nat.reduceAdd, Nat.reduceSub, Nat.reduceLeDiff, Bool.or_false, Bool.false_or, Bool.or_true, Bool.true_or, or_self, or_false, false_or, true_or, or_true, and_true, true_and, forall_const, decide_eq_true_eq, decide_eq_false_iff_not, Bool.and_eq_true, Bool.false_eq_true, Nat.lt_add_one, imp_self, implies_true, not_true_eq_false, not_false_eq_true, ne_eq, Bool.true_eq_false, Nat.zero_le, Nat.le_refl, and_self, false_implies, q_117, l_117, l_111, hM2']
  have e2 : h_vl (h_wv h (m_fetch (h_vl h) (h_vl h 47 lsn / 4))) 44 0 = h_vl h 44 0 := e1
  rw [e2]
  have e3 : ∀ j, m_fetch (h_vl h) (h_vl h 47 lsn / 4) 47 j = h_vl h 47 j := fun j => m_fetch_na (by omega)
  refine ⟨by omega, hl, by omega, hl, by omega, by omega, c_apply (((hM2.put (by omega)).put (by omega)).put (by omega)) (by omega) ?_ ?_⟩
  · rw [hv_na (by omega), hv_na (by omega), hv_na (by omega), hv_wv, m_put, hvf_wv, e1, v_same, e3]
    exact hsp
  · unfold m_takeBack m_tb2 at hQ
    rw [e1] at hQ
    simp only [e_blk_eq, g_go, g_bks, g_bkn, g_gst, g_gsf, e_cl, e_rt, n_0, n_1, n_2, n_3, n_4, n_5, n_6, n_7, n_8, n_9, n_10, n_11, n_12, n_13, n_14, n_15, n_16, n_17, n_18, n_19, n_20, n_21, n_22, n_23, n_24, n_25, n_26, n_27, n_28, n_29, n_30, n_31, n_32, n_33, n_34, n_35, n_36, n_37, n_40, n_41, n_42, n_43, n_44, n_45, n_46, n_50, n_51, n_52, n_53, n_54, n_55, f_ldi, f_lda, f_sti, f_sta, f_inc, f_bin0, f_bin1, f_bin2, f_bin3, f_bin4, f_bin5, f_bin6, f_bin7, f_i2b, f_dup, f_pop, f_dx1, f_if0, f_ic0, f_if1, f_ic1, f_if2, f_ic2, f_if3, f_ic3, f_if4, f_ic4, f_if5, f_ic5, f_ac0, f_ac1, f_nu0, f_nu1, f_sw, f_sw0, f_sw1, f_gti, f_gta, f_pti, f_pta, f_ptz, f_new, f_nwa, f_ild, f_ist, f_bld, f_bst, f_ald, f_ast, f_len, f_cst, f_oin, f_gcl, f_ord, f_mm0, f_mm1, f_cpy, f_re0, f_re1, f_rea, f_rev, f_t50, f_t51, f_t52, f_t53, f_t54, f_t55, f_st, f_sd, f_s2, f_sn, e_in, e_ent, e_inR, Nat.reduceLT, Nat.reduceEqDiff, reduceIte, Nat.reduceBEq, List.length_cons, List.length_nil, List.map_cons, List.map_nil, List.replicate, List.cons_append, List.nil_append, List.append_nil, List.getElem?_cons_zero, List.getElem?_cons_succ, List.getElem?_nil, List.set_cons_zero, List.set_cons_succ, List.take_succ_cons, List.take_zero, List.take_nil, List.drop_succ_cons, List.drop_zero, List.drop_nil, List.reverse_cons, List.reverse_nil, Option.toList_some, Option.toList_none, Int.reduceToNat, hk_put, hl_put, hz_put, hs_put, hv_same, hv_ne, hv_na, hz_new, hs_new, hk_newS, hl_newS, hv_newS, Int.reduceEq, Int.reduceNe, Int.reduceLE, Int.reduceLT, Int.reduceAdd, Int.reduceSub, Int.reduceMul, Int.reduceNeg, Nat.reduceAdd, Nat.reduceSub, Nat.reduceLeDiff, Bool.or_false, Bool.false_or, Bool.or_true, Bool.true_or, or_self, or_false, false_or, true_or, or_true, and_true, true_and, forall_const, decide_eq_true_eq, decide_eq_false_iff_not, Bool.and_eq_true, Bool.false_eq_true, Nat.lt_add_one, imp_self, implies_true, not_true_eq_false, not_false_eq_true, ne_eq, Bool.true_eq_false, Nat.zero_le, Nat.le_refl, and_self, false_implies, q_117, l_117]
    exact hQ
def m_live (V : Int → Int → Int) (t : Int) : Bool := decide (1 ≤ V 62 t ∧ V 62 t ≤ 3)
set_option maxRecDepth 100000 in
set_option maxHeartbeats 4000000 in
theorem c_live {d : Nat} {t : Int} {h : E_H} {Q : Option E_V → E_H → Prop} (hM : m_T h) (ht : 0 ≤ t ∧ t ≤ 60) (hQ : Q (some (.inl (q_b (m_live (h_vl h) t)))) h) : e_wpm d 97 [.inr 44, .inl t] h Q := by
  unfold m_T at hM
  refine e_wpm_blk 100 [] ?_
  simp only [e_blk_eq, g_go, g_bks, g_bkn, g_gst, g_gsf, e_cl, e_rt, n_0, n_1, n_2, n_3, n_4, n_5, n_6, n_7, n_8, n_9, n_10, n_11, n_12, n_13, n_14, n_15, n_16, n_17, n_18, n_19, n_20, n_21, n_22, n_23, n_24, n_25, n_26, n_27, n_28, n_29, n_30, n_31, n_32, n_33, n_34, n_35, n_36, n_37, n_40, n_41, n_42, n_43, n_44, n_45, n_46, n_50, n_51, n_52, n_53, n_54, n_55, f_ldi, f_lda, f_sti, f_sta, f_inc, f_bin0, f_bin1, f_bin2, f_bin3, f_bin4, f_bin5, f_bin6, f_bin7, f_i2b, f_dup, f_pop, f_dx1, f_if0, f_ic0, f_if1, f_ic1, f_if2, f_ic2, f_if3, f_ic3, f_if4, f_ic4, f_if5, f_ic5, f_ac0, f_ac1, f_nu0, f_nu1, f_sw, f_sw0, f_sw1, f_gti, f_gta, f_pti, f_pta, f_ptz, f_new, f_nwa, f_ild, f_ist, f_bld, f_bst, f_ald, f_ast, f_len, f_cst, f_oin, f_gcl, f_ord, f_mm0, f_mm1, f_cpy, f_re0, f_re1, f_rea, f_rev, f_t50, f_t51, f_t52, f_t53, f_t54, f_t55, f_st, f_sd, f_s2, f_sn, e_in, e_ent, e_inR, Nat.reduceLT, Nat.reduceEqDiff, reduceIte, Nat.reduceBEq, List.length_cons, List.length_nil, List.map_cons, List.map_nil, List.replicate, List.cons_append, List.nil_append, List.append_nil, List.getElem?_cons_zero, List.getElem?_cons_succ, List.getElem?_nil, List.set_cons_zero, List.set_cons_succ, List.take_succ_cons, List.take_zero, List.take_nil, List.drop_succ_cons, List.drop_zero, List.drop_nil, List.reverse_cons, List.reverse_nil, Option.toList_some, Option.toList_none, Int.reduceToNat, hk_put, hl_put, hz_put, hs_put, hv_same, hv_ne, hv_na, hz_new, hs_new, hk_newS, hl_newS, hv_newS, Int.reduceEq, Int.reduceNe, Int.reduceLE, Int.reduceLT, Int.reduceAdd, Int.reduceSub, Int.reduceMul, Int.reduceNeg, Nat.reduceAdd, Nat.reduceSub, Nat.reduceLeDiff, Bool.or_false, Bool.false_or, Bool.or_true, Bool.true_or, or_self, or_false, false_or, true_or, or_true, and_true, true_and, forall_const, decide_eq_true_eq, decide_eq_false_iff_not, Bool.and_eq_true, Bool.false_eq_true, Nat.lt_add_one, imp_self, implies_true, not_true_eq_false, not_false_eq_true, ne_eq, Bool.true_eq_false, Nat.zero_le, Nat.le_refl, and_self, false_implies, q_97, l_97, hM]
  unfold m_live q_b at hQ
  simp only [decide_eq_true_eq] at hQ
  refine ⟨by omega, fun h1 => ?_, fun h1 => ⟨by omega, fun h2 => ?_, fun h2 => ?_⟩⟩
  · rw [if_neg (by omega)] at hQ; exact hQ
  · rw [if_neg (by omega)] at hQ; exact hQ
  · rw [if_pos (by omega)] at hQ; exact hQ
def m_isIn (V : Int → Int → Int) (t s : Int) : Bool := decide (V 44 32 = 0 ∧ 1 ≤ t ∧ t ≤ V 44 22 ∧ V 62 t = s)
set_option maxRecDepth 100000 in
set_option maxHeartbeats 4000000 in
theorem c_isIn {d : Nat} {t s : Int} {h : E_H} {Q : Option E_V → E_H → Prop} (hM : m_T h) (hb : h_vl h 44 22 ≤ 60) (hQ : Q (some (.inl (q_b (m_isIn (h_vl h) t s)))) h) : e_wpm d 100 [.inr 44, .inl t, .inl s] h Q := by
  unfold m_T at hM
  refine e_wpm_blk 100 [] ?_
  simp only [e_blk_eq, g_go, g_bks, g_bkn, g_gst, g_gsf, e_cl, e_rt, n_0, n_1, n_2, n_3, n_4, n_5, n_6, n_7, n_8, n_9, n_10, n_11, n_12, n_13, n_14, n_15, n_16, n_17, n_18, n_19, n_20, n_21, n_22, n_23, n_24, n_25, n_26, n_27, n_28, n_29, n_30, n_31, n_32, n_33, n_34, n_35, n_36, n_37, n_40, n_41, n_42, n_43, n_44, n_45, n_46, n_50, n_51, n_52, n_53, n_54, n_55, f_ldi, f_lda, f_sti, f_sta, f_inc, f_bin0, f_bin1, f_bin2, f_bin3, f_bin4, f_bin5, f_bin6, f_bin7, f_i2b, f_dup, f_pop, f_dx1, f_if0, f_ic0, f_if1, f_ic1, f_if2, f_ic2, f_if3, f_ic3, f_if4, f_ic4, f_if5, f_ic5, f_ac0, f_ac1, f_nu0, f_nu1, f_sw, f_sw0, f_sw1, f_gti, f_gta, f_pti, f_pta, f_ptz, f_new, f_nwa, f_ild, f_ist, f_bld, f_bst, f_ald, f_ast, f_len, f_cst, f_oin, f_gcl, f_ord, f_mm0, f_mm1, f_cpy, f_re0, f_re1, f_rea, f_rev, f_t50, f_t51, f_t52, f_t53, f_t54, f_t55, f_st, f_sd, f_s2, f_sn, e_in, e_ent, e_inR, Nat.reduceLT, Nat.reduceEqDiff, reduceIte, Nat.reduceBEq, List.length_cons, List.length_nil, List.map_cons, List.map_nil, List.replicate, List.cons_append, List.nil_append, List.append_nil, List.getElem?_cons_zero, List.getElem?_cons_succ, List.getElem?_nil, List.set_cons_zero, List.set_cons_succ, List.take_succ_cons, List.take_zero, List.take_nil, List.drop_succ_cons, List.drop_zero, List.drop_nil, List.reverse_cons, List.reverse_nil, Option.toList_some, Option.toList_none, Int.reduceToNat, hk_put, hl_put, hz_put, hs_put, hv_same, hv_ne, hv_na, hz_new, hs_new, hk_newS, hl_newS, hv_newS, Int.reduceEq, Int.reduceNe, Int.reduceLE, Int.reduceLT, Int.reduceAdd, Int.reduceSub, Int.reduceMul, Int.reduceNeg, Nat.reduceAdd, Nat.reduceSub, Nat.reduceLeDiff, Bool.or_false, Bool.false_or, Bool.or_true, Bool.true_or, or_self, or_false, false_or, true_or, or_true, and_true, true_and, forall_const, decide_eq_true_eq, decide_eq_false_iff_not, Bool.and_eq_true, Bool.false_eq_true, Nat.lt_add_one, imp_self, implies_true, not_true_eq_false, not_false_eq_true, ne_eq, Bool.true_eq_false, Nat.zero_le, Nat.le_refl, and_self, false_implies, q_100, l_100, hM]
  unfold m_isIn q_b at hQ
  simp only [decide_eq_true_eq] at hQ
  refine ⟨fun h1 => ?_, fun h1 => ⟨fun h2 => ?_, fun h2 => ⟨fun h3 => ?_, fun h3 => ⟨by omega, fun h4 => ?_, fun h4 => ?_⟩⟩⟩⟩
  · rw [if_neg (by omega)] at hQ; exact hQ
  · rw [if_neg (by omega)] at hQ; exact hQ
  · rw [if_neg (by omega)] at hQ; exact hQ
  · rw [if_neg (by omega)] at hQ; exact hQ
  · rw [if_pos (by omega)] at hQ; exact hQ
def m_ulk (V : Int → Int → Int) (t : Int) : Nat → Int → (Int → Int → Int)
  | 0, _ => V
  | n + 1, k => m_ulk (v_up V 69 (100 * t + k) 0) t n (k + 1)
def m_unlock (V : Int → Int → Int) (t : Int) : Int → Int → Int := m_ulk V t 100 0
set_option maxRecDepth 100000 in
set_option maxHeartbeats 4000000 in
theorem c_unlock_s {d : Nat} {t k : Int} {h : E_H} {Q : Option E_V → E_H → Prop} (hM : m_T h) (ht : 0 ≤ t ∧ t ≤ 60) (hk : 0 ≤ k) (K1 : 100 ≤ k → Q none h) (K2 : k < 100 → e_wpc d 118 2 [some (.inr 44), some (.inl t), some (.inl (k + 1))] [] (h_put h 69 (100 * t + k) 0) Q) : e_wpc d 118 2 [some (.inr 44), some (.inl t), some (.inl k)] [] h Q := by
  unfold m_T at hM
  refine e_wpc_blk 100 [2] ?_
  simp only [e_blk_eq, g_go, g_bks, g_bkn, g_gst, g_gsf, e_cl, e_rt, n_0, n_1, n_2, n_3, n_4, n_5, n_6, n_7, n_8, n_9, n_10, n_11, n_12, n_13, n_14, n_15, n_16, n_17, n_18, n_19, n_20, n_21, n_22, n_23, n_24, n_25, n_26, n_27, n_28, n_29, n_30, n_31, n_32, n_33, n_34, n_35, n_36, n_37, n_40, n_41, n_42, n_43, n_44, n_45, n_46, n_50, n_51, n_52, n_53, n_54, n_55, f_ldi, f_lda, f_sti, f_sta, f_inc, f_bin0, f_bin1, f_bin2, f_bin3, f_bin4, f_bin5, f_bin6, f_bin7, f_i2b, f_dup, f_pop, f_dx1, f_if0, f_ic0, f_if1, f_ic1, f_if2, f_ic2, f_if3, f_ic3, f_if4, f_ic4, f_if5, f_ic5, f_ac0, f_ac1, f_nu0, f_nu1, f_sw, f_sw0, f_sw1, f_gti, f_gta, f_pti, f_pta, f_ptz, f_new, f_nwa, f_ild, f_ist, f_bld, f_bst, f_ald, f_ast, f_len, f_cst, f_oin, f_gcl, f_ord, f_mm0, f_mm1, f_cpy, f_re0, f_re1, f_rea, f_rev, f_t50, f_t51, f_t52, f_t53, f_t54, f_t55, f_st, f_sd, f_s2, f_sn, e_in, e_ent, e_inR, Nat.reduceLT, Nat.reduceEqDiff, reduceIte, Nat.reduceBEq, List.length_cons, List.length_nil, List.map_cons, List.map_nil, List.replicate, List.cons_append, List.nil_append, List.append_nil, List.getElem?_cons_zero, List.getElem?_cons_succ, List.getElem?_nil, List.set_cons_zero, List.set_cons_succ, List.take_succ_cons, List.take_zero, List.take_nil, List.drop_succ_cons, List.drop_zero, List.drop_nil, List.reverse_cons, List.reverse_nil, Option.toList_some, Option.toList_none, Int.reduceToNat, hk_put, hl_put, hz_put, hs_put, hv_same, hv_ne, hv_na, hz_new, hs_new, hk_newS, hl_newS, hv_newS, Int.reduceEq, Int.reduceNe, Int.reduceLE, Int.reduceLT, Int.reduceAdd, Int.reduceSub, Int.reduceMul, Int.reduceNeg, Nat.reduceAdd, Nat.reduceSub, Nat.reduceLeDiff, Bool.or_false, Bool.false_or, Bool.or_true, Bool.true_or, or_self, or_false, false_or, true_or, or_true, and_true, true_and, forall_const, decide_eq_true_eq, decide_eq_false_iff_not, Bool.and_eq_true, Bool.false_eq_true, Nat.lt_add_one, imp_self, implies_true, not_true_eq_false, not_false_eq_true, ne_eq, Bool.true_eq_false, Nat.zero_le, Nat.le_refl, and_self, false_implies, q_118, l_118, hM]
  exact ⟨fun hc => K1 hc, fun hc => ⟨by omega, by omega, by omega, by omega, K2 (by omega)⟩⟩
theorem c_unlock_l {d : Nat} {t : Int} {Q : Option E_V → E_H → Prop} (ht : 0 ≤ t ∧ t ≤ 60) : ∀ (n : Nat) (k : Int) (h : E_H), m_T h → k + n = 100 → 0 ≤ k → Q none (h_wv h (m_ulk (h_vl h) t n k)) → e_wpc d 118 2 [some (.inr 44), some (.inl t), some (.inl k)] [] h Q := by
  intro n
  induction n with
  | zero => intro k h hM hk h0 hQ; exact c_unlock_s hM ht h0 (fun _ => hQ) (fun hc => absurd hc (by omega))
  | succ n ih => intro k h hM hk h0 hQ; exact c_unlock_s hM ht h0 (fun hc => absurd hc (by omega)) (fun hc => ih (k + 1) _ (hM.put (by omega)) (by omega) (by omega) hQ)
set_option maxRecDepth 100000 in
set_option maxHeartbeats 4000000 in
theorem c_unlock {d : Nat} {t : Int} {h : E_H} {Q : Option E_V → E_H → Prop} (hM : m_T h) (ht : 0 ≤ t ∧ t ≤ 60) (hQ : Q none (h_wv h (m_unlock (h_vl h) t))) : e_wpm d 118 [.inr 44, .inl t] h Q := by
  refine e_wpm_blk 100 [2] ?_
  simp only [e_blk_eq, g_go, g_bks, g_bkn, g_gst, g_gsf, e_cl, e_rt, n_0, n_1, n_2, n_3, n_4, n_5, n_6, n_7, n_8, n_9, n_10, n_11, n_12, n_13, n_14, n_15, n_16, n_17, n_18, n_19, n_20, n_21, n_22, n_23, n_24, n_25, n_26, n_27, n_28, n_29, n_30, n_31, n_32, n_33, n_34, n_35, n_36, n_37, n_40, n_41, n_42, n_43, n_44, n_45, n_46, n_50, n_51, n_52, n_53, n_54, n_55, f_ldi, f_lda, f_sti, f_sta, f_inc, f_bin0, f_bin1, f_bin2, f_bin3, f_bin4, f_bin5, f_bin6, f_bin7, f_i2b, f_dup, f_pop, f_dx1, f_if0, f_ic0, f_if1, f_ic1, f_if2, f_ic2, f_if3, f_ic3, f_if4, f_ic4, f_if5, f_ic5, f_ac0, f_ac1, f_nu0, f_nu1, f_sw, f_sw0, f_sw1, f_gti, f_gta, f_pti, f_pta, f_ptz, f_new, f_nwa, f_ild, f_ist, f_bld, f_bst, f_ald, f_ast, f_len, f_cst, f_oin, f_gcl, f_ord, f_mm0, f_mm1, f_cpy, f_re0, f_re1, f_rea, f_rev, f_t50, f_t51, f_t52, f_t53, f_t54, f_t55, f_st, f_sd, f_s2, f_sn, e_in, e_ent, e_inR, Nat.reduceLT, Nat.reduceEqDiff, reduceIte, Nat.reduceBEq, List.length_cons, List.length_nil, List.map_cons, List.map_nil, List.replicate, List.cons_append, List.nil_append, List.append_nil, List.getElem?_cons_zero, List.getElem?_cons_succ, List.getElem?_nil, List.set_cons_zero, List.set_cons_succ, List.take_succ_cons, List.take_zero, List.take_nil, List.drop_succ_cons, List.drop_zero, List.drop_nil, List.reverse_cons, List.reverse_nil, Option.toList_some, Option.toList_none, Int.reduceToNat, hk_put, hl_put, hz_put, hs_put, hv_same, hv_ne, hv_na, hz_new, hs_new, hk_newS, hl_newS, hv_newS, Int.reduceEq, Int.reduceNe, Int.reduceLE, Int.reduceLT, Int.reduceAdd, Int.reduceSub, Int.reduceMul, Int.reduceNeg, Nat.reduceAdd, Nat.reduceSub, Nat.reduceLeDiff, Bool.or_false, Bool.false_or, Bool.or_true, Bool.true_or, or_self, or_false, false_or, true_or, or_true, and_true, true_and, forall_const, decide_eq_true_eq, decide_eq_false_iff_not, Bool.and_eq_true, Bool.false_eq_true, Nat.lt_add_one, imp_self, implies_true, not_true_eq_false, not_false_eq_true, ne_eq, Bool.true_eq_false, Nat.zero_le, Nat.le_refl, and_self, false_implies, q_118, l_118]
  exact c_unlock_l ht 100 0 h hM (by omega) (by omega) hQ
theorem m_ulk_ok {t : Int} : ∀ {n : Nat} {V : Int → Int → Int} {k : Int}, m_ok V (m_ulk V t n k) := by
  intro n
  induction n with
  | zero => intro V k; exact m_ok.rf
  | succ n ih => intro V k; exact (m_ok.rf.up (by omega)).tr ih
theorem m_unlock_ok {V : Int → Int → Int} {t : Int} : m_ok V (m_unlock V t) := m_ulk_ok
def m_conf (V : Int → Int → Int) (t u : Int) : Bool := decide (u ≠ t ∧ 0 < V 69 (100 * u + V 65 t) ∧ (V 69 (100 * u + V 65 t) = 2 ∨ V 66 t = 2))
def m_ahead (V : Int → Int → Int) (t u : Int) : Bool := decide (u ≠ t ∧ V 62 u = 2 ∧ V 65 u = V 65 t ∧ V 68 u < V 68 t)
def m_waits (V : Int → Int → Int) (t u : Int) : Bool := decide (V 62 t = 2) && (m_conf V t u || (decide (V 69 (100 * t + V 65 t) = 0) && m_ahead V t u))
set_option maxRecDepth 100000 in
set_option maxHeartbeats 4000000 in
theorem c_conf {d : Nat} {t u : Int} {h : E_H} {Q : Option E_V → E_H → Prop} (hM : m_T h) (ht : 0 ≤ t ∧ t ≤ 60) (hu : 0 ≤ u ∧ u ≤ 60) (hk : 0 ≤ h_vl h 65 t ∧ h_vl h 65 t ≤ 99) (hQ : Q (some (.inl (q_b (m_conf (h_vl h) t u)))) h) : e_wpm d 102 [.inr 44, .inl t, .inl u] h Q := by
  unfold m_T at hM
  refine e_wpm_blk 100 [] ?_
  simp only [e_blk_eq, g_go, g_bks, g_bkn, g_gst, g_gsf, e_cl, e_rt, n_0, n_1, n_2, n_3, n_4, n_5, n_6, n_7, n_8, n_9, n_10, n_11, n_12, n_13, n_14, n_15, n_16, n_17, n_18, n_19, n_20, n_21, n_22, n_23, n_24, n_25, n_26, n_27, n_28, n_29, n_30, n_31, n_32, n_33, n_34, n_35, n_36, n_37, n_40, n_41, n_42, n_43, n_44, n_45, n_46, n_50, n_51, n_52, n_53, n_54, n_55, f_ldi, f_lda, f_sti, f_sta, f_inc, f_bin0, f_bin1, f_bin2, f_bin3, f_bin4, f_bin5, f_bin6, f_bin7, f_i2b, f_dup, f_pop, f_dx1, f_if0, f_ic0, f_if1, f_ic1, f_if2, f_ic2, f_if3, f_ic3, f_if4, f_ic4, f_if5, f_ic5, f_ac0, f_ac1, f_nu0, f_nu1, f_sw, f_sw0, f_sw1, f_gti, f_gta, f_pti, f_pta, f_ptz, f_new, f_nwa, f_ild, f_ist, f_bld, f_bst, f_ald, f_ast, f_len, f_cst, f_oin, f_gcl, f_ord, f_mm0, f_mm1, f_cpy, f_re0, f_re1, f_rea, f_rev, f_t50, f_t51, f_t52, f_t53, f_t54, f_t55, f_st, f_sd, f_s2, f_sn, e_in, e_ent, e_inR, Nat.reduceLT, Nat.reduceEqDiff, reduceIte, Nat.reduceBEq, List.length_cons, List.length_nil, List.map_cons, List.map_nil, List.replicate, List.cons_append, List.nil_append, List.append_nil, List.getElem?_cons_zero, List.getElem?_cons_succ, List.getElem?_nil, List.set_cons_zero, List.set_cons_succ, List.take_succ_cons, List.take_zero, List.take_nil, List.drop_succ_cons, List.drop_zero, List.drop_nil, List.reverse_cons, List.reverse_nil, Option.toList_some, Option.toList_none, Int.reduceToNat, hk_put, hl_put, hz_put, hs_put, hv_same, hv_ne, hv_na, hz_new, hs_new, hk_newS, hl_newS, hv_newS, Int.reduceEq, Int.reduceNe, Int.reduceLE, Int.reduceLT, Int.reduceAdd, Int.reduceSub, Int.reduceMul, Int.reduceNeg, Nat.reduceAdd, Nat.reduceSub, Nat.reduceLeDiff, Bool.or_false, Bool.false_or, Bool.or_true, Bool.true_or, or_self, or_false, false_or, true_or, or_true, and_true, true_and, forall_const, decide_eq_true_eq, decide_eq_false_iff_not, Bool.and_eq_true, Bool.false_eq_true, Nat.lt_add_one, imp_self, implies_true, not_true_eq_false, not_false_eq_true, ne_eq, Bool.true_eq_false, Nat.zero_le, Nat.le_refl, and_self, false_implies, q_102, l_102, hM]
  unfold m_conf q_b at hQ
  simp only [decide_eq_true_eq] at hQ
  refine ⟨by omega, by omega, by omega, by omega, fun h1 => ?_, fun h1 => ⟨fun h2 => ?_, fun h2 => ⟨fun h3 => ?_, fun h3 => ⟨by omega, fun h4 => ?_, fun h4 => ?_⟩⟩⟩⟩
  · rw [if_neg (by omega)] at hQ; exact hQ
  · rw [if_neg (by omega)] at hQ; exact hQ
  · rw [if_pos (by omega)] at hQ; exact hQ
  · rw [if_neg (by omega)] at hQ; exact hQ
  · rw [if_pos (by omega)] at hQ; exact hQ
set_option maxRecDepth 100000 in
set_option maxHeartbeats 4000000 in
theorem c_ahead {d : Nat} {t u : Int} {h : E_H} {Q : Option E_V → E_H → Prop} (hM : m_T h) (ht : 0 ≤ t ∧ t ≤ 60) (hu : 0 ≤ u ∧ u ≤ 60) (hQ : Q (some (.inl (q_b (m_ahead (h_vl h) t u)))) h) : e_wpm d 103 [.inr 44, .inl t, .inl u] h Q := by
  unfold m_T at hM
  refine e_wpm_blk 100 [] ?_
  simp only [e_blk_eq, g_go, g_bks, g_bkn, g_gst, g_gsf, e_cl, e_rt, n_0, n_1, n_2, n_3, n_4, n_5, n_6, n_7, n_8, n_9, n_10, n_11, n_12, n_13, n_14, n_15, n_16, n_17, n_18, n_19, n_20, n_21, n_22, n_23, n_24, n_25, n_26, n_27, n_28, n_29, n_30, n_31, n_32, n_33, n_34, n_35, n_36, n_37, n_40, n_41, n_42, n_43, n_44, n_45, n_46, n_50, n_51, n_52, n_53, n_54, n_55, f_ldi, f_lda, f_sti, f_sta, f_inc, f_bin0, f_bin1, f_bin2, f_bin3, f_bin4, f_bin5, f_bin6, f_bin7, f_i2b, f_dup, f_pop, f_dx1, f_if0, f_ic0, f_if1, f_ic1, f_if2, f_ic2, f_if3, f_ic3, f_if4, f_ic4, f_if5, f_ic5, f_ac0, f_ac1, f_nu0, f_nu1, f_sw, f_sw0, f_sw1, f_gti, f_gta, f_pti, f_pta, f_ptz, f_new, f_nwa, f_ild, f_ist, f_bld, f_bst, f_ald, f_ast, f_len, f_cst, f_oin, f_gcl, f_ord, f_mm0, f_mm1, f_cpy, f_re0, f_re1, f_rea, f_rev, f_t50, f_t51, f_t52, f_t53, f_t54, f_t55, f_st, f_sd, f_s2, f_sn, e_in, e_ent, e_inR, Nat.reduceLT, Nat.reduceEqDiff, reduceIte, Nat.reduceBEq, List.length_cons, List.length_nil, List.map_cons, List.map_nil, List.replicate, List.cons_append, List.nil_append, List.append_nil, List.getElem?_cons_zero, List.getElem?_cons_succ, List.getElem?_nil, List.set_cons_zero, List.set_cons_succ, List.take_succ_cons, List.take_zero, List.take_nil, List.drop_succ_cons, List.drop_zero, List.drop_nil, List.reverse_cons, List.reverse_nil, Option.toList_some, Option.toList_none, Int.reduceToNat, hk_put, hl_put, hz_put, hs_put, hv_same, hv_ne, hv_na, hz_new, hs_new, hk_newS, hl_newS, hv_newS, Int.reduceEq, Int.reduceNe, Int.reduceLE, Int.reduceLT, Int.reduceAdd, Int.reduceSub, Int.reduceMul, Int.reduceNeg, Nat.reduceAdd, Nat.reduceSub, Nat.reduceLeDiff, Bool.or_false, Bool.false_or, Bool.or_true, Bool.true_or, or_self, or_false, false_or, true_or, or_true, and_true, true_and, forall_const, decide_eq_true_eq, decide_eq_false_iff_not, Bool.and_eq_true, Bool.false_eq_true, Nat.lt_add_one, imp_self, implies_true, not_true_eq_false, not_false_eq_true, ne_eq, Bool.true_eq_false, Nat.zero_le, Nat.le_refl, and_self, false_implies, q_103, l_103, hM]
  unfold m_ahead q_b at hQ
  simp only [decide_eq_true_eq] at hQ
  refine ⟨fun h1 => ?_, fun h1 => ⟨by omega, fun h2 => ?_, fun h2 => ⟨by omega, by omega, fun h3 => ?_, fun h3 => ⟨by omega, by omega, fun h4 => ?_, fun h4 => ?_⟩⟩⟩⟩
  · rw [if_neg (by omega)] at hQ; exact hQ
  · rw [if_neg (by omega)] at hQ; exact hQ
  · rw [if_neg (by omega)] at hQ; exact hQ
  · rw [if_neg (by omega)] at hQ; exact hQ
  · rw [if_pos (by omega)] at hQ; exact hQ
theorem q_b01 (b : Bool) : q_b b = 0 ∨ q_b b = 1 := by cases b <;> simp [q_b]
theorem q_b0 {b : Bool} (h : q_b b = 0) : b = false := by cases b <;> simp_all [q_b]
theorem q_b1 {b : Bool} (h : q_b b ≠ 0) : b = true := by cases b <;> simp_all [q_b]
set_option maxRecDepth 100000 in
set_option maxHeartbeats 4000000 in
theorem c_waits {d : Nat} {t u : Int} {h : E_H} {Q : Option E_V → E_H → Prop} (hd : 1 ≤ d) (hM : m_T h) (ht : 0 ≤ t ∧ t ≤ 60) (hu : 0 ≤ u ∧ u ≤ 60) (hk : h_vl h 62 t = 2 → 0 ≤ h_vl h 65 t ∧ h_vl h 65 t ≤ 99) (hQ : Q (some (.inl (q_b (m_waits (h_vl h) t u)))) h) : e_wpm d 113 [.inr 44, .inl t, .inl u] h Q := by
  have hM' := hM
  unfold m_T at hM'
  refine e_wpm_blk 100 [] ?_
  simp only [e_blk_eq, g_go, g_bks, g_bkn, g_gst, g_gsf, e_cl, e_rt, n_0, n_1, n_2, n_3, n_4, n_5, n_6, n_7, n_8, n_9, n_10, n_11, n_12, n_13, n_14, n_15, n_16, n_17, n_18, n_19, n_20, n_21, n_22, n_23, n_24, n_25, n_26, n_27, n_28, n_29, n_30, n_31, n_32, n_33, n_34, n_35, n_36, n_37, n_40, n_41, n_42, n_43, n_44, n_45, n_46, n_50, n_51, n_52, n_53, n_54, n_55, f_ldi, f_lda, f_sti, f_sta, f_inc, f_bin0, f_bin1, f_bin2, f_bin3, f_bin4, f_bin5, f_bin6, f_bin7, f_i2b, f_dup, f_pop, f_dx1, f_if0, f_ic0, f_if1, f_ic1, f_if2, f_ic2, f_if3, f_ic3, f_if4, f_ic4, f_if5, f_ic5, f_ac0, f_ac1, f_nu0, f_nu1, f_sw, f_sw0, f_sw1, f_gti, f_gta, f_pti, f_pta, f_ptz, f_new, f_nwa, f_ild, f_ist, f_bld, f_bst, f_ald, f_ast, f_len, f_cst, f_oin, f_gcl, f_ord, f_mm0, f_mm1, f_cpy, f_re0, f_re1, f_rea, f_rev, f_t50, f_t51, f_t52, f_t53, f_t54, f_t55, f_st, f_sd, f_s2, f_sn, e_in, e_ent, e_inR, Nat.reduceLT, Nat.reduceEqDiff, reduceIte, Nat.reduceBEq, List.length_cons, List.length_nil, List.map_cons, List.map_nil, List.replicate, List.cons_append, List.nil_append, List.append_nil, List.getElem?_cons_zero, List.getElem?_cons_succ, List.getElem?_nil, List.set_cons_zero, List.set_cons_succ, List.take_succ_cons, List.take_zero, List.take_nil, List.drop_succ_cons, List.drop_zero, List.drop_nil, List.reverse_cons, List.reverse_nil, Option.toList_some, Option.toList_none, Int.reduceToNat, hk_put, hl_put, hz_put, hs_put, hv_same, hv_ne, hv_na, hz_new, hs_new, hk_newS, hl_newS, hv_newS, Int.reduceEq, Int.reduceNe, Int.reduceLE, Int.reduceLT, Int.reduceAdd, Int.reduceSub, Int.reduceMul, Int.reduceNeg, Nat.reduceAdd, Nat.reduceSub, Nat.reduceLeDiff, Bool.or_false, Bool.false_or, Bool.or_true, Bool.true_or, or_self, or_false, false_or, true_or, or_true, and_true, true_and, forall_const, decide_eq_true_eq, decide_eq_false_iff_not, Bool.and_eq_true, Bool.false_eq_true, Nat.lt_add_one, imp_self, implies_true, not_true_eq_false, not_false_eq_true, ne_eq, Bool.true_eq_false, Nat.zero_le, Nat.le_refl, and_self, false_implies, q_113, l_113, l_102, hM']
  refine ⟨by omega, fun h1 => ?_, fun h1 => ⟨by omega, ?_⟩⟩
  · rw [m_waits, decide_eq_false h1] at hQ
    exact hQ
  · have h1 : h_vl h 62 t = 2 := by omega
    have hk := hk h1
    rw [m_waits, decide_eq_true h1] at hQ
    refine c_conf hM ht hu hk ?_
    simp only [e_blk_eq, g_go, g_bks, g_bkn, g_gst, g_gsf, e_cl, e_rt, n_0, n_1, n_2, n_3, n_4, n_5, n_6, n_7, n_8, n_9, n_10, n_11, n_12, n_13, n_14, n_15, n_16, n_17, n_18, n_19, n_20, n_21, n_22, n_23, n_24, n_25, n_26, n_27, n_28, n_29, n_30, n_31, n_32, n_33, n_34, n_35, n_36, n_37, n_40, n_41, n_42, n_43, n_44, n_45, n_46, n_50, n_51, n_52, n_53, n_54, n_55, f_ldi, f_lda, f_sti, f_sta, f_inc, f_bin0, f_bin1, f_bin2, f_bin3, f_bin4, f_bin5, f_bin6, f_bin7, f_i2b, f_dup, f_pop, f_dx1, f_if0, f_ic0, f_if1, f_ic1, f_if2, f_ic2, f_if3, f_ic3, f_if4, f_ic4, f_if5, f_ic5, f_ac0, f_ac1, f_nu0, f_nu1, f_sw, f_sw0, f_sw1, f_gti, f_gta, f_pti, f_pta, f_ptz, f_new, f_nwa, f_ild, f_ist, f_bld, f_bst, f_ald, f_ast, f_len, f_cst, f_oin, f_gcl, f_ord, f_mm0, f_mm1, f_cpy, f_re0, f_re1, f_rea, f_rev, f_t50, f_t51, f_t52, f_t53, f_t54, f_t55, f_st, f_sd, f_s2, f_sn, e_in, e_ent, e_inR, Nat.reduceLT, Nat.reduceEqDiff, reduceIte, Nat.reduceBEq, List.length_cons, List.length_nil, List.map_cons, List.map_nil, List.replicate, List.cons_append, List.nil_append, List.append_nil, List.getElem?_cons_zero, List.getElem?_cons_succ, List.getElem?_nil, List.set_cons_zero, List.set_cons_succ, List.take_succ_cons, List.take_zero, List.take_nil, List.drop_succ_cons, List.drop_zero, List.drop_nil, List.reverse_cons, List.reverse_nil, Option.toList_some, Option.toList_none, Int.reduceToNat, hk_put, hl_put, hz_put, hs_put, hv_same, hv_ne, hv_na, hz_new, hs_new, hk_newS, hl_newS, hv_newS, Int.reduceEq, Int.reduceNe, Int.reduceLE, Int.reduceLT, Int.reduceAdd, Int.reduceSub, Int.reduceMul, Int.reduceNeg, Nat.reduceAdd, Nat.reduceSub, Nat.reduceLeDiff, Bool.or_false, Bool.false_or, Bool.or_true, Bool.true_or, or_self, or_false, false_or, true_or, or_true, and_true, true_and, forall_const, decide_eq_true_eq, decide_eq_false_iff_not, Bool.and_eq_true, Bool.false_eq_true, Nat.lt_add_one, imp_self, implies_true, not_true_eq_false, not_false_eq_true, ne_eq, Bool.true_eq_false, Nat.zero_le, Nat.le_refl, and_self, false_implies, q_113, l_113, l_103, hM']
    refine ⟨fun h2 => ?_, fun h2 => ⟨by omega, by omega, by omega, by omega, fun h3 => ?_, fun h3 => ⟨by omega, ?_⟩⟩⟩
    · rw [q_b1 h2] at hQ
      exact hQ
    · rw [q_b0 (Decidable.not_not.mp h2), decide_eq_false h3] at hQ
      exact hQ
    · rw [q_b0 (Decidable.not_not.mp h2), decide_eq_true (Decidable.not_not.mp h3)] at hQ
      refine c_ahead hM ht hu ?_
      simp only [e_blk_eq, g_go, g_bks, g_bkn, g_gst, g_gsf, e_cl, e_rt, n_0, n_1, n_2, n_3, n_4, n_5, n_6, n_7, n_8, n_9, n_10, n_11, n_12, n_13, n_14, n_15, n_16, n_17, n_18, n_19, n_20, n_21, n_22, n_23, n_24, n_25, n_26, n_27, n_28, n_29, n_30, n_31, n_32, n_33, n_34, n_35, n_36, n_37, n_40, n_41, n_42, n_43, n_44, n_45, n_46, n_50, n_51, n_52, n_53, n_54, n_55, f_ldi, f_lda, f_sti, f_sta, f_inc, f_bin0, f_bin1, f_bin2, f_bin3, f_bin4, f_bin5, f_bin6, f_bin7, f_i2b, f_dup, f_pop, f_dx1, f_if0, f_ic0, f_if1, f_ic1, f_if2, f_ic2, f_if3, f_ic3, f_if4, f_ic4, f_if5, f_ic5, f_ac0, f_ac1, f_nu0, f_nu1, f_sw, f_sw0, f_sw1, f_gti, f_gta, f_pti, f_pta, f_ptz, f_new, f_nwa, f_ild, f_ist, f_bld, f_bst, f_ald, f_ast, f_len, f_cst, f_oin, f_gcl, f_ord, f_mm0, f_mm1, f_cpy, f_re0, f_re1, f_rea, f_rev, f_t50, f_t51, f_t52, f_t53, f_t54, f_t55, f_st, f_sd, f_s2, f_sn, e_in, e_ent, e_inR, Nat.reduceLT, Nat.reduceEqDiff, reduceIte, Nat.reduceBEq, List.length_cons, List.length_nil, List.map_cons, List.map_nil, List.replicate, List.cons_append, List.nil_append, List.append_nil, List.getElem?_cons_zero, List.getElem?_cons_succ, List.getElem?_nil, List.set_cons_zero, List.set_cons_succ, List.take_succ_cons, List.take_zero, List.take_nil, List.drop_succ_cons, List.drop_zero, List.drop_nil, List.reverse_cons, List.reverse_nil, Option.toList_some, Option.toList_none, Int.reduceToNat, hk_put, hl_put, hz_put, hs_put, hv_same, hv_ne, hv_na, hz_new, hs_new, hk_newS, hl_newS, hv_newS, Int.reduceEq, Int.reduceNe, Int.reduceLE, Int.reduceLT, Int.reduceAdd, Int.reduceSub, Int.reduceMul, Int.reduceNeg, Nat.reduceAdd, Nat.reduceSub, Nat.reduceLeDiff, Bool.or_false, Bool.false_or, Bool.or_true, Bool.true_or, or_self, or_false, false_or, true_or, or_true, and_true, true_and, forall_const, decide_eq_true_eq, decide_eq_false_iff_not, Bool.and_eq_true, Bool.false_eq_true, Nat.lt_add_one, imp_self, implies_true, not_true_eq_false, not_false_eq_true, ne_eq, Bool.true_eq_false, Nat.zero_le, Nat.le_refl, and_self, false_implies, q_113, l_113]
      refine ⟨fun h4 => ?_, fun h4 => ?_⟩
      · rw [q_b0 h4] at hQ
        exact hQ
      · rw [q_b1 h4] at hQ
        exact hQ
