/-! ===== the twin, 8: analysis, redo, finish, restart ===== -/
def m_anC (V : Int → Int → Int) : Nat → Int → Int → Int
  | 0, _, c => c
  | n + 1, i, c => m_anC V n (i + 1) (if V 45 i = 4 then i else c)
def m_anI (c g : Int) : Nat → Int → (Int → Int → Int) → (Int → Int → Int)
  | 0, _, V => V
  | n + 1, i, V => if c = 0 ∨ V 53 (6 * c + g) = 0 then m_anI c g n (i - 1) (v_up V 71 g (if V 45 i < 3 ∧ V 47 i / 4 = g then i else V 71 g)) else V
def m_anN (V : Int → Int → Int) (g : Int) : Int → Int → Int := v_up V 44 35 (if 0 < V 71 g ∧ V 71 g < V 44 35 then V 71 g else V 44 35)
def m_anG (c : Int) : Nat → Int → (Int → Int → Int) → (Int → Int → Int)
  | 0, _, V => V
  | n + 1, g, V => m_anG c n (g + 1) (m_anN (m_anI c g (V 44 0 - c).toNat (V 44 0) (v_up V 71 g (if c ≤ 0 then 0 else V 53 (6 * c + g)))) g)
def m_anal (V : Int → Int → Int) : Int → Int → Int := v_up (m_anG (m_anC V (V 44 0).toNat 1 0) 6 0 (v_up V 44 35 (V 44 0 + 1))) 44 34 1
theorem m_anI_na {c g a j : Int} (ha : a ≠ 71) : ∀ {n : Nat} {i : Int} {V : Int → Int → Int}, m_anI c g n i V a j = V a j := by
  intro n
  induction n with
  | zero => intro i V; rfl
  | succ n ih =>
    intro i V
    rw [m_anI]
    split
    · rw [ih, v_na ha]
    · rfl
theorem m_anG_na {c a j : Int} (ha : a ≠ 71) (hb : a ≠ 44 ∨ j ≠ 35) : ∀ {n : Nat} {g : Int} {V : Int → Int → Int}, m_anG c n g V a j = V a j := by
  intro n
  induction n with
  | zero => intro g V; rfl
  | succ n ih =>
    intro g V
    rw [m_anG, ih, m_anN]
    have e : ∀ (W : Int → Int → Int) (x : Int), v_up W 44 35 x a j = W a j := by
      intro W x
      rcases hb with hb | hb
      · exact v_na hb
      · exact v_ne hb
    rw [e, m_anI_na ha, v_na ha]
theorem m_anal_na {V : Int → Int → Int} {a j : Int} (ha : a ≠ 71) (hb : a ≠ 44 ∨ (j ≠ 35 ∧ j ≠ 34)) : m_anal V a j = V a j := by
  unfold m_anal
  rcases hb with hb | hb
  · rw [v_na hb, m_anG_na ha (Or.inl hb), v_na hb]
  · rw [v_ne hb.2, m_anG_na ha (Or.inr hb.1), v_ne hb.1]
theorem m_anal_ok {V : Int → Int → Int} : m_ok V (m_anal V) := ⟨fun b j hb => m_anal_na (by omega) (by omega), fun k hk => m_anal_na (by omega) (by omega)⟩
theorem m_anC_rng {V : Int → Int → Int} : ∀ {n : Nat} {i c : Int}, 0 ≤ c → c < i → 0 ≤ m_anC V n i c ∧ m_anC V n i c < i + n := by
  intro n
  induction n with
  | zero => intro i c h1 h2; exact ⟨h1, by simpa [m_anC] using h2⟩
  | succ n ih =>
    intro i c h1 h2
    have := @ih (i + 1) (if V 45 i = 4 then i else c) (by split <;> omega) (by split <;> omega)
    rw [m_anC]
    omega
set_option maxRecDepth 100000 in
set_option maxHeartbeats 4000000 in
theorem c_anC_s {d : Nat} {c i : Int} {l3 : Option E_V} {h : E_H} {Q : Option E_V → E_H → Prop} (hM : m_T h) (hs : 0 ≤ h_vl h 44 0 ∧ h_vl h 44 0 < 204) (hi : 1 ≤ i) (K1 : h_vl h 44 0 < i → e_wpc d 131 34 [some (.inr 44), some (.inl c), some (.inl i), l3] [] h Q) (K2 : i ≤ h_vl h 44 0 → e_wpc d 131 4 [some (.inr 44), some (.inl (if h_vl h 45 i = 4 then i else c)), some (.inl (i + 1)), l3] [] h Q) : e_wpc d 131 4 [some (.inr 44), some (.inl c), some (.inl i), l3] [] h Q := by
  unfold m_T at hM
  refine e_wpc_blk 100 [4, 34] ?_
  simp only [e_blk_eq, g_go, g_bks, g_bkn, g_gst, g_gsf, e_cl, e_rt, n_0, n_1, n_2, n_3, n_4, n_5, n_6, n_7, n_8, n_9, n_10, n_11, n_12, n_13, n_14, n_15, n_16, n_17, n_18, n_19, n_20, n_21, n_22, n_23, n_24, n_25, n_26, n_27, n_28, n_29, n_30, n_31, n_32, n_33, n_34, n_35, n_36, n_37, n_40, n_41, n_42, n_43, n_44, n_45, n_46, n_50, n_51, n_52, n_53, n_54, n_55, f_ldi, f_lda, f_sti, f_sta, f_inc, f_bin0, f_bin1, f_bin2, f_bin3, f_bin4, f_bin5, f_bin6, f_bin7, f_i2b, f_dup, f_pop, f_dx1, f_if0, f_ic0, f_if1, f_ic1, f_if2, f_ic2, f_if3, f_ic3, f_if4, f_ic4, f_if5, f_ic5, f_ac0, f_ac1, f_nu0, f_nu1, f_sw, f_sw0, f_sw1, f_gti, f_gta, f_pti, f_pta, f_ptz, f_new, f_nwa, f_ild, f_ist, f_bld, f_bst, f_ald, f_ast, f_len, f_cst, f_oin, f_gcl, f_ord, f_mm0, f_mm1, f_cpy, f_re0, f_re1, f_rea, f_rev, f_t50, f_t51, f_t52, f_t53, f_t54, f_t55, f_st, f_sd, f_s2, f_sn, e_in, e_ent, e_inR, Nat.reduceLT, Nat.reduceEqDiff, reduceIte, Nat.reduceBEq, List.length_cons, List.length_nil, List.map_cons, List.map_nil, List.replicate, List.cons_append, List.nil_append, List.append_nil, List.getElem?_cons_zero, List.getElem?_cons_succ, List.getElem?_nil, List.set_cons_zero, List.set_cons_succ, List.take_succ_cons, List.take_zero, List.take_nil, List.drop_succ_cons, List.drop_zero, List.drop_nil, List.reverse_cons, List.reverse_nil, Option.toList_some, Option.toList_none, Int.reduceToNat, hk_put, hl_put, hz_put, hs_put, hv_same, hv_ne, hv_na, hz_new, hs_new, hk_newS, hl_newS, hv_newS, Int.reduceEq, Int.reduceNe, Int.reduceLE, Int.reduceLT, Int.reduceAdd, Int.reduceSub, Int.reduceMul, Int.reduceNeg, Nat.reduceAdd, Nat.reduceSub, Nat.reduceLeDiff, Bool.or_false, Bool.false_or, Bool.or_true, Bool.true_or, or_self, or_false, false_or, true_or, or_true, and_true, true_and, forall_const, decide_eq_true_eq, decide_eq_false_iff_not, Bool.and_eq_true, Bool.false_eq_true, Nat.lt_add_one, imp_self, implies_true, not_true_eq_false, not_false_eq_true, ne_eq, Bool.true_eq_false, Nat.zero_le, Nat.le_refl, and_self, false_implies, q_131, l_131, hM]
  refine ⟨fun h1 => K1 (by omega), fun h1 => ⟨by omega, fun h2 => ⟨by omega, ?_⟩, fun h2 => ⟨by omega, ?_⟩⟩⟩
  · have := K2 (by omega)
    rw [if_neg h2] at this
    exact this
  · have := K2 (by omega)
    rw [if_pos (by omega)] at this
    exact this
theorem c_anC_l {d : Nat} {l3 : Option E_V} {h : E_H} {Q : Option E_V → E_H → Prop} (hM : m_T h) (hs : 0 ≤ h_vl h 44 0 ∧ h_vl h 44 0 < 204) : ∀ (n : Nat) (i c : Int), i + n = h_vl h 44 0 + 1 → 1 ≤ i → (∀ i', e_wpc d 131 34 [some (.inr 44), some (.inl (m_anC (h_vl h) n i c)), some (.inl i'), l3] [] h Q) → e_wpc d 131 4 [some (.inr 44), some (.inl c), some (.inl i), l3] [] h Q := by
  intro n
  induction n with
  | zero => intro i c hi h1 K; exact c_anC_s hM hs h1 (fun _ => K i) (fun hc => absurd hc (by omega))
  | succ n ih => intro i c hi h1 K; exact c_anC_s hM hs h1 (fun hc => absurd hc (by omega)) (fun _ => ih (i + 1) _ (by omega) (by omega) K)
set_option maxRecDepth 100000 in
set_option maxHeartbeats 4000000 in
theorem c_anI_s {d : Nat} {c g i : Int} {h : E_H} {Q : Option E_V → E_H → Prop} (hM : m_T h) (hg : 0 ≤ g ∧ g < 6) (hc : 0 ≤ c) (hi : i < 204) (hsp : c < i → 0 ≤ h_vl h 47 i) (K1 : (i ≤ c ∨ ¬ (c = 0 ∨ h_vl h 53 (6 * c + g) = 0)) → e_wpc d 131 149 [some (.inr 44), some (.inl c), some (.inl g), some (.inl i)] [] h Q) (K2 : c < i → (c = 0 ∨ h_vl h 53 (6 * c + g) = 0) → e_wpc d 131 82 [some (.inr 44), some (.inl c), some (.inl g), some (.inl (i - 1))] [] (h_put h 71 g (if h_vl h 45 i < 3 ∧ h_vl h 47 i / 4 = g then i else h_vl h 71 g)) Q) : e_wpc d 131 82 [some (.inr 44), some (.inl c), some (.inl g), some (.inl i)] [] h Q := by
  unfold m_T at hM
  have J : c < i → (c = 0 ∨ h_vl h 53 (6 * c + g) = 0) → e_wpc d 131 105 [some (.inr 44), some (.inl c), some (.inl g), some (.inl i)] [] h Q := by
    intro h1 h2
    have K := K2 h1 h2
    rw [show i - 1 = i + -1 by omega] at K
    refine e_wpc_blk 100 [82] ?_
    simp only [e_blk_eq, g_go, g_bks, g_bkn, g_gst, g_gsf, e_cl, e_rt, n_0, n_1, n_2, n_3, n_4, n_5, n_6, n_7, n_8, n_9, n_10, n_11, n_12, n_13, n_14, n_15, n_16, n_17, n_18, n_19, n_20, n_21, n_22, n_23, n_24, n_25, n_26, n_27, n_28, n_29, n_30, n_31, n_32, n_33, n_34, n_35, n_36, n_37, n_40, n_41, n_42, n_43, n_44, n_45, n_46, n_50, n_51, n_52, n_53, n_54, n_55, f_ldi, f_lda, f_sti, f_sta, f_inc, f_bin0, f_bin1, f_bin2, f_bin3, f_bin4, f_bin5, f_bin6, f_bin7, f_i2b, f_dup, f_pop, f_dx1, f_if0, f_ic0, f_if1, f_ic1, f_if2, f_ic2, f_if3, f_ic3, f_if4, f_ic4, f_if5, f_ic5, f_ac0, f_ac1, f_nu0, f_nu1, f_sw, f_sw0, f_sw1, f_gti, f_gta, f_pti, f_pta, f_ptz, f_new, f_nwa, f_ild, f_ist, f_bld, f_bst, f_ald, f_ast, f_len, f_cst, f_oin, f_gcl, f_ord, f_mm0, f_mm1, f_cpy, f_re0, f_re1, f_rea, f_rev, f_t50, f_t51, f_t52, f_t53, f_t54, f_t55, f_st, f_sd, f_s2, f_sn, e_in, e_ent, e_inR, Nat.reduceLT, Nat.reduceEqDiff, reduceIte, Nat.reduceBEq, List.length_cons, List.length_nil, List.map_cons, List.map_nil, List.replicate, List.cons_append, List.nil_append, List.append_nil, List.getElem?_cons_zero, List.getElem?_cons_succ, List.getElem?_nil, List.set_cons_zero, List.set_cons_succ, List.take_succ_cons, List.take_zero, List.take_nil, List.drop_succ_cons, List.drop_zero, List.drop_nil, List.reverse_cons, List.reverse_nil, Option.toList_some, Option.toList_none, Int.reduceToNat, hk_put, hl_put, hz_put, hs_put, hv_same, hv_ne, hv_na, hz_new, hs_new, hk_newS, hl_newS, hv_newS, Int.reduceEq, Int.reduceNe, Int.reduceLE, Int.reduceLT, Int.reduceAdd, Int.reduceSub, Int.reduceMul, Int.reduceNeg, Nat.reduceAdd, Nat.reduceSub, Nat.reduceLeDiff, Bool.or_false, Bool.false_or, Bool.or_true, Bool.true_or, or_self, or_false, false_or, true_or, or_true, and_true, true_and, forall_const, decide_eq_true_eq, decide_eq_false_iff_not, Bool.and_eq_true, Bool.false_eq_true, Nat.lt_add_one, imp_self, implies_true, not_true_eq_false, not_false_eq_true, ne_eq, Bool.true_eq_false, Nat.zero_le, Nat.le_refl, and_self, false_implies, q_131, l_131, hM]
    refine ⟨by omega, fun h3 => ⟨by omega, by omega, by omega, ?_⟩, fun h3 => ⟨by omega, by omega, fun h4 => ⟨by omega, by omega, by omega, ?_⟩, fun h4 => ⟨by omega, by omega, ?_⟩⟩⟩
    · rw [if_neg (by omega)] at K; exact K
    · rw [if_neg (by omega)] at K; exact K
    · rw [if_pos (by omega)] at K; exact K
  refine e_wpc_blk 100 [82, 105, 149] ?_
  simp only [e_blk_eq, g_go, g_bks, g_bkn, g_gst, g_gsf, e_cl, e_rt, n_0, n_1, n_2, n_3, n_4, n_5, n_6, n_7, n_8, n_9, n_10, n_11, n_12, n_13, n_14, n_15, n_16, n_17, n_18, n_19, n_20, n_21, n_22, n_23, n_24, n_25, n_26, n_27, n_28, n_29, n_30, n_31, n_32, n_33, n_34, n_35, n_36, n_37, n_40, n_41, n_42, n_43, n_44, n_45, n_46, n_50, n_51, n_52, n_53, n_54, n_55, f_ldi, f_lda, f_sti, f_sta, f_inc, f_bin0, f_bin1, f_bin2, f_bin3, f_bin4, f_bin5, f_bin6, f_bin7, f_i2b, f_dup, f_pop, f_dx1, f_if0, f_ic0, f_if1, f_ic1, f_if2, f_ic2, f_if3, f_ic3, f_if4, f_ic4, f_if5, f_ic5, f_ac0, f_ac1, f_nu0, f_nu1, f_sw, f_sw0, f_sw1, f_gti, f_gta, f_pti, f_pta, f_ptz, f_new, f_nwa, f_ild, f_ist, f_bld, f_bst, f_ald, f_ast, f_len, f_cst, f_oin, f_gcl, f_ord, f_mm0, f_mm1, f_cpy, f_re0, f_re1, f_rea, f_rev, f_t50, f_t51, f_t52, f_t53, f_t54, f_t55, f_st, f_sd, f_s2, f_sn, e_in, e_ent, e_inR, Nat.reduceLT, Nat.reduceEqDiff, reduceIte, Nat.reduceBEq, List.length_cons, List.length_nil, List.map_cons, List.map_nil, List.replicate, List.cons_append, List.nil_append, List.append_nil, List.getElem?_cons_zero, List.getElem?_cons_succ, List.getElem?_nil, List.set_cons_zero, List.set_cons_succ, List.take_succ_cons, List.take_zero, List.take_nil, List.drop_succ_cons, List.drop_zero, List.drop_nil, List.reverse_cons, List.reverse_nil, Option.toList_some, Option.toList_none, Int.reduceToNat, hk_put, hl_put, hz_put, hs_put, hv_same, hv_ne, hv_na, hz_new, hs_new, hk_newS, hl_newS, hv_newS, Int.reduceEq, Int.reduceNe, Int.reduceLE, Int.reduceLT, Int.reduceAdd, Int.reduceSub, Int.reduceMul, Int.reduceNeg, Nat.reduceAdd, Nat.reduceSub, Nat.reduceLeDiff, Bool.or_false, Bool.false_or, Bool.or_true, Bool.true_or, or_self, or_false, false_or, true_or, or_true, and_true, true_and, forall_const, decide_eq_true_eq, decide_eq_false_iff_not, Bool.and_eq_true, Bool.false_eq_true, Nat.lt_add_one, imp_self, implies_true, not_true_eq_false, not_false_eq_true, ne_eq, Bool.true_eq_false, Nat.zero_le, Nat.le_refl, and_self, false_implies, q_131, l_131, hM]
  exact ⟨fun h1 => K1 (Or.inl h1), fun h1 => ⟨fun h2 => J (by omega) (Or.inl h2), fun h2 => ⟨by omega, by omega, by omega, fun h3 => K1 (Or.inr (by omega)), fun h3 => J (by omega) (Or.inr (by omega))⟩⟩⟩
theorem c_anI_l {d : Nat} {c g S : Int} {Q : Option E_V → E_H → Prop} (hg : 0 ≤ g ∧ g < 6) (hc : 0 ≤ c) (hS : S < 204) : ∀ (n : Nat) (i : Int) (h : E_H), m_T h → i - c = n → i ≤ S → (∀ j : Int, c < j → j ≤ S → 0 ≤ h_vl h 47 j) → (∀ i', e_wpc d 131 149 [some (.inr 44), some (.inl c), some (.inl g), some (.inl i')] [] (h_wv h (m_anI c g n i (h_vl h))) Q) → e_wpc d 131 82 [some (.inr 44), some (.inl c), some (.inl g), some (.inl i)] [] h Q := by
  intro n
  induction n with
  | zero => intro i h hM hi hS' hsp K; exact c_anI_s hM hg hc (by omega) (fun h1 => hsp i h1 hS') (fun _ => K i) (fun hc => absurd hc (by omega))
  | succ n ih =>
    intro i h hM hi hS' hsp K
    by_cases hz : c = 0 ∨ h_vl h 53 (6 * c + g) = 0
    · refine c_anI_s hM hg hc (by omega) (fun h1 => hsp i h1 hS') (fun z => absurd z (by omega)) (fun _ _ => ih (i - 1) _ (hM.put (by omega)) (by omega) (by omega) (fun j h1 h2 => by rw [hv_na (by omega)]; exact hsp j h1 h2) (fun i' => ?_))
      have K' := K i'
      rw [m_anI, if_pos hz] at K'
      exact K'
    · have K' := K i
      rw [m_anI, if_neg hz] at K'
      exact c_anI_s hM hg hc (by omega) (fun h1 => hsp i h1 hS') (fun _ => K') (fun _ z => absurd z hz)
set_option maxRecDepth 100000 in
set_option maxHeartbeats 4000000 in
theorem c_anG_s {d : Nat} {c g : Int} {l3 : Option E_V} {h : E_H} {Q : Option E_V → E_H → Prop} (hM : m_T h) (hs : 0 ≤ h_vl h 44 0 ∧ h_vl h 44 0 < 204) (hc : 0 ≤ c ∧ c ≤ h_vl h 44 0) (hg : 0 ≤ g) (hsp : ∀ j : Int, c < j → j ≤ h_vl h 44 0 → 0 ≤ h_vl h 47 j) (K1 : 6 ≤ g → Q none (h_put h 44 34 1)) (K2 : g < 6 → ∀ l3, e_wpc d 131 46 [some (.inr 44), some (.inl c), some (.inl (g + 1)), l3] [] (h_wv h (m_anN (m_anI c g (h_vl h 44 0 - c).toNat (h_vl h 44 0) (v_up (h_vl h) 71 g (if c ≤ 0 then 0 else h_vl h 53 (6 * c + g)))) g)) Q) : e_wpc d 131 46 [some (.inr 44), some (.inl c), some (.inl g), l3] [] h Q := by
  have hM' := hM
  unfold m_T at hM'
  have J2 : g < 6 → ∀ h1 : E_H, m_T h1 → (∀ l3, e_wpc d 131 46 [some (.inr 44), some (.inl c), some (.inl (g + 1)), l3] [] (h_wv h1 (m_anN (h_vl h1) g)) Q) → ∀ i', e_wpc d 131 149 [some (.inr 44), some (.inl c), some (.inl g), some (.inl i')] [] h1 Q := by
    intro h6 h1 hM1 K i'
    have K := K (some (.inl i'))
    have hM1' := hM1
    unfold m_T at hM1'
    refine e_wpc_blk 100 [46] ?_
    simp only [e_blk_eq, g_go, g_bks, g_bkn, g_gst, g_gsf, e_cl, e_rt, n_0, n_1, n_2, n_3, n_4, n_5, n_6, n_7, n_8, n_9, n_10, n_11, n_12, n_13, n_14, n_15, n_16, n_17, n_18, n_19, n_20, n_21, n_22, n_23, n_24, n_25, n_26, n_27, n_28, n_29, n_30, n_31, n_32, n_33, n_34, n_35, n_36, n_37, n_40, n_41, n_42, n_43, n_44, n_45, n_46, n_50, n_51, n_52, n_53, n_54, n_55, f_ldi, f_lda, f_sti, f_sta, f_inc, f_bin0, f_bin1, f_bin2, f_bin3, f_bin4, f_bin5, f_bin6, f_bin7, f_i2b, f_dup, f_pop, f_dx1, f_if0, f_ic0, f_if1, f_ic1, f_if2, f_ic2, f_if3, f_ic3, f_if4, f_ic4, f_if5, f_ic5, f_ac0, f_ac1, f_nu0, f_nu1, f_sw, f_sw0, f_sw1, f_gti, f_gta, f_pti, f_pta, f_ptz, f_new, f_nwa, f_ild, f_ist, f_bld, f_bst, f_ald, f_ast, f_len, f_cst, f_oin, f_gcl, f_ord, f_mm0, f_mm1, f_cpy, f_re0, f_re1, f_rea, f_rev, f_t50, f_t51, f_t52, f_t53, f_t54, f_t55, f_st, f_sd, f_s2, f_sn, e_in, e_ent, e_inR, Nat.reduceLT, Nat.reduceEqDiff, reduceIte, Nat.reduceBEq, List.length_cons, List.length_nil, List.map_cons, List.map_nil, List.replicate, List.cons_append, List.nil_append, List.append_nil, List.getElem?_cons_zero, List.getElem?_cons_succ, List.getElem?_nil, List.set_cons_zero, List.set_cons_succ, List.take_succ_cons, List.take_zero, List.take_nil, List.drop_succ_cons, List.drop_zero, List.drop_nil, List.reverse_cons, List.reverse_nil, Option.toList_some, Option.toList_none, Int.reduceToNat, hk_put, hl_put, hz_put, hs_put, hv_same, hv_ne, hv_na, hz_new, hs_new, hk_newS, hl_newS, hv_newS, Int.reduceEq, Int.reduceNe, Int.reduceLE, Int.reduceLT, Int.reduceAdd, Int.reduceSub, Int.reduceMul, Int.reduceNeg, Nat.reduceAdd, Nat.reduceSub, Nat.reduceLeDiff, Bool.or_false, Bool.false_or, Bool.or_true, Bool.true_or, or_self, or_false, false_or, true_or, or_true, and_true, true_and, forall_const, decide_eq_true_eq, decide_eq_false_iff_not, Bool.and_eq_true, Bool.false_eq_true, Nat.lt_add_one, imp_self, implies_true, not_true_eq_false, not_false_eq_true, ne_eq, Bool.true_eq_false, Nat.zero_le, Nat.le_refl, and_self, false_implies, q_131, l_131, hM1']
    unfold m_anN at K
    refine ⟨by omega, fun h2 => ⟨by omega, ?_⟩, fun h2 => ⟨by omega, fun h3 => ⟨by omega, ?_⟩, fun h3 => ⟨by omega, by omega, ?_⟩⟩⟩
    · rw [if_neg (by omega)] at K; exact K
    · rw [if_neg (by omega)] at K; exact K
    · rw [if_pos (by omega)] at K; exact K
  have J1 : g < 6 → ∀ h1 : E_H, h1 = h_put h 71 g (if c ≤ 0 then 0 else h_vl h 53 (6 * c + g)) → e_wpc d 131 77 [some (.inr 44), some (.inl c), some (.inl g), l3] [] h1 Q := by
    intro h6 h1 e
    have hM1 : m_T h1 := by rw [e]; exact hM.put (by omega)
    have e0 : h_vl h1 44 0 = h_vl h 44 0 := by rw [e, hv_na (by omega)]
    have hM1' := hM1
    unfold m_T at hM1'
    refine e_wpc_blk 100 [82] ?_
    simp only [e_blk_eq, g_go, g_bks, g_bkn, g_gst, g_gsf, e_cl, e_rt, n_0, n_1, n_2, n_3, n_4, n_5, n_6, n_7, n_8, n_9, n_10, n_11, n_12, n_13, n_14, n_15, n_16, n_17, n_18, n_19, n_20, n_21, n_22, n_23, n_24, n_25, n_26, n_27, n_28, n_29, n_30, n_31, n_32, n_33, n_34, n_35, n_36, n_37, n_40, n_41, n_42, n_43, n_44, n_45, n_46, n_50, n_51, n_52, n_53, n_54, n_55, f_ldi, f_lda, f_sti, f_sta, f_inc, f_bin0, f_bin1, f_bin2, f_bin3, f_bin4, f_bin5, f_bin6, f_bin7, f_i2b, f_dup, f_pop, f_dx1, f_if0, f_ic0, f_if1, f_ic1, f_if2, f_ic2, f_if3, f_ic3, f_if4, f_ic4, f_if5, f_ic5, f_ac0, f_ac1, f_nu0, f_nu1, f_sw, f_sw0, f_sw1, f_gti, f_gta, f_pti, f_pta, f_ptz, f_new, f_nwa, f_ild, f_ist, f_bld, f_bst, f_ald, f_ast, f_len, f_cst, f_oin, f_gcl, f_ord, f_mm0, f_mm1, f_cpy, f_re0, f_re1, f_rea, f_rev, f_t50, f_t51, f_t52, f_t53, f_t54, f_t55, f_st, f_sd, f_s2, f_sn, e_in, e_ent, e_inR, Nat.reduceLT, Nat.reduceEqDiff, reduceIte, Nat.reduceBEq, List.length_cons, List.length_nil, List.map_cons, List.map_nil, List.replicate, List.cons_append, List.nil_append, List.append_nil, List.getElem?_cons_zero, List.getElem?_cons_succ, List.getElem?_nil, List.set_cons_zero, List.set_cons_succ, List.take_succ_cons, List.take_zero, List.take_nil, List.drop_succ_cons, List.drop_zero, List.drop_nil, List.reverse_cons, List.reverse_nil, Option.toList_some, Option.toList_none, Int.reduceToNat, hk_put, hl_put, hz_put, hs_put, hv_same, hv_ne, hv_na, hz_new, hs_new, hk_newS, hl_newS, hv_newS, Int.reduceEq, Int.reduceNe, Int.reduceLE, Int.reduceLT, Int.reduceAdd, Int.reduceSub, Int.reduceMul, Int.reduceNeg, Nat.reduceAdd, Nat.reduceSub, Nat.reduceLeDiff, Bool.or_false, Bool.false_or, Bool.or_true, Bool.true_or, or_self, or_false, false_or, true_or, or_true, and_true, true_and, forall_const, decide_eq_true_eq, decide_eq_false_iff_not, Bool.and_eq_true, Bool.false_eq_true, Nat.lt_add_one, imp_self, implies_true, not_true_eq_false, not_false_eq_true, ne_eq, Bool.true_eq_false, Nat.zero_le, Nat.le_refl, and_self, false_implies, q_131, l_131, hM1']
    refine c_anI_l ⟨hg, h6⟩ hc.1 (S := h_vl h 44 0) hs.2 (h_vl h 44 0 - c).toNat _ h1 hM1 (by omega) (by omega) (fun j h2 h3 => by rw [e, hv_na (by omega)]; exact hsp j h2 h3) (fun i' => ?_)
    refine J2 h6 _ (hM1.wv ⟨fun b j hb => m_anI_na (by omega), fun k hk => m_anI_na (by omega)⟩) (fun l3 => ?_) i'
    have := K2 h6 l3
    rw [e0, e]
    exact this
  refine e_wpc_blk 100 [77] ?_
  simp only [e_blk_eq, g_go, g_bks, g_bkn, g_gst, g_gsf, e_cl, e_rt, n_0, n_1, n_2, n_3, n_4, n_5, n_6, n_7, n_8, n_9, n_10, n_11, n_12, n_13, n_14, n_15, n_16, n_17, n_18, n_19, n_20, n_21, n_22, n_23, n_24, n_25, n_26, n_27, n_28, n_29, n_30, n_31, n_32, n_33, n_34, n_35, n_36, n_37, n_40, n_41, n_42, n_43, n_44, n_45, n_46, n_50, n_51, n_52, n_53, n_54, n_55, f_ldi, f_lda, f_sti, f_sta, f_inc, f_bin0, f_bin1, f_bin2, f_bin3, f_bin4, f_bin5, f_bin6, f_bin7, f_i2b, f_dup, f_pop, f_dx1, f_if0, f_ic0, f_if1, f_ic1, f_if2, f_ic2, f_if3, f_ic3, f_if4, f_ic4, f_if5, f_ic5, f_ac0, f_ac1, f_nu0, f_nu1, f_sw, f_sw0, f_sw1, f_gti, f_gta, f_pti, f_pta, f_ptz, f_new, f_nwa, f_ild, f_ist, f_bld, f_bst, f_ald, f_ast, f_len, f_cst, f_oin, f_gcl, f_ord, f_mm0, f_mm1, f_cpy, f_re0, f_re1, f_rea, f_rev, f_t50, f_t51, f_t52, f_t53, f_t54, f_t55, f_st, f_sd, f_s2, f_sn, e_in, e_ent, e_inR, Nat.reduceLT, Nat.reduceEqDiff, reduceIte, Nat.reduceBEq, List.length_cons, List.length_nil, List.map_cons, List.map_nil, List.replicate, List.cons_append, List.nil_append, List.append_nil, List.getElem?_cons_zero, List.getElem?_cons_succ, List.getElem?_nil, List.set_cons_zero, List.set_cons_succ, List.take_succ_cons, List.take_zero, List.take_nil, List.drop_succ_cons, List.drop_zero, List.drop_nil, List.reverse_cons, List.reverse_nil, Option.toList_some, Option.toList_none, Int.reduceToNat, hk_put, hl_put, hz_put, hs_put, hv_same, hv_ne, hv_na, hz_new, hs_new, hk_newS, hl_newS, hv_newS, Int.reduceEq, Int.reduceNe, Int.reduceLE, Int.reduceLT, Int.reduceAdd, Int.reduceSub, Int.reduceMul, Int.reduceNeg, Nat.reduceAdd, Nat.reduceSub, Nat.reduceLeDiff, Bool.or_false, Bool.false_or, Bool.or_true, Bool.true_or, or_self, or_false, false_or, true_or, or_true, and_true, true_and, forall_const, decide_eq_true_eq, decide_eq_false_iff_not, Bool.and_eq_true, Bool.false_eq_true, Nat.lt_add_one, imp_self, implies_true, not_true_eq_false, not_false_eq_true, ne_eq, Bool.true_eq_false, Nat.zero_le, Nat.le_refl, and_self, false_implies, q_131, l_131, hM']
  refine ⟨fun h1 => K1 h1, fun h1 => ⟨fun h2 => ⟨by omega, J1 (by omega) _ ?_⟩, fun h2 => ⟨by omega, by omega, by omega, by omega, J1 (by omega) _ ?_⟩⟩⟩
  · rw [if_pos h2]
  · rw [if_neg h2]
theorem c_anG_l {d : Nat} {c S : Int} {Q : Option E_V → E_H → Prop} (hS : 0 ≤ S ∧ S < 204) (hc : 0 ≤ c ∧ c ≤ S) : ∀ (n : Nat) (g : Int) (l3 : Option E_V) (h : E_H), m_T h → h_vl h 44 0 = S → g + n = 6 → 0 ≤ g → (∀ j : Int, c < j → j ≤ S → 0 ≤ h_vl h 47 j) → Q none (h_wv h (v_up (m_anG c n g (h_vl h)) 44 34 1)) → e_wpc d 131 46 [some (.inr 44), some (.inl c), some (.inl g), l3] [] h Q := by
  intro n
  induction n with
  | zero => intro g l3 h hM h0 hg h1 hsp hQ; exact c_anG_s hM (by omega) (by omega) h1 (by rw [h0]; exact hsp) (fun _ => hQ) (fun hc => absurd hc (by omega))
  | succ n ih =>
    intro g l3 h hM h0 hg h1 hsp hQ
    have na : ∀ a j : Int, a ≠ 71 → (a ≠ 44 ∨ j ≠ 35) → m_anN (m_anI c g (h_vl h 44 0 - c).toNat (h_vl h 44 0) (v_up (h_vl h) 71 g (if c ≤ 0 then 0 else h_vl h 53 (6 * c + g)))) g a j = h_vl h a j := by
      intro a j h2 h3
      rw [m_anN]
      have e : ∀ (W : Int → Int → Int) (x : Int), v_up W 44 35 x a j = W a j := by
        intro W x
        rcases h3 with hb | hb
        · exact v_na hb
        · exact v_ne hb
      rw [e, m_anI_na h2, v_na h2]
    refine c_anG_s hM (by omega) (by omega) h1 (by rw [h0]; exact hsp) (fun hc => absurd hc (by omega)) (fun h6 l3 => ih (g + 1) l3 _ (hM.wv ⟨fun b j hb => na b j (by omega) (by omega), fun k hk => na 44 k (by omega) (by omega)⟩) ?_ (by omega) (by omega) (fun j h2 h3 => ?_) hQ)
    · rw [hv_wv, na 44 0 (by omega) (by omega)]; exact h0
    · rw [hv_wv, na 47 j (by omega) (by omega)]; exact hsp j h2 h3
set_option maxRecDepth 100000 in
set_option maxHeartbeats 4000000 in
theorem c_anal {d : Nat} {h : E_H} {Q : Option E_V → E_H → Prop} (hM : m_T h) (hs : 0 ≤ h_vl h 44 0 ∧ h_vl h 44 0 < 203) (hsp : ∀ j : Int, 1 ≤ j → j ≤ h_vl h 44 0 → 0 ≤ h_vl h 47 j) (hQ : Q none (h_wv h (m_anal (h_vl h)))) : e_wpm d 131 [.inr 44] h Q := by
  have hM' := hM
  unfold m_T at hM'
  refine e_wpm_blk 100 [4] ?_
  simp only [e_blk_eq, g_go, g_bks, g_bkn, g_gst, g_gsf, e_cl, e_rt, n_0, n_1, n_2, n_3, n_4, n_5, n_6, n_7, n_8, n_9, n_10, n_11, n_12, n_13, n_14, n_15, n_16, n_17, n_18, n_19, n_20, n_21, n_22, n_23, n_24, n_25, n_26, n_27, n_28, n_29, n_30, n_31, n_32, n_33, n_34, n_35, n_36, n_37, n_40, n_41, n_42, n_43, n_44, n_45, n_46, n_50, n_51, n_52, n_53, n_54, n_55, f_ldi, f_lda, f_sti, f_sta, f_inc, f_bin0, f_bin1, f_bin2, f_bin3, f_bin4, f_bin5, f_bin6, f_bin7, f_i2b, f_dup, f_pop, f_dx1, f_if0, f_ic0, f_if1, f_ic1, f_if2, f_ic2, f_if3, f_ic3, f_if4, f_ic4, f_if5, f_ic5, f_ac0, f_ac1, f_nu0, f_nu1, f_sw, f_sw0, f_sw1, f_gti, f_gta, f_pti, f_pta, f_ptz, f_new, f_nwa, f_ild, f_ist, f_bld, f_bst, f_ald, f_ast, f_len, f_cst, f_oin, f_gcl, f_ord, f_mm0, f_mm1, f_cpy, f_re0, f_re1, f_rea, f_rev, f_t50, f_t51, f_t52, f_t53, f_t54, f_t55, f_st, f_sd, f_s2, f_sn, e_in, e_ent, e_inR, Nat.reduceLT, Nat.reduceEqDiff, reduceIte, Nat.reduceBEq, List.length_cons, List.length_nil, List.map_cons, List.map_nil, List.replicate, List.cons_append, List.nil_append, List.append_nil, List.getElem?_cons_zero, List.getElem?_cons_succ, List.getElem?_nil, List.set_cons_zero, List.set_cons_succ, List.take_succ_cons, List.take_zero, List.take_nil, List.drop_succ_cons, List.drop_zero, List.drop_nil, List.reverse_cons, List.reverse_nil, Option.toList_some, Option.toList_none, Int.reduceToNat, hk_put, hl_put, hz_put, hs_put, hv_same, hv_ne, hv_na, hz_new, hs_new, hk_newS, hl_newS, hv_newS, Int.reduceEq, Int.reduceNe, Int.reduceLE, Int.reduceLT, Int.reduceAdd, Int.reduceSub, Int.reduceMul, Int.reduceNeg, Nat.reduceAdd, Nat.reduceSub, Nat.reduceLeDiff, Bool.or_false, Bool.false_or, Bool.or_true, Bool.true_or, or_self, or_false, false_or, true_or, or_true, and_true, true_and, forall_const, decide_eq_true_eq, decide_eq_false_iff_not, Bool.and_eq_true, Bool.false_eq_true, Nat.lt_add_one, imp_self, implies_true, not_true_eq_false, not_false_eq_true, ne_eq, Bool.true_eq_false, Nat.zero_le, Nat.le_refl, and_self, false_implies, q_131, l_131, hM']
  refine c_anC_l hM (by omega) (h_vl h 44 0).toNat 1 0 (by omega) (by omega) (fun i' => ?_)
  refine e_wpc_blk 100 [46] ?_
  simp only [e_blk_eq, g_go, g_bks, g_bkn, g_gst, g_gsf, e_cl, e_rt, n_0, n_1, n_2, n_3, n_4, n_5, n_6, n_7, n_8, n_9, n_10, n_11, n_12, n_13, n_14, n_15, n_16, n_17, n_18, n_19, n_20, n_21, n_22, n_23, n_24, n_25, n_26, n_27, n_28, n_29, n_30, n_31, n_32, n_33, n_34, n_35, n_36, n_37, n_40, n_41, n_42, n_43, n_44, n_45, n_46, n_50, n_51, n_52, n_53, n_54, n_55, f_ldi, f_lda, f_sti, f_sta, f_inc, f_bin0, f_bin1, f_bin2, f_bin3, f_bin4, f_bin5, f_bin6, f_bin7, f_i2b, f_dup, f_pop, f_dx1, f_if0, f_ic0, f_if1, f_ic1, f_if2, f_ic2, f_if3, f_ic3, f_if4, f_ic4, f_if5, f_ic5, f_ac0, f_ac1, f_nu0, f_nu1, f_sw, f_sw0, f_sw1, f_gti, f_gta, f_pti, f_pta, f_ptz, f_new, f_nwa, f_ild, f_ist, f_bld, f_bst, f_ald, f_ast, f_len, f_cst, f_oin, f_gcl, f_ord, f_mm0, f_mm1, f_cpy, f_re0, f_re1, f_rea, f_rev, f_t50, f_t51, f_t52, f_t53, f_t54, f_t55, f_st, f_sd, f_s2, f_sn, e_in, e_ent, e_inR, Nat.reduceLT, Nat.reduceEqDiff, reduceIte, Nat.reduceBEq, List.length_cons, List.length_nil, List.map_cons, List.map_nil, List.replicate, List.cons_append, List.nil_append, List.append_nil, List.getElem?_cons_zero, List.getElem?_cons_succ, List.getElem?_nil, List.set_cons_zero, List.set_cons_succ, List.take_succ_cons, List.take_zero, List.take_nil, List.drop_succ_cons, List.drop_zero, List.drop_nil, List.reverse_cons, List.reverse_nil, Option.toList_some, Option.toList_none, Int.reduceToNat, hk_put, hl_put, hz_put, hs_put, hv_same, hv_ne, hv_na, hz_new, hs_new, hk_newS, hl_newS, hv_newS, Int.reduceEq, Int.reduceNe, Int.reduceLE, Int.reduceLT, Int.reduceAdd, Int.reduceSub, Int.reduceMul, Int.reduceNeg, Nat.reduceAdd, Nat.reduceSub, Nat.reduceLeDiff, Bool.or_false, Bool.false_or, Bool.or_true, Bool.true_or, or_self, or_false, false_or, true_or, or_true, and_true, true_and, forall_const, decide_eq_true_eq, decide_eq_false_iff_not, Bool.and_eq_true, Bool.false_eq_true, Nat.lt_add_one, imp_self, implies_true, not_true_eq_false, not_false_eq_true, ne_eq, Bool.true_eq_false, Nat.zero_le, Nat.le_refl, and_self, false_implies, q_131, l_131, hM']
  have hr := @m_anC_rng (h_vl h) (h_vl h 44 0).toNat 1 0 (by omega) (by omega)
  refine ⟨by omega, ?_⟩
  refine c_anG_l (S := h_vl h 44 0) (by omega) (by omega) 6 0 _ _ (hM.pus (by omega)) (by rw [hv_ne (by omega)]) (by omega) (by omega) (fun j h1 h2 => ?_) hQ
  rw [hv_na (by omega)]
  exact hsp j (by omega) h2
def m_redo (V : Int → Int → Int) (i : Int) : Int → Int → Int := if V 45 i < 3 ∧ 0 < V 71 (V 47 i / 4) ∧ V 71 (V 47 i / 4) ≤ i then (if m_fetch V (V 47 i / 4) 59 (V 47 i / 4) < i then m_apply (m_fetch V (V 47 i / 4)) i else m_fetch V (V 47 i / 4)) else V
theorem m_redo_ok {V : Int → Int → Int} {i : Int} : m_ok V (m_redo V i) := by
  unfold m_redo
  split
  · split
    · exact m_fetch_ok.tr m_apply_ok
    · exact m_fetch_ok
  · exact m_ok.rf
set_option maxRecDepth 100000 in
set_option maxHeartbeats 4000000 in
theorem c_redo {d : Nat} {i : Int} {h : E_H} {Q : Option E_V → E_H → Prop} (hd : 2 ≤ d) (hM : m_T h) (hi : 0 ≤ i ∧ i < 204) (hsp : 0 ≤ h_vl h 47 i ∧ h_vl h 47 i < 24) (hov : m_ov (h_vl h)) (hQ : Q none (h_wv h (m_redo (h_vl h) i))) : e_wpm d 132 [.inr 44, .inl i] h Q := by
  have hM' := hM
  unfold m_T at hM'
  refine e_wpm_blk 100 [] ?_
  simp only [e_blk_eq, g_go, g_bks, g_bkn, g_gst, g_gsf, e_cl, e_rt, n_0, n_1, n_2, n_3, n_4, n_5, n_6, n_7, n_8, n_9, n_10, n_11, n_12, n_13, n_14, n_15, n_16, n_17, n_18, n_19, n_20, n_21, n_22, n_23, n_24, n_25, n_26, n_27, n_28, n_29, n_30, n_31, n_32, n_33, n_34, n_35, n_36, n_37, n_40, n_41, n_42, n_43, n_44, n_45, n_46, n_50, n_51, n_52, n_53, n_54, n_55, f_ldi, f_lda, f_sti, f_sta, f_inc, f_bin0, f_bin1, f_bin2, f_bin3, f_bin4, f_bin5, f_bin6, f_bin7, f_i2b, f_dup, f_pop, f_dx1, f_if0, f_ic0, f_if1, f_ic1, f_if2, f_ic2, f_if3, f_ic3, f_if4, f_ic4, f_if5, f_ic5, f_ac0, f_ac1, f_nu0, f_nu1, f_sw, f_sw0, f_sw1, f_gti, f_gta, f_pti, f_pta, f_ptz, f_new, f_nwa, f_ild, f_ist, f_bld, f_bst, f_ald, f_ast, f_len, f_cst, f_oin, f_gcl, f_ord, f_mm0, f_mm1, f_cpy, f_re0, f_re1, f_rea, f_rev, f_t50, f_t51, f_t52, f_t53, f_t54, f_t55, f_st, f_sd, f_s2, f_sn, e_in, e_ent, e_inR, Nat.reduceLT, Nat.reduceEqDiff, reduceIte, Nat.reduceBEq, List.length_cons, List.length_nil, List.map_cons, List.map_nil, List.replicate, List.cons_append, List.nil_append, List.append_nil, List.getElem?_cons_zero, List.getElem?_cons_succ, List.getElem?_nil, List.set_cons_zero, List.set_cons_succ, List.take_succ_cons, List.take_zero, List.take_nil, List.drop_succ_cons, List.drop_zero, List.drop_nil, List.reverse_cons, List.reverse_nil, Option.toList_some, Option.toList_none, Int.reduceToNat, hk_put, hl_put, hz_put, hs_put, hv_same, hv_ne, hv_na, hz_new, hs_new, hk_newS, hl_newS, hv_newS, Int.reduceEq, Int.reduceNe, Int.reduceLE, Int.reduceLT, Int.reduceAdd, Int.reduceSub, Int.reduceMul, Int.reduceNeg, Nat.reduceAdd, Nat.reduceSub, Nat.reduceLeDiff, Bool.or_false, Bool.false_or, Bool.or_true, Bool.true_or, or_self, or_false, false_or, true_or, or_true, and_true, true_and, forall_const, decide_eq_true_eq, decide_eq_false_iff_not, Bool.and_eq_true, Bool.false_eq_true, Nat.lt_add_one, imp_self, implies_true, not_true_eq_false, not_false_eq_true, ne_eq, Bool.true_eq_false, Nat.zero_le, Nat.le_refl, and_self, false_implies, q_132, l_132, l_107, hM']
  unfold m_redo at hQ
  refine ⟨by omega, by omega, by omega, fun h1 => ?_, fun h1 => ⟨by omega, fun h2 => ?_, fun h2 => ⟨by omega, fun h3 => ?_, fun h3 => ⟨by omega, c_fetch (by omega) hM (by omega) hov ?_⟩⟩⟩⟩
  · rw [if_neg (by omega)] at hQ; exact hQ
  · rw [if_neg (by omega)] at hQ; exact hQ
  · rw [if_neg (by omega)] at hQ; exact hQ
  · rw [if_pos (by omega)] at hQ
    have hM1 : m_T (h_wv h (m_fetch (h_vl h) (h_vl h 47 i / 4))) := hM.wv m_fetch_ok
    have hM1' := hM1
    unfold m_T at hM1'
    simp only [e_blk_eq, g_go, g_bks, g_bkn, g_gst, g_gsf, e_cl, e_rt, n_0, n_1, n_2, n_3, n_4, n_5, n_6, n_7, n_8, n_9, n_10, n_11, n_12, n_13, n_14, n_15, n_16, n_17, n_18, n_19, n_20, n_21, n_22, n_23, n_24, n_25, n_26, n_27, n_28, n_29, n_30, n_31, n_32, n_33, n_34, n_35, n_36, n_37, n_40, n_41, n_42, n_43, n_44, n_45, n_46, n_50, n_51, n_52, n_53, n_54, n_55, f_ldi, f_lda, f_sti, f_sta, f_inc, f_bin0, f_bin1, f_bin2, f_bin3, f_bin4, f_bin5, f_bin6, f_bin7, f_i2b, f_dup, f_pop, f_dx1, f_if0, f_ic0, f_if1, f_ic1, f_if2, f_ic2, f_if3, f_ic3, f_if4, f_ic4, f_if5, f_ic5, f_ac0, f_ac1, f_nu0, f_nu1, f_sw, f_sw0, f_sw1, f_gti, f_gta, f_pti, f_pta, f_ptz, f_new, f_nwa, f_ild, f_ist, f_bld, f_bst, f_ald, f_ast, f_len, f_cst, f_oin, f_gcl, f_ord, f_mm0, f_mm1, f_cpy, f_re0, f_re1, f_rea, f_rev, f_t50, f_t51, f_t52, f_t53, f_t54, f_t55, f_st, f_sd, f_s2, f_sn, e_in, e_ent, e_inR, Nat.reduceLT, Nat.reduceEqDiff, reduceIte, Nat.reduceBEq, List.length_cons, List.length_nil, List.map_cons, List.map_nil, List.replicate, List.cons_append, List.nil_append, List.append_nil, List.getElem?_cons_zero, List.getElem?_cons_succ, List.getElem?_nil, List.set_cons_zero, List.set_cons_succ, List.take_succ_cons, List.take_zero, List.take_nil, List.drop_succ_cons, List.drop_zero, List.drop_nil, List.reverse_cons, List.reverse_nil, Option.toList_some, Option.toList_none, Int.reduceToNat, hk_put, hl_put, hz_put, hs_put, hv_same, hv_ne, hv_na, hz_new, hs_new, hk_newS, hl_newS, hv_newS, Int.reduceEq, Int.reduceNe, Int.reduceLE, Int.reduceLT, Int.reduceAdd, Int.reduceSub, Int.reduceMul, Int.reduceNeg, Nat.reduceAdd, Nat.reduceSub, Nat.reduceLeDiff, Bool.or_false, Bool.false_or, Bool.or_true, Bool.true_or, or_self, or_false, false_or, true_or, or_true, and_true, true_and, forall_const, decide_eq_true_eq, decide_eq_false_iff_not, Bool.and_eq_true, Bool.false_eq_true, Nat.lt_add_one, imp_self, implies_true, not_true_eq_false, not_false_eq_true, ne_eq, Bool.true_eq_false, Nat.zero_le, Nat.le_refl, and_self, false_implies, q_132, l_132, l_111, hM1']
    refine ⟨by omega, fun h4 => ?_, fun h4 => ⟨by omega, c_apply hM1 hi ?_ ?_⟩⟩
    · rw [if_neg (by rw [hv_wv] at h4; omega)] at hQ; exact hQ
    · rw [hv_wv, m_fetch_na (by omega)]; exact hsp
    · rw [if_pos (by rw [hv_wv] at h4; omega)] at hQ
      simp only [e_blk_eq, g_go, g_bks, g_bkn, g_gst, g_gsf, e_cl, e_rt, n_0, n_1, n_2, n_3, n_4, n_5, n_6, n_7, n_8, n_9, n_10, n_11, n_12, n_13, n_14, n_15, n_16, n_17, n_18, n_19, n_20, n_21, n_22, n_23, n_24, n_25, n_26, n_27, n_28, n_29, n_30, n_31, n_32, n_33, n_34, n_35, n_36, n_37, n_40, n_41, n_42, n_43, n_44, n_45, n_46, n_50, n_51, n_52, n_53, n_54, n_55, f_ldi, f_lda, f_sti, f_sta, f_inc, f_bin0, f_bin1, f_bin2, f_bin3, f_bin4, f_bin5, f_bin6, f_bin7, f_i2b, f_dup, f_pop, f_dx1, f_if0, f_ic0, f_if1, f_ic1, f_if2, f_ic2, f_if3, f_ic3, f_if4, f_ic4, f_if5, f_ic5, f_ac0, f_ac1, f_nu0, f_nu1, f_sw, f_sw0, f_sw1, f_gti, f_gta, f_pti, f_pta, f_ptz, f_new, f_nwa, f_ild, f_ist, f_bld, f_bst, f_ald, f_ast, f_len, f_cst, f_oin, f_gcl, f_ord, f_mm0, f_mm1, f_cpy, f_re0, f_re1, f_rea, f_rev, f_t50, f_t51, f_t52, f_t53, f_t54, f_t55, f_st, f_sd, f_s2, f_sn, e_in, e_ent, e_inR, Nat.reduceLT, Nat.reduceEqDiff, reduceIte, Nat.reduceBEq, List.length_cons, List.length_nil, List.map_cons, List.map_nil, List.replicate, List.cons_append, List.nil_append, List.append_nil, List.getElem?_cons_zero, List.getElem?_cons_succ, List.getElem?_nil, List.set_cons_zero, List.set_cons_succ, List.take_succ_cons, List.take_zero, List.take_nil, List.drop_succ_cons, List.drop_zero, List.drop_nil, List.reverse_cons, List.reverse_nil, Option.toList_some, Option.toList_none, Int.reduceToNat, hk_put, hl_put, hz_put, hs_put, hv_same, hv_ne, hv_na, hz_new, hs_new, hk_newS, hl_newS, hv_newS, Int.reduceEq, Int.reduceNe, Int.reduceLE, Int.reduceLT, Int.reduceAdd, Int.reduceSub, Int.reduceMul, Int.reduceNeg, Nat.reduceAdd, Nat.reduceSub, Nat.reduceLeDiff, Bool.or_false, Bool.false_or, Bool.or_true, Bool.true_or, or_self, or_false, false_or, true_or, or_true, and_true, true_and, forall_const, decide_eq_true_eq, decide_eq_false_iff_not, Bool.and_eq_true, Bool.false_eq_true, Nat.lt_add_one, imp_self, implies_true, not_true_eq_false, not_false_eq_true, ne_eq, Bool.true_eq_false, Nat.zero_le, Nat.le_refl, and_self, false_implies, q_132, l_132]
      exact hQ
def m_fiL : Nat → Int → (Int → Int → Int) → (Int → Int → Int)
  | 0, _, V => V
  | n + 1, t, V => m_fiL n (t + 1) (if V 62 t = 6 then v_up V 62 t (if m_comm V t = true then 4 else 5) else V)
def m_finish (V : Int → Int → Int) : Int → Int → Int := m_fiL (V 44 22).toNat 1 (v_up V 44 32 0)
theorem m_fiL_na {a j : Int} (ha : a ≠ 62) : ∀ {n : Nat} {t : Int} {V : Int → Int → Int}, m_fiL n t V a j = V a j := by
  intro n
  induction n with
  | zero => intro t V; rfl
  | succ n ih =>
    intro t V
    rw [m_fiL, ih]
    split
    · exact v_na ha
    · rfl
theorem m_finish_ok {V : Int → Int → Int} : m_ok V (m_finish V) := (m_ok.rf.us (by omega)).tr ⟨fun b j hb => m_fiL_na (by omega), fun k hk => m_fiL_na (by omega)⟩
set_option maxRecDepth 100000 in
set_option maxHeartbeats 4000000 in
theorem c_fi_s {d : Nat} {t : Int} {h : E_H} {Q : Option E_V → E_H → Prop} (hd : 1 ≤ d) (hM : m_T h) (hs : 0 ≤ h_vl h 44 0 ∧ h_vl h 44 0 < 204) (hb : h_vl h 44 22 ≤ 60) (ht : 1 ≤ t) (K1 : h_vl h 44 22 < t → Q none h) (K2 : t ≤ h_vl h 44 22 → e_wpc d 133 7 [some (.inr 44), some (.inl (t + 1))] [] (h_wv h (if h_vl h 62 t = 6 then v_up (h_vl h) 62 t (if m_comm (h_vl h) t = true then 4 else 5) else h_vl h)) Q) : e_wpc d 133 7 [some (.inr 44), some (.inl t)] [] h Q := by
  have hM' := hM
  unfold m_T at hM'
  refine e_wpc_blk 100 [7] ?_
  simp only [e_blk_eq, g_go, g_bks, g_bkn, g_gst, g_gsf, e_cl, e_rt, n_0, n_1, n_2, n_3, n_4, n_5, n_6, n_7, n_8, n_9, n_10, n_11, n_12, n_13, n_14, n_15, n_16, n_17, n_18, n_19, n_20, n_21, n_22, n_23, n_24, n_25, n_26, n_27, n_28, n_29, n_30, n_31, n_32, n_33, n_34, n_35, n_36, n_37, n_40, n_41, n_42, n_43, n_44, n_45, n_46, n_50, n_51, n_52, n_53, n_54, n_55, f_ldi, f_lda, f_sti, f_sta, f_inc, f_bin0, f_bin1, f_bin2, f_bin3, f_bin4, f_bin5, f_bin6, f_bin7, f_i2b, f_dup, f_pop, f_dx1, f_if0, f_ic0, f_if1, f_ic1, f_if2, f_ic2, f_if3, f_ic3, f_if4, f_ic4, f_if5, f_ic5, f_ac0, f_ac1, f_nu0, f_nu1, f_sw, f_sw0, f_sw1, f_gti, f_gta, f_pti, f_pta, f_ptz, f_new, f_nwa, f_ild, f_ist, f_bld, f_bst, f_ald, f_ast, f_len, f_cst, f_oin, f_gcl, f_ord, f_mm0, f_mm1, f_cpy, f_re0, f_re1, f_rea, f_rev, f_t50, f_t51, f_t52, f_t53, f_t54, f_t55, f_st, f_sd, f_s2, f_sn, e_in, e_ent, e_inR, Nat.reduceLT, Nat.reduceEqDiff, reduceIte, Nat.reduceBEq, List.length_cons, List.length_nil, List.map_cons, List.map_nil, List.replicate, List.cons_append, List.nil_append, List.append_nil, List.getElem?_cons_zero, List.getElem?_cons_succ, List.getElem?_nil, List.set_cons_zero, List.set_cons_succ, List.take_succ_cons, List.take_zero, List.take_nil, List.drop_succ_cons, List.drop_zero, List.drop_nil, List.reverse_cons, List.reverse_nil, Option.toList_some, Option.toList_none, Int.reduceToNat, hk_put, hl_put, hz_put, hs_put, hv_same, hv_ne, hv_na, hz_new, hs_new, hk_newS, hl_newS, hv_newS, Int.reduceEq, Int.reduceNe, Int.reduceLE, Int.reduceLT, Int.reduceAdd, Int.reduceSub, Int.reduceMul, Int.reduceNeg, Nat.reduceAdd, Nat.reduceSub, Nat.reduceLeDiff, Bool.or_false, Bool.false_or, Bool.or_true, Bool.true_or, or_self, or_false, false_or, true_or, or_true, and_true, true_and, forall_const, decide_eq_true_eq, decide_eq_false_iff_not, Bool.and_eq_true, Bool.false_eq_true, Nat.lt_add_one, imp_self, implies_true, not_true_eq_false, not_false_eq_true, ne_eq, Bool.true_eq_false, Nat.zero_le, Nat.le_refl, and_self, false_implies, q_133, l_133, l_116, hM']
  refine ⟨fun h1 => K1 (by omega), fun h1 => ⟨by omega, fun h2 => ⟨by omega, ?_⟩, fun h2 => ⟨by omega, c_comm hM hs ?_⟩⟩⟩
  · have := K2 (by omega)
    rw [if_neg h2] at this
    exact this
  · have := K2 (by omega)
    rw [if_pos (by omega)] at this
    simp only [e_blk_eq, g_go, g_bks, g_bkn, g_gst, g_gsf, e_cl, e_rt, n_0, n_1, n_2, n_3, n_4, n_5, n_6, n_7, n_8, n_9, n_10, n_11, n_12, n_13, n_14, n_15, n_16, n_17, n_18, n_19, n_20, n_21, n_22, n_23, n_24, n_25, n_26, n_27, n_28, n_29, n_30, n_31, n_32, n_33, n_34, n_35, n_36, n_37, n_40, n_41, n_42, n_43, n_44, n_45, n_46, n_50, n_51, n_52, n_53, n_54, n_55, f_ldi, f_lda, f_sti, f_sta, f_inc, f_bin0, f_bin1, f_bin2, f_bin3, f_bin4, f_bin5, f_bin6, f_bin7, f_i2b, f_dup, f_pop, f_dx1, f_if0, f_ic0, f_if1, f_ic1, f_if2, f_ic2, f_if3, f_ic3, f_if4, f_ic4, f_if5, f_ic5, f_ac0, f_ac1, f_nu0, f_nu1, f_sw, f_sw0, f_sw1, f_gti, f_gta, f_pti, f_pta, f_ptz, f_new, f_nwa, f_ild, f_ist, f_bld, f_bst, f_ald, f_ast, f_len, f_cst, f_oin, f_gcl, f_ord, f_mm0, f_mm1, f_cpy, f_re0, f_re1, f_rea, f_rev, f_t50, f_t51, f_t52, f_t53, f_t54, f_t55, f_st, f_sd, f_s2, f_sn, e_in, e_ent, e_inR, Nat.reduceLT, Nat.reduceEqDiff, reduceIte, Nat.reduceBEq, List.length_cons, List.length_nil, List.map_cons, List.map_nil, List.replicate, List.cons_append, List.nil_append, List.append_nil, List.getElem?_cons_zero, List.getElem?_cons_succ, List.getElem?_nil, List.set_cons_zero, List.set_cons_succ, List.take_succ_cons, List.take_zero, List.take_nil, List.drop_succ_cons, List.drop_zero, List.drop_nil, List.reverse_cons, List.reverse_nil, Option.toList_some, Option.toList_none, Int.reduceToNat, hk_put, hl_put, hz_put, hs_put, hv_same, hv_ne, hv_na, hz_new, hs_new, hk_newS, hl_newS, hv_newS, Int.reduceEq, Int.reduceNe, Int.reduceLE, Int.reduceLT, Int.reduceAdd, Int.reduceSub, Int.reduceMul, Int.reduceNeg, Nat.reduceAdd, Nat.reduceSub, Nat.reduceLeDiff, Bool.or_false, Bool.false_or, Bool.or_true, Bool.true_or, or_self, or_false, false_or, true_or, or_true, and_true, true_and, forall_const, decide_eq_true_eq, decide_eq_false_iff_not, Bool.and_eq_true, Bool.false_eq_true, Nat.lt_add_one, imp_self, implies_true, not_true_eq_false, not_false_eq_true, ne_eq, Bool.true_eq_false, Nat.zero_le, Nat.le_refl, and_self, false_implies, q_133, l_133, hM']
    refine ⟨fun h3 => ⟨by omega, by omega, ?_⟩, fun h3 => ⟨by omega, by omega, ?_⟩⟩
    · rw [if_neg (by rw [q_b0 h3]; decide)] at this; exact this
    · rw [if_pos (q_b1 h3)] at this; exact this
theorem c_fi_l {d : Nat} {B : Int} {Q : Option E_V → E_H → Prop} (hd : 1 ≤ d) (hB : B ≤ 60) : ∀ (n : Nat) (t : Int) (h : E_H), m_T h → h_vl h 44 22 = B → (0 ≤ h_vl h 44 0 ∧ h_vl h 44 0 < 204) → t + n = B + 1 → 1 ≤ t → Q none (h_wv h (m_fiL n t (h_vl h))) → e_wpc d 133 7 [some (.inr 44), some (.inl t)] [] h Q := by
  intro n
  induction n with
  | zero => intro t h hM hb hs ht h1 hQ; exact c_fi_s hd hM hs (by omega) h1 (fun _ => hQ) (fun hc => absurd hc (by omega))
  | succ n ih =>
    intro t h hM hb hs ht h1 hQ
    have na : ∀ a j : Int, a ≠ 62 → (if h_vl h 62 t = 6 then v_up (h_vl h) 62 t (if m_comm (h_vl h) t = true then 4 else 5) else h_vl h) a j = h_vl h a j := by
      intro a j ha
      split
      · exact v_na ha
      · rfl
    refine c_fi_s hd hM hs (by omega) h1 (fun hc => absurd hc (by omega)) (fun _ => ih (t + 1) _ (hM.wv ⟨fun b j hb => na b j (by omega), fun k hk => na 44 k (by omega)⟩) ?_ ?_ (by omega) (by omega) hQ)
    · rw [hv_wv, na _ _ (by omega)]; exact hb
    · rw [hv_wv, na _ _ (by omega)]; exact hs
set_option maxRecDepth 100000 in
set_option maxHeartbeats 4000000 in
theorem c_finish {d : Nat} {h : E_H} {Q : Option E_V → E_H → Prop} (hd : 1 ≤ d) (hM : m_T h) (hs : 0 ≤ h_vl h 44 0 ∧ h_vl h 44 0 < 204) (hb : 0 ≤ h_vl h 44 22 ∧ h_vl h 44 22 ≤ 60) (hQ : Q none (h_wv h (m_finish (h_vl h)))) : e_wpm d 133 [.inr 44] h Q := by
  have hM' := hM
  unfold m_T at hM'
  refine e_wpm_blk 100 [7] ?_
  simp only [e_blk_eq, g_go, g_bks, g_bkn, g_gst, g_gsf, e_cl, e_rt, n_0, n_1, n_2, n_3, n_4, n_5, n_6, n_7, n_8, n_9, n_10, n_11, n_12, n_13, n_14, n_15, n_16, n_17, n_18, n_19, n_20, n_21, n_22, n_23, n_24, n_25, n_26, n_27, n_28, n_29, n_30, n_31, n_32, n_33, n_34, n_35, n_36, n_37, n_40, n_41, n_42, n_43, n_44, n_45, n_46, n_50, n_51, n_52, n_53, n_54, n_55, f_ldi, f_lda, f_sti, f_sta, f_inc, f_bin0, f_bin1, f_bin2, f_bin3, f_bin4, f_bin5, f_bin6, f_bin7, f_i2b, f_dup, f_pop, f_dx1, f_if0, f_ic0, f_if1, f_ic1, f_if2, f_ic2, f_if3, f_ic3, f_if4, f_ic4, f_if5, f_ic5, f_ac0, f_ac1, f_nu0, f_nu1, f_sw, f_sw0, f_sw1, f_gti, f_gta, f_pti, f_pta, f_ptz, f_new, f_nwa, f_ild, f_ist, f_bld, f_bst, f_ald, f_ast, f_len, f_cst, f_oin, f_gcl, f_ord, f_mm0, f_mm1, f_cpy, f_re0, f_re1, f_rea, f_rev, f_t50, f_t51, f_t52, f_t53, f_t54, f_t55, f_st, f_sd, f_s2, f_sn, e_in, e_ent, e_inR, Nat.reduceLT, Nat.reduceEqDiff, reduceIte, Nat.reduceBEq, List.length_cons, List.length_nil, List.map_cons, List.map_nil, List.replicate, List.cons_append, List.nil_append, List.append_nil, List.getElem?_cons_zero, List.getElem?_cons_succ, List.getElem?_nil, List.set_cons_zero, List.set_cons_succ, List.take_succ_cons, List.take_zero, List.take_nil, List.drop_succ_cons, List.drop_zero, List.drop_nil, List.reverse_cons, List.reverse_nil, Option.toList_some, Option.toList_none, Int.reduceToNat, hk_put, hl_put, hz_put, hs_put, hv_same, hv_ne, hv_na, hz_new, hs_new, hk_newS, hl_newS, hv_newS, Int.reduceEq, Int.reduceNe, Int.reduceLE, Int.reduceLT, Int.reduceAdd, Int.reduceSub, Int.reduceMul, Int.reduceNeg, Nat.reduceAdd, Nat.reduceSub, Nat.reduceLeDiff, Bool.or_false, Bool.false_or, Bool.or_true, Bool.true_or, or_self, or_false, false_or, true_or, or_true, and_true, true_and, forall_const, decide_eq_true_eq, decide_eq_false_iff_not, Bool.and_eq_true, Bool.false_eq_true, Nat.lt_add_one, imp_self, implies_true, not_true_eq_false, not_false_eq_true, ne_eq, Bool.true_eq_false, Nat.zero_le, Nat.le_refl, and_self, false_implies, q_133, l_133, hM']
  exact c_fi_l hd hb.2 (h_vl h 44 22).toNat 1 _ (hM.pus (by omega)) (by rw [hv_ne (by omega)]) (by rw [hv_ne (by omega)]; exact hs) (by omega) (by omega) hQ
