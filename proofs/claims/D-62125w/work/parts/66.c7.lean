/-! ===== the component, 7: fetch, whole ===== -/
theorem v_up_co {V : E_K} {a b j k x y : Int} (h : a ≠ b ∨ j ≠ k) : v_up (v_up V a j x) b k y = v_up (v_up V b k y) a j x := by
  funext c i
  simp only [v_at]
  split <;> split <;> first | rfl | omega
theorem m_spill_clk {V : E_K} {o x : Int} : m_spill (v_up V 44 19 x) o = v_up (m_spill V o) 44 19 x := by
  funext a j
  by_cases h1 : a = 44
  · rw [h1]
    by_cases h2 : j = 19
    · rw [h2, v_same, m_spill_44 (by omega) (by omega), v_same]
    · rw [v_ne h2]
      by_cases h3 : j = 1
      · rw [h3, m_spill_1, m_spill_1, v_ne (by omega), v_na (by omega)]
      · by_cases h4 : j = 21
        · rw [h4, m_spill_21, m_spill_21, v_ne (by omega)]
        · rw [m_spill_44 h3 h4, m_spill_44 h3 h4, v_ne h2]
  · rw [v_na h1]
    by_cases h54 : a = 54
    · rw [h54, m_spill_54, m_spill_54, v_na (by omega), v_na (by omega)]
    · by_cases h55 : a = 55
      · rw [h55, m_spill_55, m_spill_55, v_na (by omega), v_na (by omega)]
      · by_cases h56 : a = 56
        · rw [h56, m_spill_56, m_spill_56, v_na (by omega), v_na (by omega)]
        · by_cases h60 : a = 60
          · rw [h60, m_spill_60, m_spill_60, v_na (by omega)]
          · rw [m_spill_oth h1 h60 h56 h54 h55, m_spill_oth h1 h60 h56 h54 h55, v_na h1]
theorem f_s.A {h h' : E_H} (hS : k_S h) (f : f_s k_po h h') : k_S h' := hS.fr (f.1.pA hS)
set_option maxRecDepth 100000 in
set_option maxHeartbeats 4000000 in
theorem r_fetch {d : Nat} {g : Int} {V : E_K} {h : E_H} {Q : Option E_V → E_H → Prop} (hd : 2 ≤ d) (hS : k_S h) (hO : k_O h V) (gr : 0 ≤ g ∧ g < 6) (hF : p_F V) (hov : m_ov V) (h60 : ∀ o : Int, 0 ≤ o → o < 6 → 0 < V 61 o → 0 ≤ V 60 o) (K : ∀ h', f_s k_po h h' → k_O h' (m_fetch V g) → Q (some (.inr (26 + 3 * g))) h') : e_wpm d 39 [.inr 16, .inl g] h Q := by
  obtain ⟨⟨l, hL⟩, hP, hW⟩ := hO
  have hT' := hS.1
  have hP' := hS.pg gr
  unfold k_T at hT'
  unfold k_p1 at hP'
  have ov := hov
  unfold m_ov at ov
  obtain ⟨w1, w2, w3⟩ := hW
  have hp := hP g gr.1 gr.2
  have F0 := hF.1
  refine e_wpm_blk 100 [69, 130] ?_
  simp only [e_blk_eq, g_go, g_bks, g_bkn, g_gst, g_gsf, e_cl, e_rt, n_0, n_1, n_2, n_3, n_4, n_5, n_6, n_7, n_8, n_9, n_10, n_11, n_12, n_13, n_14, n_15, n_16, n_17, n_18, n_19, n_20, n_21, n_22, n_23, n_24, n_25, n_26, n_27, n_28, n_29, n_30, n_31, n_32, n_33, n_34, n_35, n_36, n_37, n_40, n_41, n_42, n_43, n_44, n_45, n_46, n_50, n_51, n_52, n_53, n_54, n_55, f_ldi, f_lda, f_sti, f_sta, f_inc, f_bin0, f_bin1, f_bin2, f_bin3, f_bin4, f_bin5, f_bin6, f_bin7, f_i2b, f_dup, f_pop, f_dx1, f_if0, f_ic0, f_if1, f_ic1, f_if2, f_ic2, f_if3, f_ic3, f_if4, f_ic4, f_if5, f_ic5, f_ac0, f_ac1, f_nu0, f_nu1, f_sw, f_sw0, f_sw1, f_gti, f_gta, f_pti, f_pta, f_ptz, f_new, f_nwa, f_ild, f_ist, f_bld, f_bst, f_ald, f_ast, f_len, f_cst, f_oin, f_gcl, f_ord, f_mm0, f_mm1, f_cpy, f_re0, f_re1, f_rea, f_rev, f_t50, f_t51, f_t52, f_t53, f_t54, f_t55, f_st, f_sd, f_s2, f_sn, e_in, e_ent, e_inR, Nat.reduceLT, Nat.reduceEqDiff, reduceIte, Nat.reduceBEq, List.length_cons, List.length_nil, List.map_cons, List.map_nil, List.replicate, List.cons_append, List.nil_append, List.append_nil, List.getElem?_cons_zero, List.getElem?_cons_succ, List.getElem?_nil, List.set_cons_zero, List.set_cons_succ, List.take_succ_cons, List.take_zero, List.take_nil, List.drop_succ_cons, List.drop_zero, List.drop_nil, List.reverse_cons, List.reverse_nil, Option.toList_some, Option.toList_none, Int.reduceToNat, hk_pt, hl_pt, hz_pt, hs_pt, hv_same, hv_ne, hv_na, hz_nw, hs_nw, hk_newS, hl_newS, hv_newS, Int.reduceEq, Int.reduceNe, Int.reduceLE, Int.reduceLT, Int.reduceAdd, Int.reduceSub, Int.reduceMul, Int.reduceNeg, Nat.reduceAdd, Nat.reduceSub, Nat.reduceLeDiff, Bool.or_false, Bool.false_or, Bool.or_true, Bool.true_or, or_self, or_false, false_or, true_or, or_true, and_true, true_and, forall_const, decide_eq_true_eq, decide_eq_false_iff_not, Bool.and_eq_true, Bool.false_eq_true, Nat.lt_add_one, imp_self, implies_true, not_true_eq_false, not_false_eq_true, ne_eq, Bool.true_eq_false, Nat.zero_le, Nat.le_refl, and_self, false_implies, q_39, l_39, hT', hP', l_40, l_41]
  have inn : ∀ h1 : E_H, ∀ V1 : E_K, ∀ l1 : List Int, f_s k_po h h1 → k_S h1 → k_pgs h1 V1 → k_L h1 V1 l1 → l1.length ≤ 2 → g ∉ l1 → V1 61 g = 0 → V1 44 19 = V 44 19 → k_W h1 V1 → (-1000000000 ≤ V1 44 20 ∧ V1 44 20 ≤ 1000000000) → m_fetch V g = m_load (v_up V1 44 19 (V 44 19 + 1)) g → e_wpc d 39 69 [some (.inr 16), some (.inl g), some (.inr (26 + 3 * g)), some (.inl 0)] [] h1 Q := by
    intro h1 V1 l1 f1 S1 P1 L1 l2 ng e61 e19 W1 ov1 ef
    have P1' : k_pgs h1 (v_up V1 44 19 (V 44 19 + 1)) := P1.keep S1 (f_m.rf S1.2.2.1) (fun x => by rw [v_na (by omega)]) (fun a j a1 a2 => v_na (by omega))
    refine r_ld S1 gr ⟨by rw [L1.2.2.2.2]; omega, by rw [W1.1]; exact ov1⟩ (fun j j1 j2 => ((P1 g gr.1 gr.2).2.1 j j1 j2).ok) (fun h2 l3 f2 q1 q2 q3 q4 q5 q6 => ?_)
    have S2 : k_S h2 := (f2.mono (fun _ _ _ z => k_po.ld z)).A S1
    have hZ := S1.2.2.1
    have P2 := P1'.load S1 gr (by rw [v_same]; omega) f2.1 q1 q2 q3 q4
    have n16 := S1.n16
    have D2 : k_DL h2 l1 := L1.2.2.2.1.fr (fun x hx => by
      have := (S1.pg (L1.1.2.1 x hx)).2.1
      exact ⟨f2.1.vl hZ this (by omega) (by unfold k_lda; omega), f2.1.vl hZ this (by omega) (by unfold k_lda; omega)⟩) (f2.1.vl hZ n16 (by omega) (by unfold k_lda; omega)) (f2.1.vl hZ n16 (by omega) (by unfold k_lda; omega))
    refine c_ft_130 (by omega) S2 l2 L1.1.2.1 L1.1.nodup D2 ng gr (fun h3 f3 D3 => ?_)
    have n16' := S2.n16
    have vv : ∀ j : Int, j ≠ 1 → j ≠ 2 → h_vl h3 16 j = h_vl h2 16 j := fun j j1 j2 => f3.1.vl S2.2.2.1 n16' (by omega) (by unfold k_ll; omega)
    refine K h3 ((f1.tr (f2.mono (fun _ _ _ z => k_po.ld z))).tr (f3.mono (fun _ _ _ z => k_po.ll z))) ?_
    rw [ef]
    refine ⟨⟨g :: l1, k_L.cons (V := V1) (by omega) gr l2 L1.1 (fun x x1 x2 => ?_) L1.2.2.1 D3 (by rw [vv 3 (by omega) (by omega), q5, L1.2.2.2.2]) (fun x hx => ?_) ?_ ?_⟩, P2.keep S2 f3.1 (fun x => Iff.rfl) (fun a j _ _ => rfl), ?_, ?_, ?_⟩
    · rw [L1.2.1 x x1 x2]
      refine ⟨fun z => ⟨z, fun w => by rw [w, e61] at z; omega⟩, fun z => z.1⟩
    · rw [m_load_61, if_neg hx, v_na (by omega)]
    · rw [m_load_61, if_pos rfl, v_same, e19]
    · rw [m_load_44 (by omega), v_same, e19]
    · rw [vv 4 (by omega) (by omega), q6, W1.1, m_load_20, v_ne (by omega)]
    · rw [vv 5 (by omega) (by omega), f2.1.vl hZ n16 (by omega) (by unfold k_lda; omega), W1.2.1, m_load_44 (by omega), v_ne (by omega)]
    · rw [vv 7 (by omega) (by omega), f2.1.vl hZ n16 (by omega) (by unfold k_lda; omega), W1.2.2, m_load_44 (by omega), v_ne (by omega)]
  have z61 : h_vl h (26 + 3 * g) 6 = 0 → V 61 g = 0 := by
    intro z
    rw [hp.2.2.1] at z
    have := hF.2 g
    split at z
    · omega
    · omega
  have ec : (v_up V 44 19 (V 44 19 + 1)) 61 g = V 61 g := v_na (by omega)
  have o61 : ∀ x, (v_up V 44 19 (V 44 19 + 1)) 61 x = V 61 x := fun x => v_na (by omega)
  have oo : ∀ (n : Nat) (k m o : Int), m_old (v_up V 44 19 (V 44 19 + 1)) n k m o = m_old V n k m o := by
    intro n
    induction n with
    | zero => intro k m o; rfl
    | succ n ih => intro k m o; rw [m_old, m_old, ih, o61, o61]
  refine ⟨gr, fun h1 => ⟨fun h2 => ?_, fun h2 => ⟨fun h3 => ?_, fun h3 => ⟨by omega, ?_⟩⟩⟩, fun h1 => ⟨by omega, ?_⟩⟩
  · have g0 := z61 h1
    have ll : l.length ≤ 2 := by
      have := hL.1.1
      have := hL.2.2.2.2
      omega
    refine inn h V l (f_s.rf hS.2.2.1) hS hP hL ll (fun z => by have := (hL.2.1 g gr.1 gr.2).mp z; omega) g0 rfl ⟨w1, w2, w3⟩ ov.2.1 ?_
    unfold m_fetch
    rw [if_pos g0, oo]
    unfold m_ft2
    rw [if_neg (hL.few ll)]
    rfl
  · exfalso
    have l3 := hL.2.2.2.2
    have D := hL.2.2.2.1
    have lr := hL.1.2.1
    rcases l with _ | ⟨a, _ | ⟨b, _ | ⟨c, _ | ⟨e, l⟩⟩⟩⟩
    · simp at l3; omega
    · simp at l3; omega
    · simp at l3; omega
    · have d1 := D.1
      simp only [k_dl] at d1
      have := lr c (by simp)
      omega
    · have := hL.1.1
      simp at this
  · have g0 := z61 h1
    have l3 := hL.2.2.2.2
    have D := hL.2.2.2.1
    rcases l with _ | ⟨a, _ | ⟨b, _ | ⟨o, _ | ⟨e, l⟩⟩⟩⟩
    · simp at l3; omega
    · simp at l3; omega
    · simp at l3; omega
    · have d1 := D.1
      simp only [k_dl] at d1
      obtain ⟨_, _, _, _, _, _, d2⟩ := d1
      have ho : o ∈ [a, b, o] := by simp
      have orr := hL.1.2.1 o ho
      have ofp := (hL.2.1 o orr.1 orr.2).mp ho
      have old := hL.old
      have og : o ≠ g := fun z => by rw [z] at ofp; omega
      have np : [a, b, o].erase o = [a, b] := by
        have := hL.1.nodup
        simp only [List.nodup_cons, List.mem_cons, List.not_mem_nil, or_false, not_or] at this
        have h1 : (a == o) = false := by simpa using this.1.2
        have h2 : (b == o) = false := by simpa using this.2.1
        simp [List.erase_cons, h1, h2]
      rw [d2]
      have fin : ∀ h1' V1, f_s k_po h h1' → k_S h1' → k_pgs h1' V1 → k_W h1' V1 → k_DL h1' [a, b, o] → h_vl h1' 16 3 = 3 → (∀ x, V1 61 x = V 61 x) → (V1 44 19 = V 44 19) → (-1000000000 ≤ V1 44 20 ∧ V1 44 20 ≤ 1000000000) → m_fetch V g = m_load (v_up (v_up V1 61 o 0) 44 19 (V 44 19 + 1)) g → e_bk [69, 130] d 39 Q 79 47 [some (Sum.inr 16), some (Sum.inl g), some (Sum.inr (26 + 3 * g)), some (Sum.inr (26 + 3 * o))] [] none h1' := by
        intro h1' V1 f1 S1 P1 W1 D1 c1 v61 v19 v20 ef
        have hT1 := S1.1
        unfold k_T at hT1
        have ko := (S1.pg orr).2.1
        simp only [e_blk_eq, g_go, g_bks, g_bkn, g_gst, g_gsf, e_cl, e_rt, n_0, n_1, n_2, n_3, n_4, n_5, n_6, n_7, n_8, n_9, n_10, n_11, n_12, n_13, n_14, n_15, n_16, n_17, n_18, n_19, n_20, n_21, n_22, n_23, n_24, n_25, n_26, n_27, n_28, n_29, n_30, n_31, n_32, n_33, n_34, n_35, n_36, n_37, n_40, n_41, n_42, n_43, n_44, n_45, n_46, n_50, n_51, n_52, n_53, n_54, n_55, f_ldi, f_lda, f_sti, f_sta, f_inc, f_bin0, f_bin1, f_bin2, f_bin3, f_bin4, f_bin5, f_bin6, f_bin7, f_i2b, f_dup, f_pop, f_dx1, f_if0, f_ic0, f_if1, f_ic1, f_if2, f_ic2, f_if3, f_ic3, f_if4, f_ic4, f_if5, f_ic5, f_ac0, f_ac1, f_nu0, f_nu1, f_sw, f_sw0, f_sw1, f_gti, f_gta, f_pti, f_pta, f_ptz, f_new, f_nwa, f_ild, f_ist, f_bld, f_bst, f_ald, f_ast, f_len, f_cst, f_oin, f_gcl, f_ord, f_mm0, f_mm1, f_cpy, f_re0, f_re1, f_rea, f_rev, f_t50, f_t51, f_t52, f_t53, f_t54, f_t55, f_st, f_sd, f_s2, f_sn, e_in, e_ent, e_inR, Nat.reduceLT, Nat.reduceEqDiff, reduceIte, Nat.reduceBEq, List.length_cons, List.length_nil, List.map_cons, List.map_nil, List.replicate, List.cons_append, List.nil_append, List.append_nil, List.getElem?_cons_zero, List.getElem?_cons_succ, List.getElem?_nil, List.set_cons_zero, List.set_cons_succ, List.take_succ_cons, List.take_zero, List.take_nil, List.drop_succ_cons, List.drop_zero, List.drop_nil, List.reverse_cons, List.reverse_nil, Option.toList_some, Option.toList_none, Int.reduceToNat, hk_pt, hl_pt, hz_pt, hs_pt, hv_same, hv_ne, hv_na, hz_nw, hs_nw, hk_newS, hl_newS, hv_newS, Int.reduceEq, Int.reduceNe, Int.reduceLE, Int.reduceLT, Int.reduceAdd, Int.reduceSub, Int.reduceMul, Int.reduceNeg, Nat.reduceAdd, Nat.reduceSub, Nat.reduceLeDiff, Bool.or_false, Bool.false_or, Bool.or_true, Bool.true_or, or_self, or_false, false_or, true_or, or_true, and_true, true_and, forall_const, decide_eq_true_eq, decide_eq_false_iff_not, Bool.and_eq_true, Bool.false_eq_true, Nat.lt_add_one, imp_self, implies_true, not_true_eq_false, not_false_eq_true, ne_eq, Bool.true_eq_false, Nat.zero_le, Nat.le_refl, and_self, false_implies, q_39, l_39, hT1, ko, l_40]
        have hl1 : k_rl V1 [a, b, o] := ⟨hL.1.1, hL.1.2.1, by simp only [v61]; exact hL.1.2.2⟩
        refine ⟨by omega, r_unlink S1 hl1 D1 ho (fun h2 f2 D2 => ?_)⟩
        rw [np] at D2
        have S2 : k_S h2 := (f2.mono (fun _ _ _ z => k_po.ll z)).A S1
        have hT2 := S2.1
        unfold k_T at hT2
        have ko2 := (S2.pg orr).2.1
        have n16 := S1.n16
        have n16' := S2.n16
        have c2 : h_vl h2 16 3 = 3 := by rw [f2.1.vl S1.2.2.1 n16 (by omega) (by unfold k_ll; omega)]; exact c1
        have n1 : (16 : Int) ≠ 26 + 3 * o := by omega
        simp only [e_blk_eq, g_go, g_bks, g_bkn, g_gst, g_gsf, e_cl, e_rt, n_0, n_1, n_2, n_3, n_4, n_5, n_6, n_7, n_8, n_9, n_10, n_11, n_12, n_13, n_14, n_15, n_16, n_17, n_18, n_19, n_20, n_21, n_22, n_23, n_24, n_25, n_26, n_27, n_28, n_29, n_30, n_31, n_32, n_33, n_34, n_35, n_36, n_37, n_40, n_41, n_42, n_43, n_44, n_45, n_46, n_50, n_51, n_52, n_53, n_54, n_55, f_ldi, f_lda, f_sti, f_sta, f_inc, f_bin0, f_bin1, f_bin2, f_bin3, f_bin4, f_bin5, f_bin6, f_bin7, f_i2b, f_dup, f_pop, f_dx1, f_if0, f_ic0, f_if1, f_ic1, f_if2, f_ic2, f_if3, f_ic3, f_if4, f_ic4, f_if5, f_ic5, f_ac0, f_ac1, f_nu0, f_nu1, f_sw, f_sw0, f_sw1, f_gti, f_gta, f_pti, f_pta, f_ptz, f_new, f_nwa, f_ild, f_ist, f_bld, f_bst, f_ald, f_ast, f_len, f_cst, f_oin, f_gcl, f_ord, f_mm0, f_mm1, f_cpy, f_re0, f_re1, f_rea, f_rev, f_t50, f_t51, f_t52, f_t53, f_t54, f_t55, f_st, f_sd, f_s2, f_sn, e_in, e_ent, e_inR, Nat.reduceLT, Nat.reduceEqDiff, reduceIte, Nat.reduceBEq, List.length_cons, List.length_nil, List.map_cons, List.map_nil, List.replicate, List.cons_append, List.nil_append, List.append_nil, List.getElem?_cons_zero, List.getElem?_cons_succ, List.getElem?_nil, List.set_cons_zero, List.set_cons_succ, List.take_succ_cons, List.take_zero, List.take_nil, List.drop_succ_cons, List.drop_zero, List.drop_nil, List.reverse_cons, List.reverse_nil, Option.toList_some, Option.toList_none, Int.reduceToNat, hk_pt, hl_pt, hz_pt, hs_pt, hv_same, hv_ne, hv_na, hz_nw, hs_nw, hk_newS, hl_newS, hv_newS, Int.reduceEq, Int.reduceNe, Int.reduceLE, Int.reduceLT, Int.reduceAdd, Int.reduceSub, Int.reduceMul, Int.reduceNeg, Nat.reduceAdd, Nat.reduceSub, Nat.reduceLeDiff, Bool.or_false, Bool.false_or, Bool.or_true, Bool.true_or, or_self, or_false, false_or, true_or, or_true, and_true, true_and, forall_const, decide_eq_true_eq, decide_eq_false_iff_not, Bool.and_eq_true, Bool.false_eq_true, Nat.lt_add_one, imp_self, implies_true, not_true_eq_false, not_false_eq_true, ne_eq, Bool.true_eq_false, Nat.zero_le, Nat.le_refl, and_self, false_implies, q_39, l_39, hT2, ko2, n1]
        refine ⟨by omega, ?_⟩
        generalize hh : h_put (h_put h2 (26 + 3 * o) 6 0) 16 3 (h_vl h2 16 3 - 1) = h3
        have f3 : f_s k_po h2 h3 := by
          rw [← hh]
          exact ((f_s.rf S2.2.2.1).put (fun _ => Or.inr (Or.inl ⟨ko2, by omega⟩))).put (fun _ => Or.inl (by omega))
        have vh : ∀ x j : Int, (x ≠ 16 ∨ j ≠ 3) → (x ≠ 26 + 3 * o ∨ j ≠ 6) → h_vl h3 x j = h_vl h2 x j := by
          intro x j x1 x2
          rw [← hh, hv_put, if_neg (by omega), hv_put, if_neg (by omega)]
        have S3 : k_S h3 := f3.A S2
        have P3 : k_pgs h3 (v_up V1 61 o 0) := by
          have P2 : k_pgs h2 V1 := P1.keep S1 f2.1 (fun x => Iff.rfl) (fun a j _ _ => rfl)
          intro x x1 x2
          by_cases hx : x = o
          · rw [hx]
            obtain ⟨p1, p2, p3, p4⟩ := P2 o orr.1 orr.2
            refine ⟨by rw [vh _ _ (by omega) (by omega), v_na (by omega)]; exact p1, fun s s1 s2 => ?_, ?_, fun z => ?_⟩
            · rw [vh _ _ (by omega) (by omega), v_na (by omega), v_na (by omega)]
              exact (p2 s s1 s2).fr f3.1 S2.2.2.1 (fun a j => by unfold k_po; omega)
            · rw [v_same, if_neg (by omega), ← hh, hv_na (by omega), hv_same]
            · rw [v_same] at z; omega
          · have fx : f_m (fun k y j => (k = 1 ∧ y = 16 ∧ j = 3) ∨ (k = 4 ∧ y = 26 + 3 * o ∧ j = 6)) h2 h3 := by
              rw [← hh]
              exact ((f_m.rf S2.2.2.1).put (fun _ => Or.inr (by omega))).put (fun _ => Or.inl (by omega))
            exact (P2 x x1 x2).fr fx S2 ⟨x1, x2⟩ (fun a j => by omega) (fun j => by omega) ⟨v_na (by omega), by rw [v_ne hx], v_na (by omega), v_na (by omega)⟩ (fun y y1 y2 => ⟨v_na (by omega), v_na (by omega), v_na (by omega), v_na (by omega)⟩)
        have D3 : k_DL h3 [a, b] := D2.fr (fun x hx => ⟨vh _ _ (by omega) (by omega), vh _ _ (by omega) (by omega)⟩) (vh _ _ (by omega) (by omega)) (vh _ _ (by omega) (by omega))
        have lp := hL.1.2.2
        have lr := hL.1.2.1
        simp only [List.pairwise_cons, List.mem_cons, List.not_mem_nil, or_false, forall_eq_or_imp, forall_eq] at lp lr
        have ao : a ≠ o := fun z => by rw [z] at lp; omega
        have bo : b ≠ o := fun z => by rw [z] at lp; omega
        have L3 : k_L h3 (v_up V1 61 o 0) [a, b] := by
          refine ⟨⟨by simp, fun x hx => ?_, ?_⟩, fun x x1 x2 => ?_, fun x hx => ?_, D3, by rw [← hh, hv_same, c2]; rfl⟩
          · simp only [List.mem_cons, List.not_mem_nil, or_false] at hx
            rcases hx with z | z <;> (rw [z]; omega)
          · simp only [List.pairwise_cons, List.mem_cons, List.not_mem_nil, or_false, forall_eq]
            rw [v_ne ao, v_ne bo, v61, v61]
            exact ⟨lp.1.1, fun _ z => absurd z (by simp), List.Pairwise.nil⟩
          · by_cases hx : x = o
            · rw [hx, v_same]
              simp [ao.symm, bo.symm]
            · rw [v_ne hx, v61, ← hL.2.1 x x1 x2]
              simp [hx]
          · have := hL.2.2.1 x (by simp only [List.mem_cons, List.not_mem_nil, or_false] at hx ⊢; omega)
            have hxo : x ≠ o := by
              simp only [List.mem_cons, List.not_mem_nil, or_false] at hx
              omega
            rw [v_ne hxo, v61, v_na (by omega), v19]
            exact this
        have W3 : k_W h3 (v_up V1 61 o 0) := by
          have e2 : ∀ j : Int, j ≠ 1 → j ≠ 2 → j ≠ 3 → h_vl h3 16 j = h_vl h1' 16 j := fun j j1 j2 j3 => by
            rw [vh 16 j (by omega) (by omega), f2.1.vl S1.2.2.1 n16 (by omega) (by unfold k_ll; omega)]
          unfold k_W
          rw [e2 4 (by omega) (by omega) (by omega), e2 5 (by omega) (by omega) (by omega), e2 7 (by omega) (by omega) (by omega), v_na (by omega), v_na (by omega), v_na (by omega)]
          exact W1
        refine inn h3 (v_up V1 61 o 0) [a, b] ((f1.tr (f2.mono (fun _ _ _ z => k_po.ll z))).tr f3) S3 P3 L3 (by simp) (fun z => ?_) ?_ ?_ W3 ?_ ef
        · simp only [List.mem_cons, List.not_mem_nil, or_false] at z
          have fa := (hL.2.1 a (by omega) (by omega)).mp (by simp)
          have fb := (hL.2.1 b (by omega) (by omega)).mp (by simp)
          rcases z with z | z
          · rw [← z] at fa; omega
          · rw [← z] at fb; omega
        · rw [v_ne og.symm, v61]; exact g0
        · rw [v_na (by omega)]; exact v19
        · rw [v_na (by omega)]; exact v20
      have hpo := hP o orr.1 orr.2
      have r5 := (hpo.2.2.2 ofp).2.1
      have h6 := h60 o orr.1 orr.2 ofp
      refine r_save (by omega) hS orr (by rw [w2]; exact ov.2.2) (fun j j1 j2 => ((hpo.2.2.2 ofp).2.2 j j1 j2).ok) (fun z => ?_) (fun z h1' f q1 q2 q3 q4 q5 => ?_)
      · refine fin h V (f_s.rf hS.2.2.1) hS hP ⟨w1, w2, w3⟩ D (by rw [l3]; rfl) (fun x => rfl) rfl ov.2.1 ?_
        unfold m_fetch
        rw [if_pos g0, oo, old.1, old.2]
        unfold m_ft2
        rw [if_pos rfl, v_na (by omega), if_neg (by omega), show v_up (v_up V 44 19 (V 44 19 + 1)) 61 o 0 = v_up (v_up V 61 o 0) 44 19 (V 44 19 + 1) by
          funext x y
          simp only [v_at]
          split <;> split <;> first | rfl | omega]
        rfl
      · have f' : f_s k_po h h1' := f.mono (fun _ _ _ z => k_po.sv z)
        have n16 := hS.n16
        have e16 : ∀ j : Int, j ≠ 5 → j ≠ 7 → h_vl h1' 16 j = h_vl h 16 j := fun j j1 j2 => f.1.vl hS.2.2.1 n16 (by omega) (by unfold k_sva; omega)
        refine fin h1' (m_spill V o) f' (f'.A hS) (hP.save hS orr ofp f.1 q2 q3 q4) ⟨?_, ?_, ?_⟩ (D.fr (fun x hx => ?_) (e16 _ (by omega) (by omega)) (e16 _ (by omega) (by omega))) (by rw [e16 3 (by omega) (by omega), l3]; rfl) (fun x => m_spill_na (by omega)) (m_spill_44 (by omega) (by omega)) (by rw [m_spill_44 (by omega) (by omega)]; exact ov.2.1) ?_
        · rw [e16 4 (by omega) (by omega), w1, m_spill_44 (by omega) (by omega)]
        · rw [q5, w2, m_spill_21]
        · rw [q1, w3, (hpo.2.2.2 ofp).1, m_spill_1]
        · have kx := (hS.pg (hL.1.2.1 x hx)).2.1
          exact ⟨f.1.vl hS.2.2.1 kx (by omega) (by unfold k_sva; omega), f.1.vl hS.2.2.1 kx (by omega) (by unfold k_sva; omega)⟩
        · unfold m_fetch
          rw [if_pos g0, oo, old.1, old.2]
          unfold m_ft2
          rw [if_pos rfl, v_na (by omega), if_pos (by omega), m_spill_clk, v_up_co (by omega)]
          rfl
    · have := hL.1.1
      simp at this
  · have g0 : 0 < V 61 g := by
      have z := hp.2.2.1
      split at z
      · assumption
      · exact absurd z h1
    have gl := (hL.2.1 g gr.1 gr.2).mpr g0
    have hn := hL.1.nodup
    refine r_unlink hS hL.1 hL.2.2.2.1 gl (fun h2 f2 D2 => ?_)
    have S2 : k_S h2 := (f2.mono (fun _ _ _ z => k_po.ll z)).A hS
    simp only [e_blk_eq, g_go, g_bks, g_bkn, g_gst, g_gsf, e_cl, e_rt, n_0, n_1, n_2, n_3, n_4, n_5, n_6, n_7, n_8, n_9, n_10, n_11, n_12, n_13, n_14, n_15, n_16, n_17, n_18, n_19, n_20, n_21, n_22, n_23, n_24, n_25, n_26, n_27, n_28, n_29, n_30, n_31, n_32, n_33, n_34, n_35, n_36, n_37, n_40, n_41, n_42, n_43, n_44, n_45, n_46, n_50, n_51, n_52, n_53, n_54, n_55, f_ldi, f_lda, f_sti, f_sta, f_inc, f_bin0, f_bin1, f_bin2, f_bin3, f_bin4, f_bin5, f_bin6, f_bin7, f_i2b, f_dup, f_pop, f_dx1, f_if0, f_ic0, f_if1, f_ic1, f_if2, f_ic2, f_if3, f_ic3, f_if4, f_ic4, f_if5, f_ic5, f_ac0, f_ac1, f_nu0, f_nu1, f_sw, f_sw0, f_sw1, f_gti, f_gta, f_pti, f_pta, f_ptz, f_new, f_nwa, f_ild, f_ist, f_bld, f_bst, f_ald, f_ast, f_len, f_cst, f_oin, f_gcl, f_ord, f_mm0, f_mm1, f_cpy, f_re0, f_re1, f_rea, f_rev, f_t50, f_t51, f_t52, f_t53, f_t54, f_t55, f_st, f_sd, f_s2, f_sn, e_in, e_ent, e_inR, Nat.reduceLT, Nat.reduceEqDiff, reduceIte, Nat.reduceBEq, List.length_cons, List.length_nil, List.map_cons, List.map_nil, List.replicate, List.cons_append, List.nil_append, List.append_nil, List.getElem?_cons_zero, List.getElem?_cons_succ, List.getElem?_nil, List.set_cons_zero, List.set_cons_succ, List.take_succ_cons, List.take_zero, List.take_nil, List.drop_succ_cons, List.drop_zero, List.drop_nil, List.reverse_cons, List.reverse_nil, Option.toList_some, Option.toList_none, Int.reduceToNat, hk_pt, hl_pt, hz_pt, hs_pt, hv_same, hv_ne, hv_na, hz_nw, hs_nw, hk_newS, hl_newS, hv_newS, Int.reduceEq, Int.reduceNe, Int.reduceLE, Int.reduceLT, Int.reduceAdd, Int.reduceSub, Int.reduceMul, Int.reduceNeg, Nat.reduceAdd, Nat.reduceSub, Nat.reduceLeDiff, Bool.or_false, Bool.false_or, Bool.or_true, Bool.true_or, or_self, or_false, false_or, true_or, or_true, and_true, true_and, forall_const, decide_eq_true_eq, decide_eq_false_iff_not, Bool.and_eq_true, Bool.false_eq_true, Nat.lt_add_one, imp_self, implies_true, not_true_eq_false, not_false_eq_true, ne_eq, Bool.true_eq_false, Nat.zero_le, Nat.le_refl, and_self, false_implies, q_39, l_39]
    have me : ∀ x, x ∈ l.erase g ↔ x ≠ g ∧ x ∈ l := fun x => List.Nodup.mem_erase_iff hn
    have le : (l.erase g).length = l.length - 1 := List.length_erase_of_mem gl
    have lpos := List.length_pos_of_mem gl
    have l3 := hL.1.1
    refine c_ft_130 (by omega) S2 (by omega) (fun x hx => hL.1.2.1 x ((me x).mp hx).2) (hn.erase g) D2 (fun z => ((me g).mp z).1 rfl) gr (fun h3 f3 D3 => ?_)
    have n16 := hS.n16
    have n16' := S2.n16
    have vv : ∀ j : Int, j ≠ 1 → j ≠ 2 → h_vl h3 16 j = h_vl h 16 j := fun j j1 j2 => by
      rw [f3.1.vl S2.2.2.1 n16' (by omega) (by unfold k_ll; omega), f2.1.vl hS.2.2.1 n16 (by omega) (by unfold k_ll; omega)]
    have ef : m_fetch V g = v_up (v_up V 44 19 (V 44 19 + 1)) 61 g (V 44 19 + 1) := by
      unfold m_fetch
      rw [if_neg (by omega)]
    refine K h3 ((f2.mono (fun _ _ _ z => k_po.ll z)).tr (f3.mono (fun _ _ _ z => k_po.ll z))) ?_
    rw [ef]
    refine ⟨⟨g :: l.erase g, k_L.cons (V := V) F0 gr (by omega) ⟨by omega, fun x hx => hL.1.2.1 x ((me x).mp hx).2, hL.1.2.2.sublist List.erase_sublist⟩ (fun x x1 x2 => ?_) (fun x hx => hL.2.2.1 x ((me x).mp hx).2) D3 (by rw [vv 3 (by omega) (by omega), hL.2.2.2.2]; omega) (fun x hx => ?_) v_same ?_⟩, hP.keep hS (f2.1.tr f3.1) (fun x => ?_) (fun a j a1 a2 => ?_), ?_, ?_, ?_⟩
    · rw [me, hL.2.1 x x1 x2]
      exact ⟨fun z => ⟨z.2, z.1⟩, fun z => ⟨z.2, z.1⟩⟩
    · rw [v_ne hx, v_na (by omega)]
    · rw [v_na (by omega), v_same]
    · by_cases hx : x = g
      · rw [hx, v_same]; omega
      · rw [v_ne hx, v_na (by omega)]
    · rw [v_na (by omega), v_na (by omega)]
    · rw [vv 4 (by omega) (by omega), v_na (by omega), v_ne (by omega)]; exact w1
    · rw [vv 5 (by omega) (by omega), v_na (by omega), v_ne (by omega)]; exact w2
    · rw [vv 7 (by omega) (by omega), v_na (by omega), v_ne (by omega)]; exact w3
