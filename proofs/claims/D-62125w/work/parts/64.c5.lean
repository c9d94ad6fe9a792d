/-! ===== the component, 5: fetch ===== -/
def k_ld2 (h : E_H) (g : Int) : E_H := h_put (h_put (h_put (h_put (h_put h (26 + 3 * g) 3 (h_vl h (26 + 3 * g) 4)) (26 + 3 * g) 5 0) (26 + 3 * g) 6 1) 16 3 (h_vl h 16 3 + 1)) 16 4 (h_vl h 16 4 + 1)
set_option maxRecDepth 100000 in
set_option maxHeartbeats 4000000 in
theorem c_ld_s {d : Nat} {g k : Int} {h : E_H} {Q : Option E_V → E_H → Prop} (hT : k_T h) (hP : k_p1 h g) (hg : 0 ≤ g) (hw : (-1000000000 ≤ h_vl h 16 3 ∧ h_vl h 16 3 ≤ 1000000000) ∧ (-1000000000 ≤ h_vl h 16 4 ∧ h_vl h 16 4 ≤ 1000000000)) (hk : 0 ≤ k) (hc : k < 4 → h_vl h (28 + 3 * g) k = 0 ∨ h_kd h (h_vl h (28 + 3 * g) k) = 8) (K1 : 4 ≤ k → e_wpc d 39 130 [some (.inr 16), some (.inl g), some (.inr (26 + 3 * g)), some (.inl k)] [] (k_ld2 h g) Q) (K2 : k < 4 → e_wpc d 39 69 [some (.inr 16), some (.inl g), some (.inr (26 + 3 * g)), some (.inl (k + 1))] [] (h_put h (27 + 3 * g) k (h_vl h (28 + 3 * g) k)) Q) : e_wpc d 39 69 [some (.inr 16), some (.inl g), some (.inr (26 + 3 * g)), some (.inl k)] [] h Q := by
  unfold k_T at hT
  unfold k_p1 at hP
  have n1 : (16 : Int) ≠ 26 + 3 * g := by omega
  refine e_wpc_blk 100 [69, 130] ?_
  simp only [e_blk_eq, g_go, g_bks, g_bkn, g_gst, g_gsf, e_cl, e_rt, n_0, n_1, n_2, n_3, n_4, n_5, n_6, n_7, n_8, n_9, n_10, n_11, n_12, n_13, n_14, n_15, n_16, n_17, n_18, n_19, n_20, n_21, n_22, n_23, n_24, n_25, n_26, n_27, n_28, n_29, n_30, n_31, n_32, n_33, n_34, n_35, n_36, n_37, n_40, n_41, n_42, n_43, n_44, n_45, n_46, n_50, n_51, n_52, n_53, n_54, n_55, f_ldi, f_lda, f_sti, f_sta, f_inc, f_bin0, f_bin1, f_bin2, f_bin3, f_bin4, f_bin5, f_bin6, f_bin7, f_i2b, f_dup, f_pop, f_dx1, f_if0, f_ic0, f_if1, f_ic1, f_if2, f_ic2, f_if3, f_ic3, f_if4, f_ic4, f_if5, f_ic5, f_ac0, f_ac1, f_nu0, f_nu1, f_sw, f_sw0, f_sw1, f_gti, f_gta, f_pti, f_pta, f_ptz, f_new, f_nwa, f_ild, f_ist, f_bld, f_bst, f_ald, f_ast, f_len, f_cst, f_oin, f_gcl, f_ord, f_mm0, f_mm1, f_cpy, f_re0, f_re1, f_rea, f_rev, f_t50, f_t51, f_t52, f_t53, f_t54, f_t55, f_st, f_sd, f_s2, f_sn, e_in, e_ent, e_inR, Nat.reduceLT, Nat.reduceEqDiff, reduceIte, Nat.reduceBEq, List.length_cons, List.length_nil, List.map_cons, List.map_nil, List.replicate, List.cons_append, List.nil_append, List.append_nil, List.getElem?_cons_zero, List.getElem?_cons_succ, List.getElem?_nil, List.set_cons_zero, List.set_cons_succ, List.take_succ_cons, List.take_zero, List.take_nil, List.drop_succ_cons, List.drop_zero, List.drop_nil, List.reverse_cons, List.reverse_nil, Option.toList_some, Option.toList_none, Int.reduceToNat, hk_pt, hl_pt, hz_pt, hs_pt, hv_same, hv_ne, hv_na, hz_nw, hs_nw, hk_newS, hl_newS, hv_newS, Int.reduceEq, Int.reduceNe, Int.reduceLE, Int.reduceLT, Int.reduceAdd, Int.reduceSub, Int.reduceMul, Int.reduceNeg, Nat.reduceAdd, Nat.reduceSub, Nat.reduceLeDiff, Bool.or_false, Bool.false_or, Bool.or_true, Bool.true_or, or_self, or_false, false_or, true_or, or_true, and_true, true_and, forall_const, decide_eq_true_eq, decide_eq_false_iff_not, Bool.and_eq_true, Bool.false_eq_true, Nat.lt_add_one, imp_self, implies_true, not_true_eq_false, not_false_eq_true, ne_eq, Bool.true_eq_false, Nat.zero_le, Nat.le_refl, and_self, false_implies, q_39, l_39, hT, hP, n1]
  refine ⟨fun h1 => ⟨by omega, by omega, K1 h1⟩, fun h1 => ⟨by omega, ⟨by omega, by omega, ?_⟩, by omega, K2 (by omega)⟩⟩
  rcases hc (by omega) with z | z
  · exact Or.inl z
  · exact Or.inr (by rw [z]; rfl)
theorem c_ld_l {d : Nat} {g : Int} {Q : Option E_V → E_H → Prop} (hg : 0 ≤ g) : ∀ (n : Nat) (k : Int) (h : E_H), k_T h → k_p1 h g → ((-1000000000 ≤ h_vl h 16 3 ∧ h_vl h 16 3 ≤ 1000000000) ∧ (-1000000000 ≤ h_vl h 16 4 ∧ h_vl h 16 4 ≤ 1000000000)) → (∀ j : Int, 0 ≤ j → j < 4 → h_vl h (28 + 3 * g) j = 0 ∨ h_kd h (h_vl h (28 + 3 * g) j) = 8) → k + n = 4 → 0 ≤ k → (∀ l3, e_wpc d 39 130 [some (.inr 16), some (.inl g), some (.inr (26 + 3 * g)), l3] [] (k_ld2 (k_cp (28 + 3 * g) (27 + 3 * g) n k h) g) Q) → e_wpc d 39 69 [some (.inr 16), some (.inl g), some (.inr (26 + 3 * g)), some (.inl k)] [] h Q := by
  intro n
  induction n with
  | zero => intro k h hT hP hw hc hk h0 hQ; exact c_ld_s hT hP hg hw h0 (hc k h0) (fun _ => hQ _) (fun z => absurd z (by omega))
  | succ n ih =>
    intro k h hT hP hw hc hk h0 hQ
    refine c_ld_s hT hP hg hw h0 (hc k h0) (fun z => absurd z (by omega)) (fun z => ih (k + 1) _ (hT.put (by omega)) (hP.put (by omega)) ?_ (fun j j1 j2 => ?_) (by omega) (by omega) hQ)
    · rw [hv_na (by omega), hv_na (by omega)]; exact hw
    · rw [hv_na (by omega), hk_put]; exact hc j j1 j2
def k_lda (g k a j : Int) : Prop := (k = 1 ∧ a = 16 ∧ (j = 3 ∨ j = 4)) ∨ (k = 25 ∧ a = 27 + 3 * g) ∨ (k = 4 ∧ a = 26 + 3 * g ∧ (j = 3 ∨ j = 5 ∨ j = 6))
theorem r_ld {d : Nat} {g : Int} {h : E_H} {Q : Option E_V → E_H → Prop} (hS : k_S h) (gr : 0 ≤ g ∧ g < 6) (hw : (-1000000000 ≤ h_vl h 16 3 ∧ h_vl h 16 3 ≤ 1000000000) ∧ (-1000000000 ≤ h_vl h 16 4 ∧ h_vl h 16 4 ≤ 1000000000)) (hc : ∀ j : Int, 0 ≤ j → j < 4 → h_vl h (28 + 3 * g) j = 0 ∨ h_kd h (h_vl h (28 + 3 * g) j) = 8)
    (K : ∀ h' l3, f_s (k_lda g) h h' → (∀ j : Int, 0 ≤ j → j < 4 → h_vl h' (27 + 3 * g) j = h_vl h (28 + 3 * g) j) → h_vl h' (26 + 3 * g) 3 = h_vl h (26 + 3 * g) 4 → h_vl h' (26 + 3 * g) 5 = 0 → h_vl h' (26 + 3 * g) 6 = 1 → h_vl h' 16 3 = h_vl h 16 3 + 1 → h_vl h' 16 4 = h_vl h 16 4 + 1 → e_wpc d 39 130 [some (.inr 16), some (.inl g), some (.inr (26 + 3 * g)), l3] [] h' Q) : e_wpc d 39 69 [some (.inr 16), some (.inl g), some (.inr (26 + 3 * g)), some (.inl 0)] [] h Q := by
  refine c_ld_l gr.1 4 0 h hS.1 (hS.pg gr) hw hc (by omega) (by omega) (fun l3 => ?_)
  have cv := fun a j => @k_cp_v (28 + 3 * g) (27 + 3 * g) a j (by omega) 4 0 h
  have ck := fun a => @k_cp_k (28 + 3 * g) (27 + 3 * g) a 4 0 h
  generalize k_cp (28 + 3 * g) (27 + 3 * g) 4 0 h = h1 at cv ck
  have sz := (ck 0).2.2
  have q1 := hS.n16
  have q2 := (hS.pg gr).2.1
  have q3 := (hS.pg gr).2.2.2.2.2.1
  have z0 : f_s (k_lda g) h h1 := by
    refine ⟨⟨⟨by rw [sz.1]; exact Int.le_refl _, fun a ha => ?_⟩, fun a ha => ⟨(ck a).1, (ck a).2.1⟩, fun a j ha hn => ?_⟩, sz.1, sz.2⟩
    · rw [(ck a).1]
      exact hS.2.2.1 a (by rw [sz.1] at ha; exact ha)
    · have w1 : ¬ (a = 27 + 3 * g ∧ 0 ≤ j ∧ j < 0 + ((4 : Nat) : Int)) := fun z => hn (Or.inr (Or.inl ⟨by rw [z.1]; exact q3, z.1⟩))
      rw [cv a j, if_neg w1]
  have e4 : h_vl h1 (26 + 3 * g) 4 = h_vl h (26 + 3 * g) 4 := by rw [cv, if_neg (by omega)]
  have e3 : h_vl h1 16 3 = h_vl h 16 3 := by rw [cv, if_neg (by omega)]
  have e5 : h_vl h1 16 4 = h_vl h 16 4 := by rw [cv, if_neg (by omega)]
  unfold k_ld2
  refine K _ l3 (((((z0.put (fun _ => Or.inr (Or.inr (by omega)))).put (fun _ => Or.inr (Or.inr (by omega)))).put (fun _ => Or.inr (Or.inr (by omega)))).put (fun _ => Or.inl (by omega))).put (fun _ => Or.inl (by omega))) (fun j j1 j2 => ?_) ?_ ?_ ?_ ?_ ?_
  · rw [hv_na (by omega), hv_na (by omega), hv_na (by omega), hv_na (by omega), hv_na (by omega), cv, if_pos (by omega)]
  · rw [hv_na (by omega), hv_na (by omega), hv_ne (by omega), hv_ne (by omega), hv_same, e4]
  · rw [hv_na (by omega), hv_na (by omega), hv_ne (by omega), hv_same]
  · rw [hv_na (by omega), hv_na (by omega), hv_same]
  · rw [hv_ne (by omega), hv_same, e3]
  · rw [hv_same, e5]
theorem k_po.ll {k a j : Int} (h : k_ll k a j) : k_po k a j := by unfold k_ll at h; unfold k_po; omega
theorem k_po.sv {g k a j : Int} (h : k_sva g k a j) : k_po k a j := by unfold k_sva at h; unfold k_po; omega
theorem k_po.ld {g k a j : Int} (h : k_lda g k a j) : k_po k a j := by unfold k_lda at h; unfold k_po; omega
theorem f_m.pA {h h' : E_H} (hS : k_S h) (h1 : f_m k_po h h') : f_m k_A h h' := by
  refine ⟨h1.1, h1.2.1, fun a j ha hn => ?_⟩
  by_cases hc : k_po (h_kd h a) a j
  · exfalso
    apply hn
    unfold k_po at hc
    have M := hS.2.2.2.2.1
    have t17 := hS.1.2.2.2.2.2.2.2.1
    have n : ∀ b : Int, (44 ≤ b ∧ b ≤ 71) → h_kd h b ≠ 1 ∧ h_kd h b ≠ 4 ∧ h_kd h b ≠ 25 := by
      intro b hb
      have : b = 44 ∨ b = 45 ∨ b = 46 ∨ b = 47 ∨ b = 48 ∨ b = 49 ∨ b = 50 ∨ b = 51 ∨ b = 52 ∨ b = 53 ∨ b = 54 ∨ b = 55 ∨ b = 56 ∨ b = 57 ∨ b = 58 ∨ b = 59 ∨ b = 60 ∨ b = 61 ∨ b = 62 ∨ b = 63 ∨ b = 64 ∨ b = 65 ∨ b = 66 ∨ b = 67 ∨ b = 68 ∨ b = 69 ∨ b = 70 ∨ b = 71 := by omega
      unfold m_T at M
      rcases this with z | z | z | z | z | z | z | z | z | z | z | z | z | z | z | z | z | z | z | z | z | z | z | z | z | z | z | z <;> (rw [z]; omega)
    have w := n a
    have a17 : a ≠ 17 := fun z => by rw [z, t17] at hc; omega
    refine ⟨?_, a17, fun z => ?_, fun z => ?_, ?_, ?_⟩
    · by_cases hb : 44 ≤ a ∧ a ≤ 71
      · have := w hb; omega
      · omega
    · have := hS.n16
      rw [z, this] at hc
      omega
    · omega
    · omega
    · omega
  · exact h1.2.2 a j ha hc
