/-! ===== the component, 6: fetch against the bank ===== -/
theorem k_L.cons {h' : E_H} {V V' : E_K} {l : List Int} {g : Int} (h0 : 0 ≤ V 44 19) (gr : 0 ≤ g ∧ g < 6) (l2 : l.length ≤ 2) (hl : k_rl V l) (hm : ∀ x : Int, 0 ≤ x → x < 6 → (x ∈ l ↔ 0 < V 61 x ∧ x ≠ g)) (hle : ∀ x, x ∈ l → V 61 x ≤ V 44 19) (hD : k_DL h' (g :: l)) (hc : h_vl h' 16 3 = l.length + 1) (e1 : ∀ x : Int, x ≠ g → V' 61 x = V 61 x) (e2 : V' 61 g = V 44 19 + 1) (e3 : V' 44 19 = V 44 19 + 1) : k_L h' V' (g :: l) := by
  have ng : ∀ x, x ∈ l → x ≠ g := fun x hx => ((hm x (hl.2.1 x hx).1 (hl.2.1 x hx).2).mp hx).2
  refine ⟨⟨by simp only [List.length_cons]; omega, fun x hx => ?_, ?_⟩, fun x x1 x2 => ?_, fun x hx => ?_, hD, by rw [hc]; simp⟩
  · rcases List.mem_cons.mp hx with z | z
    · rw [z]; exact gr
    · exact hl.2.1 x z
  · rw [List.pairwise_cons]
    refine ⟨fun x hx => ?_, ?_⟩
    · rw [e1 x (ng x hx), e2]
      have := hle x hx
      omega
    · refine List.Pairwise.imp_of_mem (fun {a b} ha hb z => ?_) hl.2.2
      rw [e1 a (ng a ha), e1 b (ng b hb)]
      exact z
  · by_cases hx : x = g
    · rw [hx, e2]
      exact ⟨fun _ => by omega, fun _ => by simp⟩
    · rw [e1 x hx, List.mem_cons]
      have := hm x x1 x2
      constructor
      · rintro (z | z)
        · exact absurd z hx
        · exact (this.mp z).1
      · intro z
        exact Or.inr (this.mpr ⟨z, hx⟩)
  · rw [e3]
    rcases List.mem_cons.mp hx with z | z
    · rw [z, e2]; omega
    · rw [e1 x (ng x z)]
      have := hle x z
      omega
theorem k_pgs.save {h h' : E_H} {V : E_K} {o : Int} (hP : k_pgs h V) (hS : k_S h) (hr : 0 ≤ o ∧ o < 6) (hf : 0 < V 61 o) (f : f_m (k_sva o) h h') (e2 : ∀ j : Int, 0 ≤ j → j < 4 → h_vl h' (28 + 3 * o) j = h_vl h (27 + 3 * o) j) (e3 : h_vl h' (26 + 3 * o) 4 = h_vl h (26 + 3 * o) 3) (e4 : h_vl h' (26 + 3 * o) 5 = 0) : k_pgs h' (m_spill V o) := by
  intro x x1 x2
  have hp := hP x x1 x2
  have e61 : ∀ y, m_spill V o 61 y = V 61 y := fun y => m_spill_na (by omega)
  have o57 : ∀ y, m_spill V o 57 y = V 57 y ∧ m_spill V o 58 y = V 58 y ∧ m_spill V o 59 y = V 59 y := fun y => ⟨m_spill_oth (by omega) (by omega) (by omega) (by omega) (by omega), m_spill_oth (by omega) (by omega) (by omega) (by omega) (by omega), m_spill_oth (by omega) (by omega) (by omega) (by omega) (by omega)⟩
  by_cases hx : x = o
  · rw [hx] at hp ⊢
    obtain ⟨p1, p2, p3, p4⟩ := hp
    obtain ⟨q1, q2, q3⟩ := p4 hf
    obtain ⟨s1, s2, s3, s4, s5, s6, s7, s8, s9⟩ := hS.pg hr
    have hZ := hS.2.2.1
    have h8 : ∀ a j, ¬ k_sva o 8 a j := fun a j => by unfold k_sva; omega
    have h6 : h_vl h' (26 + 3 * o) 6 = h_vl h (26 + 3 * o) 6 := f.vl hZ s2 (by omega) (by unfold k_sva; omega)
    have h3 : h_vl h' (26 + 3 * o) 3 = h_vl h (26 + 3 * o) 3 := f.vl hZ s2 (by omega) (by unfold k_sva; omega)
    have cc : ∀ s : Int, 0 ≤ s → s < 4 → c_c h' (h_vl h (27 + 3 * o) s) (V 57 (4 * o + s)) (V 58 (4 * o + s)) := fun s t1 t2 => (q3 s t1 t2).fr f hZ h8
    refine ⟨?_, fun s t1 t2 => ?_, ?_, fun z => ⟨?_, ?_, fun s t1 t2 => ?_⟩⟩
    · rw [e3, m_spill_56, if_pos rfl]; exact q1
    · rw [e2 s t1 t2, m_spill_54, m_spill_55, if_pos (by omega), if_pos (by omega)]
      exact cc s t1 t2
    · rw [h6, e61]; exact p3
    · rw [h3, (o57 _).2.2]; exact q1
    · rw [e4, m_spill_60, if_pos rfl]
    · rw [f.vl hZ s6 (by omega) (by unfold k_sva; omega), (o57 _).1, (o57 _).2.1]
      exact cc s t1 t2
  · refine hp.fr f hS ⟨x1, x2⟩ (fun a j => by unfold k_sva; omega) (fun j => by unfold k_sva; omega) ⟨by rw [m_spill_56, if_neg hx], by rw [e61], (o57 _).2.2, by rw [m_spill_60, if_neg hx]⟩ (fun y y1 y2 => ⟨by rw [m_spill_54, if_neg (by omega)], by rw [m_spill_55, if_neg (by omega)], (o57 _).1, (o57 _).2.1⟩)
theorem k_pgs.load {h h' : E_H} {V : E_K} {g : Int} (hP : k_pgs h V) (hS : k_S h) (gr : 0 ≤ g ∧ g < 6) (hc : 0 < V 44 19) (f : f_m (k_lda g) h h') (e1 : ∀ j : Int, 0 ≤ j → j < 4 → h_vl h' (27 + 3 * g) j = h_vl h (28 + 3 * g) j) (e2 : h_vl h' (26 + 3 * g) 3 = h_vl h (26 + 3 * g) 4) (e3 : h_vl h' (26 + 3 * g) 5 = 0) (e4 : h_vl h' (26 + 3 * g) 6 = 1) : k_pgs h' (m_load V g) := by
  intro x x1 x2
  have hp := hP x x1 x2
  have o54 : ∀ y, m_load V g 54 y = V 54 y ∧ m_load V g 55 y = V 55 y ∧ m_load V g 56 y = V 56 y := fun y => ⟨m_load_oth (by omega) (by omega), m_load_oth (by omega) (by omega), m_load_oth (by omega) (by omega)⟩
  by_cases hx : x = g
  · rw [hx] at hp ⊢
    obtain ⟨p1, p2, p3, p4⟩ := hp
    obtain ⟨s1, s2, s3, s4, s5, s6, s7, s8, s9⟩ := hS.pg gr
    have hZ := hS.2.2.1
    have h8 : ∀ a j, ¬ k_lda g 8 a j := fun a j => by unfold k_lda; omega
    have h4 : h_vl h' (26 + 3 * g) 4 = h_vl h (26 + 3 * g) 4 := f.vl hZ s2 (by omega) (by unfold k_lda; omega)
    have cc : ∀ s : Int, 0 ≤ s → s < 4 → c_c h' (h_vl h (28 + 3 * g) s) (V 54 (4 * g + s)) (V 55 (4 * g + s)) := fun s t1 t2 => (p2 s t1 t2).fr f hZ h8
    refine ⟨?_, fun s t1 t2 => ?_, ?_, fun z => ⟨?_, ?_, fun s t1 t2 => ?_⟩⟩
    · rw [h4, (o54 _).2.2]; exact p1
    · rw [f.vl hZ s8 (by omega) (by unfold k_lda; omega), (o54 _).1, (o54 _).2.1]
      exact cc s t1 t2
    · rw [e4, m_load_61, if_pos rfl, if_pos hc]
    · rw [e2, m_load_59, if_pos rfl]; exact p1
    · rw [e3, m_load_60, if_pos rfl]
    · rw [e1 s t1 t2, m_load_57, m_load_58, if_pos (by omega), if_pos (by omega)]
      exact cc s t1 t2
  · refine hp.fr f hS ⟨x1, x2⟩ (fun a j => by unfold k_lda; omega) (fun j => by unfold k_lda; omega) ⟨(o54 _).2.2, by rw [m_load_61, if_neg hx], by rw [m_load_59, if_neg hx], by rw [m_load_60, if_neg hx]⟩ (fun y y1 y2 => ⟨(o54 _).1, (o54 _).2.1, by rw [m_load_57, if_neg (by omega)], by rw [m_load_58, if_neg (by omega)]⟩)
theorem k_pgs.keep {h h' : E_H} {V V' : E_K} (hP : k_pgs h V) (hS : k_S h) (f : f_m k_ll h h') (h61 : ∀ x : Int, 0 < V' 61 x ↔ 0 < V 61 x) (hV : ∀ a j : Int, 54 ≤ a → a ≤ 60 → V' a j = V a j) : k_pgs h' V' := fun x x1 x2 =>
  (hP x x1 x2).fr f hS ⟨x1, x2⟩ (fun a j => by unfold k_ll; omega) (fun j => by unfold k_ll; omega) ⟨hV _ _ (by omega) (by omega), h61 x, hV _ _ (by omega) (by omega), hV _ _ (by omega) (by omega)⟩ (fun y y1 y2 => ⟨hV _ _ (by omega) (by omega), hV _ _ (by omega) (by omega), hV _ _ (by omega) (by omega), hV _ _ (by omega) (by omega)⟩)
set_option maxRecDepth 100000 in
set_option maxHeartbeats 4000000 in
theorem c_ft_130 {d : Nat} {g : Int} {l3 : Option E_V} {l : List Int} {h : E_H} {Q : Option E_V → E_H → Prop} (hd : 1 ≤ d) (hS : k_S h) (l2 : l.length ≤ 2) (hr : ∀ x, x ∈ l → 0 ≤ x ∧ x < 6) (hn : l.Nodup) (hD : k_DL h l) (hg : g ∉ l) (gr : 0 ≤ g ∧ g < 6) (K : ∀ h', f_s k_ll h h' → k_DL h' (g :: l) → Q (some (.inr (26 + 3 * g))) h') : e_wpc d 39 130 [some (.inr 16), some (.inl g), some (.inr (26 + 3 * g)), l3] [] h Q := by
  have hT' := hS.1
  unfold k_T at hT'
  refine e_wpc_blk 100 [] ?_
  simp only [e_blk_eq, g_go, g_bks, g_bkn, g_gst, g_gsf, e_cl, e_rt, n_0, n_1, n_2, n_3, n_4, n_5, n_6, n_7, n_8, n_9, n_10, n_11, n_12, n_13, n_14, n_15, n_16, n_17, n_18, n_19, n_20, n_21, n_22, n_23, n_24, n_25, n_26, n_27, n_28, n_29, n_30, n_31, n_32, n_33, n_34, n_35, n_36, n_37, n_40, n_41, n_42, n_43, n_44, n_45, n_46, n_50, n_51, n_52, n_53, n_54, n_55, f_ldi, f_lda, f_sti, f_sta, f_inc, f_bin0, f_bin1, f_bin2, f_bin3, f_bin4, f_bin5, f_bin6, f_bin7, f_i2b, f_dup, f_pop, f_dx1, f_if0, f_ic0, f_if1, f_ic1, f_if2, f_ic2, f_if3, f_ic3, f_if4, f_ic4, f_if5, f_ic5, f_ac0, f_ac1, f_nu0, f_nu1, f_sw, f_sw0, f_sw1, f_gti, f_gta, f_pti, f_pta, f_ptz, f_new, f_nwa, f_ild, f_ist, f_bld, f_bst, f_ald, f_ast, f_len, f_cst, f_oin, f_gcl, f_ord, f_mm0, f_mm1, f_cpy, f_re0, f_re1, f_rea, f_rev, f_t50, f_t51, f_t52, f_t53, f_t54, f_t55, f_st, f_sd, f_s2, f_sn, e_in, e_ent, e_inR, Nat.reduceLT, Nat.reduceEqDiff, reduceIte, Nat.reduceBEq, List.length_cons, List.length_nil, List.map_cons, List.map_nil, List.replicate, List.cons_append, List.nil_append, List.append_nil, List.getElem?_cons_zero, List.getElem?_cons_succ, List.getElem?_nil, List.set_cons_zero, List.set_cons_succ, List.take_succ_cons, List.take_zero, List.take_nil, List.drop_succ_cons, List.drop_zero, List.drop_nil, List.reverse_cons, List.reverse_nil, Option.toList_some, Option.toList_none, Int.reduceToNat, hk_pt, hl_pt, hz_pt, hs_pt, hv_same, hv_ne, hv_na, hz_nw, hs_nw, hk_newS, hl_newS, hv_newS, Int.reduceEq, Int.reduceNe, Int.reduceLE, Int.reduceLT, Int.reduceAdd, Int.reduceSub, Int.reduceMul, Int.reduceNeg, Nat.reduceAdd, Nat.reduceSub, Nat.reduceLeDiff, Bool.or_false, Bool.false_or, Bool.or_true, Bool.true_or, or_self, or_false, false_or, true_or, or_true, and_true, true_and, forall_const, decide_eq_true_eq, decide_eq_false_iff_not, Bool.and_eq_true, Bool.false_eq_true, Nat.lt_add_one, imp_self, implies_true, not_true_eq_false, not_false_eq_true, ne_eq, Bool.true_eq_false, Nat.zero_le, Nat.le_refl, and_self, false_implies, q_39, l_39, hT', l_42]
  refine ⟨by omega, r_link hS l2 hr hn hD hg gr (fun h' f D => ?_)⟩
  simp only [e_blk_eq, g_go, g_bks, g_bkn, g_gst, g_gsf, e_cl, e_rt, n_0, n_1, n_2, n_3, n_4, n_5, n_6, n_7, n_8, n_9, n_10, n_11, n_12, n_13, n_14, n_15, n_16, n_17, n_18, n_19, n_20, n_21, n_22, n_23, n_24, n_25, n_26, n_27, n_28, n_29, n_30, n_31, n_32, n_33, n_34, n_35, n_36, n_37, n_40, n_41, n_42, n_43, n_44, n_45, n_46, n_50, n_51, n_52, n_53, n_54, n_55, f_ldi, f_lda, f_sti, f_sta, f_inc, f_bin0, f_bin1, f_bin2, f_bin3, f_bin4, f_bin5, f_bin6, f_bin7, f_i2b, f_dup, f_pop, f_dx1, f_if0, f_ic0, f_if1, f_ic1, f_if2, f_ic2, f_if3, f_ic3, f_if4, f_ic4, f_if5, f_ic5, f_ac0, f_ac1, f_nu0, f_nu1, f_sw, f_sw0, f_sw1, f_gti, f_gta, f_pti, f_pta, f_ptz, f_new, f_nwa, f_ild, f_ist, f_bld, f_bst, f_ald, f_ast, f_len, f_cst, f_oin, f_gcl, f_ord, f_mm0, f_mm1, f_cpy, f_re0, f_re1, f_rea, f_rev, f_t50, f_t51, f_t52, f_t53, f_t54, f_t55, f_st, f_sd, f_s2, f_sn, e_in, e_ent, e_inR, Nat.reduceLT, Nat.reduceEqDiff, reduceIte, Nat.reduceBEq, List.length_cons, List.length_nil, List.map_cons, List.map_nil, List.replicate, List.cons_append, List.nil_append, List.append_nil, List.getElem?_cons_zero, List.getElem?_cons_succ, List.getElem?_nil, List.set_cons_zero, List.set_cons_succ, List.take_succ_cons, List.take_zero, List.take_nil, List.drop_succ_cons, List.drop_zero, List.drop_nil, List.reverse_cons, List.reverse_nil, Option.toList_some, Option.toList_none, Int.reduceToNat, hk_pt, hl_pt, hz_pt, hs_pt, hv_same, hv_ne, hv_na, hz_nw, hs_nw, hk_newS, hl_newS, hv_newS, Int.reduceEq, Int.reduceNe, Int.reduceLE, Int.reduceLT, Int.reduceAdd, Int.reduceSub, Int.reduceMul, Int.reduceNeg, Nat.reduceAdd, Nat.reduceSub, Nat.reduceLeDiff, Bool.or_false, Bool.false_or, Bool.or_true, Bool.true_or, or_self, or_false, false_or, true_or, or_true, and_true, true_and, forall_const, decide_eq_true_eq, decide_eq_false_iff_not, Bool.and_eq_true, Bool.false_eq_true, Nat.lt_add_one, imp_self, implies_true, not_true_eq_false, not_false_eq_true, ne_eq, Bool.true_eq_false, Nat.zero_le, Nat.le_refl, and_self, false_implies, q_39, l_39]
  exact K h' f D
