/-! ===== the component, 11: the tree ===== -/
def t_N (h : E_H) (a : Int) : Prop := (h_kd h a = 10 ∧ h_vl h a 0 = a + 1 ∧ h_vl h a 1 = a + 2 ∧ h_kd h (a + 1) = 27 ∧ h_ln h (a + 1) = 5 ∧ h_kd h (a + 2) = 20 ∧ h_ln h (a + 2) = 5) ∧ 16 ≤ a
theorem t_N.put {h : E_H} {a b j v : Int} (hL : t_N h a) (hb : b ≠ a ∨ j = 2) : t_N (h_put h b j v) a := by
  unfold t_N at hL ⊢
  have e : ∀ i : Int, i ≠ 2 → h_vl (h_put h b j v) a i = h_vl h a i := fun i hi => by rw [hv_put, if_neg (by omega)]
  rw [e 0 (by omega), e 1 (by omega)]
  exact hL
theorem t_N.fr {c : Int → Int → Int → Prop} {h h' : E_H} {a : Int} (hL : t_N h a) (hZ : k_Z h) (f : f_m c h h') (hc : ¬ c 10 a 0 ∧ ¬ c 10 a 1) : t_N h' a := by
  obtain ⟨⟨l1, l2, l3, l4, l5, l6, l7⟩, l8⟩ := hL
  exact ⟨⟨f.kd hZ l1 (by omega), by rw [f.vl hZ l1 (by omega) hc.1]; exact l2, by rw [f.vl hZ l1 (by omega) hc.2]; exact l3, f.kd hZ l4 (by omega), f.ln hZ l4 (by omega) l5, f.kd hZ l6 (by omega), f.ln hZ l6 (by omega) l7⟩, l8⟩
/-- where child i begins and ends -/
def t_lo (h : E_H) (a lo i : Int) : Int := if i = 0 then lo else h_vl h (a + 2) i
def t_hi (h : E_H) (a hi n i : Int) : Int := if i + 1 = n then hi else h_vl h (a + 2) (i + 1)
def t_f (h : E_H) (lv lw f : Int → Int) : Nat → Int → Int → Int → Prop
  | 0, a, lo, hi => t_L h a ∧ (lv a = 0 ∧ lw a = lo) ∧ lo < hi ∧ (0 ≤ h_vl h a 2 ∧ h_vl h a 2 ≤ 4) ∧ t_k h a lo hi f (h_vl h a 2)
  | m + 1, a, lo, hi => t_N h a ∧ (lv a = m + 1 ∧ lw a = lo) ∧ lo < hi ∧ (2 ≤ h_vl h a 2 ∧ h_vl h a 2 ≤ 4) ∧ (∀ i : Int, 1 ≤ i → i < h_vl h a 2 → 0 ≤ h_vl h (a + 2) i ∧ h_vl h (a + 2) i ≤ 99) ∧ (∀ i : Int, 0 ≤ i → i < h_vl h a 2 → t_lo h a lo i < t_hi h a hi (h_vl h a 2) i) ∧ ∀ i : Int, 0 ≤ i → i < h_vl h a 2 → t_f h lv lw f m (h_vl h (a + 1) i) (t_lo h a lo i) (t_hi h a hi (h_vl h a 2) i)
theorem t_f.kd {h : E_H} {lv lw f : Int → Int} {m : Nat} {a lo hi : Int} (ht : t_f h lv lw f m a lo hi) : (m = 0 → h_kd h a = 3) ∧ (m ≠ 0 → h_kd h a = 10) ∧ (lv a = m ∧ lw a = lo) ∧ lo < hi ∧ 16 ≤ a := by
  cases m with
  | zero => exact ⟨fun _ => ht.1.1.1, fun z => absurd rfl z, ht.2.1, ht.2.2.1, ht.1.2⟩
  | succ m => exact ⟨fun z => absurd z (by omega), fun _ => ht.1.1.1, ⟨by rw [ht.2.1.1]; omega, ht.2.1.2⟩, ht.2.2.1, ht.1.2⟩
/-- the children lie within, one after the other -/
theorem t_in {h : E_H} {a lo hi n : Int} (hl : ∀ i : Int, 0 ≤ i → i < n → t_lo h a lo i < t_hi h a hi n i) : ∀ i j : Int, 0 ≤ i → i < j → j < n → t_hi h a hi n i ≤ t_lo h a lo j := by
  have key : ∀ (m : Nat) (i j : Int), 0 ≤ i → i < j → j < n → j = i + 1 + m → t_hi h a hi n i ≤ t_lo h a lo j := by
    intro m
    induction m with
    | zero =>
      intro i j i1 i2 i3 e
      unfold t_hi t_lo
      rw [if_neg (by omega), if_neg (by omega), show j = i + 1 by omega]
      omega
    | succ m ih =>
      intro i j i1 i2 i3 e
      have a1 := ih i (j - 1) i1 (by omega) (by omega) (by omega)
      have a2 := hl (j - 1) (by omega) (by omega)
      have a3 : t_hi h a hi n (j - 1) = t_lo h a lo j := by
        unfold t_hi t_lo
        rw [if_neg (by omega), if_neg (by omega), show j - 1 + 1 = j by omega]
      omega
  intro i j i1 i2 i3
  exact key (j - i - 1).toNat i j i1 i2 i3 (by omega)
theorem t_in2 {h : E_H} {a lo hi n : Int} (hn : 1 ≤ n) (hl : ∀ i : Int, 0 ≤ i → i < n → t_lo h a lo i < t_hi h a hi n i) : ∀ i : Int, 0 ≤ i → i < n → lo ≤ t_lo h a lo i ∧ t_hi h a hi n i ≤ hi := by
  have e0 : t_lo h a lo 0 = lo := by unfold t_lo; rw [if_pos rfl]
  have en : t_hi h a hi n (n - 1) = hi := by unfold t_hi; rw [if_pos (by omega)]
  intro i i1 i2
  refine ⟨?_, ?_⟩
  · by_cases hi0 : i = 0
    · rw [hi0, e0]; omega
    · have := t_in hl 0 i (by omega) (by omega) i2
      have := hl 0 (by omega) (by omega)
      omega
  · by_cases hin : i = n - 1
    · rw [hin, en]; omega
    · have := t_in hl i (n - 1) i1 (by omega) (by omega)
      have := hl (n - 1) (by omega) (by omega)
      omega
/-- frames of a tree -/
theorem t_f.fr {c : Int → Int → Int → Prop} {h h' : E_H} {lv lw lv' lw' f f' : Int → Int} (hZ : k_Z h) (hf : f_m c h h') (hg : ∀ b : Int, b < h_sz h → lv' b = lv b ∧ lw' b = lw b) : ∀ {m : Nat} {a lo hi : Int}, t_f h lv lw f m a lo hi → (∀ k : Int, lo ≤ k → k < hi → f' k = f k) → (∀ b : Int, (h_kd h b = 3 ∨ h_kd h b = 10) → lv b ≤ m → lo ≤ lw b → lw b < hi → ∀ j, ¬ c (h_kd h b) b j ∧ ¬ c (h_kd h (b + 1)) (b + 1) j ∧ ¬ c (h_kd h (b + 2)) (b + 2) j) → t_f h' lv' lw' f' m a lo hi := by
  intro m
  induction m with
  | zero =>
    intro a lo hi ht hff hc
    obtain ⟨t1, t2, t3, t4, t5⟩ := ht
    have cc := hc a (Or.inl t1.1.1) (by omega) (by omega) (by omega)
    have al : a < h_sz h := hZ.lt (by rw [t1.1.1]; omega)
    have e : ∀ j, h_vl h' a j = h_vl h a j := fun j => hf.2.2 a j al (cc j).1
    have e1 : ∀ j, h_vl h' (a + 1) j = h_vl h (a + 1) j := fun j => hf.2.2 _ j (hZ.lt (by rw [t1.1.2.2.2.1]; omega)) (cc j).2.1
    have e2 : ∀ j, h_vl h' (a + 2) j = h_vl h (a + 2) j := fun j => hf.2.2 _ j (hZ.lt (by rw [t1.1.2.2.2.2.2.1]; omega)) (cc j).2.2
    rw [t_f, e 2, (hg a al).1, (hg a al).2]
    refine ⟨t1.fr hZ hf ⟨?_, ?_⟩, t2, t3, t4, t5.cg hff (fun j _ _ => ⟨e1 j, e2 j⟩)⟩
    · have := (cc 0).1; rw [t1.1.1] at this; exact this
    · have := (cc 1).1; rw [t1.1.1] at this; exact this
  | succ m ih =>
    intro a lo hi ht hff hc
    obtain ⟨t1, t2, t3, t4, t5, t6, t7⟩ := ht
    have cc := hc a (Or.inr t1.1.1) (by omega) (by omega) (by omega)
    have al : a < h_sz h := hZ.lt (by rw [t1.1.1]; omega)
    have e : ∀ j, h_vl h' a j = h_vl h a j := fun j => hf.2.2 a j al (cc j).1
    have e1 : ∀ j, h_vl h' (a + 1) j = h_vl h (a + 1) j := fun j => hf.2.2 _ j (hZ.lt (by rw [t1.1.2.2.2.1]; omega)) (cc j).2.1
    have e2 : ∀ j, h_vl h' (a + 2) j = h_vl h (a + 2) j := fun j => hf.2.2 _ j (hZ.lt (by rw [t1.1.2.2.2.2.2.1]; omega)) (cc j).2.2
    have elo : ∀ i, t_lo h' a lo i = t_lo h a lo i := fun i => by unfold t_lo; rw [e2]
    have ehi : ∀ n i, t_hi h' a hi n i = t_hi h a hi n i := fun n i => by unfold t_hi; rw [e2]
    rw [t_f, e 2, (hg a al).1, (hg a al).2]
    have w := t_in2 (by omega) t6
    refine ⟨t1.fr hZ hf ⟨?_, ?_⟩, t2, t3, t4, fun i i1 i2 => by rw [e2]; exact t5 i i1 i2, fun i i1 i2 => by rw [elo, ehi]; exact t6 i i1 i2, fun i i1 i2 => ?_⟩
    · have := (cc 0).1; rw [t1.1.1] at this; exact this
    · have := (cc 1).1; rw [t1.1.1] at this; exact this
    · rw [elo, ehi, e1]
      have wi := w i i1 i2
      exact ih (t7 i i1 i2) (fun k k1 k2 => hff k (by omega) (by omega)) (fun b b1 b2 b3 b4 => hc b b1 (by omega) (by omega) (by omega))
set_option maxRecDepth 100000 in
set_option maxHeartbeats 4000000 in
theorem c_ch_s {d : Nat} {a key k : Int} {h : E_H} {Q : Option E_V → E_H → Prop} (hL : t_N h a) (hk : k < 5) (K1 : (k ≤ 0 ∨ h_vl h (a + 2) k ≤ key) → Q (some (.inl k)) h) (K2 : 0 < k → key < h_vl h (a + 2) k → e_wpc d 34 7 [some (.inr a), some (.inl key), some (.inl (k - 1))] [] h Q) : e_wpc d 34 7 [some (.inr a), some (.inl key), some (.inl k)] [] h Q := by
  have hL' := hL.1
  refine e_wpc_blk 100 [7] ?_
  simp only [e_blk_eq, g_go, g_bks, g_bkn, g_gst, g_gsf, e_cl, e_rt, n_0, n_1, n_2, n_3, n_4, n_5, n_6, n_7, n_8, n_9, n_10, n_11, n_12, n_13, n_14, n_15, n_16, n_17, n_18, n_19, n_20, n_21, n_22, n_23, n_24, n_25, n_26, n_27, n_28, n_29, n_30, n_31, n_32, n_33, n_34, n_35, n_36, n_37, n_40, n_41, n_42, n_43, n_44, n_45, n_46, n_50, n_51, n_52, n_53, n_54, n_55, f_ldi, f_lda, f_sti, f_sta, f_inc, f_bin0, f_bin1, f_bin2, f_bin3, f_bin4, f_bin5, f_bin6, f_bin7, f_i2b, f_dup, f_pop, f_dx1, f_if0, f_ic0, f_if1, f_ic1, f_if2, f_ic2, f_if3, f_ic3, f_if4, f_ic4, f_if5, f_ic5, f_ac0, f_ac1, f_nu0, f_nu1, f_sw, f_sw0, f_sw1, f_gti, f_gta, f_pti, f_pta, f_ptz, f_new, f_nwa, f_ild, f_ist, f_bld, f_bst, f_ald, f_ast, f_len, f_cst, f_oin, f_gcl, f_ord, f_mm0, f_mm1, f_cpy, f_re0, f_re1, f_rea, f_rev, f_t50, f_t51, f_t52, f_t53, f_t54, f_t55, f_st, f_sd, f_s2, f_sn, e_in, e_ent, e_inR, Nat.reduceLT, Nat.reduceEqDiff, reduceIte, Nat.reduceBEq, List.length_cons, List.length_nil, List.map_cons, List.map_nil, List.replicate, List.cons_append, List.nil_append, List.append_nil, List.getElem?_cons_zero, List.getElem?_cons_succ, List.getElem?_nil, List.set_cons_zero, List.set_cons_succ, List.take_succ_cons, List.take_zero, List.take_nil, List.drop_succ_cons, List.drop_zero, List.drop_nil, List.reverse_cons, List.reverse_nil, Option.toList_some, Option.toList_none, Int.reduceToNat, hk_pt, hl_pt, hz_pt, hs_pt, hv_same, hv_ne, hv_na, hz_nw, hs_nw, hk_newS, hl_newS, hv_newS, Int.reduceEq, Int.reduceNe, Int.reduceLE, Int.reduceLT, Int.reduceAdd, Int.reduceSub, Int.reduceMul, Int.reduceNeg, Nat.reduceAdd, Nat.reduceSub, Nat.reduceLeDiff, Bool.or_false, Bool.false_or, Bool.or_true, Bool.true_or, or_self, or_false, false_or, true_or, or_true, and_true, true_and, forall_const, decide_eq_true_eq, decide_eq_false_iff_not, Bool.and_eq_true, Bool.false_eq_true, Nat.lt_add_one, imp_self, implies_true, not_true_eq_false, not_false_eq_true, ne_eq, Bool.true_eq_false, Nat.zero_le, Nat.le_refl, and_self, false_implies, q_34, l_34, hL']
  exact ⟨fun h1 => K1 (Or.inl h1), fun h1 => ⟨by omega, fun h2 => K1 (Or.inr h2), fun h2 => ⟨by omega, K2 (by omega) (by omega)⟩⟩⟩
set_option maxRecDepth 100000 in
set_option maxHeartbeats 4000000 in
theorem r_child {d : Nat} {a key : Int} {h : E_H} {Q : Option E_V → E_H → Prop} (hL : t_N h a) (hn : 1 ≤ h_vl h a 2 ∧ h_vl h a 2 ≤ 5) (K : ∀ i : Int, 0 ≤ i → i < h_vl h a 2 → (i = 0 ∨ h_vl h (a + 2) i ≤ key) → (∀ j : Int, i < j → j < h_vl h a 2 → key < h_vl h (a + 2) j) → Q (some (.inl i)) h) : e_wpm d 34 [.inr a, .inl key] h Q := by
  have hL' := hL.1
  have loop : ∀ (m : Nat) (k : Int), k = m → k < h_vl h a 2 → (∀ j : Int, k < j → j < h_vl h a 2 → key < h_vl h (a + 2) j) → e_wpc d 34 7 [some (.inr a), some (.inl key), some (.inl k)] [] h Q := by
    intro m
    induction m with
    | zero => intro k hk h1 hj; exact c_ch_s hL (by omega) (fun z => K k (by omega) h1 (by omega) hj) (fun z => absurd z (by omega))
    | succ m ih =>
      intro k hk h1 hj
      refine c_ch_s hL (by omega) (fun z => K k (by omega) h1 (by omega) hj) (fun z w => ih (k - 1) (by omega) (by omega) (fun j j1 j2 => ?_))
      by_cases hjk : j = k
      · rw [hjk]; exact w
      · exact hj j (by omega) j2
  refine e_wpm_blk 100 [7] ?_
  simp only [e_blk_eq, g_go, g_bks, g_bkn, g_gst, g_gsf, e_cl, e_rt, n_0, n_1, n_2, n_3, n_4, n_5, n_6, n_7, n_8, n_9, n_10, n_11, n_12, n_13, n_14, n_15, n_16, n_17, n_18, n_19, n_20, n_21, n_22, n_23, n_24, n_25, n_26, n_27, n_28, n_29, n_30, n_31, n_32, n_33, n_34, n_35, n_36, n_37, n_40, n_41, n_42, n_43, n_44, n_45, n_46, n_50, n_51, n_52, n_53, n_54, n_55, f_ldi, f_lda, f_sti, f_sta, f_inc, f_bin0, f_bin1, f_bin2, f_bin3, f_bin4, f_bin5, f_bin6, f_bin7, f_i2b, f_dup, f_pop, f_dx1, f_if0, f_ic0, f_if1, f_ic1, f_if2, f_ic2, f_if3, f_ic3, f_if4, f_ic4, f_if5, f_ic5, f_ac0, f_ac1, f_nu0, f_nu1, f_sw, f_sw0, f_sw1, f_gti, f_gta, f_pti, f_pta, f_ptz, f_new, f_nwa, f_ild, f_ist, f_bld, f_bst, f_ald, f_ast, f_len, f_cst, f_oin, f_gcl, f_ord, f_mm0, f_mm1, f_cpy, f_re0, f_re1, f_rea, f_rev, f_t50, f_t51, f_t52, f_t53, f_t54, f_t55, f_st, f_sd, f_s2, f_sn, e_in, e_ent, e_inR, Nat.reduceLT, Nat.reduceEqDiff, reduceIte, Nat.reduceBEq, List.length_cons, List.length_nil, List.map_cons, List.map_nil, List.replicate, List.cons_append, List.nil_append, List.append_nil, List.getElem?_cons_zero, List.getElem?_cons_succ, List.getElem?_nil, List.set_cons_zero, List.set_cons_succ, List.take_succ_cons, List.take_zero, List.take_nil, List.drop_succ_cons, List.drop_zero, List.drop_nil, List.reverse_cons, List.reverse_nil, Option.toList_some, Option.toList_none, Int.reduceToNat, hk_pt, hl_pt, hz_pt, hs_pt, hv_same, hv_ne, hv_na, hz_nw, hs_nw, hk_newS, hl_newS, hv_newS, Int.reduceEq, Int.reduceNe, Int.reduceLE, Int.reduceLT, Int.reduceAdd, Int.reduceSub, Int.reduceMul, Int.reduceNeg, Nat.reduceAdd, Nat.reduceSub, Nat.reduceLeDiff, Bool.or_false, Bool.false_or, Bool.or_true, Bool.true_or, or_self, or_false, false_or, true_or, or_true, and_true, true_and, forall_const, decide_eq_true_eq, decide_eq_false_iff_not, Bool.and_eq_true, Bool.false_eq_true, Nat.lt_add_one, imp_self, implies_true, not_true_eq_false, not_false_eq_true, ne_eq, Bool.true_eq_false, Nat.zero_le, Nat.le_refl, and_self, false_implies, q_34, l_34, hL']
  exact ⟨by omega, loop (h_vl h a 2 - 1).toNat _ (by omega) (by omega) (fun j j1 j2 => by omega)⟩
theorem t_pick {h : E_H} {a lo hi n key i : Int} (hk : lo ≤ key ∧ key < hi) (h1 : i = 0 ∨ h_vl h (a + 2) i ≤ key) (h2 : ∀ j : Int, i < j → j < n → key < h_vl h (a + 2) j) (hi0 : 0 ≤ i ∧ i < n) : t_lo h a lo i ≤ key ∧ key < t_hi h a hi n i := by
  unfold t_lo t_hi
  refine ⟨?_, ?_⟩
  · split <;> omega
  · split
    · omega
    · exact h2 (i + 1) (by omega) (by omega)
/-- the method of a node -/
def t_m (m : Nat) (l i : Nat) : Nat := if m = 0 then l else i
set_option maxRecDepth 100000 in
set_option maxHeartbeats 4000000 in
theorem r_find {lv lw f : Int → Int} {key : Int} {h : E_H} : ∀ (m d : Nat) (a lo hi : Int) (Q : Option E_V → E_H → Prop), m + 1 ≤ d → t_f h lv lw f m a lo hi → lo ≤ key → key < hi → Q (some (.inl (f key))) h → e_wpm d (t_m m 35 33) [.inr a, .inl key] h Q := by
  intro m
  induction m with
  | zero =>
    intro d a lo hi Q hd ht k1 k2 hQ
    obtain ⟨t1, t2, t3, t4, t5⟩ := ht
    refine r_lfind t1 t4 (fun i i1 i2 i3 => ?_) (fun hi => ?_)
    · rw [← i3, (t5.1 i i1 i2).2.2.1] at hQ; exact hQ
    · by_cases hfk : f key = -1
      · rw [hfk] at hQ; exact hQ
      · obtain ⟨i, i1, i2, i3⟩ := t5.2.2 key k1 k2 hfk
        exact absurd i3 (hi i i1 i2)
  | succ m ih =>
    intro d a lo hi Q hd ht k1 k2 hQ
    obtain ⟨t1, t2, t3, t4, t5, t6, t7⟩ := ht
    have hL' := t1.1
    show e_wpm d 33 _ h Q
    refine e_wpm_blk 100 [] ?_
    simp only [e_blk_eq, g_go, g_bks, g_bkn, g_gst, g_gsf, e_cl, e_rt, n_0, n_1, n_2, n_3, n_4, n_5, n_6, n_7, n_8, n_9, n_10, n_11, n_12, n_13, n_14, n_15, n_16, n_17, n_18, n_19, n_20, n_21, n_22, n_23, n_24, n_25, n_26, n_27, n_28, n_29, n_30, n_31, n_32, n_33, n_34, n_35, n_36, n_37, n_40, n_41, n_42, n_43, n_44, n_45, n_46, n_50, n_51, n_52, n_53, n_54, n_55, f_ldi, f_lda, f_sti, f_sta, f_inc, f_bin0, f_bin1, f_bin2, f_bin3, f_bin4, f_bin5, f_bin6, f_bin7, f_i2b, f_dup, f_pop, f_dx1, f_if0, f_ic0, f_if1, f_ic1, f_if2, f_ic2, f_if3, f_ic3, f_if4, f_ic4, f_if5, f_ic5, f_ac0, f_ac1, f_nu0, f_nu1, f_sw, f_sw0, f_sw1, f_gti, f_gta, f_pti, f_pta, f_ptz, f_new, f_nwa, f_ild, f_ist, f_bld, f_bst, f_ald, f_ast, f_len, f_cst, f_oin, f_gcl, f_ord, f_mm0, f_mm1, f_cpy, f_re0, f_re1, f_rea, f_rev, f_t50, f_t51, f_t52, f_t53, f_t54, f_t55, f_st, f_sd, f_s2, f_sn, e_in, e_ent, e_inR, Nat.reduceLT, Nat.reduceEqDiff, reduceIte, Nat.reduceBEq, List.length_cons, List.length_nil, List.map_cons, List.map_nil, List.replicate, List.cons_append, List.nil_append, List.append_nil, List.getElem?_cons_zero, List.getElem?_cons_succ, List.getElem?_nil, List.set_cons_zero, List.set_cons_succ, List.take_succ_cons, List.take_zero, List.take_nil, List.drop_succ_cons, List.drop_zero, List.drop_nil, List.reverse_cons, List.reverse_nil, Option.toList_some, Option.toList_none, Int.reduceToNat, hk_pt, hl_pt, hz_pt, hs_pt, hv_same, hv_ne, hv_na, hz_nw, hs_nw, hk_newS, hl_newS, hv_newS, Int.reduceEq, Int.reduceNe, Int.reduceLE, Int.reduceLT, Int.reduceAdd, Int.reduceSub, Int.reduceMul, Int.reduceNeg, Nat.reduceAdd, Nat.reduceSub, Nat.reduceLeDiff, Bool.or_false, Bool.false_or, Bool.or_true, Bool.true_or, or_self, or_false, false_or, true_or, or_true, and_true, true_and, forall_const, decide_eq_true_eq, decide_eq_false_iff_not, Bool.and_eq_true, Bool.false_eq_true, Nat.lt_add_one, imp_self, implies_true, not_true_eq_false, not_false_eq_true, ne_eq, Bool.true_eq_false, Nat.zero_le, Nat.le_refl, and_self, false_implies, q_33, l_33, l_34, hL']
    refine ⟨by omega, r_child t1 (by omega) (fun i i1 i2 i3 i4 => ?_)⟩
    have pk := t_pick (lo := lo) (hi := hi) ⟨k1, k2⟩ i3 i4 ⟨i1, i2⟩
    have ti := t7 i i1 i2
    have kd := ti.kd
    cases m with
    | zero =>
      have k3 := kd.1 rfl
      simp only [e_blk_eq, g_go, g_bks, g_bkn, g_gst, g_gsf, e_cl, e_rt, n_0, n_1, n_2, n_3, n_4, n_5, n_6, n_7, n_8, n_9, n_10, n_11, n_12, n_13, n_14, n_15, n_16, n_17, n_18, n_19, n_20, n_21, n_22, n_23, n_24, n_25, n_26, n_27, n_28, n_29, n_30, n_31, n_32, n_33, n_34, n_35, n_36, n_37, n_40, n_41, n_42, n_43, n_44, n_45, n_46, n_50, n_51, n_52, n_53, n_54, n_55, f_ldi, f_lda, f_sti, f_sta, f_inc, f_bin0, f_bin1, f_bin2, f_bin3, f_bin4, f_bin5, f_bin6, f_bin7, f_i2b, f_dup, f_pop, f_dx1, f_if0, f_ic0, f_if1, f_ic1, f_if2, f_ic2, f_if3, f_ic3, f_if4, f_ic4, f_if5, f_ic5, f_ac0, f_ac1, f_nu0, f_nu1, f_sw, f_sw0, f_sw1, f_gti, f_gta, f_pti, f_pta, f_ptz, f_new, f_nwa, f_ild, f_ist, f_bld, f_bst, f_ald, f_ast, f_len, f_cst, f_oin, f_gcl, f_ord, f_mm0, f_mm1, f_cpy, f_re0, f_re1, f_rea, f_rev, f_t50, f_t51, f_t52, f_t53, f_t54, f_t55, f_st, f_sd, f_s2, f_sn, e_in, e_ent, e_inR, Nat.reduceLT, Nat.reduceEqDiff, reduceIte, Nat.reduceBEq, List.length_cons, List.length_nil, List.map_cons, List.map_nil, List.replicate, List.cons_append, List.nil_append, List.append_nil, List.getElem?_cons_zero, List.getElem?_cons_succ, List.getElem?_nil, List.set_cons_zero, List.set_cons_succ, List.take_succ_cons, List.take_zero, List.take_nil, List.drop_succ_cons, List.drop_zero, List.drop_nil, List.reverse_cons, List.reverse_nil, Option.toList_some, Option.toList_none, Int.reduceToNat, hk_pt, hl_pt, hz_pt, hs_pt, hv_same, hv_ne, hv_na, hz_nw, hs_nw, hk_newS, hl_newS, hv_newS, Int.reduceEq, Int.reduceNe, Int.reduceLE, Int.reduceLT, Int.reduceAdd, Int.reduceSub, Int.reduceMul, Int.reduceNeg, Nat.reduceAdd, Nat.reduceSub, Nat.reduceLeDiff, Bool.or_false, Bool.false_or, Bool.or_true, Bool.true_or, or_self, or_false, false_or, true_or, or_true, and_true, true_and, forall_const, decide_eq_true_eq, decide_eq_false_iff_not, Bool.and_eq_true, Bool.false_eq_true, Nat.lt_add_one, imp_self, implies_true, not_true_eq_false, not_false_eq_true, ne_eq, Bool.true_eq_false, Nat.zero_le, Nat.le_refl, and_self, false_implies, q_33, l_33, hL', k3, l_35]
      refine ⟨by omega, by omega, ih (d - 1) _ _ _ _ (by omega) ti pk.1 pk.2 ?_⟩
      simp only [e_blk_eq, g_go, g_bks, g_bkn, g_gst, g_gsf, e_cl, e_rt, n_0, n_1, n_2, n_3, n_4, n_5, n_6, n_7, n_8, n_9, n_10, n_11, n_12, n_13, n_14, n_15, n_16, n_17, n_18, n_19, n_20, n_21, n_22, n_23, n_24, n_25, n_26, n_27, n_28, n_29, n_30, n_31, n_32, n_33, n_34, n_35, n_36, n_37, n_40, n_41, n_42, n_43, n_44, n_45, n_46, n_50, n_51, n_52, n_53, n_54, n_55, f_ldi, f_lda, f_sti, f_sta, f_inc, f_bin0, f_bin1, f_bin2, f_bin3, f_bin4, f_bin5, f_bin6, f_bin7, f_i2b, f_dup, f_pop, f_dx1, f_if0, f_ic0, f_if1, f_ic1, f_if2, f_ic2, f_if3, f_ic3, f_if4, f_ic4, f_if5, f_ic5, f_ac0, f_ac1, f_nu0, f_nu1, f_sw, f_sw0, f_sw1, f_gti, f_gta, f_pti, f_pta, f_ptz, f_new, f_nwa, f_ild, f_ist, f_bld, f_bst, f_ald, f_ast, f_len, f_cst, f_oin, f_gcl, f_ord, f_mm0, f_mm1, f_cpy, f_re0, f_re1, f_rea, f_rev, f_t50, f_t51, f_t52, f_t53, f_t54, f_t55, f_st, f_sd, f_s2, f_sn, e_in, e_ent, e_inR, Nat.reduceLT, Nat.reduceEqDiff, reduceIte, Nat.reduceBEq, List.length_cons, List.length_nil, List.map_cons, List.map_nil, List.replicate, List.cons_append, List.nil_append, List.append_nil, List.getElem?_cons_zero, List.getElem?_cons_succ, List.getElem?_nil, List.set_cons_zero, List.set_cons_succ, List.take_succ_cons, List.take_zero, List.take_nil, List.drop_succ_cons, List.drop_zero, List.drop_nil, List.reverse_cons, List.reverse_nil, Option.toList_some, Option.toList_none, Int.reduceToNat, hk_pt, hl_pt, hz_pt, hs_pt, hv_same, hv_ne, hv_na, hz_nw, hs_nw, hk_newS, hl_newS, hv_newS, Int.reduceEq, Int.reduceNe, Int.reduceLE, Int.reduceLT, Int.reduceAdd, Int.reduceSub, Int.reduceMul, Int.reduceNeg, Nat.reduceAdd, Nat.reduceSub, Nat.reduceLeDiff, Bool.or_false, Bool.false_or, Bool.or_true, Bool.true_or, or_self, or_false, false_or, true_or, or_true, and_true, true_and, forall_const, decide_eq_true_eq, decide_eq_false_iff_not, Bool.and_eq_true, Bool.false_eq_true, Nat.lt_add_one, imp_self, implies_true, not_true_eq_false, not_false_eq_true, ne_eq, Bool.true_eq_false, Nat.zero_le, Nat.le_refl, and_self, false_implies, q_33, l_33]
      exact hQ
    | succ m =>
      have k3 := kd.2.1 (by omega)
      simp only [e_blk_eq, g_go, g_bks, g_bkn, g_gst, g_gsf, e_cl, e_rt, n_0, n_1, n_2, n_3, n_4, n_5, n_6, n_7, n_8, n_9, n_10, n_11, n_12, n_13, n_14, n_15, n_16, n_17, n_18, n_19, n_20, n_21, n_22, n_23, n_24, n_25, n_26, n_27, n_28, n_29, n_30, n_31, n_32, n_33, n_34, n_35, n_36, n_37, n_40, n_41, n_42, n_43, n_44, n_45, n_46, n_50, n_51, n_52, n_53, n_54, n_55, f_ldi, f_lda, f_sti, f_sta, f_inc, f_bin0, f_bin1, f_bin2, f_bin3, f_bin4, f_bin5, f_bin6, f_bin7, f_i2b, f_dup, f_pop, f_dx1, f_if0, f_ic0, f_if1, f_ic1, f_if2, f_ic2, f_if3, f_ic3, f_if4, f_ic4, f_if5, f_ic5, f_ac0, f_ac1, f_nu0, f_nu1, f_sw, f_sw0, f_sw1, f_gti, f_gta, f_pti, f_pta, f_ptz, f_new, f_nwa, f_ild, f_ist, f_bld, f_bst, f_ald, f_ast, f_len, f_cst, f_oin, f_gcl, f_ord, f_mm0, f_mm1, f_cpy, f_re0, f_re1, f_rea, f_rev, f_t50, f_t51, f_t52, f_t53, f_t54, f_t55, f_st, f_sd, f_s2, f_sn, e_in, e_ent, e_inR, Nat.reduceLT, Nat.reduceEqDiff, reduceIte, Nat.reduceBEq, List.length_cons, List.length_nil, List.map_cons, List.map_nil, List.replicate, List.cons_append, List.nil_append, List.append_nil, List.getElem?_cons_zero, List.getElem?_cons_succ, List.getElem?_nil, List.set_cons_zero, List.set_cons_succ, List.take_succ_cons, List.take_zero, List.take_nil, List.drop_succ_cons, List.drop_zero, List.drop_nil, List.reverse_cons, List.reverse_nil, Option.toList_some, Option.toList_none, Int.reduceToNat, hk_pt, hl_pt, hz_pt, hs_pt, hv_same, hv_ne, hv_na, hz_nw, hs_nw, hk_newS, hl_newS, hv_newS, Int.reduceEq, Int.reduceNe, Int.reduceLE, Int.reduceLT, Int.reduceAdd, Int.reduceSub, Int.reduceMul, Int.reduceNeg, Nat.reduceAdd, Nat.reduceSub, Nat.reduceLeDiff, Bool.or_false, Bool.false_or, Bool.or_true, Bool.true_or, or_self, or_false, false_or, true_or, or_true, and_true, true_and, forall_const, decide_eq_true_eq, decide_eq_false_iff_not, Bool.and_eq_true, Bool.false_eq_true, Nat.lt_add_one, imp_self, implies_true, not_true_eq_false, not_false_eq_true, ne_eq, Bool.true_eq_false, Nat.zero_le, Nat.le_refl, and_self, false_implies, q_33, l_33, hL', k3, l_33]
      refine ⟨by omega, by omega, ih (d - 1) _ _ _ _ (by omega) ti pk.1 pk.2 ?_⟩
      simp only [e_blk_eq, g_go, g_bks, g_bkn, g_gst, g_gsf, e_cl, e_rt, n_0, n_1, n_2, n_3, n_4, n_5, n_6, n_7, n_8, n_9, n_10, n_11, n_12, n_13, n_14, n_15, n_16, n_17, n_18, n_19, n_20, n_21, n_22, n_23, n_24, n_25, n_26, n_27, n_28, n_29, n_30, n_31, n_32, n_33, n_34, n_35, n_36, n_37, n_40, n_41, n_42, n_43, n_44, n_45, n_46, n_50, n_51, n_52, n_53, n_54, n_55, f_ldi, f_lda, f_sti, f_sta, f_inc, f_bin0, f_bin1, f_bin2, f_bin3, f_bin4, f_bin5, f_bin6, f_bin7, f_i2b, f_dup, f_pop, f_dx1, f_if0, f_ic0, f_if1, f_ic1, f_if2, f_ic2, f_if3, f_ic3, f_if4, f_ic4, f_if5, f_ic5, f_ac0, f_ac1, f_nu0, f_nu1, f_sw, f_sw0, f_sw1, f_gti, f_gta, f_pti, f_pta, f_ptz, f_new, f_nwa, f_ild, f_ist, f_bld, f_bst, f_ald, f_ast, f_len, f_cst, f_oin, f_gcl, f_ord, f_mm0, f_mm1, f_cpy, f_re0, f_re1, f_rea, f_rev, f_t50, f_t51, f_t52, f_t53, f_t54, f_t55, f_st, f_sd, f_s2, f_sn, e_in, e_ent, e_inR, Nat.reduceLT, Nat.reduceEqDiff, reduceIte, Nat.reduceBEq, List.length_cons, List.length_nil, List.map_cons, List.map_nil, List.replicate, List.cons_append, List.nil_append, List.append_nil, List.getElem?_cons_zero, List.getElem?_cons_succ, List.getElem?_nil, List.set_cons_zero, List.set_cons_succ, List.take_succ_cons, List.take_zero, List.take_nil, List.drop_succ_cons, List.drop_zero, List.drop_nil, List.reverse_cons, List.reverse_nil, Option.toList_some, Option.toList_none, Int.reduceToNat, hk_pt, hl_pt, hz_pt, hs_pt, hv_same, hv_ne, hv_na, hz_nw, hs_nw, hk_newS, hl_newS, hv_newS, Int.reduceEq, Int.reduceNe, Int.reduceLE, Int.reduceLT, Int.reduceAdd, Int.reduceSub, Int.reduceMul, Int.reduceNeg, Nat.reduceAdd, Nat.reduceSub, Nat.reduceLeDiff, Bool.or_false, Bool.false_or, Bool.or_true, Bool.true_or, or_self, or_false, false_or, true_or, or_true, and_true, true_and, forall_const, decide_eq_true_eq, decide_eq_false_iff_not, Bool.and_eq_true, Bool.false_eq_true, Nat.lt_add_one, imp_self, implies_true, not_true_eq_false, not_false_eq_true, ne_eq, Bool.true_eq_false, Nat.zero_le, Nat.le_refl, and_self, false_implies, q_33, l_33]
      exact hQ
/-- the least key above key; none -/
def t_af (f : Int → Int) (key lo hi x : Int) : Prop := (x = -1 ∧ ∀ k : Int, key < k → lo ≤ k → k < hi → f k = -1) ∨ (0 ≤ x ∧ key < x ∧ (lo ≤ x ∧ x < hi) ∧ f x ≠ -1 ∧ ∀ k : Int, key < k → lo ≤ k → k < x → f k = -1)
set_option maxRecDepth 100000 in
set_option maxHeartbeats 4000000 in
theorem r_after {lv lw f : Int → Int} {key : Int} {h : E_H} : ∀ (m d : Nat) (a lo hi : Int) (Q : Option E_V → E_H → Prop), m + 1 ≤ d → t_f h lv lw f m a lo hi → (∀ x : Int, t_af f key lo hi x → Q (some (.inl x)) h) → e_wpm d (t_m m 92 91) [.inr a, .inl key] h Q := by
  intro m
  induction m with
  | zero =>
    intro d a lo hi Q hd ht hQ
    obtain ⟨t1, t2, t3, t4, t5⟩ := ht
    refine r_lafter t1 t4 (fun i i1 i2 i3 i4 => ?_) (fun hi' => ?_)
    · have w := t5.1 i i1 i2
      refine hQ _ (Or.inr ⟨w.2.1.1, i3, w.1, by rw [w.2.2.1]; omega, fun k k1 k2 k3 => ?_⟩)
      by_cases hfk : f k = -1
      · exact hfk
      · exfalso
        obtain ⟨j, j1, j2, j3⟩ := t5.2.2 k k2 (by omega) hfk
        by_cases hj : j < i
        · have := i4 j j1 hj; omega
        · by_cases hji : j = i
          · rw [hji] at j3; omega
          · have := t5.2.1 i j i1 (by omega) j2; omega
    · refine hQ _ (Or.inl ⟨rfl, fun k k1 k2 k3 => ?_⟩)
      by_cases hfk : f k = -1
      · exact hfk
      · exfalso
        obtain ⟨j, j1, j2, j3⟩ := t5.2.2 k k2 k3 hfk
        have := hi' j j1 j2
        omega
  | succ m ih =>
    intro d a lo hi Q hd ht hQ
    obtain ⟨t1, t2, t3, t4, t5, t6, t7⟩ := ht
    have hL' := t1.1
    have step : ∀ (r : Nat) (found k : Int), k + r = h_vl h a 2 → 0 ≤ k → (found = -1 ∨ 0 ≤ found) → (0 ≤ found → t_af f key lo hi found) → (found = -1 → ∀ x : Int, key < x → lo ≤ x → x < (if k < h_vl h a 2 then t_lo h a lo k else hi) → f x = -1) → e_wpc d 91 8 [some (.inr a), some (.inl key), some (.inl found), some (.inl k)] [] h Q := by
      intro r
      induction r with
      | zero =>
        intro found k hk k0 hf1 hf2 hf3
        refine e_wpc_blk 100 [8] ?_
        simp only [e_blk_eq, g_go, g_bks, g_bkn, g_gst, g_gsf, e_cl, e_rt, n_0, n_1, n_2, n_3, n_4, n_5, n_6, n_7, n_8, n_9, n_10, n_11, n_12, n_13, n_14, n_15, n_16, n_17, n_18, n_19, n_20, n_21, n_22, n_23, n_24, n_25, n_26, n_27, n_28, n_29, n_30, n_31, n_32, n_33, n_34, n_35, n_36, n_37, n_40, n_41, n_42, n_43, n_44, n_45, n_46, n_50, n_51, n_52, n_53, n_54, n_55, f_ldi, f_lda, f_sti, f_sta, f_inc, f_bin0, f_bin1, f_bin2, f_bin3, f_bin4, f_bin5, f_bin6, f_bin7, f_i2b, f_dup, f_pop, f_dx1, f_if0, f_ic0, f_if1, f_ic1, f_if2, f_ic2, f_if3, f_ic3, f_if4, f_ic4, f_if5, f_ic5, f_ac0, f_ac1, f_nu0, f_nu1, f_sw, f_sw0, f_sw1, f_gti, f_gta, f_pti, f_pta, f_ptz, f_new, f_nwa, f_ild, f_ist, f_bld, f_bst, f_ald, f_ast, f_len, f_cst, f_oin, f_gcl, f_ord, f_mm0, f_mm1, f_cpy, f_re0, f_re1, f_rea, f_rev, f_t50, f_t51, f_t52, f_t53, f_t54, f_t55, f_st, f_sd, f_s2, f_sn, e_in, e_ent, e_inR, Nat.reduceLT, Nat.reduceEqDiff, reduceIte, Nat.reduceBEq, List.length_cons, List.length_nil, List.map_cons, List.map_nil, List.replicate, List.cons_append, List.nil_append, List.append_nil, List.getElem?_cons_zero, List.getElem?_cons_succ, List.getElem?_nil, List.set_cons_zero, List.set_cons_succ, List.take_succ_cons, List.take_zero, List.take_nil, List.drop_succ_cons, List.drop_zero, List.drop_nil, List.reverse_cons, List.reverse_nil, Option.toList_some, Option.toList_none, Int.reduceToNat, hk_pt, hl_pt, hz_pt, hs_pt, hv_same, hv_ne, hv_na, hz_nw, hs_nw, hk_newS, hl_newS, hv_newS, Int.reduceEq, Int.reduceNe, Int.reduceLE, Int.reduceLT, Int.reduceAdd, Int.reduceSub, Int.reduceMul, Int.reduceNeg, Nat.reduceAdd, Nat.reduceSub, Nat.reduceLeDiff, Bool.or_false, Bool.false_or, Bool.or_true, Bool.true_or, or_self, or_false, false_or, true_or, or_true, and_true, true_and, forall_const, decide_eq_true_eq, decide_eq_false_iff_not, Bool.and_eq_true, Bool.false_eq_true, Nat.lt_add_one, imp_self, implies_true, not_true_eq_false, not_false_eq_true, ne_eq, Bool.true_eq_false, Nat.zero_le, Nat.le_refl, and_self, false_implies, q_91, l_91, hL']
        refine ⟨fun z => hQ _ (hf2 z), fun z => ⟨fun _ => hQ _ ?_, fun w => absurd w (by omega)⟩⟩
        have e : found = -1 := by omega
        refine Or.inl ⟨e, fun x x1 x2 x3 => hf3 e x x1 x2 ?_⟩
        rw [if_neg (by omega)]; exact x3
      | succ r ihr =>
        intro found k hk k0 hf1 hf2 hf3
        have tk := t7 k k0 (by omega)
        have kd := tk.kd
        have next : 0 ≤ k ∧ k < 5 := by omega
        have cont : found = -1 → ∀ x, t_af f key (t_lo h a lo k) (t_hi h a hi (h_vl h a 2) k) x → e_wpc d 91 8 [some (.inr a), some (.inl key), some (.inl x), some (.inl (k + 1))] [] h Q := by
          intro e x hx
          have b := hf3 e
          rw [if_pos (by omega)] at b
          have wi := t_in2 (by omega) t6 k k0 (by omega)
          rcases hx with ⟨x1, x2⟩ | ⟨x1, x2, x3, x4, x5⟩
          · refine ihr x (k + 1) (by omega) (by omega) (Or.inl x1) (fun z => by omega) (fun _ y y1 y2 y3 => ?_)
            by_cases hy : y < t_lo h a lo k
            · exact b y y1 y2 hy
            · refine x2 y y1 (by omega) ?_
              unfold t_lo at y3
              unfold t_hi
              split at y3
              · rw [if_neg (by omega)]
                rw [if_neg (by omega)] at y3
                exact y3
              · rw [if_pos (by omega)]; exact y3
          · refine ihr x (k + 1) (by omega) (by omega) (Or.inr x1) (fun z => Or.inr ⟨x1, x2, by omega, x4, fun y y1 y2 y3 => ?_⟩) (fun z => by omega)
            by_cases hy : y < t_lo h a lo k
            · exact b y y1 y2 hy
            · exact x5 y y1 (by omega) y3
        cases m with
        | zero =>
          have k3 := kd.1 rfl
          refine e_wpc_blk 100 [8] ?_
          simp only [e_blk_eq, g_go, g_bks, g_bkn, g_gst, g_gsf, e_cl, e_rt, n_0, n_1, n_2, n_3, n_4, n_5, n_6, n_7, n_8, n_9, n_10, n_11, n_12, n_13, n_14, n_15, n_16, n_17, n_18, n_19, n_20, n_21, n_22, n_23, n_24, n_25, n_26, n_27, n_28, n_29, n_30, n_31, n_32, n_33, n_34, n_35, n_36, n_37, n_40, n_41, n_42, n_43, n_44, n_45, n_46, n_50, n_51, n_52, n_53, n_54, n_55, f_ldi, f_lda, f_sti, f_sta, f_inc, f_bin0, f_bin1, f_bin2, f_bin3, f_bin4, f_bin5, f_bin6, f_bin7, f_i2b, f_dup, f_pop, f_dx1, f_if0, f_ic0, f_if1, f_ic1, f_if2, f_ic2, f_if3, f_ic3, f_if4, f_ic4, f_if5, f_ic5, f_ac0, f_ac1, f_nu0, f_nu1, f_sw, f_sw0, f_sw1, f_gti, f_gta, f_pti, f_pta, f_ptz, f_new, f_nwa, f_ild, f_ist, f_bld, f_bst, f_ald, f_ast, f_len, f_cst, f_oin, f_gcl, f_ord, f_mm0, f_mm1, f_cpy, f_re0, f_re1, f_rea, f_rev, f_t50, f_t51, f_t52, f_t53, f_t54, f_t55, f_st, f_sd, f_s2, f_sn, e_in, e_ent, e_inR, Nat.reduceLT, Nat.reduceEqDiff, reduceIte, Nat.reduceBEq, List.length_cons, List.length_nil, List.map_cons, List.map_nil, List.replicate, List.cons_append, List.nil_append, List.append_nil, List.getElem?_cons_zero, List.getElem?_cons_succ, List.getElem?_nil, List.set_cons_zero, List.set_cons_succ, List.take_succ_cons, List.take_zero, List.take_nil, List.drop_succ_cons, List.drop_zero, List.drop_nil, List.reverse_cons, List.reverse_nil, Option.toList_some, Option.toList_none, Int.reduceToNat, hk_pt, hl_pt, hz_pt, hs_pt, hv_same, hv_ne, hv_na, hz_nw, hs_nw, hk_newS, hl_newS, hv_newS, Int.reduceEq, Int.reduceNe, Int.reduceLE, Int.reduceLT, Int.reduceAdd, Int.reduceSub, Int.reduceMul, Int.reduceNeg, Nat.reduceAdd, Nat.reduceSub, Nat.reduceLeDiff, Bool.or_false, Bool.false_or, Bool.or_true, Bool.true_or, or_self, or_false, false_or, true_or, or_true, and_true, true_and, forall_const, decide_eq_true_eq, decide_eq_false_iff_not, Bool.and_eq_true, Bool.false_eq_true, Nat.lt_add_one, imp_self, implies_true, not_true_eq_false, not_false_eq_true, ne_eq, Bool.true_eq_false, Nat.zero_le, Nat.le_refl, and_self, false_implies, q_91, l_91, hL', k3, l_92]
          refine ⟨fun z => hQ _ (hf2 z), fun z => ⟨fun w => absurd w (by omega), fun w => ⟨next, by omega, ih (d - 1) _ _ _ _ (by omega) tk (fun x hx => ?_)⟩⟩⟩
          simp only [e_blk_eq, g_go, g_bks, g_bkn, g_gst, g_gsf, e_cl, e_rt, n_0, n_1, n_2, n_3, n_4, n_5, n_6, n_7, n_8, n_9, n_10, n_11, n_12, n_13, n_14, n_15, n_16, n_17, n_18, n_19, n_20, n_21, n_22, n_23, n_24, n_25, n_26, n_27, n_28, n_29, n_30, n_31, n_32, n_33, n_34, n_35, n_36, n_37, n_40, n_41, n_42, n_43, n_44, n_45, n_46, n_50, n_51, n_52, n_53, n_54, n_55, f_ldi, f_lda, f_sti, f_sta, f_inc, f_bin0, f_bin1, f_bin2, f_bin3, f_bin4, f_bin5, f_bin6, f_bin7, f_i2b, f_dup, f_pop, f_dx1, f_if0, f_ic0, f_if1, f_ic1, f_if2, f_ic2, f_if3, f_ic3, f_if4, f_ic4, f_if5, f_ic5, f_ac0, f_ac1, f_nu0, f_nu1, f_sw, f_sw0, f_sw1, f_gti, f_gta, f_pti, f_pta, f_ptz, f_new, f_nwa, f_ild, f_ist, f_bld, f_bst, f_ald, f_ast, f_len, f_cst, f_oin, f_gcl, f_ord, f_mm0, f_mm1, f_cpy, f_re0, f_re1, f_rea, f_rev, f_t50, f_t51, f_t52, f_t53, f_t54, f_t55, f_st, f_sd, f_s2, f_sn, e_in, e_ent, e_inR, Nat.reduceLT, Nat.reduceEqDiff, reduceIte, Nat.reduceBEq, List.length_cons, List.length_nil, List.map_cons, List.map_nil, List.replicate, List.cons_append, List.nil_append, List.append_nil, List.getElem?_cons_zero, List.getElem?_cons_succ, List.getElem?_nil, List.set_cons_zero, List.set_cons_succ, List.take_succ_cons, List.take_zero, List.take_nil, List.drop_succ_cons, List.drop_zero, List.drop_nil, List.reverse_cons, List.reverse_nil, Option.toList_some, Option.toList_none, Int.reduceToNat, hk_pt, hl_pt, hz_pt, hs_pt, hv_same, hv_ne, hv_na, hz_nw, hs_nw, hk_newS, hl_newS, hv_newS, Int.reduceEq, Int.reduceNe, Int.reduceLE, Int.reduceLT, Int.reduceAdd, Int.reduceSub, Int.reduceMul, Int.reduceNeg, Nat.reduceAdd, Nat.reduceSub, Nat.reduceLeDiff, Bool.or_false, Bool.false_or, Bool.or_true, Bool.true_or, or_self, or_false, false_or, true_or, or_true, and_true, true_and, forall_const, decide_eq_true_eq, decide_eq_false_iff_not, Bool.and_eq_true, Bool.false_eq_true, Nat.lt_add_one, imp_self, implies_true, not_true_eq_false, not_false_eq_true, ne_eq, Bool.true_eq_false, Nat.zero_le, Nat.le_refl, and_self, false_implies, q_91, l_91]
          exact ⟨by omega, cont (by omega) x hx⟩
        | succ m =>
          have k3 := kd.2.1 (by omega)
          refine e_wpc_blk 100 [8] ?_
          simp only [e_blk_eq, g_go, g_bks, g_bkn, g_gst, g_gsf, e_cl, e_rt, n_0, n_1, n_2, n_3, n_4, n_5, n_6, n_7, n_8, n_9, n_10, n_11, n_12, n_13, n_14, n_15, n_16, n_17, n_18, n_19, n_20, n_21, n_22, n_23, n_24, n_25, n_26, n_27, n_28, n_29, n_30, n_31, n_32, n_33, n_34, n_35, n_36, n_37, n_40, n_41, n_42, n_43, n_44, n_45, n_46, n_50, n_51, n_52, n_53, n_54, n_55, f_ldi, f_lda, f_sti, f_sta, f_inc, f_bin0, f_bin1, f_bin2, f_bin3, f_bin4, f_bin5, f_bin6, f_bin7, f_i2b, f_dup, f_pop, f_dx1, f_if0, f_ic0, f_if1, f_ic1, f_if2, f_ic2, f_if3, f_ic3, f_if4, f_ic4, f_if5, f_ic5, f_ac0, f_ac1, f_nu0, f_nu1, f_sw, f_sw0, f_sw1, f_gti, f_gta, f_pti, f_pta, f_ptz, f_new, f_nwa, f_ild, f_ist, f_bld, f_bst, f_ald, f_ast, f_len, f_cst, f_oin, f_gcl, f_ord, f_mm0, f_mm1, f_cpy, f_re0, f_re1, f_rea, f_rev, f_t50, f_t51, f_t52, f_t53, f_t54, f_t55, f_st, f_sd, f_s2, f_sn, e_in, e_ent, e_inR, Nat.reduceLT, Nat.reduceEqDiff, reduceIte, Nat.reduceBEq, List.length_cons, List.length_nil, List.map_cons, List.map_nil, List.replicate, List.cons_append, List.nil_append, List.append_nil, List.getElem?_cons_zero, List.getElem?_cons_succ, List.getElem?_nil, List.set_cons_zero, List.set_cons_succ, List.take_succ_cons, List.take_zero, List.take_nil, List.drop_succ_cons, List.drop_zero, List.drop_nil, List.reverse_cons, List.reverse_nil, Option.toList_some, Option.toList_none, Int.reduceToNat, hk_pt, hl_pt, hz_pt, hs_pt, hv_same, hv_ne, hv_na, hz_nw, hs_nw, hk_newS, hl_newS, hv_newS, Int.reduceEq, Int.reduceNe, Int.reduceLE, Int.reduceLT, Int.reduceAdd, Int.reduceSub, Int.reduceMul, Int.reduceNeg, Nat.reduceAdd, Nat.reduceSub, Nat.reduceLeDiff, Bool.or_false, Bool.false_or, Bool.or_true, Bool.true_or, or_self, or_false, false_or, true_or, or_true, and_true, true_and, forall_const, decide_eq_true_eq, decide_eq_false_iff_not, Bool.and_eq_true, Bool.false_eq_true, Nat.lt_add_one, imp_self, implies_true, not_true_eq_false, not_false_eq_true, ne_eq, Bool.true_eq_false, Nat.zero_le, Nat.le_refl, and_self, false_implies, q_91, l_91, hL', k3, l_91]
          refine ⟨fun z => hQ _ (hf2 z), fun z => ⟨fun w => absurd w (by omega), fun w => ⟨next, by omega, ih (d - 1) _ _ _ _ (by omega) tk (fun x hx => ?_)⟩⟩⟩
          simp only [e_blk_eq, g_go, g_bks, g_bkn, g_gst, g_gsf, e_cl, e_rt, n_0, n_1, n_2, n_3, n_4, n_5, n_6, n_7, n_8, n_9, n_10, n_11, n_12, n_13, n_14, n_15, n_16, n_17, n_18, n_19, n_20, n_21, n_22, n_23, n_24, n_25, n_26, n_27, n_28, n_29, n_30, n_31, n_32, n_33, n_34, n_35, n_36, n_37, n_40, n_41, n_42, n_43, n_44, n_45, n_46, n_50, n_51, n_52, n_53, n_54, n_55, f_ldi, f_lda, f_sti, f_sta, f_inc, f_bin0, f_bin1, f_bin2, f_bin3, f_bin4, f_bin5, f_bin6, f_bin7, f_i2b, f_dup, f_pop, f_dx1, f_if0, f_ic0, f_if1, f_ic1, f_if2, f_ic2, f_if3, f_ic3, f_if4, f_ic4, f_if5, f_ic5, f_ac0, f_ac1, f_nu0, f_nu1, f_sw, f_sw0, f_sw1, f_gti, f_gta, f_pti, f_pta, f_ptz, f_new, f_nwa, f_ild, f_ist, f_bld, f_bst, f_ald, f_ast, f_len, f_cst, f_oin, f_gcl, f_ord, f_mm0, f_mm1, f_cpy, f_re0, f_re1, f_rea, f_rev, f_t50, f_t51, f_t52, f_t53, f_t54, f_t55, f_st, f_sd, f_s2, f_sn, e_in, e_ent, e_inR, Nat.reduceLT, Nat.reduceEqDiff, reduceIte, Nat.reduceBEq, List.length_cons, List.length_nil, List.map_cons, List.map_nil, List.replicate, List.cons_append, List.nil_append, List.append_nil, List.getElem?_cons_zero, List.getElem?_cons_succ, List.getElem?_nil, List.set_cons_zero, List.set_cons_succ, List.take_succ_cons, List.take_zero, List.take_nil, List.drop_succ_cons, List.drop_zero, List.drop_nil, List.reverse_cons, List.reverse_nil, Option.toList_some, Option.toList_none, Int.reduceToNat, hk_pt, hl_pt, hz_pt, hs_pt, hv_same, hv_ne, hv_na, hz_nw, hs_nw, hk_newS, hl_newS, hv_newS, Int.reduceEq, Int.reduceNe, Int.reduceLE, Int.reduceLT, Int.reduceAdd, Int.reduceSub, Int.reduceMul, Int.reduceNeg, Nat.reduceAdd, Nat.reduceSub, Nat.reduceLeDiff, Bool.or_false, Bool.false_or, Bool.or_true, Bool.true_or, or_self, or_false, false_or, true_or, or_true, and_true, true_and, forall_const, decide_eq_true_eq, decide_eq_false_iff_not, Bool.and_eq_true, Bool.false_eq_true, Nat.lt_add_one, imp_self, implies_true, not_true_eq_false, not_false_eq_true, ne_eq, Bool.true_eq_false, Nat.zero_le, Nat.le_refl, and_self, false_implies, q_91, l_91]
          exact ⟨by omega, cont (by omega) x hx⟩
    show e_wpm d 91 _ h Q
    refine e_wpm_blk 100 [8] ?_
    simp only [e_blk_eq, g_go, g_bks, g_bkn, g_gst, g_gsf, e_cl, e_rt, n_0, n_1, n_2, n_3, n_4, n_5, n_6, n_7, n_8, n_9, n_10, n_11, n_12, n_13, n_14, n_15, n_16, n_17, n_18, n_19, n_20, n_21, n_22, n_23, n_24, n_25, n_26, n_27, n_28, n_29, n_30, n_31, n_32, n_33, n_34, n_35, n_36, n_37, n_40, n_41, n_42, n_43, n_44, n_45, n_46, n_50, n_51, n_52, n_53, n_54, n_55, f_ldi, f_lda, f_sti, f_sta, f_inc, f_bin0, f_bin1, f_bin2, f_bin3, f_bin4, f_bin5, f_bin6, f_bin7, f_i2b, f_dup, f_pop, f_dx1, f_if0, f_ic0, f_if1, f_ic1, f_if2, f_ic2, f_if3, f_ic3, f_if4, f_ic4, f_if5, f_ic5, f_ac0, f_ac1, f_nu0, f_nu1, f_sw, f_sw0, f_sw1, f_gti, f_gta, f_pti, f_pta, f_ptz, f_new, f_nwa, f_ild, f_ist, f_bld, f_bst, f_ald, f_ast, f_len, f_cst, f_oin, f_gcl, f_ord, f_mm0, f_mm1, f_cpy, f_re0, f_re1, f_rea, f_rev, f_t50, f_t51, f_t52, f_t53, f_t54, f_t55, f_st, f_sd, f_s2, f_sn, e_in, e_ent, e_inR, Nat.reduceLT, Nat.reduceEqDiff, reduceIte, Nat.reduceBEq, List.length_cons, List.length_nil, List.map_cons, List.map_nil, List.replicate, List.cons_append, List.nil_append, List.append_nil, List.getElem?_cons_zero, List.getElem?_cons_succ, List.getElem?_nil, List.set_cons_zero, List.set_cons_succ, List.take_succ_cons, List.take_zero, List.take_nil, List.drop_succ_cons, List.drop_zero, List.drop_nil, List.reverse_cons, List.reverse_nil, Option.toList_some, Option.toList_none, Int.reduceToNat, hk_pt, hl_pt, hz_pt, hs_pt, hv_same, hv_ne, hv_na, hz_nw, hs_nw, hk_newS, hl_newS, hv_newS, Int.reduceEq, Int.reduceNe, Int.reduceLE, Int.reduceLT, Int.reduceAdd, Int.reduceSub, Int.reduceMul, Int.reduceNeg, Nat.reduceAdd, Nat.reduceSub, Nat.reduceLeDiff, Bool.or_false, Bool.false_or, Bool.or_true, Bool.true_or, or_self, or_false, false_or, true_or, or_true, and_true, true_and, forall_const, decide_eq_true_eq, decide_eq_false_iff_not, Bool.and_eq_true, Bool.false_eq_true, Nat.lt_add_one, imp_self, implies_true, not_true_eq_false, not_false_eq_true, ne_eq, Bool.true_eq_false, Nat.zero_le, Nat.le_refl, and_self, false_implies, q_91, l_91, l_34, hL']
    refine ⟨by omega, r_child t1 (by omega) (fun i i1 i2 i3 i4 => ?_)⟩
    simp only [e_blk_eq, g_go, g_bks, g_bkn, g_gst, g_gsf, e_cl, e_rt, n_0, n_1, n_2, n_3, n_4, n_5, n_6, n_7, n_8, n_9, n_10, n_11, n_12, n_13, n_14, n_15, n_16, n_17, n_18, n_19, n_20, n_21, n_22, n_23, n_24, n_25, n_26, n_27, n_28, n_29, n_30, n_31, n_32, n_33, n_34, n_35, n_36, n_37, n_40, n_41, n_42, n_43, n_44, n_45, n_46, n_50, n_51, n_52, n_53, n_54, n_55, f_ldi, f_lda, f_sti, f_sta, f_inc, f_bin0, f_bin1, f_bin2, f_bin3, f_bin4, f_bin5, f_bin6, f_bin7, f_i2b, f_dup, f_pop, f_dx1, f_if0, f_ic0, f_if1, f_ic1, f_if2, f_ic2, f_if3, f_ic3, f_if4, f_ic4, f_if5, f_ic5, f_ac0, f_ac1, f_nu0, f_nu1, f_sw, f_sw0, f_sw1, f_gti, f_gta, f_pti, f_pta, f_ptz, f_new, f_nwa, f_ild, f_ist, f_bld, f_bst, f_ald, f_ast, f_len, f_cst, f_oin, f_gcl, f_ord, f_mm0, f_mm1, f_cpy, f_re0, f_re1, f_rea, f_rev, f_t50, f_t51, f_t52, f_t53, f_t54, f_t55, f_st, f_sd, f_s2, f_sn, e_in, e_ent, e_inR, Nat.reduceLT, Nat.reduceEqDiff, reduceIte, Nat.reduceBEq, List.length_cons, List.length_nil, List.map_cons, List.map_nil, List.replicate, List.cons_append, List.nil_append, List.append_nil, List.getElem?_cons_zero, List.getElem?_cons_succ, List.getElem?_nil, List.set_cons_zero, List.set_cons_succ, List.take_succ_cons, List.take_zero, List.take_nil, List.drop_succ_cons, List.drop_zero, List.drop_nil, List.reverse_cons, List.reverse_nil, Option.toList_some, Option.toList_none, Int.reduceToNat, hk_pt, hl_pt, hz_pt, hs_pt, hv_same, hv_ne, hv_na, hz_nw, hs_nw, hk_newS, hl_newS, hv_newS, Int.reduceEq, Int.reduceNe, Int.reduceLE, Int.reduceLT, Int.reduceAdd, Int.reduceSub, Int.reduceMul, Int.reduceNeg, Nat.reduceAdd, Nat.reduceSub, Nat.reduceLeDiff, Bool.or_false, Bool.false_or, Bool.or_true, Bool.true_or, or_self, or_false, false_or, true_or, or_true, and_true, true_and, forall_const, decide_eq_true_eq, decide_eq_false_iff_not, Bool.and_eq_true, Bool.false_eq_true, Nat.lt_add_one, imp_self, implies_true, not_true_eq_false, not_false_eq_true, ne_eq, Bool.true_eq_false, Nat.zero_le, Nat.le_refl, and_self, false_implies, q_91, l_91]
    refine step (h_vl h a 2 - i).toNat (-1) i (by omega) i1 (Or.inl rfl) (fun z => by omega) (fun _ x x1 x2 x3 => ?_)
    exfalso
    rw [if_pos i2] at x3
    unfold t_lo at x3
    split at x3
    · omega
    · omega
