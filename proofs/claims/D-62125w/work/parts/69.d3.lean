/-! ===== the component, 10: what a leaf holds; put into a leaf ===== -/
def t_up (f : Int → Int) (key p : Int) : Int → Int := fun k => if k = key then p else f k
def t_k (h : E_H) (a lo hi : Int) (f : Int → Int) (n : Int) : Prop := (∀ i : Int, 0 ≤ i → i < n → (lo ≤ h_vl h (a + 1) i ∧ h_vl h (a + 1) i < hi) ∧ (0 ≤ h_vl h (a + 1) i ∧ h_vl h (a + 1) i ≤ 99) ∧ f (h_vl h (a + 1) i) = h_vl h (a + 2) i ∧ 0 ≤ h_vl h (a + 2) i) ∧ (∀ i j : Int, 0 ≤ i → i < j → j < n → h_vl h (a + 1) i < h_vl h (a + 1) j) ∧ ∀ k : Int, lo ≤ k → k < hi → f k ≠ -1 → ∃ i : Int, 0 ≤ i ∧ i < n ∧ h_vl h (a + 1) i = k
theorem t_k.cg {h h' : E_H} {a lo hi n : Int} {f f' : Int → Int} (ht : t_k h a lo hi f n) (hf : ∀ k : Int, lo ≤ k → k < hi → f' k = f k) (e1 : ∀ j : Int, 0 ≤ j → j < n → h_vl h' (a + 1) j = h_vl h (a + 1) j ∧ h_vl h' (a + 2) j = h_vl h (a + 2) j) : t_k h' a lo hi f' n := by
  obtain ⟨t1, t2, t3⟩ := ht
  refine ⟨fun i i1 i2 => ?_, fun i j i1 i2 i3 => ?_, fun k k1 k2 k3 => ?_⟩
  · rw [(e1 i i1 i2).1, (e1 i i1 i2).2]
    have := t1 i i1 i2
    rw [hf _ this.1.1 this.1.2]
    exact this
  · rw [(e1 i i1 (by omega)).1, (e1 j (by omega) i3).1]
    exact t2 i j i1 i2 i3
  · rw [hf k k1 k2] at k3
    obtain ⟨i, i1, i2, i3⟩ := t3 k k1 k2 k3
    exact ⟨i, i1, i2, by rw [(e1 i i1 i2).1]; exact i3⟩
/-- an entry comes in -/
theorem t_k.add {h h' : E_H} {a lo hi n key p x : Int} {f : Int → Int} (ht : t_k h a lo hi f n) (hk : lo ≤ key ∧ key < hi) (hk2 : 0 ≤ key ∧ key ≤ 99) (hf : f key = -1) (hp : 0 ≤ p) (hx : 0 ≤ x ∧ x ≤ n) (b1 : ∀ j : Int, 0 ≤ j → j < x → h_vl h' (a + 1) j = h_vl h (a + 1) j ∧ h_vl h' (a + 2) j = h_vl h (a + 2) j) (b2 : h_vl h' (a + 1) x = key) (b3 : h_vl h' (a + 2) x = p) (b4 : ∀ j : Int, x ≤ j → j < n → h_vl h' (a + 1) (j + 1) = h_vl h (a + 1) j ∧ h_vl h' (a + 2) (j + 1) = h_vl h (a + 2) j) (b5 : x = 0 ∨ h_vl h (a + 1) (x - 1) ≤ key) (b6 : ∀ j : Int, x ≤ j → j < n → key < h_vl h (a + 1) j) : t_k h' a lo hi (t_up f key p) (n + 1) := by
  obtain ⟨t1, t2, t3⟩ := ht
  have nk : ∀ i : Int, 0 ≤ i → i < n → h_vl h (a + 1) i ≠ key := fun i i1 i2 z => by
    have := t1 i i1 i2
    rw [z, hf] at this
    omega
  have old : ∀ i : Int, 0 ≤ i → i < n + 1 → i ≠ x → ∃ j : Int, (0 ≤ j ∧ j < n) ∧ (i < x → j = i) ∧ (x < i → j = i - 1) ∧ h_vl h' (a + 1) i = h_vl h (a + 1) j ∧ h_vl h' (a + 2) i = h_vl h (a + 2) j := by
    intro i i1 i2 i3
    by_cases hi : i < x
    · exact ⟨i, by omega, fun _ => rfl, fun z => by omega, b1 i i1 hi⟩
    · have := b4 (i - 1) (by omega) (by omega)
      rw [show i - 1 + 1 = i by omega] at this
      exact ⟨i - 1, by omega, fun z => by omega, fun _ => rfl, this⟩
  have below : ∀ i : Int, 0 ≤ i → i < x → h_vl h (a + 1) i < key := by
    intro i i1 i2
    have hb : h_vl h (a + 1) (x - 1) ≤ key := by
      rcases b5 with z | z
      · omega
      · exact z
    have := nk (x - 1) (by omega) (by omega)
    by_cases hi : i = x - 1
    · rw [hi]; omega
    · have := t2 i (x - 1) i1 (by omega) (by omega)
      omega
  refine ⟨fun i i1 i2 => ?_, fun i j i1 i2 i3 => ?_, fun k k1 k2 k3 => ?_⟩
  · by_cases hi : i = x
    · rw [hi, b2, b3]
      refine ⟨hk, hk2, ?_, hp⟩
      unfold t_up
      rw [if_pos rfl]
    · obtain ⟨j, j1, _, _, j4, j5⟩ := old i i1 i2 hi
      rw [j4, j5]
      have w := t1 j j1.1 j1.2
      refine ⟨w.1, w.2.1, ?_, w.2.2.2⟩
      unfold t_up
      rw [if_neg (nk j j1.1 j1.2)]
      exact w.2.2.1
  · by_cases hi : i = x
    · obtain ⟨j', j1, _, j3, j4, _⟩ := old j (by omega) i3 (by omega)
      rw [hi, b2, j4]
      exact b6 j' (by have := j3 (by omega); omega) j1.2
    · obtain ⟨i', i1', i2', i3', i4', _⟩ := old i i1 (by omega) hi
      rw [i4']
      by_cases hj : j = x
      · rw [hj, b2]
        exact below i' i1'.1 (by have := i2' (by omega); omega)
      · obtain ⟨j', j1, j2, j3, j4, _⟩ := old j (by omega) i3 hj
        rw [j4]
        refine t2 i' j' i1'.1 ?_ j1.2
        by_cases hix : i < x
        · have := i2' hix
          by_cases hjx : j < x
          · have := j2 hjx; omega
          · have := j3 (by omega); omega
        · have := i3' (by omega)
          have := j3 (by omega)
          omega
  · by_cases hkk : k = key
    · exact ⟨x, by omega, by omega, by rw [b2]; exact hkk.symm⟩
    · unfold t_up at k3
      rw [if_neg hkk] at k3
      obtain ⟨i, i1, i2, i3⟩ := t3 k k1 k2 k3
      by_cases hi : i < x
      · exact ⟨i, i1, by omega, by rw [(b1 i i1 hi).1]; exact i3⟩
      · exact ⟨i + 1, by omega, by omega, by rw [(b4 i (by omega) i2).1]; exact i3⟩
theorem t_L.fr {c : Int → Int → Int → Prop} {h h' : E_H} {a : Int} (hL : t_L h a) (hZ : k_Z h) (f : f_m c h h') (hc : ¬ c 3 a 0 ∧ ¬ c 3 a 1) : t_L h' a := by
  obtain ⟨⟨l1, l2, l3, l4, l5, l6, l7⟩, l8⟩ := hL
  exact ⟨⟨f.kd hZ l1 (by omega), by rw [f.vl hZ l1 (by omega) hc.1]; exact l2, by rw [f.vl hZ l1 (by omega) hc.2]; exact l3, f.kd hZ l4 (by omega), f.ln hZ l4 (by omega) l5, f.kd hZ l6 (by omega), f.ln hZ l6 (by omega) l7⟩, l8⟩
set_option maxRecDepth 100000 in
set_option maxHeartbeats 4000000 in
theorem r_lput {d : Nat} {a lo hi n key p : Int} {f : Int → Int} {h : E_H} {Q : Option E_V → E_H → Prop} (hd : 2 ≤ d) (hZ : k_Z h) (hz : 16 ≤ h_sz h) (hL : t_L h a) (h2 : h_vl h a 2 = n) (hn : 0 ≤ n ∧ n ≤ 4) (ht : t_k h a lo hi f n) (hk : lo ≤ key ∧ key < hi) (hk2 : 0 ≤ key ∧ key ≤ 99) (hf : f key = -1) (hp : 0 ≤ p)
    (K1 : ∀ h', f_s (t_lc a) h h' → h_vl h' a 2 = n + 1 → n + 1 ≤ 4 → t_k h' a lo hi (t_up f key p) (n + 1) → Q (some (.inr 0)) h')
    (K2 : ∀ h' mid nl nr, f_m (t_lc a) h h' → h_sz h' = h_sz h + 3 → h_sl h' = h_sl h + 11 → t_L h' (h_sz h) → (lo < mid ∧ mid < hi) → (0 ≤ mid ∧ mid ≤ 99) → h_vl h' a 2 = nl → (0 ≤ nl ∧ nl ≤ 4) → t_k h' a lo mid (t_up f key p) nl → h_vl h' (h_sz h) 2 = nr → (0 ≤ nr ∧ nr ≤ 4) → t_k h' (h_sz h) mid hi (t_up f key p) nr → h_vl h' (h_sz h + 1) 0 = mid → Q (some (.inr (h_sz h))) h') : e_wpm d 51 [.inr a, .inl key, .inl p] h Q := by
  have hL' := hL.1
  have ne := @t_ne a
  have al : a < h_sz h := hZ.lt (by omega)
  have al2 : a + 2 < h_sz h := hZ.lt (by omega)
  refine e_wpm_blk 100 [] ?_
  simp only [e_blk_eq, g_go, g_bks, g_bkn, g_gst, g_gsf, e_cl, e_rt, n_0, n_1, n_2, n_3, n_4, n_5, n_6, n_7, n_8, n_9, n_10, n_11, n_12, n_13, n_14, n_15, n_16, n_17, n_18, n_19, n_20, n_21, n_22, n_23, n_24, n_25, n_26, n_27, n_28, n_29, n_30, n_31, n_32, n_33, n_34, n_35, n_36, n_37, n_40, n_41, n_42, n_43, n_44, n_45, n_46, n_50, n_51, n_52, n_53, n_54, n_55, f_ldi, f_lda, f_sti, f_sta, f_inc, f_bin0, f_bin1, f_bin2, f_bin3, f_bin4, f_bin5, f_bin6, f_bin7, f_i2b, f_dup, f_pop, f_dx1, f_if0, f_ic0, f_if1, f_ic1, f_if2, f_ic2, f_if3, f_ic3, f_if4, f_ic4, f_if5, f_ic5, f_ac0, f_ac1, f_nu0, f_nu1, f_sw, f_sw0, f_sw1, f_gti, f_gta, f_pti, f_pta, f_ptz, f_new, f_nwa, f_ild, f_ist, f_bld, f_bst, f_ald, f_ast, f_len, f_cst, f_oin, f_gcl, f_ord, f_mm0, f_mm1, f_cpy, f_re0, f_re1, f_rea, f_rev, f_t50, f_t51, f_t52, f_t53, f_t54, f_t55, f_st, f_sd, f_s2, f_sn, e_in, e_ent, e_inR, Nat.reduceLT, Nat.reduceEqDiff, reduceIte, Nat.reduceBEq, List.length_cons, List.length_nil, List.map_cons, List.map_nil, List.replicate, List.cons_append, List.nil_append, List.append_nil, List.getElem?_cons_zero, List.getElem?_cons_succ, List.getElem?_nil, List.set_cons_zero, List.set_cons_succ, List.take_succ_cons, List.take_zero, List.take_nil, List.drop_succ_cons, List.drop_zero, List.drop_nil, List.reverse_cons, List.reverse_nil, Option.toList_some, Option.toList_none, Int.reduceToNat, hk_pt, hl_pt, hz_pt, hs_pt, hv_same, hv_ne, hv_na, hz_nw, hs_nw, hk_newS, hl_newS, hv_newS, Int.reduceEq, Int.reduceNe, Int.reduceLE, Int.reduceLT, Int.reduceAdd, Int.reduceSub, Int.reduceMul, Int.reduceNeg, Nat.reduceAdd, Nat.reduceSub, Nat.reduceLeDiff, Bool.or_false, Bool.false_or, Bool.or_true, Bool.true_or, or_self, or_false, false_or, true_or, or_true, and_true, true_and, forall_const, decide_eq_true_eq, decide_eq_false_iff_not, Bool.and_eq_true, Bool.false_eq_true, Nat.lt_add_one, imp_self, implies_true, not_true_eq_false, not_false_eq_true, ne_eq, Bool.true_eq_false, Nat.zero_le, Nat.le_refl, and_self, false_implies, q_51, l_51, l_4, l_52, hL', h2]
  refine ⟨fun h4 => ⟨by omega, r_ladd hZ hL h2 (by omega) (fun h' x f1 x1 b1 b2 b3 b4 b5 b6 b7 => ?_)⟩, fun h4 => ⟨by omega, by omega, ?_⟩⟩
  · simp only [e_blk_eq, g_go, g_bks, g_bkn, g_gst, g_gsf, e_cl, e_rt, n_0, n_1, n_2, n_3, n_4, n_5, n_6, n_7, n_8, n_9, n_10, n_11, n_12, n_13, n_14, n_15, n_16, n_17, n_18, n_19, n_20, n_21, n_22, n_23, n_24, n_25, n_26, n_27, n_28, n_29, n_30, n_31, n_32, n_33, n_34, n_35, n_36, n_37, n_40, n_41, n_42, n_43, n_44, n_45, n_46, n_50, n_51, n_52, n_53, n_54, n_55, f_ldi, f_lda, f_sti, f_sta, f_inc, f_bin0, f_bin1, f_bin2, f_bin3, f_bin4, f_bin5, f_bin6, f_bin7, f_i2b, f_dup, f_pop, f_dx1, f_if0, f_ic0, f_if1, f_ic1, f_if2, f_ic2, f_if3, f_ic3, f_if4, f_ic4, f_if5, f_ic5, f_ac0, f_ac1, f_nu0, f_nu1, f_sw, f_sw0, f_sw1, f_gti, f_gta, f_pti, f_pta, f_ptz, f_new, f_nwa, f_ild, f_ist, f_bld, f_bst, f_ald, f_ast, f_len, f_cst, f_oin, f_gcl, f_ord, f_mm0, f_mm1, f_cpy, f_re0, f_re1, f_rea, f_rev, f_t50, f_t51, f_t52, f_t53, f_t54, f_t55, f_st, f_sd, f_s2, f_sn, e_in, e_ent, e_inR, Nat.reduceLT, Nat.reduceEqDiff, reduceIte, Nat.reduceBEq, List.length_cons, List.length_nil, List.map_cons, List.map_nil, List.replicate, List.cons_append, List.nil_append, List.append_nil, List.getElem?_cons_zero, List.getElem?_cons_succ, List.getElem?_nil, List.set_cons_zero, List.set_cons_succ, List.take_succ_cons, List.take_zero, List.take_nil, List.drop_succ_cons, List.drop_zero, List.drop_nil, List.reverse_cons, List.reverse_nil, Option.toList_some, Option.toList_none, Int.reduceToNat, hk_pt, hl_pt, hz_pt, hs_pt, hv_same, hv_ne, hv_na, hz_nw, hs_nw, hk_newS, hl_newS, hv_newS, Int.reduceEq, Int.reduceNe, Int.reduceLE, Int.reduceLT, Int.reduceAdd, Int.reduceSub, Int.reduceMul, Int.reduceNeg, Nat.reduceAdd, Nat.reduceSub, Nat.reduceLeDiff, Bool.or_false, Bool.false_or, Bool.or_true, Bool.true_or, or_self, or_false, false_or, true_or, or_true, and_true, true_and, forall_const, decide_eq_true_eq, decide_eq_false_iff_not, Bool.and_eq_true, Bool.false_eq_true, Nat.lt_add_one, imp_self, implies_true, not_true_eq_false, not_false_eq_true, ne_eq, Bool.true_eq_false, Nat.zero_le, Nat.le_refl, and_self, false_implies, q_51, l_51]
    exact K1 h' f1 b7 (by omega) (ht.add hk hk2 hf hp x1 b1 b2 b3 b4 b5 b6)
  · have n4 : n = 4 := Decidable.not_not.mp h4
    subst n4
    refine r_linit (by omega) hZ hz (fun h1 f1 L1 e1 s1 sl1 => ?_)
    generalize hr : h_sz h = r at *
    have Z1 : k_Z h1 := f1.1.2
    have ner := @t_ne r
    have La : t_L h1 a := hL.fr hZ f1 ⟨fun z => z, fun z => z⟩
    have La' := La.1
    have L1' := L1.1
    have va : ∀ b j : Int, b < r → h_vl h1 b j = h_vl h b j := fun b j hb => f1.2.2 b j (by omega) (fun z => z)
    simp only [e_blk_eq, g_go, g_bks, g_bkn, g_gst, g_gsf, e_cl, e_rt, n_0, n_1, n_2, n_3, n_4, n_5, n_6, n_7, n_8, n_9, n_10, n_11, n_12, n_13, n_14, n_15, n_16, n_17, n_18, n_19, n_20, n_21, n_22, n_23, n_24, n_25, n_26, n_27, n_28, n_29, n_30, n_31, n_32, n_33, n_34, n_35, n_36, n_37, n_40, n_41, n_42, n_43, n_44, n_45, n_46, n_50, n_51, n_52, n_53, n_54, n_55, f_ldi, f_lda, f_sti, f_sta, f_inc, f_bin0, f_bin1, f_bin2, f_bin3, f_bin4, f_bin5, f_bin6, f_bin7, f_i2b, f_dup, f_pop, f_dx1, f_if0, f_ic0, f_if1, f_ic1, f_if2, f_ic2, f_if3, f_ic3, f_if4, f_ic4, f_if5, f_ic5, f_ac0, f_ac1, f_nu0, f_nu1, f_sw, f_sw0, f_sw1, f_gti, f_gta, f_pti, f_pta, f_ptz, f_new, f_nwa, f_ild, f_ist, f_bld, f_bst, f_ald, f_ast, f_len, f_cst, f_oin, f_gcl, f_ord, f_mm0, f_mm1, f_cpy, f_re0, f_re1, f_rea, f_rev, f_t50, f_t51, f_t52, f_t53, f_t54, f_t55, f_st, f_sd, f_s2, f_sn, e_in, e_ent, e_inR, Nat.reduceLT, Nat.reduceEqDiff, reduceIte, Nat.reduceBEq, List.length_cons, List.length_nil, List.map_cons, List.map_nil, List.replicate, List.cons_append, List.nil_append, List.append_nil, List.getElem?_cons_zero, List.getElem?_cons_succ, List.getElem?_nil, List.set_cons_zero, List.set_cons_succ, List.take_succ_cons, List.take_zero, List.take_nil, List.drop_succ_cons, List.drop_zero, List.drop_nil, List.reverse_cons, List.reverse_nil, Option.toList_some, Option.toList_none, Int.reduceToNat, hk_pt, hl_pt, hz_pt, hs_pt, hv_same, hv_ne, hv_na, hz_nw, hs_nw, hk_newS, hl_newS, hv_newS, Int.reduceEq, Int.reduceNe, Int.reduceLE, Int.reduceLT, Int.reduceAdd, Int.reduceSub, Int.reduceMul, Int.reduceNeg, Nat.reduceAdd, Nat.reduceSub, Nat.reduceLeDiff, Bool.or_false, Bool.false_or, Bool.or_true, Bool.true_or, or_self, or_false, false_or, true_or, or_true, and_true, true_and, forall_const, decide_eq_true_eq, decide_eq_false_iff_not, Bool.and_eq_true, Bool.false_eq_true, Nat.lt_add_one, imp_self, implies_true, not_true_eq_false, not_false_eq_true, ne_eq, Bool.true_eq_false, Nat.zero_le, Nat.le_refl, and_self, false_implies, q_51, l_51, l_52, La', L1']
    have t0 : t_k h1 r (h_vl h (a + 1) 2) hi (fun _ => -1) 0 := ⟨fun i i1 i2 => by omega, fun i j i1 i2 i3 => by omega, fun k k1 k2 k3 => absurd rfl k3⟩
    have q2 := ht.1 2 (by omega) (by omega)
    have q3 := ht.1 3 (by omega) (by omega)
    have q23 := ht.2.1 2 3 (by omega) (by omega) (by omega)
    refine ⟨by omega, r_ladd Z1 L1 e1 (by omega) (fun h2' x f2 x1 b1 b2 b3 b4 b5 b6 b7 => ?_)⟩
    rw [va _ _ (by omega)] at b2
    rw [va _ _ (by omega)] at b3
    have t1 := t0.add (key := h_vl h (a + 1) 2) (p := h_vl h (a + 2) 2) (by omega) (by omega) rfl q2.2.2.2 x1 b1 b2 b3 b4 (by omega) (fun j j1 j2 => by omega)
    have x0 : x = 0 := by omega
    have Z2 : k_Z h2' := f2.1.1.2
    have Lr2 : t_L h2' r := L1.fr Z1 f2.1 ⟨fun z => by unfold t_lc at z; omega, fun z => by unfold t_lc at z; omega⟩
    have La2 : t_L h2' a := La.fr Z1 f2.1 ⟨fun z => by unfold t_lc at z; omega, fun z => by unfold t_lc at z; omega⟩
    have La2' := La2.1
    have va2 : ∀ b j : Int, b < r → h_vl h2' b j = h_vl h b j := fun b j hb => by rw [f2.1.2.2 b j (by omega) (fun z => by unfold t_lc at z; omega), va b j hb]
    have Lr2' := Lr2.1
    simp only [e_blk_eq, g_go, g_bks, g_bkn, g_gst, g_gsf, e_cl, e_rt, n_0, n_1, n_2, n_3, n_4, n_5, n_6, n_7, n_8, n_9, n_10, n_11, n_12, n_13, n_14, n_15, n_16, n_17, n_18, n_19, n_20, n_21, n_22, n_23, n_24, n_25, n_26, n_27, n_28, n_29, n_30, n_31, n_32, n_33, n_34, n_35, n_36, n_37, n_40, n_41, n_42, n_43, n_44, n_45, n_46, n_50, n_51, n_52, n_53, n_54, n_55, f_ldi, f_lda, f_sti, f_sta, f_inc, f_bin0, f_bin1, f_bin2, f_bin3, f_bin4, f_bin5, f_bin6, f_bin7, f_i2b, f_dup, f_pop, f_dx1, f_if0, f_ic0, f_if1, f_ic1, f_if2, f_ic2, f_if3, f_ic3, f_if4, f_ic4, f_if5, f_ic5, f_ac0, f_ac1, f_nu0, f_nu1, f_sw, f_sw0, f_sw1, f_gti, f_gta, f_pti, f_pta, f_ptz, f_new, f_nwa, f_ild, f_ist, f_bld, f_bst, f_ald, f_ast, f_len, f_cst, f_oin, f_gcl, f_ord, f_mm0, f_mm1, f_cpy, f_re0, f_re1, f_rea, f_rev, f_t50, f_t51, f_t52, f_t53, f_t54, f_t55, f_st, f_sd, f_s2, f_sn, e_in, e_ent, e_inR, Nat.reduceLT, Nat.reduceEqDiff, reduceIte, Nat.reduceBEq, List.length_cons, List.length_nil, List.map_cons, List.map_nil, List.replicate, List.cons_append, List.nil_append, List.append_nil, List.getElem?_cons_zero, List.getElem?_cons_succ, List.getElem?_nil, List.set_cons_zero, List.set_cons_succ, List.take_succ_cons, List.take_zero, List.take_nil, List.drop_succ_cons, List.drop_zero, List.drop_nil, List.reverse_cons, List.reverse_nil, Option.toList_some, Option.toList_none, Int.reduceToNat, hk_pt, hl_pt, hz_pt, hs_pt, hv_same, hv_ne, hv_na, hz_nw, hs_nw, hk_newS, hl_newS, hv_newS, Int.reduceEq, Int.reduceNe, Int.reduceLE, Int.reduceLT, Int.reduceAdd, Int.reduceSub, Int.reduceMul, Int.reduceNeg, Nat.reduceAdd, Nat.reduceSub, Nat.reduceLeDiff, Bool.or_false, Bool.false_or, Bool.or_true, Bool.true_or, or_self, or_false, false_or, true_or, or_true, and_true, true_and, forall_const, decide_eq_true_eq, decide_eq_false_iff_not, Bool.and_eq_true, Bool.false_eq_true, Nat.lt_add_one, imp_self, implies_true, not_true_eq_false, not_false_eq_true, ne_eq, Bool.true_eq_false, Nat.zero_le, Nat.le_refl, and_self, false_implies, q_51, l_51, l_52, La2', Lr2']
    refine ⟨by omega, r_ladd Z2 Lr2 b7 (by omega) (fun h3 x' f3 x1' b1' b2' b3' b4' b5' b6' b7' => ?_)⟩
    rw [va2 _ _ (by omega)] at b2'
    rw [va2 _ _ (by omega)] at b3'
    rw [va2 (a + 1) 3 (by omega)] at b5' b6'
    have fup : t_up (fun _ => -1) (h_vl h (a + 1) 2) (h_vl h (a + 2) 2) (h_vl h (a + 1) 3) = -1 := by
      unfold t_up
      rw [if_neg (by omega)]
    have t2 := t1.add (key := h_vl h (a + 1) 3) (p := h_vl h (a + 2) 3) (by omega) (by omega) fup q3.2.2.2 x1' b1' b2' b3' b4' b5' b6'
    have Z3 : k_Z h3 := f3.1.1.2
    have Lr3 : t_L h3 r := Lr2.fr Z2 f3.1 ⟨fun z => by unfold t_lc at z; omega, fun z => by unfold t_lc at z; omega⟩
    have La3 : t_L h3 a := La2.fr Z2 f3.1 ⟨fun z => by unfold t_lc at z; omega, fun z => by unfold t_lc at z; omega⟩
    have Lr3' := Lr3.1
    have La3' := La3.1
    have va3 : ∀ b j : Int, b < r → h_vl h3 b j = h_vl h b j := fun b j hb => by rw [f3.1.2.2 b j (by have := f2.2.1; omega) (fun z => by unfold t_lc at z; omega), va2 b j hb]
    have r0 : h_vl h3 (r + 1) 0 = h_vl h (a + 1) 2 := by
      have := t2.1 0 (by omega) (by omega)
      obtain ⟨i, i1, i2, i3⟩ := t2.2.2 (h_vl h (a + 1) 2) (by omega) (by omega) (by
        unfold t_up
        rw [if_neg (by omega), if_pos rfl]
        omega)
      by_cases hi0 : i = 0
      · rw [← hi0]; exact i3
      · have := t2.2.1 0 i (by omega) (by omega) i2
        omega
    have fag : ∀ k : Int, h_vl h (a + 1) 2 ≤ k → k < hi → f k = t_up (t_up (fun _ => -1) (h_vl h (a + 1) 2) (h_vl h (a + 2) 2)) (h_vl h (a + 1) 3) (h_vl h (a + 2) 3) k := by
      intro k k1 k2
      unfold t_up
      by_cases hk3 : k = h_vl h (a + 1) 3
      · rw [if_pos hk3, hk3]; exact q3.2.2.1
      · rw [if_neg hk3]
        by_cases hk4 : k = h_vl h (a + 1) 2
        · rw [if_pos hk4, hk4]; exact q2.2.2.1
        · rw [if_neg hk4]
          by_cases hfk : f k = -1
          · exact hfk
          · exfalso
            obtain ⟨i, i1, i2, i3⟩ := ht.2.2 k (by omega) k2 hfk
            have hi' : i = 0 ∨ i = 1 ∨ i = 2 ∨ i = 3 := by omega
            rcases hi' with z | z | z | z
            · rw [z] at i3; have := ht.2.1 0 2 (by omega) (by omega) (by omega); omega
            · rw [z] at i3; have := ht.2.1 1 2 (by omega) (by omega) (by omega); omega
            · rw [z] at i3; omega
            · rw [z] at i3; omega
    have b8 : h_vl h3 r 2 = 2 := by omega
    have nera : ¬ r = a ∧ ¬ r + 1 = a ∧ ¬ r + 2 = a := by omega
    have sz3 : h_sz h3 = r + 3 := by have := f3.2.1; have := f2.2.1; omega
    have sl3 : h_sl h3 = h_sl h + 11 := by have := f3.2.2; have := f2.2.2; omega
    have fh3 : f_m (t_lc a) h (h_put h3 a 2 2) := by
      have g1 : f_m (fun _ b _ => r ≤ b) h h3 := ((f1.mono (fun _ _ _ z => z.elim)).tr (f2.1.mono (fun _ b _ z => by unfold t_lc at z; omega))).tr (f3.1.mono (fun _ b _ z => by unfold t_lc at z; omega))
      have g2 : f_m (t_lc a) h h3 := ⟨g1.1, g1.2.1, fun b j hb _ => g1.2.2 b j hb (by omega)⟩
      exact g2.put (fun _ => Or.inl ⟨hL'.1, rfl, rfl⟩)
    have tl : t_k (h_put h3 a 2 2) a lo (h_vl h (a + 1) 2) f 2 := by
      refine ⟨fun i i1 i2 => ?_, fun i j i1 i2 i3 => ?_, fun k k1 k2 k3 => ?_⟩
      · rw [hv_na (by omega), hv_na (by omega), va3 _ _ (by omega), va3 _ _ (by omega)]
        have w := ht.1 i i1 (by omega)
        exact ⟨⟨w.1.1, ht.2.1 i 2 i1 i2 (by omega)⟩, w.2⟩
      · rw [hv_na (by omega), hv_na (by omega), va3 _ _ (by omega), va3 _ _ (by omega)]
        exact ht.2.1 i j i1 i2 (by omega)
      · obtain ⟨i, i1, i2, i3⟩ := ht.2.2 k k1 (by omega) k3
        refine ⟨i, i1, ?_, by rw [hv_na (by omega), va3 _ _ (by omega)]; exact i3⟩
        by_cases hi2 : i < 2
        · exact hi2
        · exfalso
          by_cases hi3 : i = 2
          · rw [hi3] at i3; omega
          · have := ht.2.1 2 i (by omega) (by omega) i2
            omega
    have tr : t_k (h_put h3 a 2 2) r (h_vl h (a + 1) 2) hi f 2 := by
      refine t2.cg (fun k k1 k2 => fag k k1 k2) (fun j j1 j2 => ?_)
      rw [hv_na (by omega), hv_na (by omega)]
      exact ⟨rfl, rfl⟩
    have nmid : h_vl h (a + 1) 2 ≠ key := fun z => by
      have := q2.2.2.1
      rw [z, hf] at this
      omega
    have Lr4 : t_L (h_put h3 a 2 2) r := Lr3.put (by omega)
    have La4 : t_L (h_put h3 a 2 2) a := La3.put (by omega)
    have Z4 : k_Z (h_put h3 a 2 2) := Z3.put
    have r00 : ¬ r = 0 := by omega
    have m01 := ht.1 0 (by omega) (by omega)
    have m02 := ht.2.1 0 2 (by omega) (by omega) (by omega)
    simp only [e_blk_eq, g_go, g_bks, g_bkn, g_gst, g_gsf, e_cl, e_rt, n_0, n_1, n_2, n_3, n_4, n_5, n_6, n_7, n_8, n_9, n_10, n_11, n_12, n_13, n_14, n_15, n_16, n_17, n_18, n_19, n_20, n_21, n_22, n_23, n_24, n_25, n_26, n_27, n_28, n_29, n_30, n_31, n_32, n_33, n_34, n_35, n_36, n_37, n_40, n_41, n_42, n_43, n_44, n_45, n_46, n_50, n_51, n_52, n_53, n_54, n_55, f_ldi, f_lda, f_sti, f_sta, f_inc, f_bin0, f_bin1, f_bin2, f_bin3, f_bin4, f_bin5, f_bin6, f_bin7, f_i2b, f_dup, f_pop, f_dx1, f_if0, f_ic0, f_if1, f_ic1, f_if2, f_ic2, f_if3, f_ic3, f_if4, f_ic4, f_if5, f_ic5, f_ac0, f_ac1, f_nu0, f_nu1, f_sw, f_sw0, f_sw1, f_gti, f_gta, f_pti, f_pta, f_ptz, f_new, f_nwa, f_ild, f_ist, f_bld, f_bst, f_ald, f_ast, f_len, f_cst, f_oin, f_gcl, f_ord, f_mm0, f_mm1, f_cpy, f_re0, f_re1, f_rea, f_rev, f_t50, f_t51, f_t52, f_t53, f_t54, f_t55, f_st, f_sd, f_s2, f_sn, e_in, e_ent, e_inR, Nat.reduceLT, Nat.reduceEqDiff, reduceIte, Nat.reduceBEq, List.length_cons, List.length_nil, List.map_cons, List.map_nil, List.replicate, List.cons_append, List.nil_append, List.append_nil, List.getElem?_cons_zero, List.getElem?_cons_succ, List.getElem?_nil, List.set_cons_zero, List.set_cons_succ, List.take_succ_cons, List.take_zero, List.take_nil, List.drop_succ_cons, List.drop_zero, List.drop_nil, List.reverse_cons, List.reverse_nil, Option.toList_some, Option.toList_none, Int.reduceToNat, hk_pt, hl_pt, hz_pt, hs_pt, hv_same, hv_ne, hv_na, hz_nw, hs_nw, hk_newS, hl_newS, hv_newS, Int.reduceEq, Int.reduceNe, Int.reduceLE, Int.reduceLT, Int.reduceAdd, Int.reduceSub, Int.reduceMul, Int.reduceNeg, Nat.reduceAdd, Nat.reduceSub, Nat.reduceLeDiff, Bool.or_false, Bool.false_or, Bool.or_true, Bool.true_or, or_self, or_false, false_or, true_or, or_true, and_true, true_and, forall_const, decide_eq_true_eq, decide_eq_false_iff_not, Bool.and_eq_true, Bool.false_eq_true, Nat.lt_add_one, imp_self, implies_true, not_true_eq_false, not_false_eq_true, ne_eq, Bool.true_eq_false, Nat.zero_le, Nat.le_refl, and_self, false_implies, q_51, l_51, l_52, La3', Lr3', nera, r00, r0]
    refine ⟨fun hc => ⟨by omega, ?_⟩, fun hc => ⟨by omega, ?_⟩⟩
    · refine r_ladd Z4 La4 hv_same (by omega) (fun h5 x5 f5 y1 y2 y3 y4 y5 y6 y7 y8 => ?_)
      simp only [e_blk_eq, g_go, g_bks, g_bkn, g_gst, g_gsf, e_cl, e_rt, n_0, n_1, n_2, n_3, n_4, n_5, n_6, n_7, n_8, n_9, n_10, n_11, n_12, n_13, n_14, n_15, n_16, n_17, n_18, n_19, n_20, n_21, n_22, n_23, n_24, n_25, n_26, n_27, n_28, n_29, n_30, n_31, n_32, n_33, n_34, n_35, n_36, n_37, n_40, n_41, n_42, n_43, n_44, n_45, n_46, n_50, n_51, n_52, n_53, n_54, n_55, f_ldi, f_lda, f_sti, f_sta, f_inc, f_bin0, f_bin1, f_bin2, f_bin3, f_bin4, f_bin5, f_bin6, f_bin7, f_i2b, f_dup, f_pop, f_dx1, f_if0, f_ic0, f_if1, f_ic1, f_if2, f_ic2, f_if3, f_ic3, f_if4, f_ic4, f_if5, f_ic5, f_ac0, f_ac1, f_nu0, f_nu1, f_sw, f_sw0, f_sw1, f_gti, f_gta, f_pti, f_pta, f_ptz, f_new, f_nwa, f_ild, f_ist, f_bld, f_bst, f_ald, f_ast, f_len, f_cst, f_oin, f_gcl, f_ord, f_mm0, f_mm1, f_cpy, f_re0, f_re1, f_rea, f_rev, f_t50, f_t51, f_t52, f_t53, f_t54, f_t55, f_st, f_sd, f_s2, f_sn, e_in, e_ent, e_inR, Nat.reduceLT, Nat.reduceEqDiff, reduceIte, Nat.reduceBEq, List.length_cons, List.length_nil, List.map_cons, List.map_nil, List.replicate, List.cons_append, List.nil_append, List.append_nil, List.getElem?_cons_zero, List.getElem?_cons_succ, List.getElem?_nil, List.set_cons_zero, List.set_cons_succ, List.take_succ_cons, List.take_zero, List.take_nil, List.drop_succ_cons, List.drop_zero, List.drop_nil, List.reverse_cons, List.reverse_nil, Option.toList_some, Option.toList_none, Int.reduceToNat, hk_pt, hl_pt, hz_pt, hs_pt, hv_same, hv_ne, hv_na, hz_nw, hs_nw, hk_newS, hl_newS, hv_newS, Int.reduceEq, Int.reduceNe, Int.reduceLE, Int.reduceLT, Int.reduceAdd, Int.reduceSub, Int.reduceMul, Int.reduceNeg, Nat.reduceAdd, Nat.reduceSub, Nat.reduceLeDiff, Bool.or_false, Bool.false_or, Bool.or_true, Bool.true_or, or_self, or_false, false_or, true_or, or_true, and_true, true_and, forall_const, decide_eq_true_eq, decide_eq_false_iff_not, Bool.and_eq_true, Bool.false_eq_true, Nat.lt_add_one, imp_self, implies_true, not_true_eq_false, not_false_eq_true, ne_eq, Bool.true_eq_false, Nat.zero_le, Nat.le_refl, and_self, false_implies, q_51, l_51]
      have w : ∀ b j : Int, (b = r ∨ b = r + 1 ∨ b = r + 2) → h_vl h5 b j = h_vl (h_put h3 a 2 2) b j := fun b j hb => f5.1.2.2 b j (by show b < h_sz h3; omega) (fun z => by unfold t_lc at z; omega)
      refine K2 h5 (h_vl h (a + 1) 2) 3 2 (fh3.tr f5.1) (by rw [f5.2.1]; exact sz3) (by rw [f5.2.2]; exact sl3) (Lr4.fr Z4 f5.1 ⟨fun z => by unfold t_lc at z; omega, fun z => by unfold t_lc at z; omega⟩) (by omega) (by omega) y8 (by omega) (tl.add ⟨hk.1, by omega⟩ hk2 hf hp y1 y2 y3 y4 y5 y6 y7) ?_ (by omega) (tr.cg (fun k k1 k2 => ?_) (fun j j1 j2 => ⟨w _ _ (by omega), w _ _ (by omega)⟩)) ?_
      · rw [w _ _ (by omega), hv_na (by omega)]; exact b8
      · unfold t_up
        rw [if_neg (by omega)]
      · rw [w _ _ (by omega), hv_na (by omega)]; exact r0
    · refine r_ladd (n := 2) Z4 Lr4 (by rw [hv_na (by omega)]; exact b8) (by omega) (fun h5 x5 f5 y1 y2 y3 y4 y5 y6 y7 y8 => ?_)
      simp only [e_blk_eq, g_go, g_bks, g_bkn, g_gst, g_gsf, e_cl, e_rt, n_0, n_1, n_2, n_3, n_4, n_5, n_6, n_7, n_8, n_9, n_10, n_11, n_12, n_13, n_14, n_15, n_16, n_17, n_18, n_19, n_20, n_21, n_22, n_23, n_24, n_25, n_26, n_27, n_28, n_29, n_30, n_31, n_32, n_33, n_34, n_35, n_36, n_37, n_40, n_41, n_42, n_43, n_44, n_45, n_46, n_50, n_51, n_52, n_53, n_54, n_55, f_ldi, f_lda, f_sti, f_sta, f_inc, f_bin0, f_bin1, f_bin2, f_bin3, f_bin4, f_bin5, f_bin6, f_bin7, f_i2b, f_dup, f_pop, f_dx1, f_if0, f_ic0, f_if1, f_ic1, f_if2, f_ic2, f_if3, f_ic3, f_if4, f_ic4, f_if5, f_ic5, f_ac0, f_ac1, f_nu0, f_nu1, f_sw, f_sw0, f_sw1, f_gti, f_gta, f_pti, f_pta, f_ptz, f_new, f_nwa, f_ild, f_ist, f_bld, f_bst, f_ald, f_ast, f_len, f_cst, f_oin, f_gcl, f_ord, f_mm0, f_mm1, f_cpy, f_re0, f_re1, f_rea, f_rev, f_t50, f_t51, f_t52, f_t53, f_t54, f_t55, f_st, f_sd, f_s2, f_sn, e_in, e_ent, e_inR, Nat.reduceLT, Nat.reduceEqDiff, reduceIte, Nat.reduceBEq, List.length_cons, List.length_nil, List.map_cons, List.map_nil, List.replicate, List.cons_append, List.nil_append, List.append_nil, List.getElem?_cons_zero, List.getElem?_cons_succ, List.getElem?_nil, List.set_cons_zero, List.set_cons_succ, List.take_succ_cons, List.take_zero, List.take_nil, List.drop_succ_cons, List.drop_zero, List.drop_nil, List.reverse_cons, List.reverse_nil, Option.toList_some, Option.toList_none, Int.reduceToNat, hk_pt, hl_pt, hz_pt, hs_pt, hv_same, hv_ne, hv_na, hz_nw, hs_nw, hk_newS, hl_newS, hv_newS, Int.reduceEq, Int.reduceNe, Int.reduceLE, Int.reduceLT, Int.reduceAdd, Int.reduceSub, Int.reduceMul, Int.reduceNeg, Nat.reduceAdd, Nat.reduceSub, Nat.reduceLeDiff, Bool.or_false, Bool.false_or, Bool.or_true, Bool.true_or, or_self, or_false, false_or, true_or, or_true, and_true, true_and, forall_const, decide_eq_true_eq, decide_eq_false_iff_not, Bool.and_eq_true, Bool.false_eq_true, Nat.lt_add_one, imp_self, implies_true, not_true_eq_false, not_false_eq_true, ne_eq, Bool.true_eq_false, Nat.zero_le, Nat.le_refl, and_self, false_implies, q_51, l_51]
      have w : ∀ b j : Int, (b = a ∨ b = a + 1 ∨ b = a + 2) → h_vl h5 b j = h_vl (h_put h3 a 2 2) b j := fun b j hb => f5.1.2.2 b j (by show b < h_sz h3; omega) (fun z => by unfold t_lc at z; omega)
      have fh5 : f_m (t_lc a) h h5 := by
        have g1 : f_m (fun k b j => t_lc a k b j ∨ r ≤ b) h h5 := (fh3.mono (fun _ _ _ z => Or.inl z)).tr (f5.1.mono (fun _ b _ z => by unfold t_lc at z; exact Or.inr (by omega)))
        exact ⟨g1.1, g1.2.1, fun b j hb hn => g1.2.2 b j hb (fun z => by
          rcases z with z | z
          · exact hn z
          · omega)⟩
      refine K2 h5 (h_vl h (a + 1) 2) 2 3 fh5 (by rw [f5.2.1]; exact sz3) (by rw [f5.2.2]; exact sl3) (Lr4.fr Z4 f5.1 ⟨fun z => by unfold t_lc at z; omega, fun z => by unfold t_lc at z; omega⟩) (by omega) (by omega) ?_ (by omega) (tl.cg (fun k k1 k2 => ?_) (fun j j1 j2 => ⟨w _ _ (by omega), w _ _ (by omega)⟩)) y8 (by omega) (tr.add ⟨by omega, hk.2⟩ hk2 hf hp y1 y2 y3 y4 y5 y6 y7) ?_
      · rw [w _ _ (by omega), hv_same]
      · unfold t_up
        rw [if_neg (by omega)]
      · have x5p : 0 < x5 := by
          rcases Int.lt_or_le 0 x5 with z | z
          · exact z
          · exfalso
            have := y7 0 (by omega) (by omega)
            rw [hv_na (by omega), r0] at this
            omega
        rw [(y2 0 (by omega) x5p).1, hv_na (by omega)]; exact r0
