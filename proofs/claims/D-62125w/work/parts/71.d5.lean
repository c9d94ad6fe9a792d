/-! ===== the component, 12: the tree's steps: remove, add to an inner node ===== -/
def k_Y (h : E_H) : Prop := ∀ b : Int, (h_kd h b = 3 → h_kd h (b + 1) = 20 ∧ h_kd h (b + 2) = 20) ∧ (h_kd h b = 10 → h_kd h (b + 1) = 27 ∧ h_kd h (b + 2) = 20)
def t_n (lv lw : Int → Int) (m lo hi b : Int) : Prop := lv b ≤ m ∧ lo ≤ lw b ∧ lw b < hi
def t_cs (h : E_H) (lv lw : Int → Int) (m lo hi : Int) (k b j : Int) : Prop := ((k = 3 ∨ k = 10) ∧ j = 2 ∧ t_n lv lw m lo hi b) ∨ (k = 27 ∧ h_kd h (b - 1) = 10 ∧ t_n lv lw m lo hi (b - 1)) ∨ (k = 20 ∧ ((h_kd h (b - 1) = 3 ∧ t_n lv lw m lo hi (b - 1)) ∨ ((h_kd h (b - 2) = 3 ∨ h_kd h (b - 2) = 10) ∧ t_n lv lw m lo hi (b - 2))))
theorem t_cs.out {h : E_H} {lv lw : Int → Int} {m lo hi b : Int} (hY : k_Y h) (hb : h_kd h b = 3 ∨ h_kd h b = 10) (hn : ¬ t_n lv lw m lo hi b) (j : Int) : ¬ t_cs h lv lw m lo hi (h_kd h b) b j ∧ ¬ t_cs h lv lw m lo hi (h_kd h (b + 1)) (b + 1) j ∧ ¬ t_cs h lv lw m lo hi (h_kd h (b + 2)) (b + 2) j := by
  have y0 := hY b
  have y1 := hY (b - 1)
  rw [show b - 1 + 1 = b by omega] at y1
  refine ⟨?_, ?_, ?_⟩
  · rintro (z | z | z)
    · exact hn z.2.2
    · omega
    · omega
  · rintro (z | z | z)
    · omega
    · rw [show b + 1 - 1 = b by omega] at z
      exact hn z.2.2
    · rw [show b + 1 - 1 = b by omega, show b + 1 - 2 = b - 1 by omega] at z
      rcases z.2 with w | w
      · exact hn w.2
      · omega
  · rintro (z | z | z)
    · omega
    · rw [show b + 2 - 1 = b + 1 by omega] at z
      omega
    · rw [show b + 2 - 1 = b + 1 by omega, show b + 2 - 2 = b by omega] at z
      rcases z.2 with w | w
      · omega
      · exact hn w.2
theorem t_cs.mono {h : E_H} {lv lw : Int → Int} {m m' lo hi lo' hi' k b j : Int} (hz : t_cs h lv lw m lo hi k b j) (h1 : m ≤ m') (h2 : lo' ≤ lo) (h3 : hi ≤ hi') : t_cs h lv lw m' lo' hi' k b j := by
  have w : ∀ x, t_n lv lw m lo hi x → t_n lv lw m' lo' hi' x := fun x z => ⟨by have := z.1; omega, by have := z.2.1; omega, by have := z.2.2; omega⟩
  rcases hz with z | z | z
  · exact Or.inl ⟨z.1, z.2.1, w _ z.2.2⟩
  · exact Or.inr (Or.inl ⟨z.1, z.2.1, w _ z.2.2⟩)
  · refine Or.inr (Or.inr ⟨z.1, ?_⟩)
    rcases z.2 with y | y
    · exact Or.inl ⟨y.1, w _ y.2⟩
    · exact Or.inr ⟨y.1, w _ y.2⟩
theorem t_cs.lf {h : E_H} {lv lw : Int → Int} {m lo hi a k b j : Int} (ha : h_kd h a = 3) (hn : t_n lv lw m lo hi a) (hz : t_lc a k b j) : t_cs h lv lw m lo hi k b j := by
  rcases hz with z | ⟨z1, z2 | z2⟩
  · exact Or.inl ⟨Or.inl z.1, z.2.2, by rw [z.2.1]; exact hn⟩
  · exact Or.inr (Or.inr ⟨z1, Or.inl (by rw [z2, show a + 1 - 1 = a by omega]; exact ⟨ha, hn⟩)⟩)
  · exact Or.inr (Or.inr ⟨z1, Or.inr (by rw [z2, show a + 2 - 2 = a by omega]; exact ⟨Or.inl ha, hn⟩)⟩)
theorem k_Y.fs {c : Int → Int → Int → Prop} {h h' : E_H} (hY : k_Y h) (hZ : k_Z h) (f : f_s c h h') : k_Y h' := by
  intro b
  by_cases hb : b < h_sz h
  · rw [(f.1.2.1 b hb).1]
    refine ⟨fun z => ?_, fun z => ?_⟩
    · have := (hY b).1 z
      exact ⟨f.1.kd hZ this.1 (by omega), f.1.kd hZ this.2 (by omega)⟩
    · have := (hY b).2 z
      exact ⟨f.1.kd hZ this.1 (by omega), f.1.kd hZ this.2 (by omega)⟩
  · have := f.1.1.2 b (by rw [f.2.1]; omega)
    exact ⟨fun z => by omega, fun z => by omega⟩
theorem k_Y.nw {c : Int → Int → Int → Prop} {h h' : E_H} (hY : k_Y h) (hZ : k_Z h) (f : f_m c h h') (hs : h_sz h' = h_sz h + 3) (hk : (h_kd h' (h_sz h) = 3 ∧ h_kd h' (h_sz h + 1) = 20 ∧ h_kd h' (h_sz h + 2) = 20) ∨ (h_kd h' (h_sz h) = 10 ∧ h_kd h' (h_sz h + 1) = 27 ∧ h_kd h' (h_sz h + 2) = 20)) : k_Y h' := by
  intro b
  by_cases hb : b < h_sz h
  · rw [(f.2.1 b hb).1]
    refine ⟨fun z => ?_, fun z => ?_⟩
    · have := (hY b).1 z
      exact ⟨f.kd hZ this.1 (by omega), f.kd hZ this.2 (by omega)⟩
    · have := (hY b).2 z
      exact ⟨f.kd hZ this.1 (by omega), f.kd hZ this.2 (by omega)⟩
  · by_cases h0 : b = h_sz h
    · rw [h0]
      exact ⟨fun z => by omega, fun z => by omega⟩
    · by_cases h1 : b = h_sz h + 1
      · rw [h1]
        exact ⟨fun z => by omega, fun z => by omega⟩
      · by_cases h2 : b = h_sz h + 2
        · rw [h2]
          exact ⟨fun z => by omega, fun z => by omega⟩
        · have := f.1.2 b (by omega)
          exact ⟨fun z => by omega, fun z => by omega⟩
/-- the leaf without key -/
theorem t_k.rem {h h' : E_H} {a lo hi n key x : Int} {f : Int → Int} (ht : t_k h a lo hi f n) (hx : 0 ≤ x ∧ x < n) (hk : h_vl h (a + 1) x = key) (b : ∀ j : Int, 0 ≤ j → j < n - 1 → h_vl h' (a + 1) j = h_vl h (a + 1) (if j < x then j else j + 1) ∧ h_vl h' (a + 2) j = h_vl h (a + 2) (if j < x then j else j + 1)) : t_k h' a lo hi (t_up f key (-1)) (n - 1) := by
  obtain ⟨t1, t2, t3⟩ := ht
  have ne : ∀ j : Int, 0 ≤ j → j < n → j ≠ x → h_vl h (a + 1) j ≠ key := by
    intro j j1 j2 j3 z
    by_cases hj : j < x
    · have := t2 j x j1 hj hx.2; omega
    · have := t2 x j hx.1 (by omega) j2; omega
  refine ⟨fun i i1 i2 => ?_, fun i j i1 i2 i3 => ?_, fun k k1 k2 k3 => ?_⟩
  · rw [(b i i1 i2).1, (b i i1 i2).2]
    have r : 0 ≤ (if i < x then i else i + 1) ∧ (if i < x then i else i + 1) < n ∧ (if i < x then i else i + 1) ≠ x := by split <;> omega
    generalize (if i < x then i else i + 1) = y at r
    have w := t1 y r.1 r.2.1
    refine ⟨w.1, w.2.1, ?_, w.2.2.2⟩
    unfold t_up
    rw [if_neg (ne y r.1 r.2.1 r.2.2)]
    exact w.2.2.1
  · rw [(b i i1 (by omega)).1, (b j (by omega) i3).1]
    apply t2
    · split <;> omega
    · split <;> split <;> omega
    · split <;> omega
  · unfold t_up at k3
    by_cases hkk : k = key
    · rw [if_pos hkk] at k3; exact absurd rfl k3
    · rw [if_neg hkk] at k3
      obtain ⟨i, i1, i2, i3⟩ := t3 k k1 k2 k3
      have hix : i ≠ x := fun z => by rw [z] at i3; omega
      by_cases hi : i < x
      · exact ⟨i, i1, by omega, by rw [(b i i1 (by omega)).1, if_pos hi]; exact i3⟩
      · exact ⟨i - 1, by omega, by omega, by rw [(b (i - 1) (by omega) (by omega)).1, if_neg (by omega), show i - 1 + 1 = i by omega]; exact i3⟩
set_option maxRecDepth 100000 in
set_option maxHeartbeats 4000000 in
theorem r_trem {lv lw f : Int → Int} {key : Int} {h : E_H} (hZ : k_Z h) (hY : k_Y h) : ∀ (m d : Nat) (a lo hi : Int) (Q : Option E_V → E_H → Prop), m + 1 ≤ d → t_f h lv lw f m a lo hi → lo ≤ key → key < hi → (∀ h', f_s (t_cs h lv lw m lo hi) h h' → t_f h' lv lw (t_up f key (-1)) m a lo hi → Q none h') → e_wpm d (t_m m 58 57) [.inr a, .inl key] h Q := by
  intro m
  induction m with
  | zero =>
    intro d a lo hi Q hd ht k1 k2 hQ
    obtain ⟨t1, t2, t3, t4, t5⟩ := ht
    have hn : t_n lv lw 0 lo hi a := ⟨by omega, by omega, by omega⟩
    refine r_lremove hZ t1 rfl t4 t5.2.1 (fun h' f1 b1 b2 b3 => ?_) (fun h' x f1 b1 b2 b3 b4 => ?_)
    · refine hQ h' (f1.mono (fun k b j z => t_cs.lf t1.1.1 hn z)) ⟨t1.fr hZ f1.1 ⟨fun z => by unfold t_lc at z; omega, fun z => by unfold t_lc at z; omega⟩, t2, t3, by rw [b3]; exact t4, ?_⟩
      rw [b3]
      refine t5.cg (fun k k1 k2 => ?_) b2
      unfold t_up
      by_cases hkk : k = key
      · rw [if_pos hkk]
        by_cases hfk : f k = -1
        · exact hfk.symm
        · obtain ⟨i, i1, i2, i3⟩ := t5.2.2 k k1 k2 hfk
          exact absurd (i3.trans hkk) (b1 i i1 i2)
      · rw [if_neg hkk]
    · refine hQ h' (f1.mono (fun k b j z => t_cs.lf t1.1.1 hn z)) ⟨t1.fr hZ f1.1 ⟨fun z => by unfold t_lc at z; omega, fun z => by unfold t_lc at z; omega⟩, t2, t3, by rw [b4]; omega, ?_⟩
      rw [b4]
      exact t5.rem b1 b2 b3
  | succ m ih =>
    intro d a lo hi Q hd ht k1 k2 hQ
    obtain ⟨t1, t2, t3, t4, t5, t6, t7⟩ := ht
    have hL' := t1.1
    have al : a < h_sz h := hZ.lt (by omega)
    show e_wpm d 57 _ h Q
    refine e_wpm_blk 100 [] ?_
    simp only [e_blk_eq, g_go, g_bks, g_bkn, g_gst, g_gsf, e_cl, e_rt, n_0, n_1, n_2, n_3, n_4, n_5, n_6, n_7, n_8, n_9, n_10, n_11, n_12, n_13, n_14, n_15, n_16, n_17, n_18, n_19, n_20, n_21, n_22, n_23, n_24, n_25, n_26, n_27, n_28, n_29, n_30, n_31, n_32, n_33, n_34, n_35, n_36, n_37, n_40, n_41, n_42, n_43, n_44, n_45, n_46, n_50, n_51, n_52, n_53, n_54, n_55, f_ldi, f_lda, f_sti, f_sta, f_inc, f_bin0, f_bin1, f_bin2, f_bin3, f_bin4, f_bin5, f_bin6, f_bin7, f_i2b, f_dup, f_pop, f_dx1, f_if0, f_ic0, f_if1, f_ic1, f_if2, f_ic2, f_if3, f_ic3, f_if4, f_ic4, f_if5, f_ic5, f_ac0, f_ac1, f_nu0, f_nu1, f_sw, f_sw0, f_sw1, f_gti, f_gta, f_pti, f_pta, f_ptz, f_new, f_nwa, f_ild, f_ist, f_bld, f_bst, f_ald, f_ast, f_len, f_cst, f_oin, f_gcl, f_ord, f_mm0, f_mm1, f_cpy, f_re0, f_re1, f_rea, f_rev, f_t50, f_t51, f_t52, f_t53, f_t54, f_t55, f_st, f_sd, f_s2, f_sn, e_in, e_ent, e_inR, Nat.reduceLT, Nat.reduceEqDiff, reduceIte, Nat.reduceBEq, List.length_cons, List.length_nil, List.map_cons, List.map_nil, List.replicate, List.cons_append, List.nil_append, List.append_nil, List.getElem?_cons_zero, List.getElem?_cons_succ, List.getElem?_nil, List.set_cons_zero, List.set_cons_succ, List.take_succ_cons, List.take_zero, List.take_nil, List.drop_succ_cons, List.drop_zero, List.drop_nil, List.reverse_cons, List.reverse_nil, Option.toList_some, Option.toList_none, Int.reduceToNat, hk_pt, hl_pt, hz_pt, hs_pt, hv_same, hv_ne, hv_na, hz_nw, hs_nw, hk_newS, hl_newS, hv_newS, Int.reduceEq, Int.reduceNe, Int.reduceLE, Int.reduceLT, Int.reduceAdd, Int.reduceSub, Int.reduceMul, Int.reduceNeg, Nat.reduceAdd, Nat.reduceSub, Nat.reduceLeDiff, Bool.or_false, Bool.false_or, Bool.or_true, Bool.true_or, or_self, or_false, false_or, true_or, or_true, and_true, true_and, forall_const, decide_eq_true_eq, decide_eq_false_iff_not, Bool.and_eq_true, Bool.false_eq_true, Nat.lt_add_one, imp_self, implies_true, not_true_eq_false, not_false_eq_true, ne_eq, Bool.true_eq_false, Nat.zero_le, Nat.le_refl, and_self, false_implies, q_57, l_57, l_34, hL']
    refine ⟨by omega, r_child t1 (by omega) (fun i i1 i2 i3 i4 => ?_)⟩
    have pk := t_pick (lo := lo) (hi := hi) ⟨k1, k2⟩ i3 i4 ⟨i1, i2⟩
    have ti := t7 i i1 i2
    have kd := ti.kd
    have wi := t_in2 (by omega) t6 i i1 i2
    have fin : ∀ h', f_s (t_cs h lv lw m (t_lo h a lo i) (t_hi h a hi (h_vl h a 2) i)) h h' → t_f h' lv lw (t_up f key (-1)) m (h_vl h (a + 1) i) (t_lo h a lo i) (t_hi h a hi (h_vl h a 2) i) → Q none h' := by
      intro h' f1 ti'
      have oa : ¬ t_n lv lw m (t_lo h a lo i) (t_hi h a hi (h_vl h a 2) i) a := fun z => by have := z.1; omega
      have cc := t_cs.out hY (Or.inr hL'.1) oa
      have e : ∀ j, h_vl h' a j = h_vl h a j := fun j => f1.1.2.2 a j al (cc j).1
      have e1 : ∀ j, h_vl h' (a + 1) j = h_vl h (a + 1) j := fun j => f1.1.2.2 _ j (hZ.lt (by omega)) (cc j).2.1
      have e2 : ∀ j, h_vl h' (a + 2) j = h_vl h (a + 2) j := fun j => f1.1.2.2 _ j (hZ.lt (by omega)) (cc j).2.2
      have elo : ∀ i, t_lo h' a lo i = t_lo h a lo i := fun i => by unfold t_lo; rw [e2]
      have ehi : ∀ n i, t_hi h' a hi n i = t_hi h a hi n i := fun n i => by unfold t_hi; rw [e2]
      refine hQ h' (f1.mono (fun k b j z => t_cs.mono z (by omega) wi.1 wi.2)) ?_
      rw [t_f, e 2]
      refine ⟨t1.fr hZ f1.1 ⟨?_, ?_⟩, t2, t3, t4, fun j j1 j2 => by rw [e2]; exact t5 j j1 j2, fun j j1 j2 => by rw [elo, ehi]; exact t6 j j1 j2, fun j j1 j2 => ?_⟩
      · have := (cc 0).1; rw [hL'.1] at this; exact this
      · have := (cc 1).1; rw [hL'.1] at this; exact this
      · rw [elo, ehi, e1]
        by_cases hj : j = i
        · rw [hj]; exact ti'
        · have dis : t_hi h a hi (h_vl h a 2) j ≤ t_lo h a lo i ∨ t_hi h a hi (h_vl h a 2) i ≤ t_lo h a lo j := by
            by_cases hji : j < i
            · exact Or.inl (t_in t6 j i j1 hji i2)
            · exact Or.inr (t_in t6 i j i1 (by omega) j2)
          refine t_f.fr hZ f1.1 (fun b _ => ⟨rfl, rfl⟩) (t7 j j1 j2) (fun k k1 k2 => ?_) (fun b b1 b2 b3 b4 j' => t_cs.out hY b1 (fun z => ?_) j')
          · unfold t_up
            rw [if_neg (by omega)]
          · have := z.2; omega
    cases m with
    | zero =>
      have k3 := kd.1 rfl
      simp only [e_blk_eq, g_go, g_bks, g_bkn, g_gst, g_gsf, e_cl, e_rt, n_0, n_1, n_2, n_3, n_4, n_5, n_6, n_7, n_8, n_9, n_10, n_11, n_12, n_13, n_14, n_15, n_16, n_17, n_18, n_19, n_20, n_21, n_22, n_23, n_24, n_25, n_26, n_27, n_28, n_29, n_30, n_31, n_32, n_33, n_34, n_35, n_36, n_37, n_40, n_41, n_42, n_43, n_44, n_45, n_46, n_50, n_51, n_52, n_53, n_54, n_55, f_ldi, f_lda, f_sti, f_sta, f_inc, f_bin0, f_bin1, f_bin2, f_bin3, f_bin4, f_bin5, f_bin6, f_bin7, f_i2b, f_dup, f_pop, f_dx1, f_if0, f_ic0, f_if1, f_ic1, f_if2, f_ic2, f_if3, f_ic3, f_if4, f_ic4, f_if5, f_ic5, f_ac0, f_ac1, f_nu0, f_nu1, f_sw, f_sw0, f_sw1, f_gti, f_gta, f_pti, f_pta, f_ptz, f_new, f_nwa, f_ild, f_ist, f_bld, f_bst, f_ald, f_ast, f_len, f_cst, f_oin, f_gcl, f_ord, f_mm0, f_mm1, f_cpy, f_re0, f_re1, f_rea, f_rev, f_t50, f_t51, f_t52, f_t53, f_t54, f_t55, f_st, f_sd, f_s2, f_sn, e_in, e_ent, e_inR, Nat.reduceLT, Nat.reduceEqDiff, reduceIte, Nat.reduceBEq, List.length_cons, List.length_nil, List.map_cons, List.map_nil, List.replicate, List.cons_append, List.nil_append, List.append_nil, List.getElem?_cons_zero, List.getElem?_cons_succ, List.getElem?_nil, List.set_cons_zero, List.set_cons_succ, List.take_succ_cons, List.take_zero, List.take_nil, List.drop_succ_cons, List.drop_zero, List.drop_nil, List.reverse_cons, List.reverse_nil, Option.toList_some, Option.toList_none, Int.reduceToNat, hk_pt, hl_pt, hz_pt, hs_pt, hv_same, hv_ne, hv_na, hz_nw, hs_nw, hk_newS, hl_newS, hv_newS, Int.reduceEq, Int.reduceNe, Int.reduceLE, Int.reduceLT, Int.reduceAdd, Int.reduceSub, Int.reduceMul, Int.reduceNeg, Nat.reduceAdd, Nat.reduceSub, Nat.reduceLeDiff, Bool.or_false, Bool.false_or, Bool.or_true, Bool.true_or, or_self, or_false, false_or, true_or, or_true, and_true, true_and, forall_const, decide_eq_true_eq, decide_eq_false_iff_not, Bool.and_eq_true, Bool.false_eq_true, Nat.lt_add_one, imp_self, implies_true, not_true_eq_false, not_false_eq_true, ne_eq, Bool.true_eq_false, Nat.zero_le, Nat.le_refl, and_self, false_implies, q_57, l_57, hL', k3, l_58]
      refine ⟨by omega, by omega, ih (d - 1) _ _ _ _ (by omega) ti pk.1 pk.2 (fun h' f1 ti' => ?_)⟩
      simp only [e_blk_eq, g_go, g_bks, g_bkn, g_gst, g_gsf, e_cl, e_rt, n_0, n_1, n_2, n_3, n_4, n_5, n_6, n_7, n_8, n_9, n_10, n_11, n_12, n_13, n_14, n_15, n_16, n_17, n_18, n_19, n_20, n_21, n_22, n_23, n_24, n_25, n_26, n_27, n_28, n_29, n_30, n_31, n_32, n_33, n_34, n_35, n_36, n_37, n_40, n_41, n_42, n_43, n_44, n_45, n_46, n_50, n_51, n_52, n_53, n_54, n_55, f_ldi, f_lda, f_sti, f_sta, f_inc, f_bin0, f_bin1, f_bin2, f_bin3, f_bin4, f_bin5, f_bin6, f_bin7, f_i2b, f_dup, f_pop, f_dx1, f_if0, f_ic0, f_if1, f_ic1, f_if2, f_ic2, f_if3, f_ic3, f_if4, f_ic4, f_if5, f_ic5, f_ac0, f_ac1, f_nu0, f_nu1, f_sw, f_sw0, f_sw1, f_gti, f_gta, f_pti, f_pta, f_ptz, f_new, f_nwa, f_ild, f_ist, f_bld, f_bst, f_ald, f_ast, f_len, f_cst, f_oin, f_gcl, f_ord, f_mm0, f_mm1, f_cpy, f_re0, f_re1, f_rea, f_rev, f_t50, f_t51, f_t52, f_t53, f_t54, f_t55, f_st, f_sd, f_s2, f_sn, e_in, e_ent, e_inR, Nat.reduceLT, Nat.reduceEqDiff, reduceIte, Nat.reduceBEq, List.length_cons, List.length_nil, List.map_cons, List.map_nil, List.replicate, List.cons_append, List.nil_append, List.append_nil, List.getElem?_cons_zero, List.getElem?_cons_succ, List.getElem?_nil, List.set_cons_zero, List.set_cons_succ, List.take_succ_cons, List.take_zero, List.take_nil, List.drop_succ_cons, List.drop_zero, List.drop_nil, List.reverse_cons, List.reverse_nil, Option.toList_some, Option.toList_none, Int.reduceToNat, hk_pt, hl_pt, hz_pt, hs_pt, hv_same, hv_ne, hv_na, hz_nw, hs_nw, hk_newS, hl_newS, hv_newS, Int.reduceEq, Int.reduceNe, Int.reduceLE, Int.reduceLT, Int.reduceAdd, Int.reduceSub, Int.reduceMul, Int.reduceNeg, Nat.reduceAdd, Nat.reduceSub, Nat.reduceLeDiff, Bool.or_false, Bool.false_or, Bool.or_true, Bool.true_or, or_self, or_false, false_or, true_or, or_true, and_true, true_and, forall_const, decide_eq_true_eq, decide_eq_false_iff_not, Bool.and_eq_true, Bool.false_eq_true, Nat.lt_add_one, imp_self, implies_true, not_true_eq_false, not_false_eq_true, ne_eq, Bool.true_eq_false, Nat.zero_le, Nat.le_refl, and_self, false_implies, q_57, l_57]
      exact fin h' f1 ti'
    | succ m =>
      have k3 := kd.2.1 (by omega)
      simp only [e_blk_eq, g_go, g_bks, g_bkn, g_gst, g_gsf, e_cl, e_rt, n_0, n_1, n_2, n_3, n_4, n_5, n_6, n_7, n_8, n_9, n_10, n_11, n_12, n_13, n_14, n_15, n_16, n_17, n_18, n_19, n_20, n_21, n_22, n_23, n_24, n_25, n_26, n_27, n_28, n_29, n_30, n_31, n_32, n_33, n_34, n_35, n_36, n_37, n_40, n_41, n_42, n_43, n_44, n_45, n_46, n_50, n_51, n_52, n_53, n_54, n_55, f_ldi, f_lda, f_sti, f_sta, f_inc, f_bin0, f_bin1, f_bin2, f_bin3, f_bin4, f_bin5, f_bin6, f_bin7, f_i2b, f_dup, f_pop, f_dx1, f_if0, f_ic0, f_if1, f_ic1, f_if2, f_ic2, f_if3, f_ic3, f_if4, f_ic4, f_if5, f_ic5, f_ac0, f_ac1, f_nu0, f_nu1, f_sw, f_sw0, f_sw1, f_gti, f_gta, f_pti, f_pta, f_ptz, f_new, f_nwa, f_ild, f_ist, f_bld, f_bst, f_ald, f_ast, f_len, f_cst, f_oin, f_gcl, f_ord, f_mm0, f_mm1, f_cpy, f_re0, f_re1, f_rea, f_rev, f_t50, f_t51, f_t52, f_t53, f_t54, f_t55, f_st, f_sd, f_s2, f_sn, e_in, e_ent, e_inR, Nat.reduceLT, Nat.reduceEqDiff, reduceIte, Nat.reduceBEq, List.length_cons, List.length_nil, List.map_cons, List.map_nil, List.replicate, List.cons_append, List.nil_append, List.append_nil, List.getElem?_cons_zero, List.getElem?_cons_succ, List.getElem?_nil, List.set_cons_zero, List.set_cons_succ, List.take_succ_cons, List.take_zero, List.take_nil, List.drop_succ_cons, List.drop_zero, List.drop_nil, List.reverse_cons, List.reverse_nil, Option.toList_some, Option.toList_none, Int.reduceToNat, hk_pt, hl_pt, hz_pt, hs_pt, hv_same, hv_ne, hv_na, hz_nw, hs_nw, hk_newS, hl_newS, hv_newS, Int.reduceEq, Int.reduceNe, Int.reduceLE, Int.reduceLT, Int.reduceAdd, Int.reduceSub, Int.reduceMul, Int.reduceNeg, Nat.reduceAdd, Nat.reduceSub, Nat.reduceLeDiff, Bool.or_false, Bool.false_or, Bool.or_true, Bool.true_or, or_self, or_false, false_or, true_or, or_true, and_true, true_and, forall_const, decide_eq_true_eq, decide_eq_false_iff_not, Bool.and_eq_true, Bool.false_eq_true, Nat.lt_add_one, imp_self, implies_true, not_true_eq_false, not_false_eq_true, ne_eq, Bool.true_eq_false, Nat.zero_le, Nat.le_refl, and_self, false_implies, q_57, l_57, hL', k3, l_57]
      refine ⟨by omega, by omega, ih (d - 1) _ _ _ _ (by omega) ti pk.1 pk.2 (fun h' f1 ti' => ?_)⟩
      simp only [e_blk_eq, g_go, g_bks, g_bkn, g_gst, g_gsf, e_cl, e_rt, n_0, n_1, n_2, n_3, n_4, n_5, n_6, n_7, n_8, n_9, n_10, n_11, n_12, n_13, n_14, n_15, n_16, n_17, n_18, n_19, n_20, n_21, n_22, n_23, n_24, n_25, n_26, n_27, n_28, n_29, n_30, n_31, n_32, n_33, n_34, n_35, n_36, n_37, n_40, n_41, n_42, n_43, n_44, n_45, n_46, n_50, n_51, n_52, n_53, n_54, n_55, f_ldi, f_lda, f_sti, f_sta, f_inc, f_bin0, f_bin1, f_bin2, f_bin3, f_bin4, f_bin5, f_bin6, f_bin7, f_i2b, f_dup, f_pop, f_dx1, f_if0, f_ic0, f_if1, f_ic1, f_if2, f_ic2, f_if3, f_ic3, f_if4, f_ic4, f_if5, f_ic5, f_ac0, f_ac1, f_nu0, f_nu1, f_sw, f_sw0, f_sw1, f_gti, f_gta, f_pti, f_pta, f_ptz, f_new, f_nwa, f_ild, f_ist, f_bld, f_bst, f_ald, f_ast, f_len, f_cst, f_oin, f_gcl, f_ord, f_mm0, f_mm1, f_cpy, f_re0, f_re1, f_rea, f_rev, f_t50, f_t51, f_t52, f_t53, f_t54, f_t55, f_st, f_sd, f_s2, f_sn, e_in, e_ent, e_inR, Nat.reduceLT, Nat.reduceEqDiff, reduceIte, Nat.reduceBEq, List.length_cons, List.length_nil, List.map_cons, List.map_nil, List.replicate, List.cons_append, List.nil_append, List.append_nil, List.getElem?_cons_zero, List.getElem?_cons_succ, List.getElem?_nil, List.set_cons_zero, List.set_cons_succ, List.take_succ_cons, List.take_zero, List.take_nil, List.drop_succ_cons, List.drop_zero, List.drop_nil, List.reverse_cons, List.reverse_nil, Option.toList_some, Option.toList_none, Int.reduceToNat, hk_pt, hl_pt, hz_pt, hs_pt, hv_same, hv_ne, hv_na, hz_nw, hs_nw, hk_newS, hl_newS, hv_newS, Int.reduceEq, Int.reduceNe, Int.reduceLE, Int.reduceLT, Int.reduceAdd, Int.reduceSub, Int.reduceMul, Int.reduceNeg, Nat.reduceAdd, Nat.reduceSub, Nat.reduceLeDiff, Bool.or_false, Bool.false_or, Bool.or_true, Bool.true_or, or_self, or_false, false_or, true_or, or_true, and_true, true_and, forall_const, decide_eq_true_eq, decide_eq_false_iff_not, Bool.and_eq_true, Bool.false_eq_true, Nat.lt_add_one, imp_self, implies_true, not_true_eq_false, not_false_eq_true, ne_eq, Bool.true_eq_false, Nat.zero_le, Nat.le_refl, and_self, false_implies, q_57, l_57]
      exact fin h' f1 ti'
/-- what adding to an inner node changes -/
def t_ic (a k b j : Int) : Prop := (k = 10 ∧ b = a ∧ j = 2) ∨ (k = 27 ∧ b = a + 1) ∨ (k = 20 ∧ b = a + 2)
set_option maxRecDepth 100000 in
set_option maxHeartbeats 4000000 in
theorem c_ia_s {d : Nat} {a x kid low k : Int} {h : E_H} {Q : Option E_V → E_H → Prop} (hL : t_N h a) (hk : 0 ≤ x ∧ x ≤ k ∧ k < 5) (hn : 0 ≤ h_vl h a 2 ∧ h_vl h a 2 ≤ 5) (hkid : h_kd h kid = 3 ∨ h_kd h kid = 10) (ho : x < k → h_kd h (h_vl h (a + 1) (k - 1)) = 3 ∨ h_kd h (h_vl h (a + 1) (k - 1)) = 10) (K1 : k = x → Q none (h_put (h_put (h_put h (a + 1) x kid) (a + 2) x low) a 2 (h_vl h a 2 + 1))) (K2 : x < k → e_wpc d 55 6 [some (.inr a), some (.inl x), some (.inr kid), some (.inl low), some (.inl (k - 1))] [] (t_sh h a k) Q) : e_wpc d 55 6 [some (.inr a), some (.inl x), some (.inr kid), some (.inl low), some (.inl k)] [] h Q := by
  have hL' := hL.1
  have h16 := hL.2
  have ne := @t_ne a
  have st : ∀ y, (h_kd h y = 3 ∨ h_kd h y = 10) → e_stok 27 (h_kd h y) = true := fun y hy => by
    rcases hy with z | z <;> (rw [z]; rfl)
  refine e_wpc_blk 100 [6] ?_
  simp only [e_blk_eq, g_go, g_bks, g_bkn, g_gst, g_gsf, e_cl, e_rt, n_0, n_1, n_2, n_3, n_4, n_5, n_6, n_7, n_8, n_9, n_10, n_11, n_12, n_13, n_14, n_15, n_16, n_17, n_18, n_19, n_20, n_21, n_22, n_23, n_24, n_25, n_26, n_27, n_28, n_29, n_30, n_31, n_32, n_33, n_34, n_35, n_36, n_37, n_40, n_41, n_42, n_43, n_44, n_45, n_46, n_50, n_51, n_52, n_53, n_54, n_55, f_ldi, f_lda, f_sti, f_sta, f_inc, f_bin0, f_bin1, f_bin2, f_bin3, f_bin4, f_bin5, f_bin6, f_bin7, f_i2b, f_dup, f_pop, f_dx1, f_if0, f_ic0, f_if1, f_ic1, f_if2, f_ic2, f_if3, f_ic3, f_if4, f_ic4, f_if5, f_ic5, f_ac0, f_ac1, f_nu0, f_nu1, f_sw, f_sw0, f_sw1, f_gti, f_gta, f_pti, f_pta, f_ptz, f_new, f_nwa, f_ild, f_ist, f_bld, f_bst, f_ald, f_ast, f_len, f_cst, f_oin, f_gcl, f_ord, f_mm0, f_mm1, f_cpy, f_re0, f_re1, f_rea, f_rev, f_t50, f_t51, f_t52, f_t53, f_t54, f_t55, f_st, f_sd, f_s2, f_sn, e_in, e_ent, e_inR, Nat.reduceLT, Nat.reduceEqDiff, reduceIte, Nat.reduceBEq, List.length_cons, List.length_nil, List.map_cons, List.map_nil, List.replicate, List.cons_append, List.nil_append, List.append_nil, List.getElem?_cons_zero, List.getElem?_cons_succ, List.getElem?_nil, List.set_cons_zero, List.set_cons_succ, List.take_succ_cons, List.take_zero, List.take_nil, List.drop_succ_cons, List.drop_zero, List.drop_nil, List.reverse_cons, List.reverse_nil, Option.toList_some, Option.toList_none, Int.reduceToNat, hk_pt, hl_pt, hz_pt, hs_pt, hv_same, hv_ne, hv_na, hz_nw, hs_nw, hk_newS, hl_newS, hv_newS, Int.reduceEq, Int.reduceNe, Int.reduceLE, Int.reduceLT, Int.reduceAdd, Int.reduceSub, Int.reduceMul, Int.reduceNeg, Nat.reduceAdd, Nat.reduceSub, Nat.reduceLeDiff, Bool.or_false, Bool.false_or, Bool.or_true, Bool.true_or, or_self, or_false, false_or, true_or, or_true, and_true, true_and, forall_const, decide_eq_true_eq, decide_eq_false_iff_not, Bool.and_eq_true, Bool.false_eq_true, Nat.lt_add_one, imp_self, implies_true, not_true_eq_false, not_false_eq_true, ne_eq, Bool.true_eq_false, Nat.zero_le, Nat.le_refl, and_self, false_implies, q_55, l_55, hL', ne]
  refine ⟨fun h1 => ⟨⟨by omega, by omega, Or.inr (st _ hkid)⟩, by omega, by omega, K1 (by omega)⟩, fun h1 => ⟨by omega, by omega, ⟨by omega, by omega, Or.inr (st _ (ho (by omega)))⟩, by omega, by omega, by omega, by omega, K2 (by omega)⟩⟩
set_option maxRecDepth 100000 in
set_option maxHeartbeats 4000000 in
theorem r_iadd {d : Nat} {a x kid low n : Int} {h : E_H} {Q : Option E_V → E_H → Prop} (hZ : k_Z h) (hL : t_N h a) (h2 : h_vl h a 2 = n) (hn : 0 ≤ n ∧ n ≤ 4) (hx : 0 ≤ x ∧ x ≤ n) (hkid : h_kd h kid = 3 ∨ h_kd h kid = 10) (ho : ∀ i : Int, 0 ≤ i → i < n → h_kd h (h_vl h (a + 1) i) = 3 ∨ h_kd h (h_vl h (a + 1) i) = 10)
    (K : ∀ h', f_s (t_ic a) h h' → (∀ j : Int, 0 ≤ j → j < x → h_vl h' (a + 1) j = h_vl h (a + 1) j ∧ h_vl h' (a + 2) j = h_vl h (a + 2) j) → h_vl h' (a + 1) x = kid → h_vl h' (a + 2) x = low → (∀ j : Int, x ≤ j → j < n → h_vl h' (a + 1) (j + 1) = h_vl h (a + 1) j ∧ h_vl h' (a + 2) (j + 1) = h_vl h (a + 2) j) → h_vl h' a 2 = n + 1 → Q none h') : e_wpm d 55 [.inr a, .inl x, .inr kid, .inl low] h Q := by
  have hL' := hL.1
  have ne := @t_ne a
  have loop : ∀ (m : Nat) (k : Int) (h1 : E_H), k = x + m → k ≤ n → t_N h1 a → f_s (t_ic a) h h1 → (∀ j : Int, 0 ≤ j → j < k → h_vl h1 (a + 1) j = h_vl h (a + 1) j ∧ h_vl h1 (a + 2) j = h_vl h (a + 2) j) → (∀ j : Int, k ≤ j → j < n → h_vl h1 (a + 1) (j + 1) = h_vl h (a + 1) j ∧ h_vl h1 (a + 2) (j + 1) = h_vl h (a + 2) j) → h_vl h1 a 2 = n → e_wpc d 55 6 [some (.inr a), some (.inl x), some (.inr kid), some (.inl low), some (.inl k)] [] h1 Q := by
    intro m
    induction m with
    | zero =>
      intro k h1 hk hkn L1 f1 b1 b2 b4
      refine c_ia_s L1 (by omega) (by omega) (by rw [(f1.1.2.1 kid (hZ.lt (by omega))).1]; exact hkid) (fun z => by omega) (fun _ => ?_) (fun z => absurd z (by omega))
      refine K _ (((f1.put (fun _ => Or.inr (Or.inl ⟨hL'.2.2.2.1, rfl⟩))).put (fun _ => Or.inr (Or.inr ⟨hL'.2.2.2.2.2.1, rfl⟩))).put (fun _ => Or.inl ⟨hL'.1, rfl, rfl⟩)) (fun j j1 j2 => ?_) ?_ ?_ (fun j j1 j2 => ?_) ?_
      · rw [hv_na (by omega), hv_na (by omega), hv_ne (by omega), hv_na (by omega), hv_ne (by omega), hv_na (by omega)]; exact b1 j j1 (by omega)
      · rw [hv_na (by omega), hv_na (by omega), hv_same]
      · rw [hv_na (by omega), hv_same]
      · rw [hv_na (by omega), hv_na (by omega), hv_ne (by omega), hv_na (by omega), hv_ne (by omega), hv_na (by omega)]; exact b2 j (by omega) j2
      · rw [hv_same, b4]
    | succ m ih =>
      intro k h1 hk hkn L1 f1 b1 b2 b4
      refine c_ia_s L1 (by omega) (by omega) (by rw [(f1.1.2.1 kid (hZ.lt (by omega))).1]; exact hkid) (fun z => ?_) (fun z => by omega) (fun z => ?_)
      · rw [(b1 (k - 1) (by omega) (by omega)).1]
        have w := ho (k - 1) (by omega) (by omega)
        rw [(f1.1.2.1 _ (hZ.lt (by omega))).1]
        exact w
      · unfold t_sh
        refine ih (k - 1) _ (by omega) (by omega) ((L1.put (by omega)).put (by omega)) ((f1.put (fun _ => Or.inr (Or.inl ⟨hL'.2.2.2.1, rfl⟩))).put (fun _ => Or.inr (Or.inr ⟨hL'.2.2.2.2.2.1, rfl⟩))) (fun j j1 j2 => ?_) (fun j j1 j2 => ?_) ?_
        · rw [hv_na (by omega), hv_ne (by omega), hv_ne (by omega), hv_na (by omega)]; exact b1 j j1 (by omega)
        · by_cases hj : j = k - 1
          · rw [show j + 1 = k by omega, hv_na (by omega), hv_same, hv_same, hj]
            exact b1 (k - 1) (by omega) (by omega)
          · rw [hv_na (by omega), hv_ne (by omega), hv_ne (by omega), hv_na (by omega)]; exact b2 j (by omega) j2
        · rw [hv_na (by omega), hv_na (by omega)]; exact b4
  refine e_wpm_blk 100 [6] ?_
  simp only [e_blk_eq, g_go, g_bks, g_bkn, g_gst, g_gsf, e_cl, e_rt, n_0, n_1, n_2, n_3, n_4, n_5, n_6, n_7, n_8, n_9, n_10, n_11, n_12, n_13, n_14, n_15, n_16, n_17, n_18, n_19, n_20, n_21, n_22, n_23, n_24, n_25, n_26, n_27, n_28, n_29, n_30, n_31, n_32, n_33, n_34, n_35, n_36, n_37, n_40, n_41, n_42, n_43, n_44, n_45, n_46, n_50, n_51, n_52, n_53, n_54, n_55, f_ldi, f_lda, f_sti, f_sta, f_inc, f_bin0, f_bin1, f_bin2, f_bin3, f_bin4, f_bin5, f_bin6, f_bin7, f_i2b, f_dup, f_pop, f_dx1, f_if0, f_ic0, f_if1, f_ic1, f_if2, f_ic2, f_if3, f_ic3, f_if4, f_ic4, f_if5, f_ic5, f_ac0, f_ac1, f_nu0, f_nu1, f_sw, f_sw0, f_sw1, f_gti, f_gta, f_pti, f_pta, f_ptz, f_new, f_nwa, f_ild, f_ist, f_bld, f_bst, f_ald, f_ast, f_len, f_cst, f_oin, f_gcl, f_ord, f_mm0, f_mm1, f_cpy, f_re0, f_re1, f_rea, f_rev, f_t50, f_t51, f_t52, f_t53, f_t54, f_t55, f_st, f_sd, f_s2, f_sn, e_in, e_ent, e_inR, Nat.reduceLT, Nat.reduceEqDiff, reduceIte, Nat.reduceBEq, List.length_cons, List.length_nil, List.map_cons, List.map_nil, List.replicate, List.cons_append, List.nil_append, List.append_nil, List.getElem?_cons_zero, List.getElem?_cons_succ, List.getElem?_nil, List.set_cons_zero, List.set_cons_succ, List.take_succ_cons, List.take_zero, List.take_nil, List.drop_succ_cons, List.drop_zero, List.drop_nil, List.reverse_cons, List.reverse_nil, Option.toList_some, Option.toList_none, Int.reduceToNat, hk_pt, hl_pt, hz_pt, hs_pt, hv_same, hv_ne, hv_na, hz_nw, hs_nw, hk_newS, hl_newS, hv_newS, Int.reduceEq, Int.reduceNe, Int.reduceLE, Int.reduceLT, Int.reduceAdd, Int.reduceSub, Int.reduceMul, Int.reduceNeg, Nat.reduceAdd, Nat.reduceSub, Nat.reduceLeDiff, Bool.or_false, Bool.false_or, Bool.or_true, Bool.true_or, or_self, or_false, false_or, true_or, or_true, and_true, true_and, forall_const, decide_eq_true_eq, decide_eq_false_iff_not, Bool.and_eq_true, Bool.false_eq_true, Nat.lt_add_one, imp_self, implies_true, not_true_eq_false, not_false_eq_true, ne_eq, Bool.true_eq_false, Nat.zero_le, Nat.le_refl, and_self, false_implies, q_55, l_55, hL', h2]
  exact loop (n - x).toNat n h (by omega) (by omega) hL (f_s.rf hZ) (fun j j1 j2 => ⟨rfl, rfl⟩) (fun j j1 j2 => by omega) h2
set_option maxRecDepth 100000 in
set_option maxHeartbeats 4000000 in
theorem r_iinit {d : Nat} {h : E_H} {Q : Option E_V → E_H → Prop} (hd : 1 ≤ d) (hZ : k_Z h) (hz : 16 ≤ h_sz h)
    (K : ∀ h', f_m (fun _ _ _ => False) h h' → t_N h' (h_sz h) → h_vl h' (h_sz h) 2 = 0 → h_sz h' = h_sz h + 3 → h_sl h' = h_sl h + 13 → Q none h') : e_wpm d 56 [.inr (h_sz h)] (h_new h 10 0 3) Q := by
  have e1 : h_kd (h_new h 10 0 3) (h_sz h) = 10 := hk_newS
  generalize hh : h_new h 10 0 3 = h1 at *
  have z1 : h_sz h1 = h_sz h + 1 := by rw [← hh]; rfl
  have Z1 : k_Z h1 := by rw [← hh]; exact hZ.new
  have v1 : ∀ j, h_vl h1 (h_sz h) j = 0 := fun j => by rw [← hh]; exact hv_newS
  have f1 : f_m (fun _ _ _ => False) h h1 := by rw [← hh]; exact (f_m.rf hZ).new
  have s1 : h_sl h1 = h_sl h + 3 := by rw [← hh]; rfl
  refine e_wpm_blk 100 [] ?_
  simp only [e_blk_eq, g_go, g_bks, g_bkn, g_gst, g_gsf, e_cl, e_rt, n_0, n_1, n_2, n_3, n_4, n_5, n_6, n_7, n_8, n_9, n_10, n_11, n_12, n_13, n_14, n_15, n_16, n_17, n_18, n_19, n_20, n_21, n_22, n_23, n_24, n_25, n_26, n_27, n_28, n_29, n_30, n_31, n_32, n_33, n_34, n_35, n_36, n_37, n_40, n_41, n_42, n_43, n_44, n_45, n_46, n_50, n_51, n_52, n_53, n_54, n_55, f_ldi, f_lda, f_sti, f_sta, f_inc, f_bin0, f_bin1, f_bin2, f_bin3, f_bin4, f_bin5, f_bin6, f_bin7, f_i2b, f_dup, f_pop, f_dx1, f_if0, f_ic0, f_if1, f_ic1, f_if2, f_ic2, f_if3, f_ic3, f_if4, f_ic4, f_if5, f_ic5, f_ac0, f_ac1, f_nu0, f_nu1, f_sw, f_sw0, f_sw1, f_gti, f_gta, f_pti, f_pta, f_ptz, f_new, f_nwa, f_ild, f_ist, f_bld, f_bst, f_ald, f_ast, f_len, f_cst, f_oin, f_gcl, f_ord, f_mm0, f_mm1, f_cpy, f_re0, f_re1, f_rea, f_rev, f_t50, f_t51, f_t52, f_t53, f_t54, f_t55, f_st, f_sd, f_s2, f_sn, e_in, e_ent, e_inR, Nat.reduceLT, Nat.reduceEqDiff, reduceIte, Nat.reduceBEq, List.length_cons, List.length_nil, List.map_cons, List.map_nil, List.replicate, List.cons_append, List.nil_append, List.append_nil, List.getElem?_cons_zero, List.getElem?_cons_succ, List.getElem?_nil, List.set_cons_zero, List.set_cons_succ, List.take_succ_cons, List.take_zero, List.take_nil, List.drop_succ_cons, List.drop_zero, List.drop_nil, List.reverse_cons, List.reverse_nil, Option.toList_some, Option.toList_none, Int.reduceToNat, hk_pt, hl_pt, hz_pt, hs_pt, hv_same, hv_ne, hv_na, hz_nw, hs_nw, hk_newS, hl_newS, hv_newS, Int.reduceEq, Int.reduceNe, Int.reduceLE, Int.reduceLT, Int.reduceAdd, Int.reduceSub, Int.reduceMul, Int.reduceNeg, Nat.reduceAdd, Nat.reduceSub, Nat.reduceLeDiff, Bool.or_false, Bool.false_or, Bool.or_true, Bool.true_or, or_self, or_false, false_or, true_or, or_true, and_true, true_and, forall_const, decide_eq_true_eq, decide_eq_false_iff_not, Bool.and_eq_true, Bool.false_eq_true, Nat.lt_add_one, imp_self, implies_true, not_true_eq_false, not_false_eq_true, ne_eq, Bool.true_eq_false, Nat.zero_le, Nat.le_refl, and_self, false_implies, q_56, l_56, e1]
  have k2 : h_kd (h_new h1 27 5 5) (h_sz h) = 10 := by rw [hk_newN (by omega)]; exact e1
  have k3 : h_kd (h_new (h_put (h_new h1 27 5 5) (h_sz h) 0 (h_sz h1)) 20 5 5) (h_sz h) = 10 := by
    rw [hk_newN (by rw [hz_put, hz_new]; omega)]; exact k2
  refine ⟨⟨by omega, by omega⟩, k2, k3, ?_⟩
  refine K _ (((f1.new.put (fun z => absurd z (by omega))).new).put (fun z => absurd z (by omega))) ⟨⟨k3, ?_, ?_, ?_, ?_, ?_, ?_⟩, hz⟩ ?_ (by rw [hz_put, hz_new, hz_put, hz_new]; omega) (by rw [hs_put, hs_new, hs_put, hs_new]; omega)
  · rw [hv_ne (by omega), hv_newN (by rw [hz_put, hz_new]; omega), hv_same]; exact z1
  · rw [hv_same]; omega
  · rw [hk_put, hk_newN (by rw [hz_put, hz_new]; omega), hk_put, ← z1]; exact hk_newS
  · rw [hl_put, hl_newN (by rw [hz_put, hz_new]; omega), hl_put, ← z1]; exact hl_newS
  · have e : h_sz h + 2 = h_sz (h_put (h_new h1 27 5 5) (h_sz h) 0 (h_sz h1)) := by rw [hz_put, hz_new]; omega
    rw [hk_put, e]; exact hk_newS
  · have e : h_sz h + 2 = h_sz (h_put (h_new h1 27 5 5) (h_sz h) 0 (h_sz h1)) := by rw [hz_put, hz_new]; omega
    rw [hl_put, e]; exact hl_newS
  · rw [hv_ne (by omega), hv_newN (by rw [hz_put, hz_new]; omega), hv_ne (by omega), hv_newN (by omega)]
    exact v1 2
