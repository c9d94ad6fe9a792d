/-! ===== THE COMPONENT, 1: frames, what never changes, the list of pages ===== -/
theorem hk_pt {h : E_H} {a k v b : Int} : h_kd (h_put h a k v) b = h_kd h b := Eq.trans rfl rfl
theorem hl_pt {h : E_H} {a k v b : Int} : h_ln (h_put h a k v) b = h_ln h b := Eq.trans rfl rfl
theorem hz_pt {h : E_H} {a k v : Int} : h_sz (h_put h a k v) = h_sz h := Eq.trans rfl rfl
theorem hs_pt {h : E_H} {a k v : Int} : h_sl (h_put h a k v) = h_sl h := Eq.trans rfl rfl
theorem hz_nw {h : E_H} {kd ln n : Int} : h_sz (h_new h kd ln n) = h_sz h + 1 := Eq.trans rfl rfl
theorem hs_nw {h : E_H} {kd ln n : Int} : h_sl (h_new h kd ln n) = h_sl h + n := Eq.trans rfl rfl
/-- no kind beyond the last cell -/
def k_Z (h : E_H) : Prop := ∀ a : Int, h_sz h ≤ a → h_kd h a = 0
theorem k_Z.put {h : E_H} {a k v : Int} (hZ : k_Z h) : k_Z (h_put h a k v) := fun b hb => hZ b hb
theorem k_Z.new {h : E_H} {kd ln n : Int} (hZ : k_Z h) : k_Z (h_new h kd ln n) := fun b hb => by
  rw [hz_new] at hb
  rw [hk_newN (by omega)]
  exact hZ b (by omega)
/-- from h to h' only the cells of c (kind, address, field) changed -/
def f_m (c : Int → Int → Int → Prop) (h h' : E_H) : Prop := (h_sz h ≤ h_sz h' ∧ k_Z h') ∧ (∀ a : Int, a < h_sz h → h_kd h' a = h_kd h a ∧ h_ln h' a = h_ln h a) ∧ ∀ a j : Int, a < h_sz h → ¬ c (h_kd h a) a j → h_vl h' a j = h_vl h a j
theorem f_m.rf {c : Int → Int → Int → Prop} {h : E_H} (hZ : k_Z h) : f_m c h h := ⟨⟨Int.le_refl _, hZ⟩, fun _ _ => ⟨rfl, rfl⟩, fun _ _ _ _ => rfl⟩
theorem f_m.tr {c : Int → Int → Int → Prop} {h h' h'' : E_H} (h1 : f_m c h h') (h2 : f_m c h' h'') : f_m c h h'' := by
  have s1 := h1.1.1
  have s2 := h2.1.1
  refine ⟨⟨by omega, h2.1.2⟩, fun a ha => ?_, fun a j ha hc => ?_⟩
  · have e := h1.2.1 a ha
    have e2 := h2.2.1 a (by omega)
    rw [e2.1, e2.2, e.1, e.2]
    exact ⟨rfl, rfl⟩
  · have e := h1.2.1 a ha
    rw [h2.2.2 a j (by omega) (by rw [e.1]; exact hc), h1.2.2 a j ha hc]
theorem f_m.mono {c c' : Int → Int → Int → Prop} {h h' : E_H} (h1 : f_m c h h') (hc : ∀ k a j, c k a j → c' k a j) : f_m c' h h' := ⟨h1.1, h1.2.1, fun a j ha hn => h1.2.2 a j ha (fun z => hn (hc _ _ _ z))⟩
theorem f_m.put {c : Int → Int → Int → Prop} {h h' : E_H} {a k v : Int} (h1 : f_m c h h') (hc : a < h_sz h → c (h_kd h a) a k) : f_m c h (h_put h' a k v) := by
  refine ⟨⟨h1.1.1, h1.1.2.put⟩, h1.2.1, fun b j hb hn => ?_⟩
  rw [hv_put]
  split
  · rename_i z
    exact absurd (by rw [z.1, z.2]; exact hc (by rw [← z.1]; exact hb)) hn
  · exact h1.2.2 b j hb hn
theorem f_m.new {c : Int → Int → Int → Prop} {h h' : E_H} {kd ln n : Int} (h1 : f_m c h h') : f_m c h (h_new h' kd ln n) := by
  have s1 := h1.1.1
  refine ⟨⟨by rw [hz_new]; omega, h1.1.2.new⟩, fun a ha => ?_, fun a j ha hn => ?_⟩
  · rw [hk_newN (by omega), hl_newN (by omega)]
    exact h1.2.1 a ha
  · rw [hv_newN (by omega)]
    exact h1.2.2 a j ha hn
theorem k_Z.lt {h : E_H} (hZ : k_Z h) {a : Int} (ha : h_kd h a ≠ 0) : a < h_sz h := Int.not_le.mp (fun z => ha (hZ a z))
theorem f_m.kd {c : Int → Int → Int → Prop} {h h' : E_H} (h1 : f_m c h h') (hZ : k_Z h) {a x : Int} (ha : h_kd h a = x) (hx : x ≠ 0) : h_kd h' a = x := by
  rw [(h1.2.1 a (hZ.lt (by omega))).1]; exact ha
theorem f_m.ln {c : Int → Int → Int → Prop} {h h' : E_H} (h1 : f_m c h h') (hZ : k_Z h) {a x y : Int} (ha : h_kd h a = x) (hx : x ≠ 0) (hl : h_ln h a = y) : h_ln h' a = y := by
  rw [(h1.2.1 a (hZ.lt (by omega))).2]; exact hl
theorem f_m.vl {c : Int → Int → Int → Prop} {h h' : E_H} (h1 : f_m c h h') (hZ : k_Z h) {a x j : Int} (ha : h_kd h a = x) (hx : x ≠ 0) (hc : ¬ c x a j) : h_vl h' a j = h_vl h a j := h1.2.2 a j (hZ.lt (by omega)) (by rw [ha]; exact hc)
/-- what never changes -/
def k_T (h : E_H) : Prop := h_kd h 16 = 1 ∧ h_vl h 16 0 = 17 ∧ h_vl h 16 6 = 18 ∧ h_vl h 16 10 = 19 ∧ h_vl h 16 11 = 20 ∧ h_vl h 16 12 = 21 ∧ h_vl h 16 24 = 25 ∧ h_kd h 17 = 24 ∧ h_ln h 17 = 6 ∧ h_kd h 18 = 2 ∧ h_kd h 19 = 2 ∧ h_kd h 20 = 2 ∧ h_kd h 21 = 26 ∧ h_ln h 21 = 100 ∧ h_kd h 25 = 20 ∧ h_ln h 25 = 6
def k_p1 (h : E_H) (g : Int) : Prop := h_vl h 17 g = 26 + 3 * g ∧ h_kd h (26 + 3 * g) = 4 ∧ h_vl h (26 + 3 * g) 0 = g ∧ h_vl h (26 + 3 * g) 1 = 27 + 3 * g ∧ h_vl h (26 + 3 * g) 2 = 28 + 3 * g ∧ h_kd h (27 + 3 * g) = 25 ∧ h_ln h (27 + 3 * g) = 4 ∧ h_kd h (28 + 3 * g) = 25 ∧ h_ln h (28 + 3 * g) = 4
def k_S (h : E_H) : Prop := k_T h ∧ (∀ g : Int, 0 ≤ g → g < 6 → k_p1 h g) ∧ k_Z h ∧ 72 ≤ h_sz h ∧ m_T h ∧ ∀ a : Int, a < 72 → h_kd h a < 5 ∨ h_kd h a = 11 ∨ (20 ≤ h_kd h a ∧ h_kd h a ≤ 26)
/-- what a step of the component may change at all -/
def k_A (k a j : Int) : Prop := (a < 44 ∨ 71 < a) ∧ a ≠ 17 ∧ (a = 16 → j ≠ 0 ∧ j ≠ 6 ∧ j ≠ 10 ∧ j ≠ 11 ∧ j ≠ 12 ∧ j ≠ 24) ∧ (k = 4 → 3 ≤ j) ∧ k ≠ 8 ∧ (k = 9 → 7 ≤ j)
theorem k_S.fr {h h' : E_H} (hS : k_S h) (hf : f_m k_A h h') : k_S h' := by
  obtain ⟨T, P, Z, z, M, k12⟩ := hS
  have hf' := hf
  obtain ⟨⟨f1, f2⟩, f3, f4⟩ := hf
  refine ⟨?_, fun g g1 g2 => ?_, f2, by omega, ?_, fun a ha => by rw [(f3 a (by omega)).1]; exact k12 a ha⟩
  · unfold k_T at T ⊢
    obtain ⟨t1, t2, t3, t4, t5, t6, t7, t8, t9, t10, t11, t12, t13, t14, t15, t16⟩ := T
    have vv : ∀ {j x : Int}, h_vl h 16 j = x → (j = 0 ∨ j = 6 ∨ j = 10 ∨ j = 11 ∨ j = 12 ∨ j = 24) → h_vl h' 16 j = x := fun {j x} h1 h2 => by
      rw [f4 16 j (by omega) (fun z => by have := z.2.2.1 rfl; omega)]; exact h1
    exact ⟨hf'.kd Z t1 (by omega), vv t2 (by omega), vv t3 (by omega), vv t4 (by omega), vv t5 (by omega), vv t6 (by omega), vv t7 (by omega), hf'.kd Z t8 (by omega), hf'.ln Z t8 (by omega) t9, hf'.kd Z t10 (by omega), hf'.kd Z t11 (by omega), hf'.kd Z t12 (by omega), hf'.kd Z t13 (by omega), hf'.ln Z t13 (by omega) t14, hf'.kd Z t15 (by omega), hf'.ln Z t15 (by omega) t16⟩
  · unfold k_T at T
    have pg := P g g1 g2
    unfold k_p1 at pg ⊢
    obtain ⟨p1, p2, p3, p4, p5, p6, p7, p8, p9⟩ := pg
    have vv : ∀ {j x : Int}, h_vl h (26 + 3 * g) j = x → j < 3 → h_vl h' (26 + 3 * g) j = x := fun {j x} h1 h2 => by
      rw [f4 _ j (by omega) (fun z => by have := z.2.2.2.1 p2; omega)]; exact h1
    exact ⟨by rw [f4 17 g (by omega) (fun z => z.2.1 rfl)]; exact p1, hf'.kd Z p2 (by omega), vv p3 (by omega), vv p4 (by omega), vv p5 (by omega), hf'.kd Z p6 (by omega), hf'.ln Z p6 (by omega) p7, hf'.kd Z p8 (by omega), hf'.ln Z p8 (by omega) p9⟩
  · have ek : ∀ a : Int, 44 ≤ a → a ≤ 71 → h_kd h' a = h_kd h a := fun a a1 a2 => (f3 a (by omega)).1
    have el : ∀ a : Int, 44 ≤ a → a ≤ 71 → h_ln h' a = h_ln h a := fun a a1 a2 => (f3 a (by omega)).2
    have ev : ∀ a j : Int, 44 ≤ a → a ≤ 71 → h_vl h' a j = h_vl h a j := fun a j a1 a2 => f4 a j (by omega) (fun z => by have := z.1; omega)
    unfold m_T at M ⊢
    simp only [ek, el, ev, Int.reduceLE]
    exact M
theorem k_S.tw {h h' : E_H} (hS : k_S h) (hf : f_m k_A h h') {a j : Int} (ha : 44 ≤ a ∧ a ≤ 71) : h_vl h' a j = h_vl h a j := hf.2.2 a j (by have := hS.2.2.2.1; omega) (fun z => by have := z.1; omega)
theorem k_S.pg {h : E_H} (hS : k_S h) {g : Int} (hg : 0 ≤ g ∧ g < 6) : k_p1 h g := hS.2.1 g hg.1 hg.2
theorem k_S.ge {h : E_H} (hS : k_S h) {a x : Int} (ha : h_kd h a = x) (hx : (5 ≤ x ∧ x ≤ 10) ∨ x = 27) : 72 ≤ a := Int.not_lt.mp (fun z => by have := hS.2.2.2.2.2 a z; omega)
/-- the pages that are in, the newest first: links -/
def k_hd : List Int → Int
  | [] => 0
  | g :: _ => 26 + 3 * g
def k_dl (h : E_H) : Int → List Int → Prop
  | p, [] => h_vl h 16 2 = p
  | p, g :: r => h_vl h (26 + 3 * g) 7 = p ∧ h_vl h (26 + 3 * g) 8 = k_hd r ∧ k_dl h (26 + 3 * g) r
/-- unlink -/
def k_ul (h : E_H) (p : Int) : E_H := if h_vl h p 8 = 0 then h_put (if h_vl h p 7 = 0 then h_put h 16 1 (h_vl h p 8) else h_put h (h_vl h p 7) 8 (h_vl h p 8)) 16 2 (h_vl h p 7) else h_put (if h_vl h p 7 = 0 then h_put h 16 1 (h_vl h p 8) else h_put h (h_vl h p 7) 8 (h_vl h p 8)) (h_vl h p 8) 7 (h_vl h p 7)
def k_lk (h : E_H) (p : Int) : E_H := h_put (if h_vl h 16 1 = 0 then h_put (h_put (h_put h p 7 0) p 8 (h_vl h 16 1)) 16 2 p else h_put (h_put (h_put h p 7 0) p 8 (h_vl h 16 1)) (h_vl h 16 1) 7 p) 16 1 p
set_option maxRecDepth 100000 in
set_option maxHeartbeats 4000000 in
theorem c_unlink {d : Nat} {p : Int} {h : E_H} {Q : Option E_V → E_H → Prop} (hT : k_T h) (hp : h_kd h p = 4) (h7 : h_vl h p 7 ≠ p) (hx : h_vl h p 7 ≠ 0 → h_kd h (h_vl h p 7) = 4) (hy : h_vl h p 8 ≠ 0 → h_kd h (h_vl h p 8) = 4) (hQ : Q none (k_ul h p)) : e_wpm d 40 [.inr 16, .inr p] h Q := by
  unfold k_T at hT
  refine e_wpm_blk 100 [] ?_
  simp only [e_blk_eq, g_go, g_bks, g_bkn, g_gst, g_gsf, e_cl, e_rt, n_0, n_1, n_2, n_3, n_4, n_5, n_6, n_7, n_8, n_9, n_10, n_11, n_12, n_13, n_14, n_15, n_16, n_17, n_18, n_19, n_20, n_21, n_22, n_23, n_24, n_25, n_26, n_27, n_28, n_29, n_30, n_31, n_32, n_33, n_34, n_35, n_36, n_37, n_40, n_41, n_42, n_43, n_44, n_45, n_46, n_50, n_51, n_52, n_53, n_54, n_55, f_ldi, f_lda, f_sti, f_sta, f_inc, f_bin0, f_bin1, f_bin2, f_bin3, f_bin4, f_bin5, f_bin6, f_bin7, f_i2b, f_dup, f_pop, f_dx1, f_if0, f_ic0, f_if1, f_ic1, f_if2, f_ic2, f_if3, f_ic3, f_if4, f_ic4, f_if5, f_ic5, f_ac0, f_ac1, f_nu0, f_nu1, f_sw, f_sw0, f_sw1, f_gti, f_gta, f_pti, f_pta, f_ptz, f_new, f_nwa, f_ild, f_ist, f_bld, f_bst, f_ald, f_ast, f_len, f_cst, f_oin, f_gcl, f_ord, f_mm0, f_mm1, f_cpy, f_re0, f_re1, f_rea, f_rev, f_t50, f_t51, f_t52, f_t53, f_t54, f_t55, f_st, f_sd, f_s2, f_sn, e_in, e_ent, e_inR, Nat.reduceLT, Nat.reduceEqDiff, reduceIte, Nat.reduceBEq, List.length_cons, List.length_nil, List.map_cons, List.map_nil, List.replicate, List.cons_append, List.nil_append, List.append_nil, List.getElem?_cons_zero, List.getElem?_cons_succ, List.getElem?_nil, List.set_cons_zero, List.set_cons_succ, List.take_succ_cons, List.take_zero, List.take_nil, List.drop_succ_cons, List.drop_zero, List.drop_nil, List.reverse_cons, List.reverse_nil, Option.toList_some, Option.toList_none, Int.reduceToNat, hk_pt, hl_pt, hz_pt, hs_pt, hv_same, hv_ne, hv_na, hz_nw, hs_nw, hk_newS, hl_newS, hv_newS, Int.reduceEq, Int.reduceNe, Int.reduceLE, Int.reduceLT, Int.reduceAdd, Int.reduceSub, Int.reduceMul, Int.reduceNeg, Nat.reduceAdd, Nat.reduceSub, Nat.reduceLeDiff, Bool.or_false, Bool.false_or, Bool.or_true, Bool.true_or, or_self, or_false, false_or, true_or, or_true, and_true, true_and, forall_const, decide_eq_true_eq, decide_eq_false_iff_not, Bool.and_eq_true, Bool.false_eq_true, Nat.lt_add_one, imp_self, implies_true, not_true_eq_false, not_false_eq_true, ne_eq, Bool.true_eq_false, Nat.zero_le, Nat.le_refl, and_self, false_implies, q_40, l_40, hT, hp]
  unfold k_ul at hQ
  refine ⟨fun h1 => ?_, fun h1 => ?_⟩
  · rw [if_neg h1] at hQ
    rw [hv_na (fun z => h7 z.symm)]
    refine ⟨hx h1, fun h2 => ⟨hy h2, ?_⟩, fun h2 => ?_⟩
    · rw [if_neg h2] at hQ; exact hQ
    · rw [if_pos (Decidable.not_not.mp h2)] at hQ; exact hQ
  · rw [if_pos (Decidable.not_not.mp h1)] at hQ
    refine ⟨fun h2 => ⟨hy h2, ?_⟩, fun h2 => ?_⟩
    · rw [if_neg h2] at hQ; exact hQ
    · rw [if_pos (Decidable.not_not.mp h2)] at hQ; exact hQ
set_option maxRecDepth 100000 in
set_option maxHeartbeats 4000000 in
theorem c_link {d : Nat} {p : Int} {h : E_H} {Q : Option E_V → E_H → Prop} (hT : k_T h) (hp : h_kd h p = 4) (hx : h_vl h 16 1 ≠ 0 → h_kd h (h_vl h 16 1) = 4) (hQ : Q none (k_lk h p)) : e_wpm d 42 [.inr 16, .inr p] h Q := by
  have hne : (16 : Int) ≠ p := fun z => by
    have := hT.1
    rw [z] at this
    omega
  unfold k_T at hT
  refine e_wpm_blk 100 [] ?_
  simp only [e_blk_eq, g_go, g_bks, g_bkn, g_gst, g_gsf, e_cl, e_rt, n_0, n_1, n_2, n_3, n_4, n_5, n_6, n_7, n_8, n_9, n_10, n_11, n_12, n_13, n_14, n_15, n_16, n_17, n_18, n_19, n_20, n_21, n_22, n_23, n_24, n_25, n_26, n_27, n_28, n_29, n_30, n_31, n_32, n_33, n_34, n_35, n_36, n_37, n_40, n_41, n_42, n_43, n_44, n_45, n_46, n_50, n_51, n_52, n_53, n_54, n_55, f_ldi, f_lda, f_sti, f_sta, f_inc, f_bin0, f_bin1, f_bin2, f_bin3, f_bin4, f_bin5, f_bin6, f_bin7, f_i2b, f_dup, f_pop, f_dx1, f_if0, f_ic0, f_if1, f_ic1, f_if2, f_ic2, f_if3, f_ic3, f_if4, f_ic4, f_if5, f_ic5, f_ac0, f_ac1, f_nu0, f_nu1, f_sw, f_sw0, f_sw1, f_gti, f_gta, f_pti, f_pta, f_ptz, f_new, f_nwa, f_ild, f_ist, f_bld, f_bst, f_ald, f_ast, f_len, f_cst, f_oin, f_gcl, f_ord, f_mm0, f_mm1, f_cpy, f_re0, f_re1, f_rea, f_rev, f_t50, f_t51, f_t52, f_t53, f_t54, f_t55, f_st, f_sd, f_s2, f_sn, e_in, e_ent, e_inR, Nat.reduceLT, Nat.reduceEqDiff, reduceIte, Nat.reduceBEq, List.length_cons, List.length_nil, List.map_cons, List.map_nil, List.replicate, List.cons_append, List.nil_append, List.append_nil, List.getElem?_cons_zero, List.getElem?_cons_succ, List.getElem?_nil, List.set_cons_zero, List.set_cons_succ, List.take_succ_cons, List.take_zero, List.take_nil, List.drop_succ_cons, List.drop_zero, List.drop_nil, List.reverse_cons, List.reverse_nil, Option.toList_some, Option.toList_none, Int.reduceToNat, hk_pt, hl_pt, hz_pt, hs_pt, hv_same, hv_ne, hv_na, hz_nw, hs_nw, hk_newS, hl_newS, hv_newS, Int.reduceEq, Int.reduceNe, Int.reduceLE, Int.reduceLT, Int.reduceAdd, Int.reduceSub, Int.reduceMul, Int.reduceNeg, Nat.reduceAdd, Nat.reduceSub, Nat.reduceLeDiff, Bool.or_false, Bool.false_or, Bool.or_true, Bool.true_or, or_self, or_false, false_or, true_or, or_true, and_true, true_and, forall_const, decide_eq_true_eq, decide_eq_false_iff_not, Bool.and_eq_true, Bool.false_eq_true, Nat.lt_add_one, imp_self, implies_true, not_true_eq_false, not_false_eq_true, ne_eq, Bool.true_eq_false, Nat.zero_le, Nat.le_refl, and_self, false_implies, q_42, l_42, hT, hp, hne]
  unfold k_lk at hQ
  refine ⟨fun h1 => ?_, fun h1 => ?_⟩
  · rw [if_neg h1] at hQ
    exact ⟨hx h1, hQ⟩
  · rw [if_pos (Decidable.not_not.mp h1)] at hQ
    exact hQ
