/-! ===== every row of the program is checked ===== -/
def k_Q : Nat → List (List (Nat × E_I)) → Prop
  | _, [] => True
  | i, T :: r => T.all (fun x => k_ok i x.1 x.2) = true ∧ k_Q (i + 1) r
theorem k_Q_get : ∀ {L : List (List (Nat × E_I))} {i j : Nat} {T : List (Nat × E_I)}, k_Q i L → L[j]? = some T → T.all (fun x => k_ok (i + j) x.1 x.2) = true
  | [], _, _, _, _, h => by simp at h
  | U :: r, i, 0, T, hQ, h => by
    rw [List.getElem?_cons_zero] at h
    cases h
    exact hQ.1
  | U :: r, i, j + 1, T, hQ, h => by
    rw [List.getElem?_cons_succ] at h
    have := k_Q_get hQ.2 h
    rwa [show i + 1 + j = i + (j + 1) by omega] at this
theorem k_lk {mi pc : Nat} : ∀ {T : List (Nat × E_I)}, T.all (fun x => k_ok mi x.1 x.2) = true → (e_lk T pc).1 ≠ 99 → k_ok mi pc (e_lk T pc) = true
  | [], _, h => absurd rfl h
  | (p, a) :: t, hall, h => by
    rw [List.all_cons, Bool.and_eq_true] at hall
    unfold e_lk at h ⊢
    by_cases hp : p = pc
    · rw [if_pos hp]
      subst hp
      exact hall.1
    · rw [if_neg hp] at h ⊢
      exact k_lk hall.2 h
set_option maxRecDepth 100000 in
theorem k_Q0 : k_Q 0 P_tbs := ⟨k_t0, k_t1, k_t2, k_t3, k_t4, k_t5, k_t6, k_t7, k_t8, k_t9, k_t10, k_t11, k_t12, k_t13, k_t14, k_t15, k_t16, k_t17, k_t18, k_t19, k_t20, k_t21, k_t22, k_t23, k_t24, k_t25, k_t26, k_t27, k_t28, k_t29, k_t30, k_t31, k_t32, k_t33, k_t34, k_t35, k_t36, k_t37, k_t38, k_t39, k_t40, k_t41, k_t42, k_t43, k_t44, k_t45, k_t46, k_t47, k_t48, k_t49, k_t50, k_t51, k_t52, k_t53, k_t54, k_t55, k_t56, k_t57, k_t58, k_t59, k_t60, k_t61, k_t62, k_t63, k_t64, k_t65, k_t66, k_t67, k_t68, k_t69, k_t70, k_t71, k_t72, k_t73, k_t74, k_t75, k_t76, k_t77, k_t78, k_t79, k_t80, k_t81, k_t82, k_t83, k_t84, k_t85, k_t86, k_t87, k_t88, k_t89, k_t90, k_t91, k_t92, k_t93, k_t94, k_t95, k_t96, k_t97, k_t98, k_t99, k_t100, k_t101, k_t102, k_t103, k_t104, k_t105, k_t106, k_t107, k_t108, k_t109, k_t110, k_t111, k_t112, k_t113, k_t114, k_t115, k_t116, k_t117, k_t118, k_t119, k_t120, k_t121, k_t122, k_t123, k_t124, k_t125, k_t126, k_t127, k_t128, k_t129, k_t130, k_t131, k_t132, k_t133, k_t134, k_t135, k_t136, k_t137, k_t138, k_t139, k_t140, k_t141, k_t142, k_t143, k_t144, k_t145, trivial⟩
theorem k_okall {mi pc : Nat} (h : (P_cd mi pc).1 ≠ 99) : k_ok mi pc (P_cd mi pc) = true := by
  unfold P_cd at h ⊢
  refine k_lk ?_ h
  unfold P_tb
  rw [List.getD_eq_getElem?_getD]
  cases hT : P_tbs[mi]? with
  | none => rfl
  | some T =>
    have := k_Q_get k_Q0 hT
    rwa [Nat.zero_add] at this
theorem e_stp_le {d op a b : Nat} {c e : Int} {nx : Nat} {l : List Nat} {ls : E_L} {st : List E_V} {h : E_H} {q : Nat × E_L × List E_V × E_H} (he : op = 28 → 0 ≤ e) (hq : e_pick (e_stp d op a b c e nx l ls st h) = some q) : h_sz h ≤ h_sz q.2.2.2 ∧ h_sl h ≤ h_sl q.2.2.2 := by
  have same : ∀ {c : Bool} {x : Nat × E_L × List E_V × E_H}, (h_sz h ≤ h_sz x.2.2.2 ∧ h_sl h ≤ h_sl x.2.2.2) → e_pick [(c, x)] = some q → h_sz h ≤ h_sz q.2.2.2 ∧ h_sl h ≤ h_sl q.2.2.2 := by
    intro c x hx hq
    rw [e_pick1] at hq
    rw [← hq.2]
    exact hx
  have same2 : ∀ {c c' : Bool} {x x' : Nat × E_L × List E_V × E_H}, (h_sz h ≤ h_sz x.2.2.2 ∧ h_sl h ≤ h_sl x.2.2.2) → (h_sz h ≤ h_sz x'.2.2.2 ∧ h_sl h ≤ h_sl x'.2.2.2) → e_pick [(c, x), (c', x')] = some q → h_sz h ≤ h_sz q.2.2.2 ∧ h_sl h ≤ h_sl q.2.2.2 := by
    intro c c' x x' hx hx' hq
    rw [e_pick2] at hq
    rcases hq with hq | hq
    · rw [← hq.2]; exact hx
    · rw [← hq.2.2]; exact hx'
  have rf : h_sz h ≤ h_sz h ∧ h_sl h ≤ h_sl h := ⟨Int.le_refl _, Int.le_refl _⟩
  have pt : ∀ {a k v : Int}, h_sz h ≤ h_sz (h_put h a k v) ∧ h_sl h ≤ h_sl (h_put h a k v) := ⟨Int.le_refl _, Int.le_refl _⟩
  unfold e_stp at hq
  split at hq
  all_goals first
    | exact same rf hq
    | exact absurd hq e_pick0
    | (first
       | unfold s_ld at hq | unfold s_st at hq | unfold s_inc at hq | unfold s_bin at hq | unfold s_i2b at hq | unfold s_dup at hq | unfold s_pop at hq | unfold s_dx1 at hq | unfold s_if at hq | unfold s_icm at hq | unfold s_acm at hq | unfold s_nul at hq | unfold s_get at hq | unfold s_put at hq | unfold s_ild at hq | unfold s_ist at hq | unfold s_bld at hq | unfold s_bst at hq | unfold s_ald at hq | unfold s_ast at hq | unfold s_len at hq | unfold s_cst at hq | unfold s_oin at hq | unfold s_gcl at hq | unfold s_ord at hq | unfold s_mm at hq
       split at hq <;> first | exact absurd hq e_pick0 | exact same rf hq | exact same pt hq | exact same2 rf rf hq)
    | skip
  · unfold s_sw at hq
    split at hq
    · rcases g_sw hq with ⟨rfl, -⟩ | ⟨t, -, -, -, rfl⟩ <;> exact rf
    · exact absurd hq e_pick0
  · unfold s_new at hq
    refine same ⟨?_, ?_⟩ hq
    · show h.1 ≤ h.1 + 1
      omega
    · show h.2.1 ≤ h.2.1 + e
      have := he rfl
      omega
  · unfold s_nwa at hq
    split at hq
    · rename_i n r
      rw [e_pick1, decide_eq_true_eq] at hq
      rw [← hq.2]
      refine ⟨?_, ?_⟩
      · show h.1 ≤ h.1 + 1
        omega
      · show h.2.1 ≤ h.2.1 + n
        omega
    · exact absurd hq e_pick0
  · unfold s_cpy at hq
    split at hq
    · refine same ⟨?_, ?_⟩ hq
      · exact Int.le_refl _
      · exact Int.le_refl _
    · exact absurd hq e_pick0
theorem e_op28 {mi pc a b nx : Nat} {c e : Int} {l : List Nat} (h : P_cd mi pc = (28, a, b, c, e, nx, l)) : 0 ≤ e := by
  have h1 := k_okall (mi := mi) (pc := pc) (by rw [h]; show (28 : Nat) ≠ 99; decide)
  rw [h] at h1
  simp only [k_ok, Bool.and_eq_true, decide_eq_true_eq] at h1
  rw [h1.2.2.1]
  omega
theorem e_run_le : ∀ {n d mi pc : Nat} {ls : E_L} {st : List E_V} {h h1 : E_H} {r : Option E_V}, e_run n d mi pc ls st h = some (r, h1) → h_sz h ≤ h_sz h1 ∧ h_sl h ≤ h_sl h1 := by
  intro n
  induction n with
  | zero => intro d mi pc ls st h h1 r hr; simp [e_run] at hr
  | succ n ih =>
    intro d mi pc ls st h h1 r hr
    unfold e_run at hr
    cases hai : P_cd mi pc with
    | mk op ai =>
    obtain ⟨a, b, c, e, nx, l⟩ := ai
    rw [hai] at hr
    dsimp only at hr
    by_cases h50 : op < 50
    · rw [if_pos h50] at hr
      by_cases hre : op = 19 ∨ op = 20 ∨ op = 21
      · rw [if_pos hre] at hr
        obtain ⟨x, hx, he⟩ := Option.map_eq_some_iff.mp hr
        cases he
        exact ⟨Int.le_refl _, Int.le_refl _⟩
      · rw [if_neg hre] at hr
        obtain ⟨q, hq, hr⟩ := Option.bind_eq_some_iff.mp hr
        have i1 := e_stp_le (fun z => by subst z; exact e_op28 hai) hq
        have i2 := ih hr
        omega
    · rw [if_neg h50] at hr
      obtain ⟨t, ht, hr⟩ := Option.bind_eq_some_iff.mp hr
      split at hr
      · obtain ⟨q, hq, hr⟩ := Option.bind_eq_some_iff.mp hr
        have i1 := ih (r := q.1) (h1 := q.2) hq
        have i2 := ih hr
        omega
      · cases hr
