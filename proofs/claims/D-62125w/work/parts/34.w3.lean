/-! ===== the log, 3: counting ===== -/
def q_cn (P : Int → Bool) : Nat → Int
  | 0 => 0
  | n + 1 => q_cn P n + (if P ((n : Int) + 1) = true then 1 else 0)
theorem q_cn_rng {P : Int → Bool} : ∀ {n : Nat}, 0 ≤ q_cn P n ∧ q_cn P n ≤ n := by
  intro n
  induction n with
  | zero => simp [q_cn]
  | succ n ih => rw [q_cn]; split <;> omega
theorem q_cn_cg {P P' : Int → Bool} : ∀ {n : Nat}, (∀ j : Int, 1 ≤ j → j ≤ n → P' j = P j) → q_cn P' n = q_cn P n := by
  intro n
  induction n with
  | zero => intro _; rfl
  | succ n ih =>
    intro h
    rw [q_cn, q_cn, ih (fun j h1 h2 => h j h1 (by omega)), h _ (by omega) (by omega)]
theorem q_cn_flip {P P' : Int → Bool} {b : Int} (h1 : P b = true) (h2 : P' b = false) : ∀ {n : Nat}, (∀ j : Int, 1 ≤ j → j ≤ n → j ≠ b → P' j = P j) → 1 ≤ b → b ≤ n → q_cn P' n = q_cn P n - 1 := by
  intro n
  induction n with
  | zero => intro _ _ _; omega
  | succ n ih =>
    intro h hb hn
    rw [q_cn, q_cn]
    by_cases hbn : b = (n : Int) + 1
    · rw [← hbn, h1, h2, q_cn_cg (P' := P') (P := P) (fun j h3 h4 => h j h3 (by omega) (by omega))]
      simp
    · rw [ih (fun j h3 h4 h5 => h j h3 (by omega) h5) hb (by omega), h _ (by omega) (by omega) (by omega)]
      omega
theorem q_cn_pos {P : Int → Bool} {b : Int} (h : P b = true) : ∀ {n : Nat}, 1 ≤ b → b ≤ n → 1 ≤ q_cn P n := by
  intro n
  induction n with
  | zero => intro _ _; omega
  | succ n ih =>
    intro h1 h2
    rw [q_cn]
    by_cases hb : b = (n : Int) + 1
    · rw [← hb, h, if_pos rfl]
      have := (@q_cn_rng P n).1
      omega
    · have := ih h1 (by omega)
      split <;> omega
theorem m_cntL_eq {V : E_K} {k : Int} : ∀ {m : Nat} {a : Nat} {n : Int}, n = q_cn (fun j => decide (V 45 j = k)) a → m_cntL V k m ((a : Int) + 1) n = q_cn (fun j => decide (V 45 j = k)) (a + m) := by
  intro m
  induction m with
  | zero => intro a n h; exact h
  | succ m ih =>
    intro a n h
    have := @ih (a + 1) (n + (if V 45 ((a : Int) + 1) = k then 1 else 0)) (by rw [q_cn, h]; simp)
    rw [m_cntL, show a + (m + 1) = a + 1 + m by omega, ← this]
    rfl
theorem m_count_eq {V : E_K} {k : Int} : m_count V k = q_cn (fun j => decide (V 45 j = k)) (V 44 0).toNat := by
  unfold m_count
  have := @m_cntL_eq V k (V 44 0).toNat 0 0 rfl
  simpa using this
def u_bk (V : E_K) (n : Nat) (i : Int) : Bool := q_any (fun j => decide (V 45 j = 2 ∧ V 52 j = i)) n 1
def u_cm (V : E_K) (n : Nat) (t : Int) : Bool := q_any (fun j => decide (V 45 j = 3 ∧ V 46 j = t)) n 1
theorem u_bk_iff {V : E_K} {n : Nat} {i : Int} : u_bk V n i = true ↔ o_bk V n i := by
  unfold u_bk o_bk
  rw [q_any_iff]
  simp only [decide_eq_true_eq]
  constructor
  · rintro ⟨j, h1, h2, h3⟩; exact ⟨j, h1, by omega, h3⟩
  · rintro ⟨j, h1, h2, h3⟩; exact ⟨j, h1, by omega, h3⟩
theorem u_cm_iff {V : E_K} {n : Nat} {i : Int} : u_cm V n i = true ↔ o_com V n i := by
  unfold u_cm o_com
  rw [q_any_iff]
  simp only [decide_eq_true_eq]
  constructor
  · rintro ⟨j, h1, h2, h3⟩; exact ⟨j, h1, by omega, h3⟩
  · rintro ⟨j, h1, h2, h3⟩; exact ⟨j, h1, by omega, h3⟩
theorem q_bool {a b : Bool} (h : a = true ↔ b = true) : a = b := by
  cases a <;> cases b <;> simp_all
/-- the updates that no CLR has undone -/
def u_f (V : E_K) (n : Nat) : Int := q_cn (fun j => decide (V 45 j = 1) && !u_bk V n j) n
theorem o_bk_succ {V : E_K} {n i : Int} (hn : 0 ≤ n) : o_bk V (n + 1) i ↔ o_bk V n i ∨ (V 45 (n + 1) = 2 ∧ V 52 (n + 1) = i) := by
  constructor
  · rintro ⟨j, h1, h2, h3⟩
    by_cases hj : j = n + 1
    · rw [hj] at h3; exact Or.inr h3
    · exact Or.inl ⟨j, h1, by omega, h3⟩
  · rintro (h | h)
    · exact h.mono (by omega)
    · exact ⟨n + 1, by omega, by omega, h⟩
theorem o_com_succ {V : E_K} {n i : Int} (hn : 0 ≤ n) : o_com V (n + 1) i ↔ o_com V n i ∨ (V 45 (n + 1) = 3 ∧ V 46 (n + 1) = i) := by
  constructor
  · rintro ⟨j, h1, h2, h3⟩
    by_cases hj : j = n + 1
    · rw [hj] at h3; exact Or.inr h3
    · exact Or.inl ⟨j, h1, by omega, h3⟩
  · rintro (h | h)
    · exact h.mono (by omega)
    · exact ⟨n + 1, by omega, by omega, h⟩
theorem u_bk_s {V : E_K} {n : Nat} {i : Int} : u_bk V (n + 1) i = (u_bk V n i || decide (V 45 ((n : Int) + 1) = 2 ∧ V 52 ((n : Int) + 1) = i)) := by
  apply q_bool
  rw [u_bk_iff, show ((n + 1 : Nat) : Int) = (n : Int) + 1 by omega, o_bk_succ (by omega), Bool.or_eq_true, u_bk_iff, decide_eq_true_eq]
theorem u_cm_s {V : E_K} {n : Nat} {i : Int} : u_cm V (n + 1) i = (u_cm V n i || decide (V 45 ((n : Int) + 1) = 3 ∧ V 46 ((n : Int) + 1) = i)) := by
  apply q_bool
  rw [u_cm_iff, show ((n + 1 : Nat) : Int) = (n : Int) + 1 by omega, o_com_succ (by omega), Bool.or_eq_true, u_cm_iff, decide_eq_true_eq]
theorem u_bk_lt {V : E_K} {S : Int} (hL : lg_to V S) {n : Nat} (hn : (n : Int) ≤ S) {i : Int} (hi : (n : Int) ≤ i) : u_bk V n i = false := by
  cases hb : u_bk V n i
  · rfl
  · obtain ⟨j, h1, h2, h3, h4⟩ := u_bk_iff.mp hb
    have := (lg_2_of hL h1 (by omega) h3).1.2.1
    omega
theorem u_f_s {V : E_K} {S : Int} (hL : lg_to V S) {n : Nat} (hn : (n : Int) + 1 ≤ S) : u_f V (n + 1) = u_f V n + (if V 45 ((n : Int) + 1) = 1 then 1 else 0) - (if V 45 ((n : Int) + 1) = 2 then 1 else 0) := by
  unfold u_f
  rw [q_cn]
  have hl := @u_bk_lt V S hL (n + 1) (by omega) ((n : Int) + 1) (by omega)
  rw [hl]
  by_cases h2 : V 45 ((n : Int) + 1) = 2
  · have r := (lg_2_of hL (by omega) hn h2).1
    rw [show (n : Int) + 1 - 1 = n by omega] at r
    have hb1 := r.1
    have hb2 := r.2.1
    rw [q_cn_flip (P := fun j => decide (V 45 j = 1) && !u_bk V n j) (P' := fun j => decide (V 45 j = 1) && !u_bk V (n + 1) j) (b := V 52 ((n : Int) + 1)) ?_ ?_ ?_ hb1 hb2]
    · rw [h2]; simp
    · simp only [r.2.2.1, decide_true, Bool.true_and, Bool.not_eq_true']
      cases hb : u_bk V n (V 52 ((n : Int) + 1))
      · rfl
      · exact absurd (u_bk_iff.mp hb) r.2.2.2.2
    · simp only [u_bk_s, h2]; simp
    · intro j h3 h4 h5
      simp only [u_bk_s, h2, true_and]
      rw [decide_eq_false (p := V 52 ((n : Int) + 1) = j) (fun z => h5 z.symm), Bool.or_false]
  · rw [q_cn_cg (P := fun j => decide (V 45 j = 1) && !u_bk V n j) (P' := fun j => decide (V 45 j = 1) && !u_bk V (n + 1) j)]
    · rw [if_neg h2]; simp
    · intro j _ _
      simp only [u_bk_s]
      rw [decide_eq_false (p := V 45 ((n : Int) + 1) = 2 ∧ V 52 ((n : Int) + 1) = j) (fun z => h2 z.1), Bool.or_false]
theorem u_cnt2 {V : E_K} {S : Int} (hL : lg_to V S) : ∀ {n : Nat}, (n : Int) ≤ S → q_cn (fun j => decide (V 45 j = 2)) n + u_f V n = q_cn (fun j => decide (V 45 j = 1)) n := by
  intro n
  induction n with
  | zero => intro _; rfl
  | succ n ih =>
    intro hn
    rw [u_f_s hL (by omega), q_cn, q_cn, ← ih (by omega)]
    simp only [decide_eq_true_eq]
    omega
theorem u_cnt3 {V : E_K} {S : Int} (hL : lg_to V S) (hB : 0 ≤ V 44 22) : ∀ {n : Nat}, (n : Int) ≤ S → q_cn (fun j => decide (V 45 j = 3)) n + q_cn (fun t => !u_cm V n t) (V 44 22).toNat = V 44 22 := by
  intro n
  induction n with
  | zero =>
    intro _
    have e : ∀ m : Nat, q_cn (fun t => !u_cm V 0 t) m = m := by
      intro m
      induction m with
      | zero => rfl
      | succ m ih => rw [q_cn, ih]; simp [u_cm, q_any]
    rw [e]
    simp only [q_cn]
    omega
  | succ n ih =>
    intro hn
    rw [q_cn]
    by_cases h3 : V 45 ((n : Int) + 1) = 3
    · have r := lg_3_of hL (by omega) (by omega) h3
      rw [show lg_3 V ((n : Int) + 1) = ((1 ≤ V 46 ((n : Int) + 1) ∧ V 46 ((n : Int) + 1) ≤ V 44 22) ∧ V 47 ((n : Int) + 1) = 0 ∧ ¬ o_com V ((n : Int) + 1 - 1) (V 46 ((n : Int) + 1))) from rfl, show (n : Int) + 1 - 1 = n by omega] at r
      rw [q_cn_flip (P := fun t => !u_cm V n t) (P' := fun t => !u_cm V (n + 1) t) (b := V 46 ((n : Int) + 1)) ?_ ?_ ?_ r.1.1 (by omega)]
      · have := ih (by omega)
        rw [h3]
        simp
        omega
      · simp only [Bool.not_eq_true']
        cases hb : u_cm V n (V 46 ((n : Int) + 1))
        · rfl
        · exact absurd (u_cm_iff.mp hb) r.2.2
      · simp only [u_cm_s, h3]; simp
      · intro j h4 h5 h6
        simp only [u_cm_s, h3, true_and]
        rw [decide_eq_false (fun z => h6 z.symm), Bool.or_false]
    · rw [q_cn_cg (P := fun t => !u_cm V n t) (P' := fun t => !u_cm V (n + 1) t)]
      · have := ih (by omega)
        rw [decide_eq_false h3]
        simpa using this
      · intro j _ _
        simp only [u_cm_s]
        rw [decide_eq_false (fun z => h3 z.1), Bool.or_false]
theorem u_cnt_all {V : E_K} {S : Int} (hL : lg_to V S) : ∀ {n : Nat}, (n : Int) ≤ S → q_cn (fun j => decide (V 45 j = 1)) n + q_cn (fun j => decide (V 45 j = 2)) n + q_cn (fun j => decide (V 45 j = 3)) n + q_cn (fun j => decide (V 45 j = 4)) n = n := by
  intro n
  induction n with
  | zero => intro _; rfl
  | succ n ih =>
    intro hn
    have := ih (by omega)
    rw [q_cn, q_cn, q_cn, q_cn]
    rcases hL ((n : Int) + 1) (by omega) (by omega) with ⟨h, _⟩ | ⟨h, _⟩ | ⟨h, _⟩ | ⟨h, _⟩ <;> · rw [h]; simp; omega
theorem lg_size {V : E_K} (hL : lg_to V (V 44 0)) (h0 : 0 ≤ V 44 0) (hB : 0 ≤ V 44 22 ∧ V 44 22 ≤ 60) (h1 : m_count V 1 ≤ 60) (h4 : m_count V 4 ≤ 20) : V 44 0 ≤ 200 := by
  rw [m_count_eq] at h1 h4
  have a1 := @u_cnt2 V _ hL (V 44 0).toNat (by omega)
  have a2 := @u_cnt3 V _ hL hB.1 (V 44 0).toNat (by omega)
  have a3 := @u_cnt_all V _ hL (V 44 0).toNat (by omega)
  have b1 := (@q_cn_rng (fun t => !u_cm V (V 44 0).toNat t) (V 44 22).toNat).1
  have b2 := (@q_cn_rng (fun j => decide (V 45 j = 1) && !u_bk V (V 44 0).toNat j) (V 44 0).toNat).1
  unfold u_f at a1
  omega
theorem u_f_pos {V : E_K} {n : Nat} {i : Int} (h : o_op V n i) : 1 ≤ u_f V n := by
  refine q_cn_pos (b := i) ?_ h.1 h.2.1
  simp only [h.2.2.1, decide_true, Bool.true_and, Bool.not_eq_true']
  cases hb : u_bk V n i
  · rfl
  · exact absurd (u_bk_iff.mp hb) h.2.2.2.2
theorem u_f_cg {V V' : E_K} {n : Nat} (h : lg_eq V V' n) : u_f V' n = u_f V n := by
  unfold u_f
  refine q_cn_cg (fun j h1 h2 => ?_)
  rw [(h j h1 h2).1]
  have : u_bk V' n j = u_bk V n j := q_bool (by rw [u_bk_iff, u_bk_iff]; exact ⟨fun z => z.cg h.sym, fun z => z.cg h⟩)
  rw [this]
