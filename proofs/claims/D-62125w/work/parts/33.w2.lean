/-! ===== the log, 2: the twin's questions in terms of the rows; banks with the same rows ===== -/
theorem q_any_iff {P : Int → Bool} : ∀ {n : Nat} {x : Int}, q_any P n x = true ↔ ∃ j : Int, x ≤ j ∧ j < x + n ∧ P j = true := by
  intro n
  induction n with
  | zero => intro x; constructor
            · intro h; exact absurd h (by simp [q_any])
            · rintro ⟨j, h1, h2, _⟩; omega
  | succ n ih =>
    intro x
    rw [q_any]
    split
    · rename_i h
      exact ⟨fun _ => ⟨x, by omega, by omega, h⟩, fun _ => rfl⟩
    · rename_i h
      rw [ih]
      constructor
      · rintro ⟨j, h1, h2, h3⟩; exact ⟨j, by omega, by omega, h3⟩
      · rintro ⟨j, h1, h2, h3⟩
        refine ⟨j, ?_, by omega, h3⟩
        by_cases hj : j = x
        · rw [hj] at h3; exact absurd h3 h
        · omega
theorem q_last_max {P : Int → Bool} : ∀ {n : Nat} {j : Int}, 1 ≤ j → j ≤ n → P j = true → j ≤ q_last P n := by
  intro n
  induction n with
  | zero => intro j h1 h2; omega
  | succ n ih =>
    intro j h1 h2 h3
    rw [q_last]
    split
    · omega
    · rename_i h
      refine ih h1 ?_ h3
      by_cases hj : j = (n : Int) + 1
      · rw [hj] at h3; exact absurd h3 h
      · omega
theorem m_comm_iff {V : E_K} {t : Int} (h0 : 0 ≤ V 44 0) : m_comm V t = true ↔ o_com V (V 44 0) t := by
  unfold m_comm o_com
  rw [q_any_iff]
  simp only [decide_eq_true_eq]
  constructor
  · rintro ⟨j, h1, h2, h3⟩; exact ⟨j, h1, by omega, h3⟩
  · rintro ⟨j, h1, h2, h3⟩; exact ⟨j, h1, by omega, h3⟩
theorem lg_2_of {V : E_K} {n j : Int} (hL : lg_to V n) (h1 : 1 ≤ j) (h2 : j ≤ n) (h3 : V 45 j = 2) : lg_2 V j := by
  rcases hL j h1 h2 with ⟨h, _⟩ | ⟨_, h⟩ | ⟨h, _⟩ | ⟨h, _⟩
  · rw [h3] at h; exact absurd h (by decide)
  · exact h
  · rw [h3] at h; exact absurd h (by decide)
  · rw [h3] at h; exact absurd h (by decide)
theorem lg_3_of {V : E_K} {n j : Int} (hL : lg_to V n) (h1 : 1 ≤ j) (h2 : j ≤ n) (h3 : V 45 j = 3) : lg_3 V j := by
  rcases hL j h1 h2 with ⟨h, _⟩ | ⟨h, _⟩ | ⟨_, h⟩ | ⟨h, _⟩
  · rw [h3] at h; exact absurd h (by decide)
  · rw [h3] at h; exact absurd h (by decide)
  · exact h
  · rw [h3] at h; exact absurd h (by decide)
theorem lg_1_at {V : E_K} {n j : Int} (hL : lg_to V n) (h1 : 1 ≤ j) (h2 : j ≤ n) (h3 : V 45 j = 1) : lg_1 V j := by
  rcases hL j h1 h2 with ⟨_, h⟩ | ⟨h, _⟩ | ⟨h, _⟩ | ⟨h, _⟩
  · exact h
  · rw [h3] at h; exact absurd h (by decide)
  · rw [h3] at h; exact absurd h (by decide)
  · rw [h3] at h; exact absurd h (by decide)
theorem m_back_iff {V : E_K} {i : Int} (hL : lg_to V (V 44 0)) (hi : 1 ≤ i ∧ i ≤ V 44 0) : m_back V i = true ↔ o_bk V (V 44 0) i := by
  unfold m_back o_bk
  rw [q_any_iff]
  simp only [decide_eq_true_eq]
  constructor
  · rintro ⟨j, h1, h2, h3⟩; exact ⟨j, by omega, by omega, h3⟩
  · rintro ⟨j, h1, h2, h3, h4⟩
    have := (lg_2_of hL h1 h2 h3).1.2.1
    exact ⟨j, by omega, by omega, h3, h4⟩
theorem m_isop_iff {V : E_K} {t i : Int} (hL : lg_to V (V 44 0)) (hi : 1 ≤ i ∧ i ≤ V 44 0) : m_isop V t i = true ↔ o_op V (V 44 0) i ∧ (t = 0 ∨ V 46 i = t) := by
  unfold m_isop
  have e1 := @m_comm_iff V (V 46 i) (by omega)
  have e2 := m_back_iff hL hi
  simp only [Bool.and_eq_true, decide_eq_true_eq, Bool.not_eq_true']
  unfold o_op
  constructor
  · rintro ⟨⟨h1, h2⟩, h3, h4⟩
    exact ⟨⟨hi.1, hi.2, h1, fun z => by rw [e1.mpr z] at h3; exact absurd h3 (by decide), fun z => by rw [e2.mpr z] at h4; exact absurd h4 (by decide)⟩, h2⟩
  · rintro ⟨⟨_, _, h1, h3, h4⟩, h2⟩
    refine ⟨⟨h1, h2⟩, ?_, ?_⟩
    · cases hb : m_comm V (V 46 i)
      · rfl
      · exact absurd (e1.mp hb) h3
    · cases hb : m_back V i
      · rfl
      · exact absurd (e2.mp hb) h4
/-- the greatest open record (of t) -/
def o_top (V : E_K) (n t i : Int) : Prop := o_op V n i ∧ (t = 0 ∨ V 46 i = t) ∧ ∀ j : Int, o_op V n j → (t = 0 ∨ V 46 j = t) → j ≤ i
theorem m_open_top {V : E_K} {t : Int} (hL : lg_to V (V 44 0)) (h0 : 0 ≤ V 44 0) (h : 0 < m_open V t) : o_top V (V 44 0) t (m_open V t) := by
  have r := @m_open_rng V t h0
  have q := (@q_last_rng (m_isop V t) (V 44 0).toNat).2.2 h
  have q := (m_isop_iff hL ⟨by omega, r.2⟩).mp q
  refine ⟨q.1, q.2, fun j hj ht => ?_⟩
  have hj1 := hj.1
  have hj2 := hj.2.1
  exact q_last_max hj1 (by omega) ((m_isop_iff hL ⟨hj1, hj2⟩).mpr ⟨hj, ht⟩)
theorem m_open_none {V : E_K} {t : Int} (hL : lg_to V (V 44 0)) (h : m_open V t ≤ 0) : ∀ j : Int, o_op V (V 44 0) j → ¬ (t = 0 ∨ V 46 j = t) := by
  intro j hj ht
  have hj1 := hj.1
  have hj2 := hj.2.1
  have : j ≤ m_open V t := q_last_max hj1 (by omega) ((m_isop_iff hL ⟨hj1, hj2⟩).mpr ⟨hj, ht⟩)
  omega
/-- the same rows up to n -/
def lg_eq (V V' : E_K) (n : Int) : Prop := ∀ i : Int, 1 ≤ i → i ≤ n → V' 45 i = V 45 i ∧ V' 46 i = V 46 i ∧ V' 47 i = V 47 i ∧ V' 48 i = V 48 i ∧ V' 50 i = V 50 i ∧ V' 52 i = V 52 i
theorem lg_eq.sym {V V' : E_K} {n : Int} (h : lg_eq V V' n) : lg_eq V' V n := fun i h1 h2 => by
  obtain ⟨a, b, c, d, e, f⟩ := h i h1 h2
  exact ⟨a.symm, b.symm, c.symm, d.symm, e.symm, f.symm⟩
theorem lg_eq.le {V V' : E_K} {n m : Int} (h : lg_eq V V' n) (hm : m ≤ n) : lg_eq V V' m := fun i h1 h2 => h i h1 (by omega)
theorem o_com.cg {V V' : E_K} {n t : Int} (h : lg_eq V V' n) (w : o_com V n t) : o_com V' n t := by
  obtain ⟨j, h1, h2, h3, h4⟩ := w
  obtain ⟨a, b, _⟩ := h j h1 h2
  exact ⟨j, h1, h2, by rw [a]; exact h3, by rw [b]; exact h4⟩
theorem o_bk.cg {V V' : E_K} {n t : Int} (h : lg_eq V V' n) (w : o_bk V n t) : o_bk V' n t := by
  obtain ⟨j, h1, h2, h3, h4⟩ := w
  obtain ⟨a, _, _, _, _, b⟩ := h j h1 h2
  exact ⟨j, h1, h2, by rw [a]; exact h3, by rw [b]; exact h4⟩
theorem o_op.cg {V V' : E_K} {n i : Int} (h : lg_eq V V' n) (w : o_op V n i) : o_op V' n i := by
  obtain ⟨h1, h2, h3, h4, h5⟩ := w
  obtain ⟨a, b, _⟩ := h i h1 h2
  exact ⟨h1, h2, by rw [a]; exact h3, fun z => h4 (by rw [← b]; exact z.cg h.sym), fun z => h5 (z.cg h.sym)⟩
theorem r_k_cg {V V' : E_K} {x : Int} : ∀ {n : Nat}, lg_eq V V' n → r_k V' n x = r_k V n x := by
  intro n
  induction n with
  | zero => intro _; rfl
  | succ n ih =>
    intro h
    obtain ⟨a, _, c, _, e, _⟩ := h ((n : Int) + 1) (by omega) (by omega)
    rw [r_k, r_k, a, c, e, ih (h.le (by omega))]
theorem lg_row.cg {V V' : E_K} {n i : Int} (h : lg_eq V V' n) (hb : V 44 22 ≤ V' 44 22) (h1 : 1 ≤ i) (h2 : i ≤ n) (w : lg_row V i) : lg_row V' i := by
  obtain ⟨a, b, c, d, e, f⟩ := h i h1 h2
  have hp : lg_eq V V' (i - 1) := h.le (by omega)
  have hr : ∀ x, r_k V' (i - 1).toNat x = r_k V (i - 1).toNat x := fun x => r_k_cg (hp.le (by omega))
  unfold lg_row
  rw [a]
  rcases w with ⟨k, w⟩ | ⟨k, w⟩ | ⟨k, w⟩ | ⟨k, w⟩
  · refine Or.inl ⟨k, ?_⟩
    unfold lg_1 at w ⊢
    rw [b, c, d, e]
    simp only [hr]
    refine ⟨by omega, w.2.1, w.2.2.1, fun z => w.2.2.2.1 (z.cg hp.sym), w.2.2.2.2.1, w.2.2.2.2.2.1, fun j hj hw => ?_⟩
    obtain ⟨_, b', c', _⟩ := h j hj.1 (by have := hj.2.1; omega)
    rw [b'] at hw
    rw [c']
    exact w.2.2.2.2.2.2 j (hj.cg hp.sym) hw
  · refine Or.inr (Or.inl ⟨k, ?_⟩)
    unfold lg_2 at w ⊢
    obtain ⟨w1, w2, w3, w4, w5⟩ := w
    obtain ⟨_, b', c', d', _⟩ := h (V 52 i) w1.1 (by have := w1.2.1; omega)
    rw [b, c, e, f, b', c', d']
    refine ⟨w1.cg hp, fun j hj hw => ?_, w3, w4, w5⟩
    obtain ⟨_, b'', _⟩ := h j hj.1 (by have := hj.2.1; omega)
    rw [b''] at hw
    exact w2 j (hj.cg hp.sym) hw
  · refine Or.inr (Or.inr (Or.inl ⟨k, ?_⟩))
    unfold lg_3 at w ⊢
    rw [b, c]
    exact ⟨by omega, w.2.1, fun z => w.2.2 (z.cg hp.sym)⟩
  · exact Or.inr (Or.inr (Or.inr ⟨k, by rw [b]; exact w.1, by rw [c]; exact w.2⟩))
theorem lg_to.cg {V V' : E_K} {n : Int} (h : lg_eq V V' n) (hb : V 44 22 ≤ V' 44 22) (w : lg_to V n) : lg_to V' n := fun i h1 h2 => (w i h1 h2).cg h hb h1 h2
theorem lg_to.app {V V' : E_K} {n : Int} (h : lg_eq V V' n) (hb : V 44 22 ≤ V' 44 22) (w : lg_to V n) (hr : lg_row V' (n + 1)) : lg_to V' (n + 1) := fun i h1 h2 => by
  by_cases hi : i = n + 1
  · rw [hi]; exact hr
  · exact (w i h1 (by omega)).cg h hb h1 (by omega)
