/-! ===== the steps, 1: a take-back ===== -/
theorem m_put_at {V : E_K} {k t x a j : Int} (h0 : a ≠ 44) : m_put V k t x a j = if j = V 44 0 + 1 ∧ a = 45 then k else if j = V 44 0 + 1 ∧ a = 46 then t else if j = V 44 0 + 1 ∧ a = 47 then x else V a j := by
  unfold m_put
  by_cases hj : j = V 44 0 + 1
  · subst hj
    by_cases h5 : a = 45
    · subst h5; rw [v_na (by omega), v_na (by omega), v_same, if_pos ⟨rfl, rfl⟩]
    · rw [if_neg (fun z => h5 z.2)]
      by_cases h6 : a = 46
      · subst h6; rw [v_na (by omega), v_same, if_pos ⟨rfl, rfl⟩]
      · rw [if_neg (fun z => h6 z.2)]
        by_cases h7 : a = 47
        · subst h7; rw [v_same, if_pos ⟨rfl, rfl⟩]
        · rw [if_neg (fun z => h7 z.2), v_na h7, v_na h6, v_na h5, v_na h0]
  · rw [if_neg (fun z => hj z.1), if_neg (fun z => hj z.1), if_neg (fun z => hj z.1), v_ne hj, v_ne hj, v_ne hj, v_na h0]
theorem m_put_old {V : E_K} {k t x a j : Int} (h0 : a ≠ 44) (hj : j ≠ V 44 0 + 1) : m_put V k t x a j = V a j := by
  rw [m_put_at h0, if_neg (fun z => hj z.1), if_neg (fun z => hj z.1), if_neg (fun z => hj z.1)]
theorem m_put_oth {V : E_K} {k t x a j : Int} (h0 : a ≠ 44) (h1 : a ≠ 45) (h2 : a ≠ 46) (h3 : a ≠ 47) : m_put V k t x a j = V a j := by
  rw [m_put_at h0, if_neg (fun z => h1 z.2), if_neg (fun z => h2 z.2), if_neg (fun z => h3 z.2)]
theorem m_put_0 {V : E_K} {k t x : Int} : m_put V k t x 44 0 = V 44 0 + 1 := by
  unfold m_put
  rw [v_na (by omega), v_na (by omega), v_na (by omega), v_same]
theorem m_put_44 {V : E_K} {k t x j : Int} (hj : j ≠ 0) : m_put V k t x 44 j = V 44 j := by
  unfold m_put
  rw [v_na (by omega), v_na (by omega), v_na (by omega), v_ne hj]
theorem m_put_45 {V : E_K} {k t x : Int} : m_put V k t x 45 (V 44 0 + 1) = k := by rw [m_put_at (by omega), if_pos ⟨rfl, rfl⟩]
theorem m_put_46 {V : E_K} {k t x : Int} : m_put V k t x 46 (V 44 0 + 1) = t := by rw [m_put_at (by omega), if_neg (by omega), if_pos ⟨rfl, rfl⟩]
theorem m_put_47 {V : E_K} {k t x : Int} : m_put V k t x 47 (V 44 0 + 1) = x := by rw [m_put_at (by omega), if_neg (by omega), if_neg (by omega), if_pos ⟨rfl, rfl⟩]
/-- the log after a take-back -/
theorem m_tb2_a {V : E_K} {b : Int} (hb : 1 ≤ b ∧ b ≤ V 44 0) : a_eq V (m_tb2 V b) ∧ m_tb2 V b 45 (V 44 0 + 1) = 2 ∧ m_tb2 V b 46 (V 44 0 + 1) = V 46 b ∧ m_tb2 V b 47 (V 44 0 + 1) = V 47 b ∧ m_tb2 V b 52 (V 44 0 + 1) = b ∧ m_tb2 V b 50 (V 44 0 + 1) = V 48 b ∧ m_tb2 V b 51 (V 44 0 + 1) = V 49 b := by
  have old : ∀ a j : Int, a ≠ 44 → j ≠ V 44 0 + 1 → m_tb2 V b a j = V a j := by
    intro a j ha hj
    unfold m_tb2
    rw [v_ne hj, v_ne hj, v_ne hj, m_put_old ha hj]
  have oth : ∀ a j : Int, (a < 44 ∨ 52 < a) → m_tb2 V b a j = V a j := by
    intro a j ha
    unfold m_tb2
    rw [v_na (by omega), v_na (by omega), v_na (by omega), m_put_oth (by omega) (by omega) (by omega) (by omega)]
  have s44 : ∀ j : Int, j ≠ 0 → m_tb2 V b 44 j = V 44 j := fun j hj => m_tb2_44 hj
  refine ⟨⟨fun i h1 h2 => ⟨old _ _ (by omega) (by omega), old _ _ (by omega) (by omega), old _ _ (by omega) (by omega), old _ _ (by omega) (by omega), old _ _ (by omega) (by omega), old _ _ (by omega) (by omega)⟩, ?_, fun j => ⟨oth _ _ (by omega), oth _ _ (by omega), oth _ _ (by omega), oth _ _ (by omega), oth _ _ (by omega), oth _ _ (by omega), oth _ _ (by omega)⟩, fun j _ => oth _ _ (by omega), s44 _ (by omega), s44 _ (by omega), s44 _ (by omega), s44 _ (by omega)⟩, ?_, ?_, ?_, ?_, ?_, ?_⟩
  · unfold m_tb2
    rw [v_na (by omega), v_na (by omega), v_na (by omega), m_put_0]
  · unfold m_tb2
    rw [v_na (by omega), v_na (by omega), v_na (by omega), m_put_45]
  · unfold m_tb2
    rw [v_na (by omega), v_na (by omega), v_na (by omega), m_put_46]
  · unfold m_tb2
    rw [v_na (by omega), v_na (by omega), v_na (by omega), m_put_47]
  · unfold m_tb2
    rw [v_na (by omega), v_na (by omega), v_same]
  · unfold m_tb2
    rw [v_na (by omega), v_same, m_put_oth (by omega) (by omega) (by omega) (by omega)]
  · unfold m_tb2
    rw [v_same, m_put_oth (by omega) (by omega) (by omega) (by omega)]
theorem m_fetch_lg {V : E_K} {g n : Int} : lg_eq V (m_fetch V g) n := fun i _ _ => ⟨m_fetch_na (by omega), m_fetch_na (by omega), m_fetch_na (by omega), m_fetch_na (by omega), m_fetch_na (by omega), m_fetch_na (by omega)⟩
theorem m_apply_lg {V : E_K} {k n : Int} : lg_eq V (m_apply V k) n := fun i _ _ => ⟨m_apply_na (by omega), m_apply_na (by omega), m_apply_na (by omega), m_apply_na (by omega), m_apply_na (by omega), m_apply_na (by omega)⟩
theorem lg_eq.tr {V V' V'' : E_K} {n : Int} (h : lg_eq V V' n) (h' : lg_eq V' V'' n) : lg_eq V V'' n := fun i h1 h2 => by
  obtain ⟨a, b, c, d, e, f⟩ := h i h1 h2
  obtain ⟨a', b', c', d', e', f'⟩ := h' i h1 h2
  exact ⟨a'.trans a, b'.trans b, c'.trans c, d'.trans d, e'.trans e, f'.trans f⟩
theorem takeBack_lg {V : E_K} {b : Int} (hb : 1 ≤ b ∧ b ≤ V 44 0) : lg_eq V (m_takeBack V b) (V 44 0) ∧ m_takeBack V b 45 (V 44 0 + 1) = 2 ∧ m_takeBack V b 46 (V 44 0 + 1) = V 46 b ∧ m_takeBack V b 47 (V 44 0 + 1) = V 47 b ∧ m_takeBack V b 52 (V 44 0 + 1) = b ∧ m_takeBack V b 50 (V 44 0 + 1) = V 48 b ∧ m_takeBack V b 51 (V 44 0 + 1) = V 49 b := by
  have e0 : m_fetch V (V 47 b / 4) 44 0 = V 44 0 := m_fetch_44 (by omega)
  obtain ⟨A, a1, a2, a3, a4, a5, a6⟩ := @m_tb2_a (m_fetch V (V 47 b / 4)) b (by rw [e0]; exact hb)
  rw [e0] at a1 a2 a3 a4 a5 a6
  have A1 := A.1
  rw [e0] at A1
  unfold m_takeBack
  refine ⟨(m_fetch_lg.tr A1).tr m_apply_lg, ?_, ?_, ?_, ?_, ?_, ?_⟩
  · rw [m_apply_na (by omega), a1]
  · rw [m_apply_na (by omega), a2, m_fetch_na (by omega)]
  · rw [m_apply_na (by omega), a3, m_fetch_na (by omega)]
  · rw [m_apply_na (by omega), a4]
  · rw [m_apply_na (by omega), a5, m_fetch_na (by omega)]
  · rw [m_apply_na (by omega), a6, m_fetch_na (by omega)]
theorem takeBack_to {V : E_K} {t b : Int} (hL : lg_to V (V 44 0)) (hb : o_top V (V 44 0) t b) : lg_to (m_takeBack V b) (V 44 0 + 1) := by
  obtain ⟨ho, hw, hg⟩ := hb
  have b1 := ho.1
  have b2 := ho.2.1
  obtain ⟨E, a1, a2, a3, a4, a5, a6⟩ := @takeBack_lg V b ⟨b1, b2⟩
  refine lg_to.app E (by rw [m_takeBack_44 (by omega)]; omega) hL (Or.inr (Or.inl ⟨a1, ?_⟩))
  obtain ⟨_, f2, f3, f4, _⟩ := E b b1 b2
  unfold lg_2
  rw [show V 44 0 + 1 - 1 = V 44 0 by omega, a2, a3, a4, a5, f2, f3, f4]
  refine ⟨ho.cg E, fun j hj hwj => ?_, rfl, rfl, rfl⟩
  have hj' := hj.cg E.sym
  rw [(E j hj'.1 hj'.2.1).2.1] at hwj
  refine hg j hj' ?_
  rcases hw with hw | hw
  · exact Or.inl hw
  · exact Or.inr (by omega)
