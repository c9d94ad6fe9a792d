/-! ===== the steps, 11: a request is made, and waits ===== -/
theorem m_rq1_na {V : E_K} {t key what v a j : Int} (h : a ≠ 65 ∧ a ≠ 66 ∧ a ≠ 67 ∧ a ≠ 68) (h4 : a ≠ 44 ∨ j ≠ 19) : m_rq1 V t key what v a j = V a j := by
  unfold m_rq1
  rw [v_na h.2.2.2, v_na h.2.2.1, v_na h.2.1, v_na h.1]
  rcases h4 with h4 | h4
  · exact v_na h4
  · exact v_ne h4
theorem m_rq1_19 {V : E_K} {t key what v : Int} : m_rq1 V t key what v 44 19 = V 44 19 + 1 := by
  unfold m_rq1
  rw [v_na (by omega), v_na (by omega), v_na (by omega), v_na (by omega), v_same]
theorem m_rq1_65 {V : E_K} {t key what v j : Int} : m_rq1 V t key what v 65 j = if j = t then key else V 65 j := by
  unfold m_rq1
  rw [v_na (by omega), v_na (by omega), v_na (by omega)]
  by_cases h : j = t
  · rw [h, v_same, if_pos rfl]
  · rw [v_ne h, if_neg h, v_na (by omega)]
theorem m_rq1_66 {V : E_K} {t key what v j : Int} : m_rq1 V t key what v 66 j = if j = t then what else V 66 j := by
  unfold m_rq1
  rw [v_na (by omega), v_na (by omega)]
  by_cases h : j = t
  · rw [h, v_same, if_pos rfl]
  · rw [v_ne h, if_neg h, v_na (by omega), v_na (by omega)]
theorem m_rq1_67 {V : E_K} {t key what v j : Int} : m_rq1 V t key what v 67 j = if j = t then v else V 67 j := by
  unfold m_rq1
  rw [v_na (by omega)]
  by_cases h : j = t
  · rw [h, v_same, if_pos rfl]
  · rw [v_ne h, if_neg h, v_na (by omega), v_na (by omega), v_na (by omega)]
theorem m_rq1_68 {V : E_K} {t key what v j : Int} : m_rq1 V t key what v 68 j = if j = t then V 44 19 + 1 else V 68 j := by
  unfold m_rq1
  by_cases h : j = t
  · rw [h, v_same, if_pos rfl]
  · rw [v_ne h, if_neg h, v_na (by omega), v_na (by omega), v_na (by omega), v_na (by omega)]
theorem w_F.rq1 {V : E_K} {t key what v : Int} (hW : w_F V) (hst : V 62 t ≠ 2) (hk : 0 ≤ key ∧ key ≤ 99) (hw : 0 ≤ what ∧ what ≤ 2) : w_F (m_rq1 V t key what v) := by
  obtain ⟨L, P, S, F, Z, c, R⟩ := hW
  have ot : ∀ a j : Int, a < 65 → (a ≠ 44 ∨ j ≠ 19) → m_rq1 V t key what v a j = V a j := fun a j h1 h2 => m_rq1_na (by omega) h2
  have o69 : ∀ a j : Int, 68 < a → m_rq1 V t key what v a j = V a j := fun a j h1 => m_rq1_na (by omega) (by omega)
  have lg : ∀ n, lg_eq V (m_rq1 V t key what v) n := fun n i _ _ => ⟨ot _ _ (by omega) (by omega), ot _ _ (by omega) (by omega), ot _ _ (by omega) (by omega), ot _ _ (by omega) (by omega), ot _ _ (by omega) (by omega), ot _ _ (by omega) (by omega)⟩
  refine ⟨?_, P.keep ⟨fun j => ⟨ot _ _ (by omega) (by omega), ot _ _ (by omega) (by omega), ot _ _ (by omega) (by omega), ot _ _ (by omega) (by omega), ot _ _ (by omega) (by omega), ot _ _ (by omega) (by omega), ot _ _ (by omega) (by omega), o69 _ _ (by omega)⟩, ot _ _ (by omega) (by omega), ot _ _ (by omega) (by omega), ot _ _ (by omega) (by omega), ot _ _ (by omega) (by omega)⟩ (by rw [ot 44 1 (by omega) (by omega)]; omega) (fun j => ⟨ot _ _ (by omega) (by omega), ot _ _ (by omega) (by omega), ot _ _ (by omega) (by omega), ot _ _ (by omega) (by omega), ot _ _ (by omega) (by omega), by rw [ot 61 j (by omega) (by omega)]⟩), ?_, ?_, ?_, ?_, ?_⟩
  · rw [ot 44 0 (by omega) (by omega)]
    exact L.cg (lg _) (by rw [ot 44 22 (by omega) (by omega)]; omega)
  · unfold p_S; rw [ot 44 1 (by omega) (by omega), ot 44 0 (by omega) (by omega)]; exact S
  · exact ⟨by rw [m_rq1_19]; have := F.1; omega, fun g => by rw [ot 61 g (by omega) (by omega)]; exact F.2 g⟩
  · obtain ⟨a, b, c, d, e, f, g⟩ := Z
    refine ⟨fun u t1 t2 => ?_, fun u k t1 t2 k1 k2 => ?_, fun u w k t1 t2 u1 u2 k1 k2 ne => ?_, fun z i hi => ?_, fun u t1 t2 => ?_, fun u w t1 t2 u1 u2 => ?_, ?_, fun u t1 t2 => ?_, ?_⟩
    · rw [ot 44 22 (by omega) (by omega)] at t2
      rw [ot 62 u (by omega) (by omega), ot 44 32 (by omega) (by omega), ot 44 0 (by omega) (by omega), ot 44 1 (by omega) (by omega)]
      obtain ⟨a1, a2, a3, a4, a5, a6, a7⟩ := a u t1 t2
      exact ⟨a1, a2, a3, a4, fun z w => a5 z (w.cg (lg _).sym), fun z => (a6 z).cg (lg _), fun z => (a7 z).cg (lg _)⟩
    · rw [o69 69 _ (by omega), ot 44 22 (by omega) (by omega), ot 62 u (by omega) (by omega)]
      exact b u k t1 t2 k1 k2
    · rw [o69 69 _ (by omega), o69 69 _ (by omega)]
      exact c u w k t1 t2 u1 u2 k1 k2 ne
    · rw [ot 44 32 (by omega) (by omega)] at z
      rw [ot 44 0 (by omega) (by omega)] at hi
      have hi' := hi.cg (lg _).sym
      rw [ot 46 i (by omega) (by omega), ot 50 i (by omega) (by omega), o69 69 _ (by omega), ot 62 _ (by omega) (by omega)]
      exact d z i hi'
    · obtain ⟨e1, e2, e3, e4⟩ := e u t1 t2
      rw [m_rq1_65, m_rq1_66, m_rq1_68, m_rq1_19, ot 62 u (by omega) (by omega)]
      by_cases hu : u = t
      · rw [if_pos hu, if_pos hu, if_pos hu, hu]
        exact ⟨hk, hw, fun z => absurd z hst, by omega⟩
      · rw [if_neg hu, if_neg hu, if_neg hu]
        exact ⟨e1, e2, e3, by omega⟩
    · rw [ot 44 22 (by omega) (by omega)] at t2 u2
      rw [ot 62 u (by omega) (by omega), ot 62 w (by omega) (by omega), m_rq1_68, m_rq1_68]
      intro z1 z2
      rw [if_neg (fun z => hst (by rw [← z]; exact z1)), if_neg (fun z => hst (by rw [← z]; exact z2))]
      exact f u w t1 t2 u1 u2 z1 z2
    · rw [ot 44 22 (by omega) (by omega)]; exact g.1
    · rw [ot 44 22 (by omega) (by omega)] at t1
      rw [ot 64 u (by omega) (by omega)]
      exact g.2.1 u t1 t2
    · rw [ot 44 22 (by omega) (by omega), m_live_cg (fun j => ot 62 j (by omega) (by omega))]
      exact g.2.2
  · unfold w_C
    rw [m_count_cg (ot 44 0 (by omega) (by omega)) (fun j _ _ => ot _ _ (by omega) (by omega)), m_count_cg (ot 44 0 (by omega) (by omega)) (fun j _ _ => ot _ _ (by omega) (by omega))]
    exact c
  · unfold w_R
    rw [ot 44 32 (by omega) (by omega), ot 44 34 (by omega) (by omega), ot 44 35 (by omega) (by omega), ot 44 33 (by omega) (by omega), ot 44 0 (by omega) (by omega)]
    exact ⟨fun z1 z2 g g1 g2 => by rw [ot 61 g (by omega) (by omega)]; exact R.1 z1 z2 g g1 g2, R.2.1, R.2.2⟩
