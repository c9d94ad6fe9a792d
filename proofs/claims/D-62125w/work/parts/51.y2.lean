/-! ===== the steps, 12: it waits; commit, force, flush ===== -/
theorem w_F.rq2 {V : E_K} {t : Int} (hW : w_F V) (hup : V 44 32 = 0) (ht : 1 ≤ t ∧ t ≤ V 44 22) (hst : V 62 t = 1) (hw : 1 ≤ V 66 t) (hm : ∀ u : Int, 0 ≤ u → u ≤ 60 → u ≠ t → V 68 u < V 68 t) : w_F (m_rq2 V t) := by
  obtain ⟨L, P, S, F, Z, c, R⟩ := hW
  have ot : ∀ a j : Int, a ≠ 62 → a ≠ 63 → m_rq2 V t a j = V a j := by
    intro a j h1 h2
    unfold m_rq2
    rw [v_na h2, v_na h1]
  have e62 : ∀ j : Int, m_rq2 V t 62 j = if j = t then 2 else V 62 j := by
    intro j
    unfold m_rq2
    rw [v_na (by omega)]
    by_cases h : j = t
    · rw [h, v_same, if_pos rfl]
    · rw [v_ne h, if_neg h]
  have lg : ∀ n, lg_eq V (m_rq2 V t) n := fun n i _ _ => ⟨ot _ _ (by omega) (by omega), ot _ _ (by omega) (by omega), ot _ _ (by omega) (by omega), ot _ _ (by omega) (by omega), ot _ _ (by omega) (by omega), ot _ _ (by omega) (by omega)⟩
  refine ⟨?_, P.keep ⟨fun j => ⟨ot _ _ (by omega) (by omega), ot _ _ (by omega) (by omega), ot _ _ (by omega) (by omega), ot _ _ (by omega) (by omega), ot _ _ (by omega) (by omega), ot _ _ (by omega) (by omega), ot _ _ (by omega) (by omega), ot _ _ (by omega) (by omega)⟩, ot _ _ (by omega) (by omega), ot _ _ (by omega) (by omega), ot _ _ (by omega) (by omega), ot _ _ (by omega) (by omega)⟩ (by rw [ot 44 1 (by omega) (by omega)]; omega) (fun j => ⟨ot _ _ (by omega) (by omega), ot _ _ (by omega) (by omega), ot _ _ (by omega) (by omega), ot _ _ (by omega) (by omega), ot _ _ (by omega) (by omega), by rw [ot 61 j (by omega) (by omega)]⟩), ?_, ?_, ?_, ?_, ?_⟩
  · rw [ot 44 0 (by omega) (by omega)]
    exact L.cg (lg _) (by rw [ot 44 22 (by omega) (by omega)]; omega)
  · unfold p_S; rw [ot 44 1 (by omega) (by omega), ot 44 0 (by omega) (by omega)]; exact S
  · exact ⟨by rw [ot 44 19 (by omega) (by omega)]; exact F.1, fun g => by rw [ot 61 g (by omega) (by omega)]; exact F.2 g⟩
  · obtain ⟨a, b, c, d, e, f, g⟩ := Z
    have g1 := g.1
    refine ⟨fun u t1 t2 => ?_, fun u k t1 t2 k1 k2 => ?_, fun u w k t1 t2 u1 u2 k1 k2 ne => ?_, fun z i hi => ?_, fun u t1 t2 => ?_, fun u w t1 t2 u1 u2 => ?_, ?_, fun u t1 t2 => ?_, ?_⟩
    · rw [ot 44 22 (by omega) (by omega)] at t2
      rw [e62, ot 44 32 (by omega) (by omega), ot 44 0 (by omega) (by omega), ot 44 1 (by omega) (by omega)]
      obtain ⟨a1, a2, a3, a4, a5, a6, a7⟩ := a u t1 t2
      by_cases hu : u = t
      · rw [if_pos hu]
        rw [hu] at a5 ⊢
        exact ⟨by omega, by omega, by omega, fun z => absurd hup z, fun _ w => a5 (by omega) (w.cg (lg _).sym), fun z => absurd z (by omega), fun z => absurd z (by omega)⟩
      · rw [if_neg hu]
        exact ⟨a1, a2, a3, a4, fun z w => a5 z (w.cg (lg _).sym), fun z => (a6 z).cg (lg _), fun z => (a7 z).cg (lg _)⟩
    · rw [ot 69 _ (by omega) (by omega), ot 44 22 (by omega) (by omega), e62]
      obtain ⟨b1, b2, b3⟩ := b u k t1 t2 k1 k2
      refine ⟨b1, b2, fun z => ⟨(b3 z).1, ?_⟩⟩
      have := (b3 z).2
      split <;> omega
    · rw [ot 69 _ (by omega) (by omega), ot 69 _ (by omega) (by omega)]
      exact c u w k t1 t2 u1 u2 k1 k2 ne
    · rw [ot 44 0 (by omega) (by omega)] at hi
      have hi' := hi.cg (lg _).sym
      rw [ot 46 i (by omega) (by omega), ot 50 i (by omega) (by omega), ot 69 _ (by omega) (by omega), e62]
      obtain ⟨d1, d2⟩ := d hup i hi'
      refine ⟨?_, d2⟩
      split
      · exact Or.inr rfl
      · exact d1
    · obtain ⟨e1, e2, e3, e4⟩ := e u t1 t2
      rw [ot 65 u (by omega) (by omega), ot 66 u (by omega) (by omega), ot 68 u (by omega) (by omega), ot 44 19 (by omega) (by omega), e62]
      refine ⟨e1, e2, fun z => ?_, e4⟩
      by_cases hu : u = t
      · rw [hu]; exact hw
      · rw [if_neg hu] at z; exact e3 z
    · rw [ot 44 22 (by omega) (by omega)] at t2 u2
      rw [e62, e62, ot 68 u (by omega) (by omega), ot 68 w (by omega) (by omega)]
      intro z1 z2 z3
      by_cases hu : u = t
      · by_cases hv : w = t
        · omega
        · have := hm w (by omega) (by omega) hv
          rw [hu] at z3
          omega
      · by_cases hv : w = t
        · have := hm u (by omega) (by omega) hu
          rw [hv] at z3
          omega
        · rw [if_neg hu] at z1
          rw [if_neg hv] at z2
          exact f u w t1 t2 u1 u2 z1 z2 z3
    · rw [ot 44 22 (by omega) (by omega)]; exact g.1
    · rw [ot 44 22 (by omega) (by omega)] at t1
      rw [ot 64 u (by omega) (by omega)]
      exact g.2.1 u t1 t2
    · rw [ot 44 22 (by omega) (by omega), q_cn_cg (P := m_live V) (P' := m_live (m_rq2 V t)) (fun j _ _ => ?_)]
      · exact g.2.2
      · apply q_bool
        rw [m_live_iff, m_live_iff, e62]
        by_cases hj : j = t
        · rw [if_pos hj, hj]; omega
        · rw [if_neg hj]
  · unfold w_C
    rw [m_count_cg (ot 44 0 (by omega) (by omega)) (fun j _ _ => ot _ _ (by omega) (by omega)), m_count_cg (ot 44 0 (by omega) (by omega)) (fun j _ _ => ot _ _ (by omega) (by omega))]
    exact c
  · unfold w_R
    rw [ot 44 32 (by omega) (by omega), ot 44 34 (by omega) (by omega), ot 44 35 (by omega) (by omega), ot 44 33 (by omega) (by omega), ot 44 0 (by omega) (by omega)]
    exact ⟨fun z => absurd hup z, R.2.1, R.2.2⟩
