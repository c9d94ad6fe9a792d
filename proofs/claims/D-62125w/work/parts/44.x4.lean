/-! ===== the steps, 5: a lock is granted ===== -/
theorem m_g1_62 {V : E_K} {t j : Int} : m_g1 V t 62 j = if j = t then 1 else V 62 j := by
  unfold m_g1
  rw [v_na (by omega)]
  by_cases h : j = t
  · rw [h, v_same, if_pos rfl]
  · rw [v_ne h, if_neg h]
    split
    · rfl
    · exact v_na (by omega)
theorem m_g1_63 {V : E_K} {t j : Int} : m_g1 V t 63 j = if j = t then 0 else V 63 j := by
  unfold m_g1
  by_cases h : j = t
  · rw [h, v_same, if_pos rfl]
  · rw [v_ne h, if_neg h, v_na (by omega)]
    split
    · rfl
    · exact v_na (by omega)
theorem m_g1_69 {V : E_K} {t j : Int} : m_g1 V t 69 j = if V 69 (100 * t + V 65 t) < V 66 t ∧ j = 100 * t + V 65 t then V 66 t else V 69 j := by
  unfold m_g1
  rw [v_na (by omega), v_na (by omega)]
  by_cases h1 : V 66 t ≤ V 69 (100 * t + V 65 t)
  · rw [if_pos h1, if_neg (by omega)]
  · rw [if_neg h1]
    by_cases h : j = 100 * t + V 65 t
    · rw [h, v_same, if_pos ⟨by omega, rfl⟩]
    · rw [v_ne h, if_neg (fun z => h z.2)]
theorem m_fit_t {V : E_K} {t : Int} (hB : 0 ≤ V 44 22) (h : m_fit V t = true) : V 66 t ≤ V 69 (100 * t + V 65 t) ∨ ∀ u : Int, 1 ≤ u → u ≤ V 44 22 → m_conf V t u = false ∧ (V 69 (100 * t + V 65 t) = 0 → m_ahead V t u = false) := by
  unfold m_fit at h
  rw [Bool.or_eq_true, decide_eq_true_eq] at h
  rcases h with h | h
  · exact Or.inl h
  · refine Or.inr (fun u h1 h2 => ?_)
    rw [Bool.not_eq_true'] at h
    have hn : ¬ (m_conf V t u || (decide (V 69 (100 * t + V 65 t) = 0) && m_ahead V t u)) = true := by
      intro z
      have : q_any (fun u => m_conf V t u || (decide (V 69 (100 * t + V 65 t) = 0) && m_ahead V t u)) (V 44 22).toNat 1 = true := q_any_iff.mpr ⟨u, h1, by omega, z⟩
      rw [this] at h
      exact absurd h (by decide)
    rw [Bool.or_eq_true, Bool.and_eq_true, decide_eq_true_eq] at hn
    refine ⟨?_, fun hz => ?_⟩
    · cases hb : m_conf V t u
      · rfl
      · exact absurd (Or.inl hb) hn
    · cases hb : m_ahead V t u
      · rfl
      · exact absurd (Or.inr ⟨hz, hb⟩) hn
theorem w_F.g1 {V : E_K} {t : Int} (hW : w_F V) (hup : V 44 32 = 0) (ht : 1 ≤ t ∧ t ≤ V 44 22) (hst : V 62 t = 1 ∨ V 62 t = 2) (hfit : m_fit V t = true) : w_F (m_g1 V t) := by
  obtain ⟨L, P, S, F, Z, c, R⟩ := hW
  have oth : ∀ a j : Int, a ≠ 62 → a ≠ 63 → a ≠ 69 → m_g1 V t a j = V a j := fun a j h1 h2 h3 => m_g1_na ⟨h3, h1, h2⟩
  have lg : ∀ n, lg_eq V (m_g1 V t) n := fun n i _ _ => ⟨oth _ _ (by omega) (by omega) (by omega), oth _ _ (by omega) (by omega) (by omega), oth _ _ (by omega) (by omega) (by omega), oth _ _ (by omega) (by omega) (by omega), oth _ _ (by omega) (by omega) (by omega), oth _ _ (by omega) (by omega) (by omega)⟩
  have ot : ∀ a j : Int, a < 62 → m_g1 V t a j = V a j := fun a j h => oth a j (by omega) (by omega) (by omega)
  refine ⟨?_, P.keep ⟨fun j => ⟨ot _ _ (by omega), ot _ _ (by omega), ot _ _ (by omega), ot _ _ (by omega), ot _ _ (by omega), ot _ _ (by omega), ot _ _ (by omega), oth _ _ (by omega) (by omega) (by omega)⟩, ot _ _ (by omega), ot _ _ (by omega), ot _ _ (by omega), ot _ _ (by omega)⟩ (by rw [ot 44 1 (by omega)]; omega) (fun j => ⟨ot _ _ (by omega), ot _ _ (by omega), ot _ _ (by omega), ot _ _ (by omega), ot _ _ (by omega), by rw [ot 61 j (by omega)]⟩), ?_, ?_, ?_, ?_, ?_⟩
  · rw [ot 44 0 (by omega)]
    exact L.cg (lg _) (by rw [ot 44 22 (by omega)]; omega)
  · unfold p_S; rw [ot 44 1 (by omega), ot 44 0 (by omega)]; exact S
  · exact ⟨by rw [ot 44 19 (by omega)]; exact F.1, fun g => by rw [ot 61 g (by omega)]; exact F.2 g⟩
  · obtain ⟨a, b, c, d, e, f, g⟩ := Z
    have g1 := g.1
    obtain ⟨w1, w2, w3, w4⟩ := e t (by omega) (by omega)
    have cf := m_fit_t (by omega) hfit
    have mine : ∀ u k : Int, 1 ≤ u → u ≤ 60 → 0 ≤ k → k ≤ 99 → (100 * u + k = 100 * t + V 65 t ↔ u = t ∧ k = V 65 t) := by intro u k _ _ _ _; omega
    refine ⟨fun u t1 t2 => ?_, fun u k t1 t2 k1 k2 => ?_, fun u v k t1 t2 u1 u2 k1 k2 ne => ?_, fun z i hi => ?_, fun u t1 t2 => ?_, fun u v t1 t2 u1 u2 => ?_, ?_, fun u t1 t2 => ?_, ?_⟩
    · rw [ot 44 22 (by omega)] at t2
      rw [m_g1_62, ot 44 32 (by omega), ot 44 0 (by omega), ot 44 1 (by omega)]
      obtain ⟨a1, a2, a3, a4, a5, a6, a7⟩ := a u t1 t2
      by_cases hu : u = t
      · rw [if_pos hu]
        rw [hu] at a5
        refine ⟨by omega, by omega, by omega, fun z => absurd hup z, fun _ w => ?_, fun z => absurd z (by omega), fun z => absurd z (by omega)⟩
        rw [hu] at w
        exact a5 (by omega) (w.cg (lg _).sym)
      · rw [if_neg hu]
        exact ⟨a1, a2, a3, a4, fun z w => a5 z (w.cg (lg _).sym), fun z => (a6 z).cg (lg _), fun z => (a7 z).cg (lg _)⟩
    · rw [m_g1_69, ot 44 22 (by omega), m_g1_62]
      simp only [mine u k t1 t2 k1 k2]
      obtain ⟨b1, b2, b3⟩ := b u k t1 t2 k1 k2
      split
      · rename_i hc
        refine ⟨by omega, by omega, fun _ => ⟨by omega, ?_⟩⟩
        rw [if_pos hc.2.1]
        omega
      · refine ⟨b1, b2, fun z => ⟨(b3 z).1, ?_⟩⟩
        have := (b3 z).2
        split <;> omega
    · rw [m_g1_69, m_g1_69]
      simp only [mine u k t1 t2 k1 k2, mine v k u1 u2 k1 k2]
      intro hz
      by_cases hu : V 69 (100 * t + V 65 t) < V 66 t ∧ u = t ∧ k = V 65 t
      · rw [if_pos hu] at hz
        rw [if_neg (by omega)]
        rcases cf with cf | cf
        · omega
        · obtain ⟨v1, v2, v3⟩ := b v k u1 u2 k1 k2
          by_cases hzero : V 69 (100 * v + k) = 0
          · exact hzero
          · have hv := (v3 hzero).1
            have := (cf v u1 hv).1
            unfold m_conf at this
            rw [decide_eq_false_iff_not] at this
            rw [hu.2.2] at v1 hzero
            exact absurd ⟨by omega, by omega, Or.inr hz⟩ this
      · rw [if_neg hu] at hz
        have c0 := c u v k t1 t2 u1 u2 k1 k2 ne hz
        by_cases hv : V 69 (100 * t + V 65 t) < V 66 t ∧ v = t ∧ k = V 65 t
        · rcases cf with cf | cf
          · omega
          · have hb := b u k t1 t2 k1 k2
            have := (cf u t1 (hb.2.2 (by omega)).1).1
            unfold m_conf at this
            rw [decide_eq_false_iff_not] at this
            rw [hv.2.2] at hz
            exact absurd ⟨by omega, by omega, Or.inl hz⟩ this
        · rw [if_neg hv]
          exact c0
    · rw [ot 44 0 (by omega)] at hi
      have hi' := hi.cg (lg _).sym
      have hk := (lg_1_of L hi').2.2.1
      have hw := (lg_1_of L hi').1
      obtain ⟨d1, d2⟩ := d hup i hi'
      rw [ot 46 i (by omega), ot 50 i (by omega), m_g1_62, m_g1_69]
      refine ⟨?_, ?_⟩
      · split
        · exact Or.inl rfl
        · exact d1
      · split
        · rename_i hc
          rw [hc.2] at d2
          omega
        · exact d2
    · obtain ⟨e1, e2, e3, e4⟩ := e u t1 t2
      rw [oth 65 u (by omega) (by omega) (by omega), oth 66 u (by omega) (by omega) (by omega), oth 68 u (by omega) (by omega) (by omega), ot 44 19 (by omega), m_g1_62]
      refine ⟨e1, e2, fun z => ?_, e4⟩
      split at z
      · omega
      · exact e3 z
    · rw [ot 44 22 (by omega)] at t2 u2
      rw [m_g1_62, m_g1_62, oth 68 u (by omega) (by omega) (by omega), oth 68 v (by omega) (by omega) (by omega)]
      intro z1 z2
      split at z1
      · omega
      · split at z2
        · omega
        · exact f u v t1 t2 u1 u2 z1 z2
    · rw [ot 44 22 (by omega)]; exact g.1
    · rw [ot 44 22 (by omega)] at t1
      rw [oth 64 u (by omega) (by omega) (by omega)]
      exact g.2.1 u t1 t2
    · rw [ot 44 22 (by omega), q_cn_cg (P := m_live V) (P' := m_live (m_g1 V t)) (fun j _ _ => ?_)]
      · exact g.2.2
      · apply q_bool
        rw [m_live_iff, m_live_iff, m_g1_62]
        by_cases hj : j = t
        · rw [if_pos hj, hj]; omega
        · rw [if_neg hj]
  · unfold w_C
    rw [m_count_cg (ot 44 0 (by omega)) (fun j _ _ => ot _ _ (by omega)), m_count_cg (ot 44 0 (by omega)) (fun j _ _ => ot _ _ (by omega))]
    exact c
  · unfold w_R
    rw [ot 44 32 (by omega), ot 44 34 (by omega), ot 44 35 (by omega), ot 44 33 (by omega), ot 44 0 (by omega)]
    exact ⟨fun z => absurd hup z, R.2.1, R.2.2⟩
