/-! ===== the steps, 13: commit ===== -/
theorem m_put_a {V : E_K} {k t x : Int} : a_eq V (m_put V k t x) := by
  have old : ∀ a j : Int, a ≠ 44 → j ≠ V 44 0 + 1 → m_put V k t x a j = V a j := fun a j h1 h2 => m_put_old h1 h2
  have oth : ∀ a j : Int, 47 < a → m_put V k t x a j = V a j := fun a j h => m_put_oth (by omega) (by omega) (by omega) (by omega)
  exact ⟨fun i h1 h2 => ⟨old _ _ (by omega) (by omega), old _ _ (by omega) (by omega), old _ _ (by omega) (by omega), old _ _ (by omega) (by omega), old _ _ (by omega) (by omega), old _ _ (by omega) (by omega)⟩, m_put_0, fun j => ⟨oth _ _ (by omega), oth _ _ (by omega), oth _ _ (by omega), oth _ _ (by omega), oth _ _ (by omega), oth _ _ (by omega), oth _ _ (by omega)⟩, fun j _ => oth _ _ (by omega), m_put_44 (by omega), m_put_44 (by omega), m_put_44 (by omega), m_put_44 (by omega)⟩
theorem w_F.commit {V : E_K} {t : Int} (hW : w_F V) (hup : V 44 32 = 0) (ht : 1 ≤ t ∧ t ≤ V 44 22) (hst : V 62 t = 1) : w_F (m_cm V t) := by
  have hsz := hW.size
  obtain ⟨L, P, S, F, Z, cc, R⟩ := hW
  have A := @m_put_a V 3 t 0
  have ot : ∀ a j : Int, a ≠ 62 → m_cm V t a j = m_put V 3 t 0 a j := fun a j h => v_na h
  have oth : ∀ a j : Int, 47 < a → a ≠ 62 → m_cm V t a j = V a j := fun a j h1 h2 => by rw [ot a j h2, m_put_oth (by omega) (by omega) (by omega) (by omega)]
  have o4 : ∀ j : Int, j ≠ 0 → m_cm V t 44 j = V 44 j := fun j h => by rw [ot 44 j (by omega), m_put_44 h]
  have e0 : m_cm V t 44 0 = V 44 0 + 1 := by rw [ot 44 0 (by omega), m_put_0]
  have e62 : ∀ j : Int, m_cm V t 62 j = if j = t then 3 else V 62 j := by
    intro j
    unfold m_cm
    by_cases h : j = t
    · rw [h, v_same, if_pos rfl]
    · rw [v_ne h, if_neg h, m_put_oth (by omega) (by omega) (by omega) (by omega)]
  have E : lg_eq V (m_cm V t) (V 44 0) := fun i h1 h2 => by
    rw [ot 45 i (by omega), ot 46 i (by omega), ot 47 i (by omega), ot 48 i (by omega), ot 50 i (by omega), ot 52 i (by omega)]
    exact A.1 i h1 h2
  have r1 : m_cm V t 45 (V 44 0 + 1) = 3 := by rw [ot 45 _ (by omega), m_put_45]
  have r2 : m_cm V t 46 (V 44 0 + 1) = t := by rw [ot 46 _ (by omega), m_put_46]
  have r3 : m_cm V t 47 (V 44 0 + 1) = 0 := by rw [ot 47 _ (by omega), m_put_47]
  have AC : a_eq V (m_cm V t) := ⟨E, e0, fun j => ⟨oth _ _ (by omega) (by omega), oth _ _ (by omega) (by omega), oth _ _ (by omega) (by omega), oth _ _ (by omega) (by omega), oth _ _ (by omega) (by omega), oth _ _ (by omega) (by omega), oth _ _ (by omega) (by omega)⟩, fun j _ => oth _ _ (by omega) (by omega), o4 _ (by omega), o4 _ (by omega), o4 _ (by omega), o4 _ (by omega)⟩
  have hncom : ¬ o_com V (V 44 0) t := (Z.1 t ht.1 ht.2).2.2.2.2.1 (Or.inl hst)
  have cm : ∀ u, o_com (m_cm V t) (V 44 0 + 1) u ↔ o_com V (V 44 0) u ∨ u = t := by
    intro u
    rw [o_com_succ hsz.1, r1, r2]
    constructor
    · rintro (z | z)
      · exact Or.inl (z.cg E.sym)
      · exact Or.inr z.2.symm
    · rintro (z | z)
      · exact Or.inl (z.cg E)
      · exact Or.inr ⟨rfl, z.symm⟩
  have s2 := S.2
  refine ⟨?_, P.app0 S AC (by rw [r1]; omega) (w_F.limup hup) (fun z => absurd hup z) (fun z => by rw [r1] at z; omega), ?_, ?_, ?_, ?_, ?_⟩
  · rw [e0]
    refine lg_to.app E (by rw [o4 22 (by omega)]; omega) L (Or.inr (Or.inr (Or.inl ⟨r1, ?_⟩)))
    unfold lg_3
    rw [r2, r3, o4 22 (by omega), show V 44 0 + 1 - 1 = V 44 0 by omega]
    exact ⟨ht, rfl, fun z => hncom (z.cg E.sym)⟩
  · unfold p_S; rw [o4 1 (by omega), e0]; exact ⟨S.1, by omega⟩
  · exact ⟨by rw [o4 19 (by omega)]; exact F.1, fun g => by rw [oth 61 g (by omega) (by omega)]; exact F.2 g⟩
  · obtain ⟨a, b, c, d, e, f, g⟩ := Z
    refine ⟨fun u t1 t2 => ?_, fun u k t1 t2 k1 k2 => ?_, fun u w k t1 t2 u1 u2 k1 k2 ne => ?_, fun z i hi => ?_, fun u t1 t2 => ?_, fun u w t1 t2 u1 u2 => ?_, ?_, fun u t1 t2 => ?_, ?_⟩
    · rw [o4 22 (by omega)] at t2
      rw [e62, o4 32 (by omega), e0, o4 1 (by omega)]
      obtain ⟨a1, a2, a3, a4, a5, a6, a7⟩ := a u t1 t2
      by_cases hu : u = t
      · rw [if_pos hu]
        exact ⟨by omega, by omega, by omega, fun z => absurd hup z, fun z => absurd z (by omega), fun _ => (cm u).mpr (Or.inr hu), fun z => absurd z (by omega)⟩
      · rw [if_neg hu]
        refine ⟨a1, a2, a3, a4, fun z w => ?_, fun z => (cm u).mpr (Or.inl (a6 z)), fun z => (a7 z).cg (E.le s2)⟩
        rcases (cm u).mp w with w | w
        · exact a5 z w
        · exact hu w
    · rw [oth 69 _ (by omega) (by omega), o4 22 (by omega), e62]
      obtain ⟨b1, b2, b3⟩ := b u k t1 t2 k1 k2
      refine ⟨b1, b2, fun z => ⟨(b3 z).1, ?_⟩⟩
      have := (b3 z).2
      split <;> omega
    · rw [oth 69 _ (by omega) (by omega), oth 69 _ (by omega) (by omega)]
      exact c u w k t1 t2 u1 u2 k1 k2 ne
    · rw [e0] at hi
      have hin : i ≠ V 44 0 + 1 := by
        intro z
        have := hi.2.2.1
        rw [z, r1] at this
        omega
      have hnt : m_cm V t 46 i ≠ t := fun z => hi.2.2.2.1 (by rw [z]; exact (cm t).mpr (Or.inr rfl))
      have hi' : o_op V (V 44 0) i := (hi.down (by omega) (by have := hi.2.1; omega)).cg E.sym
      obtain ⟨_, i2, _, _, i5, _⟩ := E i hi'.1 hi'.2.1
      rw [i2] at hnt
      rw [i2, i5, e62, if_neg hnt, oth 69 _ (by omega) (by omega)]
      exact d hup i hi'
    · obtain ⟨e1, e2, e3, e4⟩ := e u t1 t2
      rw [oth 65 u (by omega) (by omega), oth 66 u (by omega) (by omega), oth 68 u (by omega) (by omega), o4 19 (by omega), e62]
      refine ⟨e1, e2, fun z => ?_, e4⟩
      split at z
      · omega
      · exact e3 z
    · rw [o4 22 (by omega)] at t2 u2
      rw [e62, e62, oth 68 u (by omega) (by omega), oth 68 w (by omega) (by omega)]
      intro z1 z2
      split at z1
      · omega
      · split at z2
        · omega
        · exact f u w t1 t2 u1 u2 z1 z2
    · rw [o4 22 (by omega)]; exact g.1
    · rw [o4 22 (by omega)] at t1
      rw [oth 64 u (by omega) (by omega)]
      exact g.2.1 u t1 t2
    · rw [o4 22 (by omega), q_cn_cg (P := m_live V) (P' := m_live (m_cm V t)) (fun j _ _ => ?_)]
      · exact g.2.2
      · apply q_bool
        rw [m_live_iff, m_live_iff, e62]
        by_cases hj : j = t
        · rw [if_pos hj, hj]; omega
        · rw [if_neg hj]
  · unfold w_C
    rw [m_count_app hsz.1 e0 (fun j h1 h2 => (E j h1 h2).1), m_count_app hsz.1 e0 (fun j h1 h2 => (E j h1 h2).1), r1]
    have := cc.1
    have := cc.2
    refine ⟨?_, ?_⟩
    · rw [if_neg (by omega)]; omega
    · rw [if_neg (by omega)]; omega
  · unfold w_R
    rw [o4 32 (by omega), o4 34 (by omega), o4 35 (by omega), o4 33 (by omega)]
    exact ⟨fun z => absurd hup z, fun z => absurd hup z, R.2.2⟩
