/-! ===== the steps, 10: begin ===== -/
theorem m_nlvL_eq {V : E_K} : ∀ {m : Nat} {a : Nat} {n : Int}, n = q_cn (m_live V) a → m_nlv V m ((a : Int) + 1) n = q_cn (m_live V) (a + m) := by
  intro m
  induction m with
  | zero => intro a n h; exact h
  | succ m ih =>
    intro a n h
    have := @ih (a + 1) (n + (if m_live V ((a : Int) + 1) = true then 1 else 0)) (by rw [q_cn, h])
    rw [m_nlv, show a + (m + 1) = a + 1 + m by omega, ← this]
    rfl
theorem m_nlv_eq {V : E_K} : m_nlv V (V 44 22).toNat 1 0 = q_cn (m_live V) (V 44 22).toNat := by
  have := @m_nlvL_eq V (V 44 22).toNat 0 0 rfl
  simpa using this
theorem w_F.begin {V : E_K} (hW : w_F V) (hc : ¬ m_bgC V) : w_F (m_bg V) := by
  unfold m_bgC at hc
  rw [m_nlv_eq] at hc
  have hup : V 44 32 = 0 := by omega
  obtain ⟨L, P, S, F, Z, c, R⟩ := hW
  have ot : ∀ a j : Int, a ≠ 44 → a ≠ 62 → a ≠ 63 → m_bg V a j = V a j := by
    intro a j h1 h2 h3
    unfold m_bg
    rw [v_na h3, v_na h2, v_na h1]
  have o4 : ∀ j : Int, j ≠ 22 → m_bg V 44 j = V 44 j := by
    intro j hj
    unfold m_bg
    rw [v_na (by omega), v_na (by omega), v_ne hj]
  have e22 : m_bg V 44 22 = V 44 22 + 1 := by
    unfold m_bg
    rw [v_na (by omega), v_na (by omega), v_same]
  have e62 : ∀ j : Int, m_bg V 62 j = if j = V 44 22 + 1 then 1 else V 62 j := by
    intro j
    unfold m_bg
    rw [v_na (by omega)]
    by_cases h : j = V 44 22 + 1
    · rw [h, v_same, if_pos rfl]
    · rw [v_ne h, if_neg h, v_na (by omega)]
  have lg : ∀ n, lg_eq V (m_bg V) n := fun n i _ _ => ⟨ot _ _ (by omega) (by omega) (by omega), ot _ _ (by omega) (by omega) (by omega), ot _ _ (by omega) (by omega) (by omega), ot _ _ (by omega) (by omega) (by omega), ot _ _ (by omega) (by omega) (by omega), ot _ _ (by omega) (by omega) (by omega)⟩
  refine ⟨?_, P.keep ⟨fun j => ⟨ot _ _ (by omega) (by omega) (by omega), ot _ _ (by omega) (by omega) (by omega), ot _ _ (by omega) (by omega) (by omega), ot _ _ (by omega) (by omega) (by omega), ot _ _ (by omega) (by omega) (by omega), ot _ _ (by omega) (by omega) (by omega), ot _ _ (by omega) (by omega) (by omega), ot _ _ (by omega) (by omega) (by omega)⟩, o4 _ (by omega), o4 _ (by omega), o4 _ (by omega), o4 _ (by omega)⟩ (by rw [o4 1 (by omega)]; omega) (fun j => ⟨ot _ _ (by omega) (by omega) (by omega), ot _ _ (by omega) (by omega) (by omega), ot _ _ (by omega) (by omega) (by omega), ot _ _ (by omega) (by omega) (by omega), ot _ _ (by omega) (by omega) (by omega), by rw [ot 61 j (by omega) (by omega) (by omega)]⟩), ?_, ?_, ?_, ?_, ?_⟩
  · rw [o4 0 (by omega)]
    exact L.cg (lg _) (by rw [e22]; omega)
  · unfold p_S; rw [o4 1 (by omega), o4 0 (by omega)]; exact S
  · exact ⟨by rw [o4 19 (by omega)]; exact F.1, fun g => by rw [ot 61 g (by omega) (by omega) (by omega)]; exact F.2 g⟩
  · obtain ⟨a, b, c, d, e, f, g⟩ := Z
    have g1 := g.1
    refine ⟨fun u t1 t2 => ?_, fun u k t1 t2 k1 k2 => ?_, fun u v k t1 t2 u1 u2 k1 k2 ne => ?_, fun z i hi => ?_, fun u t1 t2 => ?_, fun u v t1 t2 u1 u2 => ?_, ?_, fun u t1 t2 => ?_, ?_⟩
    · rw [e22] at t2
      rw [e62, o4 32 (by omega), o4 0 (by omega), o4 1 (by omega)]
      by_cases hu : u = V 44 22 + 1
      · rw [if_pos hu]
        refine ⟨by omega, by omega, by omega, fun z => absurd hup z, fun _ w => ?_, fun z => absurd z (by omega), fun z => absurd z (by omega)⟩
        obtain ⟨j, j1, j2, j3, j4⟩ := w.cg (lg _).sym
        have := (lg_3_of L j1 j2 j3).1.2
        omega
      · rw [if_neg hu]
        obtain ⟨a1, a2, a3, a4, a5, a6, a7⟩ := a u t1 (by omega)
        exact ⟨a1, a2, a3, a4, fun z w => a5 z (w.cg (lg _).sym), fun z => (a6 z).cg (lg _), fun z => (a7 z).cg (lg _)⟩
    · rw [ot 69 _ (by omega) (by omega) (by omega), e22, e62]
      obtain ⟨b1, b2, b3⟩ := b u k t1 t2 k1 k2
      refine ⟨b1, b2, fun z => ?_⟩
      have := b3 z
      rw [if_neg (by omega)]
      omega
    · rw [ot 69 _ (by omega) (by omega) (by omega), ot 69 _ (by omega) (by omega) (by omega)]
      exact c u v k t1 t2 u1 u2 k1 k2 ne
    · rw [o4 0 (by omega)] at hi
      have hi' := hi.cg (lg _).sym
      have hw := (lg_1_of L hi').1
      rw [ot 46 i (by omega) (by omega) (by omega), ot 50 i (by omega) (by omega) (by omega), ot 69 _ (by omega) (by omega) (by omega), e62, if_neg (by omega)]
      exact d hup i hi'
    · obtain ⟨e1, e2, e3, e4⟩ := e u t1 t2
      rw [ot 65 u (by omega) (by omega) (by omega), ot 66 u (by omega) (by omega) (by omega), ot 68 u (by omega) (by omega) (by omega), o4 19 (by omega), e62]
      refine ⟨e1, e2, fun z => ?_, e4⟩
      split at z
      · omega
      · exact e3 z
    · rw [e22] at t2 u2
      rw [e62, e62, ot 68 u (by omega) (by omega) (by omega), ot 68 v (by omega) (by omega) (by omega)]
      intro z1 z2
      split at z1
      · omega
      · split at z2
        · omega
        · exact f u v t1 (by omega) u1 (by omega) z1 z2
    · rw [e22]; omega
    · rw [e22] at t1
      rw [ot 64 u (by omega) (by omega) (by omega)]
      exact g.2.1 u (by omega) t2
    · rw [e22, show (V 44 22 + 1).toNat = (V 44 22).toNat + 1 by omega, q_cn, q_cn_cg (P := m_live V) (P' := m_live (m_bg V)) (fun j h1 h2 => by unfold m_live; rw [e62, if_neg (by omega)])]
      split <;> omega
  · unfold w_C
    rw [m_count_cg (o4 0 (by omega)) (fun j _ _ => ot _ _ (by omega) (by omega) (by omega)), m_count_cg (o4 0 (by omega)) (fun j _ _ => ot _ _ (by omega) (by omega) (by omega))]
    exact c
  · unfold w_R
    rw [o4 32 (by omega), o4 34 (by omega), o4 35 (by omega), o4 33 (by omega), o4 0 (by omega)]
    exact ⟨fun z => absurd hup z, R.2.1, R.2.2⟩
