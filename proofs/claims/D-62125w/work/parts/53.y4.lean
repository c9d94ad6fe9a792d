/-! ===== the steps, 14: force, flush, checkpoint ===== -/
theorem w_F.force {V : E_K} (hW : w_F V) : w_F (v_up V 44 1 (V 44 0)) := by
  have hsz := hW.size
  obtain ⟨L, P, S, F, Z, c, R⟩ := hW
  have s2 := S.2
  have o4 : ∀ j : Int, j ≠ 1 → v_up V 44 1 (V 44 0) 44 j = V 44 j := fun j h => v_ne h
  have ot : ∀ a j : Int, a ≠ 44 → v_up V 44 1 (V 44 0) a j = V a j := fun a j h => v_na h
  have lg : ∀ n, lg_eq V (v_up V 44 1 (V 44 0)) n := fun n i _ _ => ⟨ot _ _ (by omega), ot _ _ (by omega), ot _ _ (by omega), ot _ _ (by omega), ot _ _ (by omega), ot _ _ (by omega)⟩
  refine ⟨?_, P.keep ⟨fun j => ⟨ot _ _ (by omega), ot _ _ (by omega), ot _ _ (by omega), ot _ _ (by omega), ot _ _ (by omega), ot _ _ (by omega), ot _ _ (by omega), ot _ _ (by omega)⟩, o4 _ (by omega), o4 _ (by omega), o4 _ (by omega), o4 _ (by omega)⟩ (by rw [v_same]; exact s2) (fun j => ⟨ot _ _ (by omega), ot _ _ (by omega), ot _ _ (by omega), ot _ _ (by omega), ot _ _ (by omega), by rw [ot 61 j (by omega)]⟩), ?_, ?_, Z.keep (lg _) (o4 _ (by omega)) ⟨by rw [v_same]; exact s2, s2⟩ (o4 _ (by omega)) (o4 _ (by omega)) (by rw [o4 19 (by omega)]; omega) (fun j => ⟨ot _ _ (by omega), ot _ _ (by omega), ot _ _ (by omega), ot _ _ (by omega), ot _ _ (by omega), ot _ _ (by omega)⟩), ?_, ?_⟩
  · rw [o4 0 (by omega)]
    exact L.cg (lg _) (by rw [o4 22 (by omega)]; omega)
  · unfold p_S; rw [v_same, o4 0 (by omega)]; omega
  · exact ⟨by rw [o4 19 (by omega)]; exact F.1, fun g => by rw [ot 61 g (by omega)]; exact F.2 g⟩
  · unfold w_C
    rw [m_count_cg (o4 0 (by omega)) (fun j _ _ => ot _ _ (by omega)), m_count_cg (o4 0 (by omega)) (fun j _ _ => ot _ _ (by omega))]
    exact c
  · unfold w_R
    rw [o4 32 (by omega), o4 34 (by omega), o4 35 (by omega), o4 33 (by omega), o4 0 (by omega)]
    exact ⟨fun z1 z2 g g1 g2 => by rw [ot 61 g (by omega)]; exact R.1 z1 z2 g g1 g2, R.2.1, R.2.2⟩
theorem w_F.flush {V : E_K} {g : Int} (hW : w_F V) (hg : 0 ≤ g ∧ g < 6) (hf : 0 < V 61 g) : w_F (m_spill V g) := by
  obtain ⟨L, P, S, F, Z, c, R⟩ := hW
  have o4 : ∀ j : Int, j ≠ 1 ∧ j ≠ 21 → m_spill V g 44 j = V 44 j := fun j h => m_spill_44 h.1 h.2
  have ot : ∀ a j : Int, (a < 44 ∨ (44 < a ∧ a < 54) ∨ 61 ≤ a) → m_spill V g a j = V a j := fun a j h => m_spill_na h
  have lg : ∀ n, lg_eq V (m_spill V g) n := fun n i _ _ => ⟨ot _ _ (by omega), ot _ _ (by omega), ot _ _ (by omega), ot _ _ (by omega), ot _ _ (by omega), ot _ _ (by omega)⟩
  refine ⟨?_, P.spill hg hf, S.spill P hg hf, ?_, Z.keep (lg _) (o4 _ (by omega)) ⟨by rw [m_spill_1]; split <;> omega, S.2⟩ (o4 _ (by omega)) (o4 _ (by omega)) (by rw [o4 19 (by omega)]; omega) (fun j => ⟨ot _ _ (by omega), ot _ _ (by omega), ot _ _ (by omega), ot _ _ (by omega), ot _ _ (by omega), ot _ _ (by omega)⟩), ?_, ?_⟩
  · rw [o4 0 (by omega)]
    exact L.cg (lg _) (by rw [o4 22 (by omega)]; omega)
  · exact ⟨by rw [o4 19 (by omega)]; exact F.1, fun g => by rw [ot 61 g (by omega)]; exact F.2 g⟩
  · unfold w_C
    rw [m_count_cg (o4 0 (by omega)) (fun j _ _ => ot _ _ (by omega)), m_count_cg (o4 0 (by omega)) (fun j _ _ => ot _ _ (by omega))]
    exact c
  · unfold w_R
    rw [o4 32 (by omega), o4 34 (by omega), o4 35 (by omega), o4 33 (by omega), o4 0 (by omega)]
    exact ⟨fun z1 z2 g g1 g2 => by rw [ot 61 g (by omega)]; exact R.1 z1 z2 g g1 g2, R.2.1, R.2.2⟩
theorem m_ckL_at {r j : Int} : ∀ {n : Nat} {g : Int} {V : E_K}, m_ckL n r g V 53 j = if 6 * r + g ≤ j ∧ j < 6 * r + g + n then (if V 61 (j - 6 * r) ≤ 0 then 0 else V 60 (j - 6 * r)) else V 53 j := by
  intro n
  induction n with
  | zero => intro g V; rw [if_neg (by omega)]; rfl
  | succ n ih =>
    intro g V
    rw [m_ckL, ih]
    by_cases h2 : 6 * r + (g + 1) ≤ j ∧ j < 6 * r + (g + 1) + n
    · rw [v_na (show (61 : Int) ≠ 53 by omega), v_na (show (60 : Int) ≠ 53 by omega), if_pos h2, if_pos (show 6 * r + g ≤ j ∧ j < 6 * r + g + ((n + 1 : Nat) : Int) by omega)]
    · rw [if_neg h2]
      by_cases h3 : j = 6 * r + g
      · rw [h3, v_same, show 6 * r + g - 6 * r = g by omega, if_pos (show 6 * r + g ≤ 6 * r + g ∧ 6 * r + g < 6 * r + g + ((n + 1 : Nat) : Int) by omega)]
      · rw [v_ne h3, if_neg (by omega)]
theorem w_F.checkpoint {V : E_K} (hW : w_F V) (hup : V 44 32 = 0) (hc4 : m_count V 4 < 20) : w_F (m_ck V) := by
  have hsz := hW.size
  obtain ⟨L, P, S, F, Z, cc, R⟩ := hW
  have A := @m_put_a V 4 0 0
  have ot : ∀ a j : Int, a ≠ 53 → m_ck V a j = m_put V 4 0 0 a j := fun a j h => m_ckL_na h
  have oth : ∀ a j : Int, 47 < a → a ≠ 53 → m_ck V a j = V a j := fun a j h1 h2 => by rw [ot a j h2, m_put_oth (by omega) (by omega) (by omega) (by omega)]
  have o4 : ∀ j : Int, j ≠ 0 → m_ck V 44 j = V 44 j := fun j h => by rw [ot 44 j (by omega), m_put_44 h]
  have e0 : m_ck V 44 0 = V 44 0 + 1 := by rw [ot 44 0 (by omega), m_put_0]
  have E : lg_eq V (m_ck V) (V 44 0) := fun i h1 h2 => by
    rw [ot 45 i (by omega), ot 46 i (by omega), ot 47 i (by omega), ot 48 i (by omega), ot 50 i (by omega), ot 52 i (by omega)]
    exact A.1 i h1 h2
  have r1 : m_ck V 45 (V 44 0 + 1) = 4 := by rw [ot 45 _ (by omega), m_put_45]
  have r2 : m_ck V 46 (V 44 0 + 1) = 0 := by rw [ot 46 _ (by omega), m_put_46]
  have r3 : m_ck V 47 (V 44 0 + 1) = 0 := by rw [ot 47 _ (by omega), m_put_47]
  have e53 : ∀ j : Int, m_ck V 53 j = if 6 * (V 44 0 + 1) ≤ j ∧ j < 6 * (V 44 0 + 1) + 6 then (if V 61 (j - 6 * (V 44 0 + 1)) ≤ 0 then 0 else V 60 (j - 6 * (V 44 0 + 1))) else V 53 j := by
    intro j
    unfold m_ck
    rw [m_ckL_at, m_put_oth (by omega) (by omega) (by omega) (by omega), m_put_oth (by omega) (by omega) (by omega) (by omega), m_put_oth (by omega) (by omega) (by omega) (by omega)]
    simp
  have AC : a_eq V (m_ck V) := ⟨E, e0, fun j => ⟨oth _ _ (by omega) (by omega), oth _ _ (by omega) (by omega), oth _ _ (by omega) (by omega), oth _ _ (by omega) (by omega), oth _ _ (by omega) (by omega), oth _ _ (by omega) (by omega), oth _ _ (by omega) (by omega)⟩, fun j hj => by rw [e53, if_neg (by omega)], o4 _ (by omega), o4 _ (by omega), o4 _ (by omega), o4 _ (by omega)⟩
  have s2 := S.2
  refine ⟨?_, P.app0 S AC (by rw [r1]; omega) (w_F.limup hup) (fun z => absurd hup z) (fun _ g g1 g2 => by rw [e53, if_pos (by omega), show 6 * (V 44 0 + 1) + g - 6 * (V 44 0 + 1) = g by omega]), ?_, ?_, Z.app hsz.1 E e0 ⟨by rw [o4 1 (by omega)]; omega, s2⟩ (o4 _ (by omega)) (o4 _ (by omega)) (by rw [o4 19 (by omega)]; omega) (fun j => ⟨oth _ _ (by omega) (by omega), oth _ _ (by omega) (by omega), oth _ _ (by omega) (by omega), oth _ _ (by omega) (by omega), oth _ _ (by omega) (by omega), oth _ _ (by omega) (by omega)⟩) (by rw [r1]; omega) (fun z => by rw [r1] at z; omega), ?_, ?_⟩
  · rw [e0]
    exact lg_to.app E (by rw [o4 22 (by omega)]; omega) L (Or.inr (Or.inr (Or.inr ⟨r1, r2, r3⟩)))
  · unfold p_S; rw [o4 1 (by omega), e0]; exact ⟨S.1, by omega⟩
  · exact ⟨by rw [o4 19 (by omega)]; exact F.1, fun g => by rw [oth 61 g (by omega) (by omega)]; exact F.2 g⟩
  · unfold w_C
    rw [m_count_app hsz.1 e0 (fun j h1 h2 => (E j h1 h2).1), m_count_app hsz.1 e0 (fun j h1 h2 => (E j h1 h2).1), r1]
    have := cc.1
    refine ⟨?_, ?_⟩
    · rw [if_neg (by omega)]; omega
    · rw [if_pos rfl]; omega
  · unfold w_R
    rw [o4 32 (by omega), o4 34 (by omega), o4 35 (by omega), o4 33 (by omega)]
    exact ⟨fun z => absurd hup z, fun z => absurd hup z, R.2.2⟩
