/-! ===== the steps, 7: banks that don't matter; grant ===== -/
theorem w_F.irr {V V' : E_K} (hW : w_F V) (h : ∀ a j : Int, a ≠ 63 → a ≠ 67 → a ≠ 70 → a ≠ 64 → V' a j = V a j) (h64 : ∀ j : Int, V 44 22 < j → V' 64 j = V 64 j) : w_F V' := by
  obtain ⟨L, P, S, F, Z, c, R⟩ := hW
  have ot : ∀ a j : Int, a < 63 → V' a j = V a j := fun a j ha => h a j (by omega) (by omega) (by omega) (by omega)
  have lg : ∀ n, lg_eq V V' n := fun n i _ _ => ⟨ot _ _ (by omega), ot _ _ (by omega), ot _ _ (by omega), ot _ _ (by omega), ot _ _ (by omega), ot _ _ (by omega)⟩
  refine ⟨?_, P.keep ⟨fun j => ⟨ot _ _ (by omega), ot _ _ (by omega), ot _ _ (by omega), ot _ _ (by omega), ot _ _ (by omega), ot _ _ (by omega), ot _ _ (by omega), h _ _ (by omega) (by omega) (by omega) (by omega)⟩, ot _ _ (by omega), ot _ _ (by omega), ot _ _ (by omega), ot _ _ (by omega)⟩ (by rw [ot 44 1 (by omega)]; omega) (fun j => ⟨ot _ _ (by omega), ot _ _ (by omega), ot _ _ (by omega), ot _ _ (by omega), ot _ _ (by omega), by rw [ot 61 j (by omega)]⟩), ?_, ?_, ?_, ?_, ?_⟩
  · rw [ot 44 0 (by omega)]
    exact L.cg (lg _) (by rw [ot 44 22 (by omega)]; omega)
  · unfold p_S; rw [ot 44 1 (by omega), ot 44 0 (by omega)]; exact S
  · exact ⟨by rw [ot 44 19 (by omega)]; exact F.1, fun g => by rw [ot 61 g (by omega)]; exact F.2 g⟩
  · have hz : z_W (fun a j => if a = 64 then V 64 j else V' a j) := Z.keep (fun i _ _ => ⟨ot _ _ (by omega), ot _ _ (by omega), ot _ _ (by omega), ot _ _ (by omega), ot _ _ (by omega), ot _ _ (by omega)⟩) (ot 44 0 (by omega)) ⟨by show V 44 1 ≤ V' 44 1; rw [ot 44 1 (by omega)]; omega, S.2⟩ (ot 44 22 (by omega)) (ot 44 32 (by omega)) (by show V 44 19 ≤ V' 44 19; rw [ot 44 19 (by omega)]; omega) (fun j => ⟨ot 62 j (by omega), rfl, h 65 j (by omega) (by omega) (by omega) (by omega), h 66 j (by omega) (by omega) (by omega) (by omega), h 68 j (by omega) (by omega) (by omega) (by omega), h 69 j (by omega) (by omega) (by omega) (by omega)⟩)
    obtain ⟨a, b, c, d, e, f, g⟩ := hz
    refine ⟨a, b, c, d, e, f, g.1, fun t t1 t2 => ?_, g.2.2⟩
    rw [ot 44 22 (by omega)] at t1
    rw [h64 t t1]
    exact Z.2.2.2.2.2.2.2.1 t t1 t2
  · unfold w_C
    rw [m_count_cg (ot 44 0 (by omega)) (fun j _ _ => ot _ _ (by omega)), m_count_cg (ot 44 0 (by omega)) (fun j _ _ => ot _ _ (by omega))]
    exact c
  · unfold w_R
    rw [ot 44 32 (by omega), ot 44 34 (by omega), ot 44 35 (by omega), ot 44 33 (by omega), ot 44 0 (by omega)]
    refine ⟨fun z1 z2 g g1 g2 => by rw [ot 61 g (by omega)]; exact R.1 z1 z2 g g1 g2, R.2.1, R.2.2⟩
theorem m_find_some {V : E_K} {k : Int} (h : 0 ≤ m_find V k) : m_find V k < 24 ∧ m_keyAt V (m_find V k) = k := by
  unfold m_find at h ⊢
  rcases @q_first_rng (fun x => decide (m_keyAt V x = k)) 24 0 with z | z
  · omega
  · exact ⟨by omega, by simpa using z.2.2⟩
theorem q_first_none {P : Int → Bool} : ∀ {n : Nat} {x : Int}, 0 ≤ x → q_first P n x < 0 → ∀ y : Int, x ≤ y → y < x + n → P y = false := by
  intro n
  induction n with
  | zero => intro x _ _ y h1 h2; omega
  | succ n ih =>
    intro x hx h y h1 h2
    rw [q_first] at h
    split at h
    · omega
    · rename_i hp
      by_cases hy : y = x
      · rw [hy]; exact Bool.eq_false_iff.mpr hp
      · exact ih (by omega) h y (by omega) (by omega)
theorem m_find_none {V : E_K} {k : Int} (h : m_find V k < 0) : ∀ y : Int, 0 ≤ y → y < 24 → m_keyAt V y ≠ k := by
  intro y h1 h2
  have := q_first_none (by omega) h y h1 (by omega)
  simpa using this
theorem w_F.grant {V : E_K} {t : Int} (hW : w_F V) (hup : V 44 32 = 0) (ht : 1 ≤ t ∧ t ≤ V 44 22) (hst : V 62 t = 1 ∨ V 62 t = 2) (hwt : 1 ≤ V 66 t) (hfit : m_fit V t = true) : w_F (m_grant V t) := by
  have h1 := hW.g1 hup ht hst hfit
  have wt := (hW.2.2.2.2.1.2.2.2.2.1 t (by omega) (by have := hW.2.2.2.2.1.2.2.2.2.2.2.1; omega))
  have e32 : m_g1 V t 44 32 = 0 := by rw [m_g1_na (by omega)]; exact hup
  have e22 : m_g1 V t 44 22 = V 44 22 := m_g1_na (by omega)
  have e65 : m_g1 V t 65 t = V 65 t := m_g1_na (by omega)
  have e66 : m_g1 V t 66 t = V 66 t := m_g1_na (by omega)
  have e62 : m_g1 V t 62 t = 1 := by rw [m_g1_62, if_pos rfl]
  have hb := hW.2.2.2.2.1.2.1 t (V 65 t) ht.1 (by have := hW.2.2.2.2.1.2.2.2.2.2.2.1; omega) wt.1.1 wt.1.2
  have e69 : V 66 t = 2 → m_g1 V t 69 (100 * t + V 65 t) = 2 := by
    intro z
    rw [m_g1_69]
    split <;> omega
  unfold m_grant m_g2
  rw [e66, e65]
  generalize hV : m_g1 V t = V1 at *
  split
  · unfold m_gR
    split
    · exact h1.irr (fun a j _ _ _ h => v_na h) (fun j hj => v_ne (by omega))
    · rename_i hx
      have hf := m_find_some (V := V1) (k := V 65 t) (by omega)
      have w := h1.fetch (g := m_find V1 (V 65 t) / 4) (by omega) (Or.inl e32)
      exact w.irr (fun a j _ _ _ h => v_na h) (fun j hj => v_ne (by rw [m_fetch_44 (by omega)] at hj; omega))
  · rename_i hw
    have main : ∀ x : Int, x < 24 → (0 ≤ x → m_keyAt V1 x = V 65 t ∨ (m_keyAt V1 x = -1 ∧ ∀ y : Int, 0 ≤ y → y < 24 → m_keyAt V1 y ≠ V 65 t)) → w_F (m_gW2 V1 t x) := by
      intro x hx hk
      unfold m_gW2
      split
      · exact h1.irr (fun a j h _ _ _ => v_na h) (fun j hj => v_na (by omega))
      · rename_i hc
        exact h1.gU e32 (by rw [e22]; exact ht) e62 (by rw [e65]; exact e69 (by omega)) (by omega) (by rw [e65]; exact hk (by omega)) (by omega)
    unfold m_gW
    split
    · rename_i hn
      exact main _ m_find_rng.2 (fun h => Or.inr ⟨(m_find_some h).2, m_find_none hn⟩)
    · rename_i hn
      exact main _ m_find_rng.2 (fun h => Or.inl (m_find_some h).2)
