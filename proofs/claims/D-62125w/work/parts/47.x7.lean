/-! ===== the steps, 8: settle ===== -/
theorem m_ffL_spec {V : E_K} : ∀ {n : Nat} {t b : Int}, 1 ≤ t → (b = 0 ∨ (V 62 b = 2 ∧ m_fit V b = true)) → 0 ≤ b → (m_ffL V n t b = 0 ∨ (V 62 (m_ffL V n t b) = 2 ∧ m_fit V (m_ffL V n t b) = true)) := by
  intro n
  induction n with
  | zero => intro t b _ h _; exact h
  | succ n ih =>
    intro t b h1 h hb
    rw [m_ffL]
    refine ih (by omega) ?_ ?_
    · split
      · rename_i hc; exact Or.inr ⟨hc.1, hc.2.2⟩
      · exact h
    · split <;> omega
theorem m_ff_spec {V : E_K} (h : 0 < m_ff V) : V 62 (m_ff V) = 2 ∧ m_fit V (m_ff V) = true := by
  rcases @m_ffL_spec V (V 44 22).toNat 1 0 (by omega) (Or.inl rfl) (by omega) with z | z
  · have : m_ff V = 0 := z
    omega
  · exact z
theorem m_grant_44 {V : E_K} {t k : Int} (h : k ≠ 0 ∧ k ≠ 1 ∧ k ≠ 19 ∧ k ≠ 20 ∧ k ≠ 21) : m_grant V t 44 k = V 44 k := by
  have f : ∀ (W : E_K) (g : Int), m_fetch W g 44 k = W 44 k := fun W g => m_fetch_44 (by omega)
  have e : m_g1 V t 44 k = V 44 k := m_g1_na (by omega)
  unfold m_grant m_g2
  split
  · unfold m_gR
    split
    · rw [v_na (by omega), e]
    · rw [v_na (by omega), f, e]
  · unfold m_gW m_gW2
    have main : ∀ x : Int, (if x < 0 ∨ 60 ≤ m_count (m_g1 V t) 1 then v_up (m_g1 V t) 63 t 3 else m_gU (m_g1 V t) t x) 44 k = V 44 k := by
      intro x
      split
      · rw [v_na (by omega), e]
      · unfold m_gU m_gU2
        rw [m_apply_na (by omega), v_na (by omega), v_na (by omega), v_na (by omega), v_na (by omega), m_put_44 (by omega), f, e]
    exact main _
theorem w_F.seL : ∀ {n : Nat} {V : E_K}, w_F V → V 44 32 = 0 → w_F (m_seL n V) ∧ m_seL n V 44 32 = 0 := by
  intro n
  induction n with
  | zero => intro V h1 h2; exact ⟨h1, h2⟩
  | succ n ih =>
    intro V h1 h2
    rw [m_seL]
    split
    · rename_i hf
      exact ih (h1.rel h2 hf) (by unfold m_rel; rw [m_unlock_na (by omega), v_na (by omega)]; exact h2)
    · split
      · rename_i hf
        have hB := h1.2.2.2.2.1.2.2.2.2.2.2.1
        have r := @m_ff_rng V hB.1
        have sp := m_ff_spec hf
        have wt := h1.2.2.2.2.1.2.2.2.2.1 (m_ff V) (by omega) (by omega)
        exact ih (h1.grant h2 (by omega) (Or.inr sp.1) (wt.2.2.1 sp.1) sp.2) (by rw [m_grant_44 (by omega)]; exact h2)
      · exact ⟨h1, h2⟩
theorem w_F.settle {V : E_K} (h1 : w_F V) (h2 : V 44 32 = 0) : w_F (m_settle V) ∧ m_settle V 44 32 = 0 := h1.seL h2
