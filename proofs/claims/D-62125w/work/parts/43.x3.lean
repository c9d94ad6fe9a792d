/-! ===== the steps, 4: firm; keys that stand ===== -/
theorem m_fmL_spec {V : E_K} : ∀ {n : Nat} {i : Int}, 0 < m_fmL V n i → ∃ j : Int, i ≤ j ∧ j < i + n ∧ V 45 j = 3 ∧ V 62 (V 46 j) = 3 ∧ m_fmL V n i = V 46 j := by
  intro n
  induction n with
  | zero => intro i h; exact absurd h (by simp [m_fmL])
  | succ n ih =>
    intro i h
    rw [m_fmL] at h ⊢
    split
    · rename_i hc; exact ⟨i, by omega, by omega, hc.1, hc.2, rfl⟩
    · rename_i hc
      rw [if_neg hc] at h
      obtain ⟨j, h1, h2, h3⟩ := ih h
      exact ⟨j, by omega, by omega, h3⟩
theorem w_F.rel {V : E_K} (hW : w_F V) (hup : V 44 32 = 0) (h : 0 < m_firm V) : w_F (m_rel V (m_firm V)) := by
  obtain ⟨j, j1, j2, j3, j4, j5⟩ := m_fmL_spec h
  have S := hW.2.2.1
  have s1 := S.1
  have s2 := S.2
  have e : m_firm V = V 46 j := j5
  rw [e]
  have r := lg_3_of hW.1 j1 (by omega) j3
  have oc : o_com V (V 44 1) (V 46 j) := ⟨j, j1, by omega, j3, rfl⟩
  exact hW.fin hup r.1 (by omega) (Or.inr ⟨rfl, oc⟩) (fun i hi z => hi.2.2.2.1 (by rw [z]; exact oc.mono s2))
/-- what stands at a place is what the replay gives -/
theorem w_F.key {V : E_K} (hW : w_F V) (hl : p_lim V = V 44 0) {x : Int} (hx : 0 ≤ x ∧ x < 24) : m_keyAt V x = r_k V (V 44 0).toNat x := by
  obtain ⟨L, ⟨D, P, N, C, T⟩, S, F, Z, c, R⟩ := hW
  have s1 := S.1
  have s2 := S.2
  have hg : 0 ≤ x / 4 ∧ x / 4 < 6 := by omega
  have all : ∀ j : Int, p_rec V (x / 4) j → j ≤ p_cl V (x / 4) := fun j hj => C (x / 4) j hg.1 hg.2 hj (by rw [hl]; exact hj.2.1)
  obtain ⟨d1, d2, d3⟩ := D (x / 4) hg.1 hg.2
  unfold m_keyAt
  unfold p_cl at all
  split
  · rename_i hf
    obtain ⟨q1, q2, q3, q4, q5⟩ := P (x / 4) hg.1 hg.2 hf
    rw [q3 x rfl]
    symm
    refine r_k_gap (by omega) (fun j j1 j2 hj => ?_)
    have := all j ⟨by omega, by omega, hj.1, by rw [hj.2]⟩
    rw [if_pos hf] at this
    omega
  · rename_i hf
    rw [d3 x rfl]
    symm
    refine r_k_gap (by omega) (fun j j1 j2 hj => ?_)
    have := all j ⟨by omega, by omega, hj.1, by rw [hj.2]⟩
    rw [if_neg hf] at this
    omega
theorem w_F.limup {V : E_K} (hup : V 44 32 = 0) : p_lim V = V 44 0 := by
  unfold p_lim
  rw [if_pos hup]
/-- keys are unique when up -/
theorem w_F.uniq {V : E_K} (hW : w_F V) (hup : V 44 32 = 0) {x y : Int} (hx : 0 ≤ x ∧ x < 24) (hy : 0 ≤ y ∧ y < 24) (h : m_keyAt V x = m_keyAt V y) (hn : m_keyAt V x ≠ -1) : x = y := by
  have hl := w_F.limup hup
  rw [hW.key hl hx] at h hn
  rw [hW.key hl hy] at h
  exact (lg_pre hW.1 (n := (V 44 0).toNat) (by have := hW.size; omega)).2.1 x y hx.1 hx.2 hy.1 hy.2 h hn
