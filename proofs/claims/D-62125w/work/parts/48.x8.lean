/-! ===== the steps, 9: settle comes to rest ===== -/
theorem m_grant_oth {V : E_K} {t a j : Int} (h : 61 < a) (h3 : a ≠ 63) (h4 : a ≠ 64) : m_grant V t a j = m_g1 V t a j := by
  have f : ∀ (W : E_K) (g : Int), m_fetch W g a j = W a j := fun W g => m_fetch_na (by omega)
  unfold m_grant m_g2
  split
  · unfold m_gR
    split
    · rw [v_na h4]
    · rw [v_na h4, f]
  · unfold m_gW m_gW2
    have main : ∀ x : Int, (if x < 0 ∨ 60 ≤ m_count (m_g1 V t) 1 then v_up (m_g1 V t) 63 t 3 else m_gU (m_g1 V t) t x) a j = m_g1 V t a j := by
      intro x
      split
      · rw [v_na h3]
      · unfold m_gU m_gU2
        rw [m_apply_na (by omega), v_na (by omega), v_na (by omega), v_na (by omega), v_na (by omega), m_put_oth (by omega) (by omega) (by omega) (by omega), f]
    exact main _
def z_n (V : E_K) : Int := q_cn (fun t => decide (V 62 t = 2 ∨ V 62 t = 3)) (V 44 22).toNat
theorem q_cn_le {P P' : Int → Bool} : ∀ {n : Nat}, (∀ j : Int, 1 ≤ j → j ≤ n → P' j = true → P j = true) → q_cn P' n ≤ q_cn P n := by
  intro n
  induction n with
  | zero => intro _; exact Int.le_refl _
  | succ n ih =>
    intro h
    have i := ih (fun j h1 h2 => h j h1 (by omega))
    have hl := h ((n : Int) + 1) (by omega) (by omega)
    rw [q_cn, q_cn]
    by_cases hp : P' ((n : Int) + 1) = true
    · rw [if_pos hp, if_pos (hl hp)]; omega
    · rw [if_neg hp]
      split <;> omega
theorem w_F.zn {V : E_K} (hW : w_F V) : 0 ≤ z_n V ∧ z_n V ≤ 4 := by
  refine ⟨q_cn_rng.1, ?_⟩
  have := hW.2.2.2.2.1.2.2.2.2.2.2.2.2
  refine Int.le_trans (q_cn_le (P := m_live V) (fun j _ _ h => ?_)) this
  rw [decide_eq_true_eq] at h
  exact m_live_iff.mpr (by omega)
theorem z_n_flip {V V' : E_K} {t s : Int} (h22 : V' 44 22 = V 44 22) (ht : 1 ≤ t ∧ t ≤ V 44 22) (h : ∀ j : Int, V' 62 j = if j = t then s else V 62 j) (h1 : V 62 t = 2 ∨ V 62 t = 3) (h2 : s ≠ 2 ∧ s ≠ 3) : z_n V' = z_n V - 1 := by
  unfold z_n
  rw [h22]
  refine q_cn_flip (b := t) (decide_eq_true h1) (decide_eq_false ?_) (fun j _ _ hj => ?_) ht.1 (by omega)
  · rw [h, if_pos rfl]; omega
  · rw [h, if_neg hj]
theorem w_F.rest : ∀ {n : Nat} {V : E_K}, w_F V → V 44 32 = 0 → z_n V < n → m_firm (m_seL n V) ≤ 0 ∧ m_ff (m_seL n V) ≤ 0 := by
  intro n
  induction n with
  | zero => intro V h1 h2 h3; have := h1.zn.1; omega
  | succ n ih =>
    intro V h1 h2 h3
    have hB := h1.2.2.2.2.1.2.2.2.2.2.2.1
    rw [m_seL]
    split
    · rename_i hf
      obtain ⟨j, j1, j2, j3, j4, j5⟩ := m_fmL_spec hf
      have e : m_firm V = V 46 j := j5
      have S := h1.2.2.1
      have s1 := S.1
      have s2 := S.2
      have r := lg_3_of h1.1 j1 (by omega) j3
      refine ih (h1.rel h2 hf) (by unfold m_rel; rw [m_unlock_na (by omega), v_na (by omega)]; exact h2) ?_
      rw [show m_rel V (m_firm V) = m_end V (m_firm V) 4 from rfl, z_n_flip (V := V) (t := m_firm V) (s := 4) (m_end_oth (by omega) (by omega)) (by rw [e]; exact r.1) (fun j => m_end_62) (Or.inr (by rw [e]; exact j4)) (by omega)]
      omega
    · rename_i hf
      split
      · rename_i hg
        have r := @m_ff_rng V hB.1
        have sp := m_ff_spec hg
        have wt := h1.2.2.2.2.1.2.2.2.2.1 (m_ff V) (by omega) (by omega)
        refine ih (h1.grant h2 (by omega) (Or.inr sp.1) (wt.2.2.1 sp.1) sp.2) (by rw [m_grant_44 (by omega)]; exact h2) ?_
        rw [z_n_flip (V := V) (t := m_ff V) (s := 1) (m_grant_44 (by omega)) (by omega) (fun j => by rw [m_grant_oth (by omega) (by omega) (by omega), m_g1_62]) (Or.inl sp.1) (by omega)]
        omega
      · rename_i hg
        exact ⟨by omega, by omega⟩
/-- at rest: settle does nothing -/
def z_rest (V : E_K) : Prop := m_firm V ≤ 0 ∧ m_ff V ≤ 0
theorem w_F.settled {V : E_K} (h1 : w_F V) (h2 : V 44 32 = 0) : z_rest (m_settle V) := h1.rest h2 (by have := h1.zn; omega)
theorem z_rest.settle {V : E_K} (h : z_rest V) : m_settle V = V := by
  unfold m_settle
  rw [m_seL, if_neg (by have := h.1; omega), if_neg (by have := h.2; omega)]
