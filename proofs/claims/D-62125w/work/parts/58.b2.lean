/-! ===== what firm and firstFit answer, in full; rest is kept ===== -/
theorem m_fmL_full {V : E_K} : ∀ {n : Nat} {i : Int}, (m_fmL V n i = 0 ∧ ∀ j : Int, i ≤ j → j < i + n → ¬ (V 45 j = 3 ∧ V 62 (V 46 j) = 3)) ∨ ∃ j : Int, i ≤ j ∧ j < i + n ∧ V 45 j = 3 ∧ V 62 (V 46 j) = 3 ∧ m_fmL V n i = V 46 j ∧ ∀ k : Int, i ≤ k → k < j → ¬ (V 45 k = 3 ∧ V 62 (V 46 k) = 3) := by
  intro n
  induction n with
  | zero => intro i; exact Or.inl ⟨rfl, fun j h1 h2 => by omega⟩
  | succ n ih =>
    intro i
    rw [m_fmL]
    split
    · rename_i hc
      exact Or.inr ⟨i, by omega, by omega, hc.1, hc.2, rfl, fun k h1 h2 => by omega⟩
    · rename_i hc
      rcases @ih (i + 1) with h | ⟨j, h1, h2, h3, h4, h5, h6⟩
      · refine Or.inl ⟨h.1, fun j h1 h2 => ?_⟩
        by_cases hj : j = i
        · rw [hj]; exact hc
        · exact h.2 j (by omega) (by omega)
      · refine Or.inr ⟨j, by omega, by omega, h3, h4, h5, fun k k1 k2 => ?_⟩
        by_cases hk : k = i
        · rw [hk]; exact hc
        · exact h6 k (by omega) k2
theorem w_F.firm {V : E_K} (hW : w_F V) : (m_firm V = 0 ∧ ∀ j : Int, 1 ≤ j → j ≤ V 44 1 → ¬ (V 45 j = 3 ∧ V 62 (V 46 j) = 3)) ∨ ∃ j : Int, 1 ≤ j ∧ j ≤ V 44 1 ∧ V 45 j = 3 ∧ V 62 (V 46 j) = 3 ∧ m_firm V = V 46 j ∧ (1 ≤ V 46 j ∧ V 46 j ≤ V 44 22) ∧ ∀ k : Int, 1 ≤ k → k < j → ¬ (V 45 k = 3 ∧ V 62 (V 46 k) = 3) := by
  have S1 := hW.2.2.1.1
  have S2 := hW.2.2.1.2
  rcases @m_fmL_full V (V 44 1).toNat 1 with h | ⟨j, h1, h2, h3, h4, h5, h6⟩
  · exact Or.inl ⟨h.1, fun j j1 j2 => h.2 j j1 (by omega)⟩
  · exact Or.inr ⟨j, h1, by omega, h3, h4, h5, (lg_3_of hW.1 h1 (by omega) h3).1, h6⟩
theorem m_ffL_full {V : E_K} : ∀ {n : Nat} {t b : Int}, 1 ≤ t → 0 ≤ b → b < t → (b ≠ 0 → V 62 b = 2 ∧ m_fit V b = true) → (∀ u : Int, 1 ≤ u → u < t → V 62 u = 2 → m_fit V u = true → b ≠ 0 ∧ V 68 b ≤ V 68 u) →
    0 ≤ m_ffL V n t b ∧ m_ffL V n t b < t + n ∧ (m_ffL V n t b ≠ 0 → V 62 (m_ffL V n t b) = 2 ∧ m_fit V (m_ffL V n t b) = true) ∧ ∀ u : Int, 1 ≤ u → u < t + n → V 62 u = 2 → m_fit V u = true → m_ffL V n t b ≠ 0 ∧ V 68 (m_ffL V n t b) ≤ V 68 u := by
  intro n
  induction n with
  | zero =>
    intro t b h1 h2 h3 h4 h5
    exact ⟨h2, by rw [m_ffL]; omega, h4, fun u u1 u2 => h5 u u1 (by omega)⟩
  | succ n ih =>
    intro t b h1 h2 h3 h4 h5
    rw [m_ffL]
    have e : t + 1 + (n : Int) = t + ((n + 1 : Nat) : Int) := by omega
    rw [← e]
    refine ih (by omega) ?_ ?_ ?_ ?_
    · split <;> omega
    · split <;> omega
    · split
      · rename_i hc; intro _; exact ⟨hc.1, hc.2.2⟩
      · exact h4
    · intro u u1 u2 u3 u4
      by_cases hu : u = t
      · rw [hu] at u3 u4 ⊢
        split
        · exact ⟨by omega, by omega⟩
        · rename_i hc
          refine ⟨fun z => hc ⟨u3, Or.inl z, u4⟩, ?_⟩
          refine Int.not_lt.mp (fun z => hc ⟨u3, Or.inr z, u4⟩)
      · obtain ⟨w1, w2⟩ := h5 u u1 (by omega) u3 u4
        split
        · rename_i hc
          refine ⟨by omega, ?_⟩
          rcases hc.2.1 with z | z
          · exact absurd z w1
          · omega
        · exact ⟨w1, w2⟩
theorem m_ff_full {V : E_K} (hb : 0 ≤ V 44 22) : 0 ≤ m_ff V ∧ m_ff V ≤ V 44 22 ∧ (m_ff V ≠ 0 → V 62 (m_ff V) = 2 ∧ m_fit V (m_ff V) = true) ∧ ∀ u : Int, 1 ≤ u → u ≤ V 44 22 → V 62 u = 2 → m_fit V u = true → m_ff V ≠ 0 ∧ V 68 (m_ff V) ≤ V 68 u := by
  obtain ⟨h1, h2, h3, h4⟩ := @m_ffL_full V (V 44 22).toNat 1 0 (by omega) (by omega) (by omega) (fun z => absurd rfl z) (fun u u1 u2 => by omega)
  exact ⟨h1, by unfold m_ff; omega, h3, fun u u1 u2 => h4 u u1 (by omega)⟩
theorem m_fit_mono {V V' : E_K} {t : Int} (hb : 0 ≤ V 44 22 ∧ V 44 22 ≤ V' 44 22) (h : ∀ j : Int, V' 65 j = V 65 j ∧ V' 66 j = V 66 j ∧ V' 68 j = V 68 j ∧ V' 69 j = V 69 j) (h2 : ∀ j : Int, 1 ≤ j → j ≤ V 44 22 → (V' 62 j = 2 ↔ V 62 j = 2)) (hf : m_fit V' t = true) : m_fit V t = true := by
  unfold m_fit at hf ⊢
  rw [(h t).2.1, (h t).1, (h _).2.2.2] at hf
  rw [Bool.or_eq_true] at hf ⊢
  rcases hf with hf | hf
  · exact Or.inl hf
  · refine Or.inr ?_
    rw [Bool.not_eq_true'] at hf ⊢
    refine Bool.eq_false_iff.mpr (fun z => ?_)
    obtain ⟨u, u1, u2, u3⟩ := q_any_iff.mp z
    refine absurd (q_any_iff.mpr ⟨u, u1, ?_, ?_⟩) (Bool.eq_false_iff.mp hf)
    · omega
    · unfold m_conf m_ahead at u3 ⊢
      rw [(h t).1, (h t).2.1, (h t).2.2.1, (h u).1, (h u).2.2.1, (h _).2.2.2]
      simp only [h2 u u1 (by omega)]
      exact u3
theorem z_rest.cg {V V' : E_K} (hR : z_rest V) (hW : w_F V) (hW' : w_F V') (hb : V 44 22 ≤ V' 44 22) (h1 : V' 44 1 = V 44 1) (hl : ∀ j : Int, 1 ≤ j → j ≤ V 44 1 → V' 45 j = V 45 j ∧ V' 46 j = V 46 j) (h : ∀ j : Int, V' 65 j = V 65 j ∧ V' 66 j = V 66 j ∧ V' 68 j = V 68 j ∧ V' 69 j = V 69 j) (h2 : ∀ j : Int, 1 ≤ j → j ≤ V 44 22 → (V' 62 j = 2 ↔ V 62 j = 2)) (h22 : ∀ j : Int, V 44 22 < j → j ≤ V' 44 22 → V' 62 j ≠ 2)
    (h3 : ∀ j : Int, 1 ≤ j → j ≤ V 44 1 → V 45 j = 3 → V' 62 (V 46 j) = 3 → V 62 (V 46 j) = 3) : z_rest V' := by
  have hB := hW.2.2.2.2.1.2.2.2.2.2.2.1
  have hB' := hW'.2.2.2.2.1.2.2.2.2.2.2.1
  refine ⟨?_, ?_⟩
  · rcases hW'.firm with z | ⟨j, j1, j2, j3, j4, _⟩
    · omega
    · exfalso
      rw [h1] at j2
      rw [(hl j j1 j2).1] at j3
      rw [(hl j j1 j2).2] at j4
      have q := h3 j j1 j2 j3 j4
      rcases hW.firm with w | ⟨i, i1, i2, i3, i4, i5, i6, _⟩
      · exact w.2 j j1 j2 ⟨j3, q⟩
      · have := hR.1; omega
  · obtain ⟨f1, f2, f3, f4⟩ := m_ff_full hB'.1
    refine Int.not_lt.mp (fun z => ?_)
    obtain ⟨s1, s2⟩ := f3 (by omega)
    have hle : m_ff V' ≤ V 44 22 := Int.not_lt.mp (fun w => h22 _ w f2 s1)
    have := ((m_ff_full hB.1).2.2.2 (m_ff V') (by omega) hle ((h2 _ (by omega) hle).mp s1) (m_fit_mono ⟨hB.1, hb⟩ h h2 s2)).1
    have := (m_ff_full hB.1).1
    have := hR.2
    omega
theorem z_rest.commit {V : E_K} {t : Int} (hR : z_rest V) (hW : w_F V) (hup : V 44 32 = 0) (ht : 1 ≤ t ∧ t ≤ V 44 22) (hst : V 62 t = 1) : z_rest (m_cm V t) := by
  have S := hW.2.2.1
  unfold p_S at S
  have ot : ∀ a j : Int, a ≠ 62 → m_cm V t a j = m_put V 3 t 0 a j := fun a j h => v_na h
  have oth : ∀ a j : Int, 47 < a → a ≠ 62 → m_cm V t a j = V a j := fun a j h1 h2 => by rw [ot a j h2, m_put_oth (by omega) (by omega) (by omega) (by omega)]
  have e62 : ∀ j : Int, m_cm V t 62 j = if j = t then 3 else V 62 j := by
    intro j
    unfold m_cm
    by_cases h : j = t
    · rw [h, v_same, if_pos rfl]
    · rw [v_ne h, if_neg h, m_put_oth (by omega) (by omega) (by omega) (by omega)]
  refine hR.cg hW (hW.commit hup ht hst) (by rw [ot 44 22 (by omega), m_put_44 (by omega)]; omega) (by rw [ot 44 1 (by omega), m_put_44 (by omega)]) (fun j h1 h2 => ?_) (fun j => ⟨oth _ _ (by omega) (by omega), oth _ _ (by omega) (by omega), oth _ _ (by omega) (by omega), oth _ _ (by omega) (by omega)⟩) (fun j h1 h2 => ?_) (fun j h1 h2 => ?_) (fun j h1 h2 h3 h4 => ?_)
  · rw [ot 45 j (by omega), ot 46 j (by omega), m_put_old (by omega) (by omega), m_put_old (by omega) (by omega)]
    exact ⟨rfl, rfl⟩
  · rw [e62]
    by_cases hj : j = t
    · rw [if_pos hj, hj]; omega
    · rw [if_neg hj]
  · rw [ot 44 22 (by omega), m_put_44 (by omega)] at h2; omega
  · rw [e62] at h4
    split at h4
    · rename_i hj
      exact absurd ⟨j, h1, by omega, h3, hj⟩ ((hW.2.2.2.2.1.1 t ht.1 ht.2).2.2.2.2.1 (Or.inl hst))
    · exact h4
theorem z_rest.checkpoint {V : E_K} (hR : z_rest V) (hW : w_F V) (hup : V 44 32 = 0) (hc4 : m_count V 4 < 20) : z_rest (m_ck V) := by
  have S := hW.2.2.1
  unfold p_S at S
  have ot : ∀ a j : Int, a ≠ 53 → m_ck V a j = m_put V 4 0 0 a j := fun a j h => m_ckL_na h
  have oth : ∀ a j : Int, 47 < a → a ≠ 53 → m_ck V a j = V a j := fun a j h1 h2 => by rw [ot a j h2, m_put_oth (by omega) (by omega) (by omega) (by omega)]
  refine hR.cg hW (hW.checkpoint hup hc4) (by rw [ot 44 22 (by omega), m_put_44 (by omega)]; omega) (by rw [ot 44 1 (by omega), m_put_44 (by omega)]) (fun j h1 h2 => ?_) (fun j => ⟨oth _ _ (by omega) (by omega), oth _ _ (by omega) (by omega), oth _ _ (by omega) (by omega), oth _ _ (by omega) (by omega)⟩) (fun j h1 h2 => ?_) (fun j h1 h2 => ?_) (fun j h1 h2 h3 h4 => ?_)
  · rw [ot 45 j (by omega), ot 46 j (by omega), m_put_old (by omega) (by omega), m_put_old (by omega) (by omega)]
    exact ⟨rfl, rfl⟩
  · rw [oth 62 j (by omega) (by omega)]
  · rw [ot 44 22 (by omega), m_put_44 (by omega)] at h2; omega
  · rw [oth 62 _ (by omega) (by omega)] at h4; exact h4
theorem z_rest.begin {V : E_K} (hR : z_rest V) (hW : w_F V) (hc : ¬ m_bgC V) : z_rest (m_bg V) := by
  have S := hW.2.2.1
  unfold p_S at S
  have ot : ∀ a j : Int, (a ≠ 62 ∧ a ≠ 63) → (a ≠ 44 ∨ j ≠ 22) → m_bg V a j = V a j := by
    intro a j h1 h2
    unfold m_bg
    rw [v_na h1.2, v_na h1.1]
    rcases h2 with h2 | h2
    · exact v_na h2
    · exact v_ne h2
  have e62 : ∀ j : Int, m_bg V 62 j = if j = V 44 22 + 1 then 1 else V 62 j := by
    intro j
    unfold m_bg
    rw [v_na (by omega)]
    by_cases h : j = V 44 22 + 1
    · rw [h, v_same, if_pos rfl]
    · rw [v_ne h, if_neg h, v_na (by omega)]
  have e22 : m_bg V 44 22 = V 44 22 + 1 := by
    unfold m_bg
    rw [v_na (by omega), v_na (by omega), v_same]
  refine hR.cg hW (hW.begin hc) (by omega) (ot _ _ (by omega) (by omega)) (fun j h1 h2 => ⟨ot _ _ (by omega) (by omega), ot _ _ (by omega) (by omega)⟩) (fun j => ⟨ot _ _ (by omega) (by omega), ot _ _ (by omega) (by omega), ot _ _ (by omega) (by omega), ot _ _ (by omega) (by omega)⟩) (fun j h1 h2 => ?_) (fun j h1 h2 => ?_) (fun j h1 h2 h3 h4 => ?_)
  · rw [e62, if_neg (by omega)]
  · rw [e62, if_pos (by omega)]; omega
  · have := (lg_3_of hW.1 h1 (by omega) h3).1
    rw [e62, if_neg (by omega)] at h4
    exact h4
