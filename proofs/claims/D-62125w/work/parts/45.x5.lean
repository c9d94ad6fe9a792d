/-! ===== the steps, 6: an UPDATE row ===== -/
theorem m_gU2_a {V : E_K} {t x : Int} (hs : 0 ≤ V 44 0) : a_eq V (m_gU2 V t x) ∧ m_gU2 V t x 45 (V 44 0 + 1) = 1 ∧ m_gU2 V t x 46 (V 44 0 + 1) = t ∧ m_gU2 V t x 47 (V 44 0 + 1) = x ∧ m_gU2 V t x 48 (V 44 0 + 1) = V 57 x ∧ m_gU2 V t x 49 (V 44 0 + 1) = V 58 x ∧ m_gU2 V t x 50 (V 44 0 + 1) = V 65 t ∧ m_gU2 V t x 51 (V 44 0 + 1) = V 67 t ∧ (∀ a j : Int, (a < 44 ∨ 51 < a) → m_gU2 V t x a j = V a j) ∧ ∀ j : Int, j ≠ 0 → m_gU2 V t x 44 j = V 44 j := by
  have old : ∀ a j : Int, a ≠ 44 → j ≠ V 44 0 + 1 → m_gU2 V t x a j = V a j := by
    intro a j ha hj
    unfold m_gU2
    rw [v_ne hj, v_ne hj, v_ne hj, v_ne hj, m_put_old ha hj]
  have oth : ∀ a j : Int, (a < 44 ∨ 51 < a) → m_gU2 V t x a j = V a j := by
    intro a j ha
    unfold m_gU2
    rw [v_na (by omega), v_na (by omega), v_na (by omega), v_na (by omega), m_put_oth (by omega) (by omega) (by omega) (by omega)]
  have s44 : ∀ j : Int, j ≠ 0 → m_gU2 V t x 44 j = V 44 j := by
    intro j hj
    unfold m_gU2
    rw [v_na (by omega), v_na (by omega), v_na (by omega), v_na (by omega), m_put_44 hj]
  refine ⟨⟨fun i h1 h2 => ⟨old _ _ (by omega) (by omega), old _ _ (by omega) (by omega), old _ _ (by omega) (by omega), old _ _ (by omega) (by omega), old _ _ (by omega) (by omega), old _ _ (by omega) (by omega)⟩, ?_, fun j => ⟨oth _ _ (by omega), oth _ _ (by omega), oth _ _ (by omega), oth _ _ (by omega), oth _ _ (by omega), oth _ _ (by omega), oth _ _ (by omega)⟩, fun j _ => oth _ _ (by omega), s44 _ (by omega), s44 _ (by omega), s44 _ (by omega), s44 _ (by omega)⟩, ?_, ?_, ?_, ?_, ?_, ?_, ?_, oth, s44⟩
  · unfold m_gU2
    rw [v_na (by omega), v_na (by omega), v_na (by omega), v_na (by omega), m_put_0]
  · unfold m_gU2
    rw [v_na (by omega), v_na (by omega), v_na (by omega), v_na (by omega), m_put_45]
  · unfold m_gU2
    rw [v_na (by omega), v_na (by omega), v_na (by omega), v_na (by omega), m_put_46]
  · unfold m_gU2
    rw [v_na (by omega), v_na (by omega), v_na (by omega), v_na (by omega), m_put_47]
  · unfold m_gU2
    rw [v_na (by omega), v_na (by omega), v_na (by omega), v_same, m_put_oth (by omega) (by omega) (by omega) (by omega)]
  · unfold m_gU2
    rw [v_na (by omega), v_na (by omega), v_same, m_put_oth (by omega) (by omega) (by omega) (by omega)]
  · unfold m_gU2
    rw [v_na (by omega), v_same]
  · unfold m_gU2
    rw [v_same, m_put_oth (by omega) (by omega) (by omega) (by omega)]
theorem w_F.gU {V : E_K} {t x : Int} (hW : w_F V) (hup : V 44 32 = 0) (ht : 1 ≤ t ∧ t ≤ V 44 22) (hst : V 62 t = 1) (hlk : V 69 (100 * t + V 65 t) = 2) (hx : 0 ≤ x ∧ x < 24) (hk : m_keyAt V x = V 65 t ∨ (m_keyAt V x = -1 ∧ ∀ y : Int, 0 ≤ y → y < 24 → m_keyAt V y ≠ V 65 t)) (hc : m_count V 1 < 60) : w_F (m_gU V t x) := by
  have hsz := hW.size
  have hB := hW.2.2.2.2.1.2.2.2.2.2.2.1
  have hg : 0 ≤ x / 4 ∧ x / 4 < 6 := by omega
  have hF := hW.fetch hg (Or.inl hup)
  have e0 : m_fetch V (x / 4) 44 0 = V 44 0 := m_fetch_44 (by omega)
  have f44 : ∀ k : Int, k ≠ 1 ∧ k ≠ 19 ∧ k ≠ 20 ∧ k ≠ 21 → m_fetch V (x / 4) 44 k = V 44 k := fun k hk => m_fetch_44 hk
  have fna : ∀ a j : Int, a < 44 ∨ (44 < a ∧ a < 54) ∨ 61 < a → m_fetch V (x / 4) a j = V a j := fun a j ha => m_fetch_na ha
  have wk := (hW.2.2.2.2.1.2.2.2.2.1 t (by omega) (by omega)).1
  obtain ⟨A, a1, a2, a3, a4, a5, a6, a7, a8, a9⟩ := @m_gU2_a (m_fetch V (x / 4)) t x (by rw [e0]; omega)
  have A1 := A.1
  rw [e0] at A1 a1 a2 a3 a4 a5 a6 a7
  have hfx : 0 < m_fetch V (x / 4) 61 (x / 4) := by rw [m_fetch_61]; have := hW.2.2.2.1.1; omega
  have kx : m_fetch V (x / 4) 57 x = r_k V (V 44 0).toNat x := by
    have := hF.key (w_F.limup (by rw [f44 32 (by omega)]; exact hup)) hx
    unfold m_keyAt at this
    rw [if_pos hfx, e0] at this
    rw [this]
    exact r_k_cg m_fetch_lg
  have kv : ∀ y : Int, 0 ≤ y → y < 24 → m_keyAt V y = r_k V (V 44 0).toNat y := fun y h1 h2 => hW.key (w_F.limup hup) ⟨h1, h2⟩
  have E : lg_eq V (m_gU V t x) (V 44 0) := (m_fetch_lg.tr A1).tr m_apply_lg
  have g0 : m_gU V t x 44 0 = V 44 0 + 1 := by unfold m_gU; rw [m_apply_na (by omega), A.2.1, e0]
  have g44 : ∀ j : Int, j ≠ 0 → m_gU V t x 44 j = m_fetch V (x / 4) 44 j := fun j hj => by unfold m_gU; rw [m_apply_na (by omega), a9 j hj]
  have ghi : ∀ a j : Int, 60 < a → m_gU V t x a j = m_fetch V (x / 4) a j := fun a j ha => by unfold m_gU; rw [m_apply_na (by omega), a8 a j (by omega)]
  have r1 : m_gU V t x 45 (V 44 0 + 1) = 1 := by unfold m_gU; rw [m_apply_na (by omega), a1]
  have r2 : m_gU V t x 46 (V 44 0 + 1) = t := by unfold m_gU; rw [m_apply_na (by omega), a2]
  have r3 : m_gU V t x 47 (V 44 0 + 1) = x := by unfold m_gU; rw [m_apply_na (by omega), a3]
  have r4 : m_gU V t x 48 (V 44 0 + 1) = r_k V (V 44 0).toNat x := by unfold m_gU; rw [m_apply_na (by omega), a4, kx]
  have r6 : m_gU V t x 50 (V 44 0 + 1) = V 65 t := by unfold m_gU; rw [m_apply_na (by omega), a6, fna 65 t (by omega)]
  have rk : ∀ y, r_k (m_gU V t x) (V 44 0).toNat y = r_k V (V 44 0).toNat y := fun y => r_k_cg (E.le (by omega))
  refine ⟨?_, ?_, ?_, ?_, ?_, ?_, ?_⟩
  · rw [g0]
    refine lg_to.app E (by rw [g44 22 (by omega), f44 22 (by omega)]; omega) hW.1 (Or.inl ⟨r1, ?_⟩)
    unfold lg_1
    rw [show V 44 0 + 1 - 1 = V 44 0 by omega, r2, r3, r4, r6, g44 22 (by omega), f44 22 (by omega)]
    simp only [rk]
    have pre := lg_pre hW.1 (n := (V 44 0).toNat) (by omega)
    refine ⟨ht, hx, wk, fun z => ?_, trivial, ?_, fun j hj hw hxj => ?_⟩
    · exact (hW.2.2.2.2.1.1 t ht.1 ht.2).2.2.2.2.1 (Or.inl hst) (z.cg E.sym)
    · rw [← kv x hx.1 hx.2]
      rcases hk with hk | hk
      · exact Or.inl hk
      · exact Or.inr ⟨hk.1, fun y y1 y2 => by rw [← kv y y1 y2]; exact hk.2 y y1 y2⟩
    · have hj' := hj.cg E.sym
      obtain ⟨_, j2, j3, _⟩ := E j hj'.1 hj'.2.1
      rw [j2] at hw
      rw [j3] at hxj
      have rj := lg_1_of hW.1 hj'
      have o := pre.2.2.1 j (by rw [Int.toNat_of_nonneg hsz.1]; exact hj')
      rw [hxj, ← kv x hx.1 hx.2] at o
      have nk := rj.2.2.1
      have hkk : V 50 j = V 65 t := by
        rcases hk with hk | hk
        · omega
        · omega
      have lj := (hW.2.2.2.2.1.2.2.2.1 hup j hj').2
      rw [hkk] at lj
      have := hW.2.2.2.2.1.2.2.1 (V 46 j) t (V 65 t) rj.1.1 (by have := rj.1.2; omega) ht.1 (by omega) wk.1 wk.2 hw lj
      omega
  · have w := hF.2.1.app1 hF.2.2.1 A (by rw [e0, a1]; omega) (by rw [e0, a3]; exact hx) (by rw [e0, a3]; exact hfx) (w_F.limup (by rw [f44 32 (by omega)]; exact hup)) (fun z => absurd (by rw [f44 32 (by omega)]; exact hup) z)
    rw [e0] at w
    exact w
  · unfold p_S
    rw [g44 1 (by omega), g0]
    have := hF.2.2.1
    unfold p_S at this
    rw [e0] at this
    omega
  · exact ⟨by rw [g44 19 (by omega)]; exact hF.2.2.2.1.1, fun g => by rw [ghi 61 g (by omega)]; exact hF.2.2.2.1.2 g⟩
  · refine hW.2.2.2.2.1.app hsz.1 E g0 ⟨by rw [g44 1 (by omega)]; exact m_fetch_1, hW.2.2.1.2⟩ (by rw [g44 22 (by omega), f44 22 (by omega)]) (by rw [g44 32 (by omega), f44 32 (by omega)]) (by rw [g44 19 (by omega), m_fetch_19]; omega) (fun j => ⟨?_, ?_, ?_, ?_, ?_, ?_⟩) (by rw [r1]; omega) (fun _ _ => by rw [r2, r6]; exact ⟨Or.inl hst, hlk⟩)
    · rw [ghi 62 j (by omega), fna 62 j (by omega)]
    · rw [ghi 64 j (by omega), fna 64 j (by omega)]
    · rw [ghi 65 j (by omega), fna 65 j (by omega)]
    · rw [ghi 66 j (by omega), fna 66 j (by omega)]
    · rw [ghi 68 j (by omega), fna 68 j (by omega)]
    · rw [ghi 69 j (by omega), fna 69 j (by omega)]
  · unfold w_C
    rw [m_count_app hsz.1 g0 (fun j h1 h2 => (E j h1 h2).1), m_count_app hsz.1 g0 (fun j h1 h2 => (E j h1 h2).1), r1]
    have := hW.2.2.2.2.2.1.2
    refine ⟨?_, ?_⟩
    · rw [if_pos rfl]; omega
    · rw [if_neg (by omega)]; omega
  · unfold w_R
    rw [g44 32 (by omega), g44 34 (by omega), g44 35 (by omega), g44 33 (by omega), f44 32 (by omega), f44 33 (by omega)]
    exact ⟨fun z => absurd hup z, fun z => absurd hup z, hW.2.2.2.2.2.2.2.2⟩
