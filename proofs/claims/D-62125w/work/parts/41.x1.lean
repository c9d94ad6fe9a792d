/-! ===== the steps, 2: new rows and the states ===== -/
theorem m_count_app {V V' : E_K} {k : Int} (hs : 0 ≤ V 44 0) (h0 : V' 44 0 = V 44 0 + 1) (h : ∀ j : Int, 1 ≤ j → j ≤ V 44 0 → V' 45 j = V 45 j) : m_count V' k = m_count V k + (if V' 45 (V 44 0 + 1) = k then 1 else 0) := by
  rw [m_count_eq, m_count_eq, h0, show (V 44 0 + 1).toNat = (V 44 0).toNat + 1 by omega, q_cn, q_cn_cg (P := fun j => decide (V 45 j = k)) (P' := fun j => decide (V' 45 j = k)) (fun j h1 h2 => by rw [h j h1 (by omega)])]
  rw [show (((V 44 0).toNat : Int) + 1) = V 44 0 + 1 by omega]
  simp
/-- the states after a row that is no COMMIT -/
theorem z_W.app {V V' : E_K} (hW : z_W V) (hs : 0 ≤ V 44 0) (hl : lg_eq V V' (V 44 0)) (h0 : V' 44 0 = V 44 0 + 1) (h1 : V 44 1 ≤ V' 44 1 ∧ V 44 1 ≤ V 44 0) (h22 : V' 44 22 = V 44 22) (h32 : V' 44 32 = V 44 32) (hc : V 44 19 ≤ V' 44 19) (hb : ∀ j : Int, V' 62 j = V 62 j ∧ V' 64 j = V 64 j ∧ V' 65 j = V 65 j ∧ V' 66 j = V 66 j ∧ V' 68 j = V 68 j ∧ V' 69 j = V 69 j) (hk : V' 45 (V 44 0 + 1) ≠ 3) (hn : V' 45 (V 44 0 + 1) = 1 → V 44 32 = 0 → (V 62 (V' 46 (V 44 0 + 1)) = 1 ∨ V 62 (V' 46 (V 44 0 + 1)) = 2) ∧ V 69 (100 * V' 46 (V 44 0 + 1) + V' 50 (V 44 0 + 1)) = 2) : z_W V' := by
  obtain ⟨a, b, c, d, e, f, g⟩ := hW
  have cm : ∀ t, o_com V' (V 44 0 + 1) t ↔ o_com V (V 44 0) t := by
    intro t
    rw [o_com_succ hs]
    constructor
    · rintro (z | z)
      · exact z.cg hl.sym
      · exact absurd z.1 hk
    · exact fun z => Or.inl (z.cg hl)
  refine ⟨fun t t1 t2 => ?_, fun t k t1 t2 k1 k2 => ?_, fun t u k t1 t2 u1 u2 k1 k2 ne => ?_, fun z i hi => ?_, fun t t1 t2 => ?_, fun t u t1 t2 u1 u2 => ?_, ?_, fun t t1 t2 => ?_, ?_⟩
  · rw [(hb t).1, h32, h0]
    obtain ⟨a1, a2, a3, a4, a5, a6, a7⟩ := a t t1 (by omega)
    exact ⟨a1, a2, a3, a4, fun z w => a5 z ((cm t).mp w), fun z => (cm t).mpr (a6 z), fun z => (((a7 z).cg (hl.le h1.2))).mono h1.1⟩
  · rw [(hb _).2.2.2.2.2, h22, (hb t).1]
    exact b t k t1 t2 k1 k2
  · rw [(hb _).2.2.2.2.2, (hb _).2.2.2.2.2]
    exact c t u k t1 t2 u1 u2 k1 k2 ne
  · rw [h32] at z
    rw [h0] at hi
    by_cases hin : i = V 44 0 + 1
    · rw [hin] at hi ⊢
      rw [(hb _).1, (hb _).2.2.2.2.2]
      exact hn hi.2.2.1 z
    · have hi' : o_op V (V 44 0) i := (hi.down (by omega) (by have := hi.2.1; omega)).cg hl.sym
      obtain ⟨_, e2, _, _, e5, _⟩ := hl i hi'.1 hi'.2.1
      rw [e2, e5, (hb _).1, (hb _).2.2.2.2.2]
      exact d z i hi'
  · obtain ⟨e1, e2, e3, e4⟩ := e t t1 t2
    rw [(hb t).1, (hb t).2.2.1, (hb t).2.2.2.1, (hb t).2.2.2.2.1]
    exact ⟨e1, e2, e3, by omega⟩
  · rw [h22] at t2 u2
    rw [(hb t).1, (hb u).1, (hb t).2.2.2.2.1, (hb u).2.2.2.2.1]
    exact f t u t1 t2 u1 u2
  · rw [h22]; exact g.1
  · rw [h22] at t1
    rw [(hb t).2.1]
    exact g.2.1 t t1 t2
  · rw [h22, m_live_cg (fun j => (hb j).1)]
    exact g.2.2
theorem p_lim_ok {V : E_K} (hs : V 44 0 < 1000) (hm : V 44 32 = 0 ∨ (V 44 34 ≠ 0 ∧ V 44 35 = 1000)) : p_lim V = V 44 0 := by
  unfold p_lim
  rcases hm with h | h
  · rw [if_pos h]
  · split
    · rfl
    · rw [if_neg h.1, h.2, if_neg (by omega)]
theorem w_F.takeBack {V : E_K} {t b : Int} (hW : w_F V) (hb : o_top V (V 44 0) t b) (hm : V 44 32 = 0 ∨ (V 44 34 ≠ 0 ∧ V 44 35 = 1000)) : w_F (m_takeBack V b) := by
  have hsz := hW.size
  have hsp := (lg_1_of hW.1 hb.1).2.1
  have hg : 0 ≤ V 47 b / 4 ∧ V 47 b / 4 < 6 := by omega
  have hF := hW.fetch hg (by omega)
  have b1 := hb.1.1
  have b2 := hb.1.2.1
  have e0 : m_fetch V (V 47 b / 4) 44 0 = V 44 0 := m_fetch_44 (by omega)
  have E := @takeBack_lg V b ⟨b1, b2⟩
  have n4 : ∀ j : Int, j ≠ 0 ∧ j ≠ 1 ∧ j ≠ 19 ∧ j ≠ 20 ∧ j ≠ 21 → m_takeBack V b 44 j = V 44 j := fun j hj => m_takeBack_44 hj
  obtain ⟨A, a1, a2, a3, a4, a5, a6⟩ := @m_tb2_a (m_fetch V (V 47 b / 4)) b (by rw [e0]; omega)
  have na : ∀ a j : Int, 61 < a → m_takeBack V b a j = V a j := by
    intro a j ha
    unfold m_takeBack m_tb2
    rw [m_apply_na (by omega), v_na (by omega), v_na (by omega), v_na (by omega), m_put_oth (by omega) (by omega) (by omega) (by omega), m_fetch_na (by omega)]
  have t44 : ∀ j : Int, j ≠ 0 → m_takeBack V b 44 j = m_fetch V (V 47 b / 4) 44 j := by
    intro j hj
    unfold m_takeBack
    rw [m_apply_na (by omega), m_tb2_44 hj]
  have t61 : ∀ j : Int, m_takeBack V b 61 j = m_fetch V (V 47 b / 4) 61 j := by
    intro j
    unfold m_takeBack m_tb2
    rw [m_apply_na (by omega), v_na (by omega), v_na (by omega), v_na (by omega), m_put_oth (by omega) (by omega) (by omega) (by omega)]
  have f44 : ∀ k : Int, k ≠ 1 ∧ k ≠ 19 ∧ k ≠ 20 ∧ k ≠ 21 → m_fetch V (V 47 b / 4) 44 k = V 44 k := fun k hk => m_fetch_44 hk
  have f47 : m_fetch V (V 47 b / 4) 47 b = V 47 b := m_fetch_na (by omega)
  refine ⟨?_, ?_, ?_, ?_, ?_, ?_, ?_⟩
  · rw [m_takeBack_0]
    exact takeBack_to hW.1 hb
  · have w := hF.2.1.app1 hF.2.2.1 A (by rw [a1]; omega) (by rw [a3, m_fetch_na (by omega)]; exact hsp) (by rw [a3, f47, m_fetch_61]; have := hW.2.2.2.1.1; omega) (p_lim_ok (by rw [e0]; omega) (by rw [f44 32 (by omega), f44 34 (by omega), f44 35 (by omega)]; exact hm)) (fun z => by
      rw [f44 32 (by omega)] at z
      rw [e0, f44 35 (by omega)]
      omega)
    rw [e0] at w
    exact w
  · unfold p_S
    rw [t44 1 (by omega), m_takeBack_0]
    have := hF.2.2.1
    unfold p_S at this
    rw [e0] at this
    omega
  · refine ⟨by rw [t44 19 (by omega)]; exact hF.2.2.2.1.1, fun g => by rw [t61]; exact hF.2.2.2.1.2 g⟩
  · refine hW.2.2.2.2.1.app hsz.1 E.1 m_takeBack_0 ⟨by rw [t44 1 (by omega)]; exact m_fetch_1, hW.2.2.1.2⟩ (n4 _ (by omega)) (n4 _ (by omega)) (by rw [t44 19 (by omega), m_fetch_19]; omega) (fun j => ⟨na _ _ (by omega), na _ _ (by omega), na _ _ (by omega), na _ _ (by omega), na _ _ (by omega), na _ _ (by omega)⟩) (by rw [E.2.1]; omega) (fun z => by rw [E.2.1] at z; exact absurd z (by omega))
  · unfold w_C
    rw [m_count_app hsz.1 m_takeBack_0 (fun j h1 h2 => (E.1 j h1 h2).1), m_count_app hsz.1 m_takeBack_0 (fun j h1 h2 => (E.1 j h1 h2).1), E.2.1]
    have := hW.2.2.2.2.2.1
    unfold w_C at this
    simp
    exact this
  · unfold w_R
    rw [n4 32 (by omega), n4 34 (by omega), n4 35 (by omega), n4 33 (by omega), m_takeBack_0]
    have R := hW.2.2.2.2.2.2
    refine ⟨fun z1 z2 => ?_, fun z1 z2 => ?_, R.2.2⟩
    · omega
    · have := R.2.1 z1 z2
      omega
