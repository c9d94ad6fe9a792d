/-! ===== states and locks; all of it together ===== -/
def z_st (V : E_K) : Prop := ∀ t : Int, 1 ≤ t → t ≤ V 44 22 → 1 ≤ V 62 t ∧ V 62 t ≤ 6 ∧ (V 44 32 = 0 → V 62 t ≠ 6) ∧ (V 44 32 ≠ 0 → 4 ≤ V 62 t) ∧ ((V 62 t = 1 ∨ V 62 t = 2 ∨ V 62 t = 5) → ¬ o_com V (V 44 0) t) ∧ (V 62 t = 3 → o_com V (V 44 0) t) ∧ (V 62 t = 4 → o_com V (V 44 1) t)
def z_lk (V : E_K) : Prop := ∀ t k : Int, 1 ≤ t → t ≤ 60 → 0 ≤ k → k ≤ 99 → 0 ≤ V 69 (100 * t + k) ∧ V 69 (100 * t + k) ≤ 2 ∧ (V 69 (100 * t + k) ≠ 0 → t ≤ V 44 22 ∧ V 62 t ≤ 3)
def z_cp (V : E_K) : Prop := ∀ t u k : Int, 1 ≤ t → t ≤ 60 → 1 ≤ u → u ≤ 60 → 0 ≤ k → k ≤ 99 → t ≠ u → V 69 (100 * t + k) = 2 → V 69 (100 * u + k) = 0
def z_op (V : E_K) : Prop := V 44 32 = 0 → ∀ i : Int, o_op V (V 44 0) i → (V 62 (V 46 i) = 1 ∨ V 62 (V 46 i) = 2) ∧ V 69 (100 * V 46 i + V 50 i) = 2
def z_wt (V : E_K) : Prop := ∀ t : Int, 0 ≤ t → t ≤ 60 → (0 ≤ V 65 t ∧ V 65 t ≤ 99) ∧ (0 ≤ V 66 t ∧ V 66 t ≤ 2) ∧ (V 62 t = 2 → 1 ≤ V 66 t) ∧ V 68 t ≤ V 44 19
def z_md (V : E_K) : Prop := ∀ t u : Int, 1 ≤ t → t ≤ V 44 22 → 1 ≤ u → u ≤ V 44 22 → V 62 t = 2 → V 62 u = 2 → V 68 t = V 68 u → t = u
def z_vl (V : E_K) : Prop := (0 ≤ V 44 22 ∧ V 44 22 ≤ 60) ∧ (∀ t : Int, V 44 22 < t → t ≤ 60 → V 64 t = 0) ∧ q_cn (m_live V) (V 44 22).toNat ≤ 4
def z_W (V : E_K) : Prop := z_st V ∧ z_lk V ∧ z_cp V ∧ z_op V ∧ z_wt V ∧ z_md V ∧ z_vl V
def w_C (V : E_K) : Prop := m_count V 1 ≤ 60 ∧ m_count V 4 ≤ 20
def w_R (V : E_K) : Prop := (V 44 32 ≠ 0 → V 44 34 = 0 → ∀ g : Int, 0 ≤ g → g < 6 → V 61 g = 0) ∧ (V 44 32 ≠ 0 → V 44 34 ≠ 0 → 1 ≤ V 44 35 ∧ (V 44 35 ≤ V 44 0 ∨ V 44 35 = 1000)) ∧ 0 ≤ V 44 33
def w_F (V : E_K) : Prop := lg_to V (V 44 0) ∧ p_W V ∧ p_S V ∧ p_F V ∧ z_W V ∧ w_C V ∧ w_R V
theorem w_F.size {V : E_K} (h : w_F V) : 0 ≤ V 44 0 ∧ V 44 0 ≤ 200 := by
  obtain ⟨L, _, S, _, s, c, _⟩ := h
  have h0 : 0 ≤ V 44 0 := by have := S.1; have := S.2; omega
  exact ⟨h0, lg_size L h0 s.2.2.2.2.2.2.1 c.1 c.2⟩
theorem m_live_cg {V V' : E_K} (h : ∀ j, V' 62 j = V 62 j) : m_live V' = m_live V := by
  funext t
  unfold m_live
  rw [h]
theorem z_W.keep {V V' : E_K} (hW : z_W V) (hl : lg_eq V V' (V 44 0)) (h0 : V' 44 0 = V 44 0) (h1 : V 44 1 ≤ V' 44 1 ∧ V 44 1 ≤ V 44 0) (h22 : V' 44 22 = V 44 22) (h32 : V' 44 32 = V 44 32) (hc : V 44 19 ≤ V' 44 19) (hb : ∀ j : Int, V' 62 j = V 62 j ∧ V' 64 j = V 64 j ∧ V' 65 j = V 65 j ∧ V' 66 j = V 66 j ∧ V' 68 j = V 68 j ∧ V' 69 j = V 69 j) : z_W V' := by
  obtain ⟨a, b, c, d, e, f, g⟩ := hW
  refine ⟨fun t t1 t2 => ?_, fun t k t1 t2 k1 k2 => ?_, fun t u k t1 t2 u1 u2 k1 k2 ne => ?_, fun z i hi => ?_, fun t t1 t2 => ?_, fun t u t1 t2 u1 u2 => ?_, ?_, fun t t1 t2 => ?_, ?_⟩
  · rw [(hb t).1, h32, h0]
    obtain ⟨a1, a2, a3, a4, a5, a6, a7⟩ := a t t1 (by omega)
    exact ⟨a1, a2, a3, a4, fun z w => a5 z (w.cg hl.sym), fun z => (a6 z).cg hl, fun z => (((a7 z).cg (hl.le h1.2))).mono h1.1⟩
  · rw [(hb _).2.2.2.2.2, h22, (hb t).1]
    exact b t k t1 t2 k1 k2
  · rw [(hb _).2.2.2.2.2, (hb _).2.2.2.2.2]
    exact c t u k t1 t2 u1 u2 k1 k2 ne
  · rw [h32] at z
    rw [h0] at hi
    have hi' := hi.cg hl.sym
    obtain ⟨_, e2, _, _, e5, _⟩ := hl i hi'.1 hi'.2.1
    rw [e2, e5, (hb _).1, (hb _).2.2.2.2.2]
    exact d z i hi'
  · obtain ⟨e1, e2, e3, e4⟩ := e t t1 t2
    rw [(hb t).1, (hb t).2.2.1, (hb t).2.2.2.1, (hb t).2.2.2.2.1]
    exact ⟨e1, e2, e3, by omega⟩
  · rw [h22] at t2 u2
    rw [(hb t).1, (hb u).1, (hb t).2.2.2.2.1, (hb u).2.2.2.2.1]
    exact f t u t1 t2 u1 u2
  · rw [h22]; exact g.1
  · rw [h22] at t1
    rw [(hb t).2.1]
    exact g.2.1 t t1 t2
  · rw [h22, m_live_cg (fun j => (hb j).1)]
    exact g.2.2
theorem m_count_cg {V V' : E_K} {k : Int} (h0 : V' 44 0 = V 44 0) (h : ∀ j : Int, 1 ≤ j → j ≤ V 44 0 → V' 45 j = V 45 j) : m_count V' k = m_count V k := by
  rw [m_count_eq, m_count_eq, h0]
  refine q_cn_cg (fun j h1 h2 => ?_)
  rw [h j h1 (by omega)]
theorem m_fetch_1 {V : E_K} {g : Int} : V 44 1 ≤ m_fetch V g 44 1 := by
  unfold m_fetch
  split
  · have e1 := fun k hk => @m_load_44 (m_ft2 (v_up V 44 19 (V 44 19 + 1)) g (m_old (v_up V 44 19 (V 44 19 + 1)) 6 0 0 (-1)).1 (m_old (v_up V 44 19 (V 44 19 + 1)) 6 0 0 (-1)).2) g k hk
    unfold m_load at e1
    rw [e1 1 (by omega)]
    unfold m_ft2
    split
    · rw [v_na (by omega)]
      split
      · rw [m_spill_1, v_ne (show (1 : Int) ≠ 19 by omega)]
        split <;> omega
      · rw [v_ne (by omega)]; omega
    · rw [v_ne (by omega)]; omega
  · rw [v_na (by omega), v_ne (by omega)]; omega
/-- a fetch keeps it all -/
theorem w_F.fetch {V : E_K} {g : Int} (hW : w_F V) (hg : 0 ≤ g ∧ g < 6) (hp : V 44 32 = 0 ∨ V 44 34 ≠ 0) : w_F (m_fetch V g) := by
  obtain ⟨L, P, S, F, s, c, R⟩ := hW
  have w := P.fetch S hg F
  have na : ∀ a j : Int, a < 44 ∨ (44 < a ∧ a < 54) ∨ 61 < a → m_fetch V g a j = V a j := fun a j ha => m_fetch_na ha
  have n4 : ∀ k : Int, k ≠ 1 ∧ k ≠ 19 ∧ k ≠ 20 ∧ k ≠ 21 → m_fetch V g 44 k = V 44 k := fun k hk => m_fetch_44 hk
  refine ⟨?_, w.1, w.2, F.fetch, s.keep m_fetch_lg (n4 _ (by omega)) ⟨?_, S.2⟩ (n4 _ (by omega)) (n4 _ (by omega)) (by rw [m_fetch_19]; omega) (fun j => ⟨na _ _ (by omega), na _ _ (by omega), na _ _ (by omega), na _ _ (by omega), na _ _ (by omega), na _ _ (by omega)⟩), ?_, ?_⟩
  · rw [n4 0 (by omega)]
    exact L.cg m_fetch_lg (by rw [n4 22 (by omega)]; omega)
  · exact m_fetch_1
  · unfold w_C
    rw [m_count_cg (n4 0 (by omega)) (fun j _ _ => na _ _ (by omega)), m_count_cg (n4 0 (by omega)) (fun j _ _ => na _ _ (by omega))]
    exact c
  · unfold w_R
    rw [n4 32 (by omega), n4 34 (by omega), n4 35 (by omega), n4 0 (by omega), n4 33 (by omega)]
    refine ⟨fun z1 z2 => ?_, R.2.1, R.2.2⟩
    rcases hp with hp | hp
    · exact absurd hp z1
    · exact absurd z2 hp
