/-! ===== the steps, 15: a request as a whole; what the other cells hold does not matter ===== -/
theorem w_F.cgr {V V' : E_K} (hW : w_F V) (h : ∀ a j : Int, 44 ≤ a → a ≤ 71 → V' a j = V a j) : w_F V' := by
  obtain ⟨L, P, S, F, Z, c, R⟩ := hW
  have ot : ∀ a j : Int, 44 ≤ a ∧ a ≤ 71 → V' a j = V a j := fun a j ha => h a j ha.1 ha.2
  have lg : ∀ n, lg_eq V V' n := fun n i _ _ => ⟨ot _ _ (by omega), ot _ _ (by omega), ot _ _ (by omega), ot _ _ (by omega), ot _ _ (by omega), ot _ _ (by omega)⟩
  refine ⟨?_, P.keep ⟨fun j => ⟨ot _ _ (by omega), ot _ _ (by omega), ot _ _ (by omega), ot _ _ (by omega), ot _ _ (by omega), ot _ _ (by omega), ot _ _ (by omega), ot _ _ (by omega)⟩, ot _ _ (by omega), ot _ _ (by omega), ot _ _ (by omega), ot _ _ (by omega)⟩ (by rw [ot 44 1 (by omega)]; omega) (fun j => ⟨ot _ _ (by omega), ot _ _ (by omega), ot _ _ (by omega), ot _ _ (by omega), ot _ _ (by omega), by rw [ot 61 j (by omega)]⟩), ?_, ?_, ?_, ?_, ?_⟩
  · rw [ot 44 0 (by omega)]
    exact L.cg (lg _) (by rw [ot 44 22 (by omega)]; omega)
  · unfold p_S; rw [ot 44 1 (by omega), ot 44 0 (by omega)]; exact S
  · exact ⟨by rw [ot 44 19 (by omega)]; exact F.1, fun g => by rw [ot 61 g (by omega)]; exact F.2 g⟩
  · exact Z.keep (lg _) (ot 44 0 (by omega)) ⟨by rw [ot 44 1 (by omega)]; omega, S.2⟩ (ot 44 22 (by omega)) (ot 44 32 (by omega)) (by rw [ot 44 19 (by omega)]; omega) (fun j => ⟨ot 62 j (by omega), ot 64 j (by omega), ot 65 j (by omega), ot 66 j (by omega), ot 68 j (by omega), ot 69 j (by omega)⟩)
  · unfold w_C
    rw [m_count_cg (ot 44 0 (by omega)) (fun j _ _ => ot _ _ (by omega)), m_count_cg (ot 44 0 (by omega)) (fun j _ _ => ot _ _ (by omega))]
    exact c
  · unfold w_R
    rw [ot 44 32 (by omega), ot 44 34 (by omega), ot 44 35 (by omega), ot 44 33 (by omega), ot 44 0 (by omega)]
    refine ⟨fun z1 z2 g g1 g2 => by rw [ot 61 g (by omega)]; exact R.1 z1 z2 g g1 g2, R.2.1, R.2.2⟩
theorem m_drop_32 {V : E_K} {t : Int} (hW : w_F V) (hup : V 44 32 = 0) (ht : 1 ≤ t) : m_drop V t 44 32 = 0 := by
  unfold m_drop
  rw [m_unlock_na (by omega), v_na (by omega), (hW.dpL (n := 60) ht hup (by have := hW.uf; omega)).2.2.2.1 32 (by omega)]
  exact hup
/-- the parts of a request: made; waiting; ring looked for; to be dropped -/
theorem w_F.rqs {V : E_K} {t key what v : Int} (hW : w_F V) (hup : V 44 32 = 0) (ht : 1 ≤ t ∧ t ≤ V 44 22) (hst : V 62 t = 1) (hk : 0 ≤ key ∧ key ≤ 99) (hw : 1 ≤ what ∧ what ≤ 2) :
    w_F (m_rq1 V t key what v) ∧ w_F (m_rq2 (m_rq1 V t key what v) t) ∧ w_F (m_ring (m_rq2 (m_rq1 V t key what v) t) t) ∧ w_F (v_up (m_ring (m_rq2 (m_rq1 V t key what v) t) t) 63 t 2) := by
  have w1 := hW.rq1 (t := t) (key := key) (what := what) (v := v) (by omega) hk (by omega)
  have w2 := w1.rq2 (t := t) (by rw [m_rq1_na (by omega) (by omega)]; exact hup) (by rw [m_rq1_na (by omega) (by omega)]; exact ht) (by rw [m_rq1_na (by omega) (by omega)]; exact hst) (by rw [m_rq1_66, if_pos rfl]; omega) (fun u u1 u2 hu => by
    rw [m_rq1_68, m_rq1_68, if_neg hu, if_pos rfl]
    have := (hW.2.2.2.2.1.2.2.2.2.1 u u1 u2).2.2.2
    omega)
  have w3 : w_F (m_ring (m_rq2 (m_rq1 V t key what v) t) t) := w2.irr (fun a j _ _ h70 _ => m_ring_ok h70) (fun j _ => m_ring_ok (by omega))
  exact ⟨w1, w2, w3, w3.irr (fun a j h63 _ _ _ => v_na h63) (fun j _ => v_na (by omega))⟩
theorem m_rq_32 {V : E_K} {t key what v : Int} : v_up (m_ring (m_rq2 (m_rq1 V t key what v) t) t) 63 t 2 44 32 = V 44 32 ∧ v_up (m_ring (m_rq2 (m_rq1 V t key what v) t) t) 63 t 2 44 22 = V 44 22 ∧ v_up (m_ring (m_rq2 (m_rq1 V t key what v) t) t) 63 t 2 62 t = 2 ∧ m_ring (m_rq2 (m_rq1 V t key what v) t) t 44 32 = V 44 32 := by
  unfold m_rq2
  refine ⟨?_, ?_, ?_, ?_⟩
  · rw [v_na (by omega), m_ring_ok (by omega), v_na (by omega), v_na (by omega), m_rq1_na (by omega) (by omega)]
  · rw [v_na (by omega), m_ring_ok (by omega), v_na (by omega), v_na (by omega), m_rq1_na (by omega) (by omega)]
  · rw [v_na (by omega), m_ring_ok (by omega), v_na (by omega), v_same]
  · rw [m_ring_ok (by omega), v_na (by omega), v_na (by omega), m_rq1_na (by omega) (by omega)]
theorem w_F.request {V : E_K} {t key what v : Int} (hW : w_F V) (hup : V 44 32 = 0) (ht : 1 ≤ t ∧ t ≤ V 44 22) (hst : V 62 t = 1) (hk : 0 ≤ key ∧ key ≤ 99) (hw : 1 ≤ what ∧ what ≤ 2) : w_F (m_rq3 (m_rq1 V t key what v) t) ∧ m_rq3 (m_rq1 V t key what v) t 44 32 = 0 := by
  obtain ⟨w1, w2, w3, w4⟩ := hW.rqs (v := v) hup ht hst hk hw
  obtain ⟨e1, e2, e3, e4⟩ := @m_rq_32 V t key what v
  have f32 : m_rq1 V t key what v 44 32 = V 44 32 := m_rq1_na (by omega) (by omega)
  have f22 : m_rq1 V t key what v 44 22 = V 44 22 := m_rq1_na (by omega) (by omega)
  have f62 : m_rq1 V t key what v 62 t = V 62 t := m_rq1_na (by omega) (by omega)
  unfold m_rq3
  split
  · rename_i hf
    refine ⟨w1.grant (by rw [f32]; exact hup) (by rw [f22]; exact ht) (by rw [f62]; exact Or.inl hst) (by rw [m_rq1_66, if_pos rfl]; omega) hf, ?_⟩
    rw [m_grant_44 (by omega), f32]; exact hup
  · split
    · exact ⟨w3, by rw [e4]; exact hup⟩
    · exact ⟨w4.drop (by rw [e1]; exact hup) (by rw [e2]; exact ht) (Or.inr e3), m_drop_32 w4 (by rw [e1]; exact hup) ht.1⟩
