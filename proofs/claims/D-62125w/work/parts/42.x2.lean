/-! ===== the steps, 3: the end of a transaction; drop ===== -/
theorem m_ulk_at {t j : Int} : ∀ {n : Nat} {V : E_K} {k : Int}, m_ulk V t n k 69 j = if 100 * t + k ≤ j ∧ j < 100 * t + k + n then 0 else V 69 j := by
  intro n
  induction n with
  | zero => intro V k; rw [if_neg (by omega)]; rfl
  | succ n ih =>
    intro V k
    rw [m_ulk, ih]
    by_cases h2 : 100 * t + (k + 1) ≤ j ∧ j < 100 * t + (k + 1) + n
    · rw [if_pos h2, if_pos (by omega)]
    · rw [if_neg h2]
      by_cases h3 : j = 100 * t + k
      · rw [h3, v_same, if_pos (by omega)]
      · rw [v_ne h3, if_neg (by omega)]
theorem m_unlock_at {V : E_K} {t j : Int} : m_unlock V t 69 j = if 100 * t ≤ j ∧ j < 100 * t + 100 then 0 else V 69 j := by
  unfold m_unlock
  rw [m_ulk_at]
  simp
/-- transaction t ends in state s -/
def m_end (V : E_K) (t s : Int) : E_K := m_unlock (v_up V 62 t s) t
theorem m_end_oth {V : E_K} {t s a j : Int} (h1 : a ≠ 62) (h2 : a ≠ 69) : m_end V t s a j = V a j := by
  unfold m_end
  rw [m_unlock_na h2, v_na h1]
theorem m_end_62 {V : E_K} {t s j : Int} : m_end V t s 62 j = if j = t then s else V 62 j := by
  unfold m_end
  rw [m_unlock_na (by omega)]
  by_cases h : j = t
  · rw [h, v_same, if_pos rfl]
  · rw [v_ne h, if_neg h]
theorem m_end_69 {V : E_K} {t s j : Int} : m_end V t s 69 j = if 100 * t ≤ j ∧ j < 100 * t + 100 then 0 else V 69 j := by
  unfold m_end
  rw [m_unlock_at, v_na (by omega)]
theorem m_live_iff {V : E_K} {t : Int} : m_live V t = true ↔ 1 ≤ V 62 t ∧ V 62 t ≤ 3 := by
  unfold m_live
  rw [decide_eq_true_eq]
theorem w_F.fin {V : E_K} {t s : Int} (hW : w_F V) (hup : V 44 32 = 0) (ht : 1 ≤ t ∧ t ≤ V 44 22) (hlv : V 62 t ≤ 3) (hs : (s = 5 ∧ ¬ o_com V (V 44 0) t) ∨ (s = 4 ∧ o_com V (V 44 1) t)) (hno : ∀ i : Int, o_op V (V 44 0) i → V 46 i ≠ t) : w_F (m_end V t s) := by
  obtain ⟨L, P, S, F, Z, c, R⟩ := hW
  have oth : ∀ a j : Int, a < 62 → m_end V t s a j = V a j := fun a j h => m_end_oth (by omega) (by omega)
  have lg : ∀ n, lg_eq V (m_end V t s) n := fun n i _ _ => ⟨oth _ _ (by omega), oth _ _ (by omega), oth _ _ (by omega), oth _ _ (by omega), oth _ _ (by omega), oth _ _ (by omega)⟩
  have oth2 : ∀ a j : Int, 62 < a → a ≠ 69 → m_end V t s a j = V a j := fun a j h h2 => m_end_oth (by omega) h2
  refine ⟨?_, P.keep ⟨fun j => ⟨oth _ _ (by omega), oth _ _ (by omega), oth _ _ (by omega), oth _ _ (by omega), oth _ _ (by omega), oth _ _ (by omega), oth _ _ (by omega), oth2 _ _ (by omega) (by omega)⟩, oth _ _ (by omega), oth _ _ (by omega), oth _ _ (by omega), oth _ _ (by omega)⟩ (by rw [oth 44 1 (by omega)]; omega) (fun j => ⟨oth _ _ (by omega), oth _ _ (by omega), oth _ _ (by omega), oth _ _ (by omega), oth _ _ (by omega), by rw [oth 61 j (by omega)]⟩), ?_, ?_, ?_, ?_, ?_⟩
  · rw [oth 44 0 (by omega)]
    exact L.cg (lg _) (by rw [oth 44 22 (by omega)]; omega)
  · unfold p_S; rw [oth 44 1 (by omega), oth 44 0 (by omega)]; exact S
  · exact ⟨by rw [oth 44 19 (by omega)]; exact F.1, fun g => by rw [oth 61 g (by omega)]; exact F.2 g⟩
  · obtain ⟨a, b, c, d, e, f, g⟩ := Z
    refine ⟨fun u t1 t2 => ?_, fun u k t1 t2 k1 k2 => ?_, fun u v k t1 t2 u1 u2 k1 k2 ne => ?_, fun z i hi => ?_, fun u t1 t2 => ?_, fun u v t1 t2 u1 u2 => ?_, ?_, fun u t1 t2 => ?_, ?_⟩
    · rw [oth 44 22 (by omega)] at t2
      rw [m_end_62, oth 44 32 (by omega), oth 44 0 (by omega), oth 44 1 (by omega)]
      by_cases hu : u = t
      · rw [if_pos hu, hu]
        refine ⟨by omega, by omega, by omega, by omega, fun z w => ?_, fun z => by omega, fun z => ?_⟩
        · rcases hs with hs | hs
          · exact hs.2 (w.cg (lg _).sym)
          · omega
        · rcases hs with hs | hs
          · omega
          · exact hs.2.cg (lg _)
      · rw [if_neg hu]
        obtain ⟨a1, a2, a3, a4, a5, a6, a7⟩ := a u t1 t2
        exact ⟨a1, a2, a3, a4, fun z w => a5 z (w.cg (lg _).sym), fun z => (a6 z).cg (lg _), fun z => (a7 z).cg (lg _)⟩
    · rw [m_end_69, oth 44 22 (by omega), m_end_62]
      split
      · exact ⟨by omega, by omega, fun z => absurd rfl z⟩
      · rename_i hr
        obtain ⟨b1, b2, b3⟩ := b u k t1 t2 k1 k2
        refine ⟨b1, b2, fun z => ?_⟩
        rw [if_neg (by intro hu; rw [hu] at hr; omega)]
        exact b3 z
    · rw [m_end_69, m_end_69]
      intro hz
      split
      · rfl
      · split at hz
        · omega
        · exact c u v k t1 t2 u1 u2 k1 k2 ne hz
    · rw [oth 44 0 (by omega)] at hi
      have hi' := hi.cg (lg _).sym
      have hne := hno i hi'
      have hk := (lg_1_of L hi').2.2.1
      have hw := (lg_1_of L hi').1
      rw [oth 46 i (by omega), oth 50 i (by omega), m_end_62, if_neg hne, m_end_69, if_neg (by omega)]
      exact d hup i hi'
    · obtain ⟨e1, e2, e3, e4⟩ := e u t1 t2
      rw [oth2 65 u (by omega) (by omega), oth2 66 u (by omega) (by omega), oth2 68 u (by omega) (by omega), oth 44 19 (by omega), m_end_62]
      refine ⟨e1, e2, fun z => ?_, e4⟩
      split at z
      · omega
      · exact e3 z
    · rw [oth 44 22 (by omega)] at t2 u2
      rw [m_end_62, m_end_62, oth2 68 u (by omega) (by omega), oth2 68 v (by omega) (by omega)]
      intro z1 z2
      split at z1
      · omega
      · split at z2
        · omega
        · exact f u v t1 t2 u1 u2 z1 z2
    · rw [oth 44 22 (by omega)]; exact g.1
    · rw [oth 44 22 (by omega)] at t1
      rw [oth2 64 u (by omega) (by omega)]
      exact g.2.1 u t1 t2
    · rw [oth 44 22 (by omega)]
      have a1 := (a t ht.1 ht.2).1
      rw [q_cn_flip (P := m_live V) (P' := m_live (m_end V t s)) (b := t) (m_live_iff.mpr ⟨a1, hlv⟩) ?_ ?_ ht.1 (by omega)]
      · have := g.2.2; omega
      · cases hb : m_live (m_end V t s) t
        · rfl
        · have := m_live_iff.mp hb
          rw [m_end_62, if_pos rfl] at this
          omega
      · intro j _ _ hj
        unfold m_live
        rw [m_end_62, if_neg hj]
  · unfold w_C
    rw [m_count_cg (oth 44 0 (by omega)) (fun j _ _ => oth _ _ (by omega)), m_count_cg (oth 44 0 (by omega)) (fun j _ _ => oth _ _ (by omega))]
    exact c
  · unfold w_R
    rw [oth 44 32 (by omega), oth 44 34 (by omega), oth 44 35 (by omega), oth 44 33 (by omega), oth 44 0 (by omega)]
    exact ⟨fun z => absurd hup z, R.2.1, R.2.2⟩
theorem takeBack_uf {V : E_K} {t b : Int} (hW : w_F V) (hb : o_top V (V 44 0) t b) : u_f (m_takeBack V b) (m_takeBack V b 44 0).toNat = u_f V (V 44 0).toNat - 1 := by
  have hsz := hW.size
  have E := @takeBack_lg V b ⟨hb.1.1, hb.1.2.1⟩
  rw [m_takeBack_0, show (V 44 0 + 1).toNat = (V 44 0).toNat + 1 by omega, u_f_s (takeBack_to hW.1 hb) (by omega), show (((V 44 0).toNat : Int) + 1) = V 44 0 + 1 by omega, E.2.1, u_f_cg (E.1.le (by omega))]
  simp
theorem w_F.uf {V : E_K} (hW : w_F V) : 0 ≤ u_f V (V 44 0).toNat ∧ u_f V (V 44 0).toNat ≤ 60 := by
  have hsz := hW.size
  have c := hW.2.2.2.2.2.1.1
  rw [m_count_eq] at c
  have a := @u_cnt2 V _ hW.1 (V 44 0).toNat (by omega)
  have r := (@q_cn_rng (fun j => decide (V 45 j = 2)) (V 44 0).toNat).1
  exact ⟨(@q_cn_rng (fun j => decide (V 45 j = 1) && !u_bk V (V 44 0).toNat j) (V 44 0).toNat).1, by omega⟩
/-- the banks that a take-back leaves alone -/
theorem takeBack_na {V : E_K} {b a j : Int} (ha : 61 < a) : m_takeBack V b a j = V a j := by
  unfold m_takeBack m_tb2
  rw [m_apply_na (by omega), v_na (by omega), v_na (by omega), v_na (by omega), m_put_oth (by omega) (by omega) (by omega) (by omega), m_fetch_na (by omega)]
theorem w_F.dpL {t : Int} (ht : 1 ≤ t) : ∀ {n : Nat} {V : E_K}, w_F V → V 44 32 = 0 → u_f V (V 44 0).toNat ≤ n → w_F (m_dpL t n V) ∧ (∀ j : Int, o_op (m_dpL t n V) (m_dpL t n V 44 0) j → m_dpL t n V 46 j ≠ t) ∧ (∀ a j : Int, 61 < a → m_dpL t n V a j = V a j) ∧ (∀ j : Int, j ≠ 0 ∧ j ≠ 1 ∧ j ≠ 19 ∧ j ≠ 20 ∧ j ≠ 21 → m_dpL t n V 44 j = V 44 j) ∧ (∀ u : Int, o_com (m_dpL t n V) (m_dpL t n V 44 0) u ↔ o_com V (V 44 0) u) := by
  intro n
  induction n with
  | zero =>
    intro V hW hup hu
    refine ⟨hW, fun j hj => ?_, fun a j _ => rfl, fun j _ => rfl, fun u => Iff.rfl⟩
    have hj' : o_op V (((V 44 0).toNat : Nat) : Int) j := by rw [Int.toNat_of_nonneg hW.size.1]; exact hj
    have := u_f_pos hj'
    omega
  | succ n ih =>
    intro V hW hup hu
    rw [m_dpL]
    split
    · rename_i ho
      have tp := m_open_top hW.1 hW.size.1 ho
      have w := hW.takeBack tp (Or.inl hup)
      have uf := takeBack_uf hW tp
      have E := @takeBack_lg V (m_open V t) ⟨tp.1.1, tp.1.2.1⟩
      obtain ⟨i1, i2, i3, i4, i5⟩ := ih w (by rw [m_takeBack_44 (by omega)]; exact hup) (by rw [uf]; omega)
      refine ⟨i1, i2, fun a j ha => by rw [i3 a j ha, takeBack_na ha], fun j hj => by rw [i4 j hj, m_takeBack_44 hj], fun u => ?_⟩
      rw [i5, m_takeBack_0, o_com_succ hW.size.1]
      constructor
      · rintro (z | z)
        · exact z.cg E.1.sym
        · rw [E.2.1] at z; exact absurd z.1 (by omega)
      · exact fun z => Or.inl (z.cg E.1)
    · rename_i ho
      refine ⟨hW, fun j hj z => m_open_none hW.1 (by omega) j hj (Or.inr z), fun a j _ => rfl, fun j _ => rfl, fun u => Iff.rfl⟩
theorem w_F.drop {V : E_K} {t : Int} (hW : w_F V) (hup : V 44 32 = 0) (ht : 1 ≤ t ∧ t ≤ V 44 22) (hs : V 62 t = 1 ∨ V 62 t = 2) : w_F (m_drop V t) := by
  obtain ⟨w, no, na, n4, cm⟩ := @w_F.dpL t ht.1 60 V hW hup hW.uf.2
  refine w.fin (by rw [n4 32 (by omega)]; exact hup) (by rw [n4 22 (by omega)]; exact ht) (by rw [na 62 t (by omega)]; omega) (Or.inl ⟨rfl, fun z => ?_⟩) no
  exact (hW.2.2.2.2.1.1 t ht.1 ht.2).2.2.2.2.1 (by omega) ((cm t).mp z)
