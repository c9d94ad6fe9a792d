/-! ===== the steps, 16: crash ===== -/
theorem q_cn_pre {P : Int → Bool} : ∀ {n m : Nat}, n ≤ m → q_cn P n ≤ q_cn P m := by
  intro n m h
  induction m with
  | zero => rw [show n = 0 by omega]; omega
  | succ m ih =>
    by_cases hn : n = m + 1
    · rw [hn]; omega
    · have := ih (by omega)
      rw [q_cn]
      split <;> omega
theorem q_cn_none {P : Int → Bool} : ∀ {n : Nat}, (∀ j : Int, 1 ≤ j → j ≤ n → P j = false) → q_cn P n = 0 := by
  intro n
  induction n with
  | zero => intro _; rfl
  | succ n ih =>
    intro h
    rw [q_cn, ih (fun j h1 h2 => h j h1 (by omega)), h ((n : Int) + 1) (by omega) (by omega)]
    rfl
theorem m_crB_62 {j : Int} : ∀ {n : Nat} {t : Int} {V : E_K}, m_crB n t V 62 j = if (t ≤ j ∧ j < t + n) ∧ (1 ≤ V 62 j ∧ V 62 j ≤ 3) then 6 else V 62 j := by
  intro n
  induction n with
  | zero => intro t V; rw [if_neg (by omega)]; rfl
  | succ n ih =>
    intro t V
    rw [m_crB, ih]
    have e : (if m_live V t = true then m_unlock (v_up V 62 t 6) t else V) 62 j = if j = t ∧ (1 ≤ V 62 j ∧ V 62 j ≤ 3) then 6 else V 62 j := by
      by_cases hl : m_live V t = true
      · rw [if_pos hl, m_unlock_na (by omega)]
        rw [m_live_iff] at hl
        by_cases hj : j = t
        · rw [hj, v_same, if_pos ⟨rfl, hl⟩]
        · rw [v_ne hj, if_neg (fun z => hj z.1)]
      · rw [if_neg hl]
        rw [m_live_iff] at hl
        rw [if_neg]
        rintro ⟨z1, z2⟩
        exact hl (by rw [← z1]; exact z2)
    rw [e]
    by_cases hj : j = t
    · rw [if_neg (by omega)]
      by_cases hl : 1 ≤ V 62 j ∧ V 62 j ≤ 3
      · rw [if_pos ⟨hj, hl⟩, if_pos ⟨by omega, hl⟩]
      · rw [if_neg (fun z => hl z.2), if_neg (fun z => hl z.2)]
    · rw [if_neg (fun z : j = t ∧ _ => hj z.1)]
      by_cases hl : 1 ≤ V 62 j ∧ V 62 j ≤ 3
      · by_cases hr : t + 1 ≤ j ∧ j < t + 1 + n
        · rw [if_pos ⟨hr, hl⟩, if_pos ⟨by omega, hl⟩]
        · rw [if_neg (fun z => hr z.1), if_neg (by omega)]
      · rw [if_neg (fun z => hl z.2), if_neg (fun z => hl z.2)]
theorem m_crB_69 {u k : Int} (hk : 0 ≤ k ∧ k ≤ 99) : ∀ {n : Nat} {t : Int} {V : E_K}, m_crB n t V 69 (100 * u + k) = if (t ≤ u ∧ u < t + n) ∧ (1 ≤ V 62 u ∧ V 62 u ≤ 3) then 0 else V 69 (100 * u + k) := by
  intro n
  induction n with
  | zero => intro t V; rw [if_neg (by omega)]; rfl
  | succ n ih =>
    intro t V
    rw [m_crB, ih]
    by_cases hl : m_live V t = true
    · rw [if_pos hl, m_unlock_na (by omega), m_unlock_at, v_na (show (69 : Int) ≠ 62 by omega)]
      rw [m_live_iff] at hl
      by_cases hj : u = t
      · rw [if_pos (show 100 * t ≤ 100 * u + k ∧ 100 * u + k < 100 * t + 100 by omega), hj, if_pos (show (t ≤ t ∧ t < t + ((n + 1 : Nat) : Int)) ∧ 1 ≤ V 62 t ∧ V 62 t ≤ 3 from ⟨by omega, hl⟩)]
        split <;> rfl
      · rw [if_neg (show ¬ (100 * t ≤ 100 * u + k ∧ 100 * u + k < 100 * t + 100) by omega), v_ne hj]
        by_cases hr : (t + 1 ≤ u ∧ u < t + 1 + n) ∧ (1 ≤ V 62 u ∧ V 62 u ≤ 3)
        · rw [if_pos hr, if_pos ⟨by omega, hr.2⟩]
        · rw [if_neg hr, if_neg (by omega)]
    · rw [if_neg hl]
      rw [m_live_iff] at hl
      by_cases hj : u = t
      · rw [if_neg (by omega), if_neg (fun z => hl (by rw [← hj]; exact z.2))]
      · by_cases hr : (t + 1 ≤ u ∧ u < t + 1 + n) ∧ (1 ≤ V 62 u ∧ V 62 u ≤ 3)
        · rw [if_pos hr, if_pos ⟨by omega, hr.2⟩]
        · rw [if_neg hr, if_neg (by omega)]
theorem m_crash_62 {V : E_K} {k j : Int} (hb : 0 ≤ V 44 22) : m_crash V k 62 j = if (1 ≤ j ∧ j ≤ V 44 22) ∧ (1 ≤ V 62 j ∧ V 62 j ≤ 3) then 6 else V 62 j := by
  unfold m_crash
  rw [m_crB_62, m_crA_na (by omega) (by omega)]
  unfold m_cr1
  rw [v_na (by omega), v_na (by omega), v_na (by omega), v_na (by omega), v_na (by omega)]
  by_cases h : (1 ≤ j ∧ j ≤ V 44 22) ∧ (1 ≤ V 62 j ∧ V 62 j ≤ 3)
  · rw [if_pos h, if_pos ⟨by omega, h.2⟩]
  · rw [if_neg h, if_neg (by omega)]
theorem m_crash_69 {V : E_K} {k u c : Int} (hb : 0 ≤ V 44 22) (hc : 0 ≤ c ∧ c ≤ 99) : m_crash V k 69 (100 * u + c) = if (1 ≤ u ∧ u ≤ V 44 22) ∧ (1 ≤ V 62 u ∧ V 62 u ≤ 3) then 0 else V 69 (100 * u + c) := by
  unfold m_crash
  rw [m_crB_69 hc, m_crA_na (by omega) (by omega), m_crA_na (by omega) (by omega)]
  unfold m_cr1
  rw [v_na (by omega), v_na (by omega), v_na (by omega), v_na (by omega), v_na (by omega), v_na (by omega), v_na (by omega), v_na (by omega), v_na (by omega), v_na (by omega)]
  by_cases h : (1 ≤ u ∧ u ≤ V 44 22) ∧ (1 ≤ V 62 u ∧ V 62 u ≤ 3)
  · rw [if_pos h, if_pos ⟨by omega, h.2⟩]
  · rw [if_neg h, if_neg (by omega)]
/-- when down, every COMMIT row is stable -/
def w_D (V : E_K) : Prop := V 44 32 ≠ 0 → ∀ j : Int, 1 ≤ j → j ≤ V 44 0 → V 45 j = 3 → j ≤ V 44 1
theorem m_crash_33 {V : E_K} {k : Int} : m_crash V k 44 33 = V 44 33 + 1 := by
  rw [m_crash_44]
  unfold m_cr1
  rw [v_ne (by omega), v_ne (by omega), v_ne (by omega), v_ne (by omega), v_same]
theorem w_F.crash {V : E_K} {k : Int} (hW : w_F V) (hk : 0 ≤ k) : w_F (m_crash V k) ∧ w_D (m_crash V k) := by
  have hsz := hW.size
  obtain ⟨L, P, S, F, Z, cc, R⟩ := hW
  have hb := Z.2.2.2.2.2.2.1
  have ot : ∀ a j : Int, (a ≠ 44 ∧ a ≠ 60 ∧ a ≠ 61 ∧ a ≠ 62 ∧ a ≠ 69) → m_crash V k a j = V a j := fun a j h => m_crash_oth h.1 h.2.1 h.2.2.1 h.2.2.2.1 h.2.2.2.2
  have o4 : ∀ j : Int, (j ≠ 33 ∧ j ≠ 1 ∧ j ≠ 0 ∧ j ≠ 32 ∧ j ≠ 34) → m_crash V k 44 j = V 44 j := fun j h => m_crash_s h
  have lg : ∀ n, lg_eq V (m_crash V k) n := fun n i _ _ => ⟨ot _ _ (by omega), ot _ _ (by omega), ot _ _ (by omega), ot _ _ (by omega), ot _ _ (by omega), ot _ _ (by omega)⟩
  have e0 := @m_crash_0 V k
  have e1 := @m_crash_1 V k
  have s := S
  unfold p_S at s
  have hs0 : V 44 1 ≤ m_crash V k 44 0 ∧ m_crash V k 44 0 ≤ V 44 0 := by rw [e0]; split <;> omega
  have e62 : ∀ j, m_crash V k 62 j = if (1 ≤ j ∧ j ≤ V 44 22) ∧ (1 ≤ V 62 j ∧ V 62 j ≤ 3) then 6 else V 62 j := fun j => m_crash_62 hb.1
  have W := P.crash S hk
  obtain ⟨a, b, c, d, e, f, g⟩ := Z
  have l0 : ∀ t q : Int, 1 ≤ t → t ≤ 60 → 0 ≤ q → q ≤ 99 → m_crash V k 69 (100 * t + q) = 0 := by
    intro t q t1 t2 q1 q2
    rw [m_crash_69 hb.1 ⟨q1, q2⟩]
    obtain ⟨b1, b2, b3⟩ := b t q t1 t2 q1 q2
    by_cases hz : V 69 (100 * t + q) = 0
    · rw [hz]; split <;> rfl
    · have h3 := b3 hz
      rw [if_pos ⟨⟨t1, h3.1⟩, (a t t1 h3.1).1, h3.2⟩]
  have st : ∀ t : Int, 1 ≤ t → t ≤ V 44 22 → 4 ≤ m_crash V k 62 t := by
    intro t t1 t2
    rw [e62]
    have := (a t t1 t2).1
    split <;> omega
  refine ⟨⟨?_, W.1, W.2, ?_, ⟨fun t t1 t2 => ?_, fun t q t1 t2 k1 k2 => ?_, fun t u q t1 t2 u1 u2 k1 k2 ne => ?_, fun z => ?_, fun t t1 t2 => ?_, fun t u t1 t2 u1 u2 => ?_, ?_, fun t t1 t2 => ?_, ?_⟩, ?_, ?_⟩, ?_⟩
  · have l : lg_to V (m_crash V k 44 0) := fun i h1 h2 => L i h1 (by omega)
    exact l.cg (lg _) (by rw [o4 22 (by omega)]; omega)
  · refine ⟨by rw [o4 19 (by omega)]; exact F.1, fun g => ?_⟩
    rw [m_crash_6x (Or.inr rfl)]
    have := F.2 g
    split <;> omega
  · rw [o4 22 (by omega)] at t2
    have h4 := st t t1 t2
    obtain ⟨a1, a2, a3, a4, a5, a6, a7⟩ := a t t1 t2
    refine ⟨by omega, ?_, fun z => ?_, fun _ => h4, fun z w => ?_, fun z => by omega, fun z => ?_⟩
    · rw [e62]; split <;> omega
    · rw [m_crash_32] at z; omega
    · rw [e62] at z
      split at z
      · omega
      · exact a5 z ((w.cg (lg _).sym).mono hs0.2)
    · rw [e62] at z
      split at z
      · omega
      · exact ((a7 z).cg (lg _)).mono (by rw [e1]; exact hs0.1)
  · rw [l0 t q t1 t2 k1 k2]
    exact ⟨by omega, by omega, fun z => absurd rfl z⟩
  · intro _
    exact l0 u q u1 u2 k1 k2
  · rw [m_crash_32] at z; omega
  · obtain ⟨e1, e2, e3, e4⟩ := e t t1 t2
    rw [ot 65 t (by omega), ot 66 t (by omega), ot 68 t (by omega), o4 19 (by omega), e62]
    refine ⟨e1, e2, fun z => ?_, e4⟩
    split at z
    · omega
    · exact e3 z
  · rw [o4 22 (by omega)] at t2
    have := st t t1 t2
    intro z
    omega
  · rw [o4 22 (by omega)]; exact g.1
  · rw [o4 22 (by omega)] at t1
    rw [ot 64 t (by omega)]
    exact g.2.1 t t1 t2
  · rw [o4 22 (by omega), q_cn_none (fun j h1 h2 => ?_)]
    · omega
    · have := st j h1 (by omega)
      unfold m_live
      exact decide_eq_false (by omega)
  · unfold w_C
    rw [m_count_eq, m_count_eq] at *
    have h1 := cc.1
    have h2 := cc.2
    rw [m_count_eq] at h1 h2
    have q1 := @q_cn_pre (fun j => decide (V 45 j = 1)) (m_crash V k 44 0).toNat (V 44 0).toNat (by omega)
    have q2 := @q_cn_pre (fun j => decide (V 45 j = 4)) (m_crash V k 44 0).toNat (V 44 0).toNat (by omega)
    refine ⟨?_, ?_⟩
    · rw [q_cn_cg (P := fun j => decide (V 45 j = 1)) (fun j _ _ => by rw [ot 45 j (by omega)])]; omega
    · rw [q_cn_cg (P := fun j => decide (V 45 j = 4)) (fun j _ _ => by rw [ot 45 j (by omega)])]; omega
  · refine ⟨fun _ _ g g1 g2 => ?_, fun _ z => absurd m_crash_34 z, ?_⟩
    · rw [m_crash_6x (Or.inr rfl), if_pos ⟨g1, g2⟩]
    · rw [m_crash_33]; have := R.2.2; omega
  · intro _ j _ h2 _
    rw [e1]; exact h2
