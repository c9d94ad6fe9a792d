/-! ===== the steps, 17: a unit of the restart ===== -/
theorem v_upup {V : E_K} {a k x y : Int} : v_up (v_up V a k x) a k y = v_up V a k y := by
  funext b j
  rw [v_at, v_at, v_at]
  split <;> rfl
theorem m_redo_na {V : E_K} {i a j : Int} (h : a < 44 ∨ (44 < a ∧ a < 54) ∨ 61 < a) : m_redo V i a j = V a j := by
  unfold m_redo
  split
  · split
    · rw [m_apply_na (by omega), m_fetch_na h]
    · rw [m_fetch_na h]
  · rfl
theorem m_redo_1 {V : E_K} {i : Int} : V 44 1 ≤ m_redo V i 44 1 := by
  unfold m_redo
  split
  · split
    · rw [m_apply_na (by omega)]; exact m_fetch_1
    · exact m_fetch_1
  · omega
theorem m_redo_19 {V : E_K} {i : Int} : V 44 19 ≤ m_redo V i 44 19 := by
  unfold m_redo
  split
  · split
    · rw [m_apply_na (by omega), m_fetch_19]; omega
    · rw [m_fetch_19]; omega
  · omega
theorem m_fiL_62 {j : Int} : ∀ {n : Nat} {t : Int} {V : E_K}, m_fiL n t V 62 j = if (t ≤ j ∧ j < t + n) ∧ V 62 j = 6 then (if m_comm V j = true then 4 else 5) else V 62 j := by
  intro n
  induction n with
  | zero => intro t V; rw [if_neg (by omega)]; rfl
  | succ n ih =>
    intro t V
    rw [m_fiL, ih]
    have ec : ∀ x, m_comm (if V 62 t = 6 then v_up V 62 t x else V) j = m_comm V j := by
      intro x
      split
      · unfold m_comm
        rw [v_na (by omega)]
        congr 1
      · rfl
    rw [ec]
    by_cases hj : j = t
    · rw [if_neg (by omega), hj]
      by_cases h6 : V 62 t = 6
      · rw [if_pos h6, v_same, if_pos (show (t ≤ t ∧ t < t + ((n + 1 : Nat) : Int)) ∧ V 62 t = 6 from ⟨by omega, h6⟩)]
      · rw [if_neg h6, if_neg (fun z => h6 z.2)]
    · have e : ∀ x, (if V 62 t = 6 then v_up V 62 t x else V) 62 j = V 62 j := by
        intro x
        split
        · rw [v_ne hj]
        · rfl
      rw [e]
      by_cases h6 : (t + 1 ≤ j ∧ j < t + 1 + n) ∧ V 62 j = 6
      · rw [if_pos h6, if_pos (show (t ≤ j ∧ j < t + ((n + 1 : Nat) : Int)) ∧ V 62 j = 6 from ⟨by omega, h6.2⟩)]
      · rw [if_neg h6, if_neg (by omega)]
theorem m_finish_na {V : E_K} {a j : Int} (h : a ≠ 62) (h2 : a ≠ 44 ∨ j ≠ 32) : m_finish V a j = V a j := by
  unfold m_finish
  rw [m_fiL_na h]
  rcases h2 with h2 | h2
  · exact v_na h2
  · exact v_ne h2
theorem m_finish_32 {V : E_K} : m_finish V 44 32 = 0 := by
  unfold m_finish
  rw [m_fiL_na (by omega), v_same]
theorem m_finish_62 {V : E_K} {j : Int} (hb : 0 ≤ V 44 22) : m_finish V 62 j = if (1 ≤ j ∧ j ≤ V 44 22) ∧ V 62 j = 6 then (if m_comm V j = true then 4 else 5) else V 62 j := by
  unfold m_finish
  rw [m_fiL_62, v_na (by omega)]
  have ec : m_comm (v_up V 44 32 0) j = m_comm V j := by
    unfold m_comm
    rw [v_ne (by omega)]
    congr 1
  rw [ec]
  by_cases h : (1 ≤ j ∧ j ≤ V 44 22) ∧ V 62 j = 6
  · rw [if_pos h, if_pos (show (1 ≤ j ∧ j < 1 + ((V 44 22).toNat : Int)) ∧ V 62 j = 6 from ⟨by omega, h.2⟩)]
  · rw [if_neg h, if_neg (by omega)]
theorem z_rest.of {V : E_K} (h : ∀ t : Int, 1 ≤ t → t ≤ V 44 22 → V 62 t ≠ 2 ∧ V 62 t ≠ 3) (hW : w_F V) : z_rest V := by
  have hsz := hW.size
  have s2 := hW.2.2.1.2
  have hb := hW.2.2.2.2.1.2.2.2.2.2.2.1
  refine ⟨?_, ?_⟩
  · refine Int.not_lt.mp (fun z => ?_)
    obtain ⟨j, j1, j2, j3, j4, j5⟩ := m_fmL_spec (V := V) z
    have r := lg_3_of hW.1 (by omega) (by omega) j3
    exact (h _ r.1.1 r.1.2).2 j4
  · refine Int.not_lt.mp (fun z => ?_)
    have sp := m_ff_spec z
    have := @m_ffL_rng V (V 44 22) (V 44 22).toNat 1 0 (by omega) (by omega) (by omega) (by omega)
    unfold m_ff at z sp
    exact (h _ (by omega) this.2).1 sp.1
theorem w_F.finish {V : E_K} (hW : w_F V) (hD : w_D V) (hd : V 44 32 ≠ 0) (hp : V 44 34 ≠ 0) (hn : V 44 35 = 1000) (ho : m_open V 0 ≤ 0) : w_F (m_finish V) ∧ z_rest (m_finish V) := by
  have hsz := hW.size
  obtain ⟨L, P, S, F, Z, cc, R⟩ := hW
  have hb := Z.2.2.2.2.2.2.1
  have ot : ∀ a j : Int, a ≠ 62 → (a ≠ 44 ∨ j ≠ 32) → m_finish V a j = V a j := fun a j h1 h2 => m_finish_na h1 h2
  have lg : ∀ n, lg_eq V (m_finish V) n := fun n i _ _ => ⟨ot _ _ (by omega) (by omega), ot _ _ (by omega) (by omega), ot _ _ (by omega) (by omega), ot _ _ (by omega) (by omega), ot _ _ (by omega) (by omega), ot _ _ (by omega) (by omega)⟩
  have e0 : m_finish V 44 0 = V 44 0 := ot _ _ (by omega) (by omega)
  have e1 : m_finish V 44 1 = V 44 1 := ot _ _ (by omega) (by omega)
  have e22 : m_finish V 44 22 = V 44 22 := ot _ _ (by omega) (by omega)
  have e32 := @m_finish_32 V
  have e62 := fun j => @m_finish_62 V j hb.1
  obtain ⟨a, b, c, d, e, f, g⟩ := Z
  have st : ∀ t : Int, 1 ≤ t → t ≤ V 44 22 → 4 ≤ m_finish V 62 t ∧ m_finish V 62 t ≤ 5 := by
    intro t t1 t2
    rw [e62]
    obtain ⟨a1, a2, a3, a4, _⟩ := a t t1 t2
    have := a4 hd
    split
    · split <;> omega
    · omega
  have l0 : ∀ t q : Int, 1 ≤ t → t ≤ 60 → 0 ≤ q → q ≤ 99 → V 69 (100 * t + q) = 0 := by
    intro t q t1 t2 q1 q2
    obtain ⟨b1, b2, b3⟩ := b t q t1 t2 q1 q2
    by_cases hz : V 69 (100 * t + q) = 0
    · exact hz
    · have h3 := b3 hz
      have := (a t t1 h3.1).2.2.2.1 hd
      omega
  have lim : p_lim V = V 44 0 := by
    unfold p_lim
    rw [if_neg hd, if_neg hp, if_neg (by omega)]
  have rec' : ∀ {g j : Int}, p_rec (m_finish V) g j ↔ p_rec V g j := by
    intro g j
    unfold p_rec
    rw [ot 45 _ (by omega) (by omega), ot 47 _ (by omega) (by omega), e0]
  have rk : ∀ {m : Nat} {x : Int}, r_k (m_finish V) m x = r_k V m x := fun {m x} => r_k_cg (lg _)
  have nop := m_open_none (t := 0) L ho
  have main : w_F (m_finish V) := by
    obtain ⟨D, P, N, C, T⟩ := P
    refine ⟨?_, ⟨fun g g1 g2 => ?_, fun g g1 g2 g3 => ?_, fun c g1 g2 g3 g g4 g5 => ?_, fun g j g1 g2 g3 g4 => ?_, fun g1 => absurd e32 g1⟩, ?_, ?_, ⟨fun t t1 t2 => ?_, fun t q t1 t2 k1 k2 => ?_, fun t u q t1 t2 u1 u2 k1 k2 ne => ?_, fun _ i hi => ?_, fun t t1 t2 => ?_, fun t u t1 t2 u1 u2 => ?_, ?_, fun t t1 t2 => ?_, ?_⟩, ?_, ?_⟩
    · rw [e0]
      exact L.cg (lg _) (by rw [e22]; omega)
    · obtain ⟨d1, d2, d3⟩ := D g g1 g2
      rw [ot 56 g (by omega) (by omega), e1]
      refine ⟨d1, d2, fun x hx => ?_⟩
      rw [ot 54 x (by omega) (by omega), rk]
      exact d3 x hx
    · rw [ot 61 g (by omega) (by omega)] at g3
      obtain ⟨q1, q2, q3, q4, q5⟩ := P g g1 g2 g3
      rw [ot 56 g (by omega) (by omega), ot 59 g (by omega) (by omega), ot 60 g (by omega) (by omega), e0]
      refine ⟨q1, q2, fun x hx => ?_, q4, fun z => ⟨(q5 z).1, (q5 z).2.1, fun j hj => (q5 z).2.2 j (rec'.mp hj)⟩⟩
      rw [ot 57 x (by omega) (by omega), rk]
      exact q3 x hx
    · rw [e0] at g2
      rw [ot 45 c (by omega) (by omega)] at g3
      obtain ⟨n1, n2, n3⟩ := N c g1 g2 g3 g g4 g5
      rw [ot 53 _ (by omega) (by omega), ot 56 g (by omega) (by omega)]
      exact ⟨n1, n2, fun j hj => n3 j (rec'.mp hj)⟩
    · have := C g j g1 g2 (rec'.mp g3) (by rw [lim]; exact (rec'.mp g3).2.1)
      unfold p_cl at this ⊢
      rw [ot 61 g (by omega) (by omega), ot 59 g (by omega) (by omega), ot 56 g (by omega) (by omega)]
      exact this
    · unfold p_S; rw [e1, e0]; exact S
    · exact ⟨by rw [ot 44 19 (by omega) (by omega)]; exact F.1, fun g => by rw [ot 61 g (by omega) (by omega)]; exact F.2 g⟩
    · rw [e22] at t2
      have s := st t t1 t2
      obtain ⟨a1, a2, a3, a4, a5, a6, a7⟩ := a t t1 t2
      refine ⟨by omega, by omega, fun _ => by omega, fun z => absurd e32 z, fun z w => ?_, fun z => by omega, fun z => ?_⟩
      · rw [e0] at w
        have w' := w.cg (lg _).sym
        rw [e62] at z
        split at z
        · rename_i h6
          rw [if_pos ((m_comm_iff hsz.1).mpr w')] at z
          omega
        · exact a5 z w'
      · rw [e1]
        rw [e62] at z
        split at z
        · rename_i h6
          split at z
          · rename_i hc
            obtain ⟨j, j1, j2, j3, j4⟩ := (m_comm_iff hsz.1).mp hc
            exact o_com.cg (lg _) ⟨j, j1, hD hd j j1 j2 j3, j3, j4⟩
          · omega
        · exact (a7 z).cg (lg _)
    · rw [ot 69 _ (by omega) (by omega), l0 t q t1 t2 k1 k2]
      exact ⟨by omega, by omega, fun z => absurd rfl z⟩
    · rw [ot 69 _ (by omega) (by omega), ot 69 _ (by omega) (by omega)]
      intro _
      exact l0 u q u1 u2 k1 k2
    · rw [e0] at hi
      exact absurd (Or.inl rfl) (nop i (hi.cg (lg _).sym))
    · obtain ⟨e1, e2, e3, e4⟩ := e t t1 t2
      rw [ot 65 t (by omega) (by omega), ot 66 t (by omega) (by omega), ot 68 t (by omega) (by omega), ot 44 19 (by omega) (by omega), e62]
      refine ⟨e1, e2, fun z => ?_, e4⟩
      split at z
      · split at z <;> omega
      · exact e3 z
    · rw [e22] at t2
      have := st t t1 t2
      intro z
      omega
    · rw [e22]; exact g.1
    · rw [e22] at t1
      rw [ot 64 t (by omega) (by omega)]
      exact g.2.1 t t1 t2
    · rw [e22, q_cn_none (fun j h1 h2 => ?_)]
      · omega
      · have := st j h1 (by omega)
        unfold m_live
        exact decide_eq_false (by omega)
    · unfold w_C
      rw [m_count_cg e0 (fun j _ _ => ot _ _ (by omega) (by omega)), m_count_cg e0 (fun j _ _ => ot _ _ (by omega) (by omega))]
      exact cc
    · refine ⟨fun z => absurd e32 z, fun z => absurd e32 z, ?_⟩
      rw [ot 44 33 (by omega) (by omega)]; exact R.2.2
  refine ⟨main, z_rest.of (fun t t1 t2 => ?_) main⟩
  rw [e22] at t2
  have := st t t1 t2
  omega
/-- what holds between units -/
def w_U (V : E_K) : Prop := w_F V ∧ w_D V ∧ (V 44 32 ≠ 0 → V 44 34 ≠ 0 → V 44 35 = 1000 → 0 < m_open V 0)
theorem m_anal_34 {V : E_K} : m_anal V 44 34 = 1 := by unfold m_anal; exact v_same
theorem w_F.un_a {V : E_K} (hW : w_F V) (hD : w_D V) (hd : V 44 32 ≠ 0) (hp : V 44 34 = 0) : w_F (m_un2 (m_anal V)) ∧ w_D (m_un2 (m_anal V)) ∧ m_un2 (m_anal V) 44 32 ≠ 0 ∧ m_un2 (m_anal V) 44 34 ≠ 0 := by
  have hsz := hW.size
  obtain ⟨L, P, S, F, Z, cc, R⟩ := hW
  obtain ⟨c, hc, hck, htab, hnx⟩ := @m_anal_spec V hsz.1
  have ot : ∀ a j : Int, a ≠ 71 → (a ≠ 44 ∨ (j ≠ 35 ∧ j ≠ 34)) → m_un2 (m_anal V) a j = V a j := by
    intro a j h1 h2
    unfold m_un2
    rw [show v_up (m_anal V) 44 35 (if m_anal V 44 35 ≤ m_anal V 44 0 then m_anal V 44 35 else 1000) a j = m_anal V a j by
      rcases h2 with h2 | h2
      · exact v_na h2
      · exact v_ne h2.1]
    exact m_anal_na h1 h2
  have lg : ∀ n, lg_eq V (m_un2 (m_anal V)) n := fun n i _ _ => ⟨ot _ _ (by omega) (by omega), ot _ _ (by omega) (by omega), ot _ _ (by omega) (by omega), ot _ _ (by omega) (by omega), ot _ _ (by omega) (by omega), ot _ _ (by omega) (by omega)⟩
  have e34 : m_un2 (m_anal V) 44 34 = 1 := by
    unfold m_un2
    rw [v_ne (by omega), m_anal_34]
  have e0 : m_un2 (m_anal V) 44 0 = V 44 0 := ot _ _ (by omega) (by omega)
  have e1 : m_un2 (m_anal V) 44 1 = V 44 1 := ot _ _ (by omega) (by omega)
  have e22 : m_un2 (m_anal V) 44 22 = V 44 22 := ot _ _ (by omega) (by omega)
  have e32 : m_un2 (m_anal V) 44 32 = V 44 32 := ot _ _ (by omega) (by omega)
  have e35 : m_un2 (m_anal V) 44 35 = if m_anal V 44 35 ≤ V 44 0 then m_anal V 44 35 else 1000 := by
    unfold m_un2
    rw [v_same, m_anal_na (a := 44) (j := 0) (by omega) (by omega)]
  refine ⟨⟨?_, P.anal (by omega) hd (R.1 hd hp), ?_, ?_, ?_, ?_, ?_⟩, ?_, by rw [e32]; exact hd, by rw [e34]; omega⟩
  · rw [e0]
    exact L.cg (lg _) (by rw [e22]; omega)
  · unfold p_S; rw [e1, e0]; exact S
  · exact ⟨by rw [ot 44 19 (by omega) (by omega)]; exact F.1, fun g => by rw [ot 61 g (by omega) (by omega)]; exact F.2 g⟩
  · exact Z.keep (lg _) e0 ⟨by rw [e1]; omega, S.2⟩ e22 e32 (by rw [ot 44 19 (by omega) (by omega)]; omega) (fun j => ⟨ot _ _ (by omega) (by omega), ot _ _ (by omega) (by omega), ot _ _ (by omega) (by omega), ot _ _ (by omega) (by omega), ot _ _ (by omega) (by omega), ot _ _ (by omega) (by omega)⟩)
  · unfold w_C
    rw [m_count_cg e0 (fun j _ _ => ot _ _ (by omega) (by omega)), m_count_cg e0 (fun j _ _ => ot _ _ (by omega) (by omega))]
    exact cc
  · unfold w_R
    rw [e34, e35, e0, ot 44 33 (by omega) (by omega)]
    refine ⟨fun _ z => by omega, fun _ _ => ?_, R.2.2⟩
    obtain ⟨_, n2, _⟩ := hnx
    split
    · refine ⟨?_, Or.inl (by omega)⟩
      rcases n2 with n2 | ⟨g, _, _, g3, g4⟩
      · omega
      · omega
    · exact ⟨by omega, Or.inr rfl⟩
  · intro z j h1 h2 h3
    rw [e0] at h2
    rw [ot 45 j (by omega) (by omega)] at h3
    rw [e1]
    exact hD hd j h1 h2 h3
theorem w_F.un_r {V : E_K} (hW : w_F V) (hD : w_D V) (hd : V 44 32 ≠ 0) (hp : V 44 34 ≠ 0) (hn : V 44 35 ≤ V 44 0) : w_F (m_un2 (v_up (m_redo V (V 44 35)) 44 35 (V 44 35 + 1))) ∧ w_D (m_un2 (v_up (m_redo V (V 44 35)) 44 35 (V 44 35 + 1))) ∧ m_un2 (v_up (m_redo V (V 44 35)) 44 35 (V 44 35 + 1)) 44 32 ≠ 0 ∧ m_un2 (v_up (m_redo V (V 44 35)) 44 35 (V 44 35 + 1)) 44 34 ≠ 0 := by
  have hsz := hW.size
  obtain ⟨L, P, S, F, Z, cc, R⟩ := hW
  have r2 := R.2.1 hd hp
  have row := L (V 44 35) r2.1 hn
  have sp : 0 ≤ V 47 (V 44 35) ∧ V 47 (V 44 35) < 24 ∧ 1 ≤ V 45 (V 44 35) := by
    rcases row with h | h | h | h
    · have := h.2.2.1; omega
    · have h2 := h.2.1
      have := (lg_1_at L h2.1 (by have := h2.2.1; omega) h2.2.2.1).2.1
      have := h.2.2.2.2.1
      omega
    · have := h.2.2.1; omega
    · omega
  obtain ⟨W, S', F', C1⟩ := P.redo S F hd hp rfl r2.1 hn sp.2.2 ⟨sp.1, sp.2.1⟩
  have e0' : m_redo V (V 44 35) 44 0 = V 44 0 := m_redo_44 (by omega)
  have eU : m_un2 (v_up (m_redo V (V 44 35)) 44 35 (V 44 35 + 1)) = v_up (m_redo V (V 44 35)) 44 35 (if V 44 35 + 1 ≤ V 44 0 then V 44 35 + 1 else 1000) := by
    unfold m_un2
    rw [v_upup, v_same, v_ne (by omega), e0']
  rw [eU]
  generalize hq : (if V 44 35 + 1 ≤ V 44 0 then V 44 35 + 1 else 1000) = q
  have hq' : (V 44 35 + 1 ≤ V 44 0 ∧ q = V 44 35 + 1) ∨ (V 44 35 = V 44 0 ∧ q = 1000) := by
    split at hq <;> omega
  have ot : ∀ a j : Int, (a < 44 ∨ (44 < a ∧ a < 54) ∨ 61 < a) → v_up (m_redo V (V 44 35)) 44 35 q a j = V a j := fun a j h => by rw [v_na (by omega), m_redo_na h]
  have o4 : ∀ j : Int, j ≠ 1 ∧ j ≠ 19 ∧ j ≠ 20 ∧ j ≠ 21 ∧ j ≠ 35 → v_up (m_redo V (V 44 35)) 44 35 q 44 j = V 44 j := fun j h => by rw [v_ne (by omega), m_redo_44 (by omega)]
  have lg : ∀ n, lg_eq V (v_up (m_redo V (V 44 35)) 44 35 q) n := fun n i _ _ => ⟨ot _ _ (by omega), ot _ _ (by omega), ot _ _ (by omega), ot _ _ (by omega), ot _ _ (by omega), ot _ _ (by omega)⟩
  have e1 : v_up (m_redo V (V 44 35)) 44 35 q 44 1 = m_redo V (V 44 35) 44 1 := v_ne (by omega)
  have e19 : v_up (m_redo V (V 44 35)) 44 35 q 44 19 = m_redo V (V 44 35) 44 19 := v_ne (by omega)
  have le1 := @m_redo_1 V (V 44 35)
  have le19 := @m_redo_19 V (V 44 35)
  refine ⟨⟨?_, ?_, ?_, ?_, ?_, ?_, ?_⟩, ?_, by rw [o4 32 (by omega)]; exact hd, by rw [o4 34 (by omega)]; exact hp⟩
  · rw [o4 0 (by omega)]
    exact L.cg (lg _) (by rw [o4 22 (by omega)]; omega)
  · refine W.next ?_ (fun hle _ _ g g1 g2 j hj => ?_)
    · rw [e0']
      rcases hq' with z | z
      · rw [if_pos (by omega), z.2, show V 44 35 + 1 - 1 = V 44 35 by omega]; exact C1
      · rw [if_neg (by omega), ← z.1]; exact C1
    · exact W.2.2.2.2 (by rw [m_redo_44 (by omega)]; exact hd) (by rw [m_redo_44 (by omega)]; exact hp) (by rw [m_redo_44 (by omega), e0']; exact hn) g g1 g2 j hj
  · unfold p_S at S' ⊢
    rw [e1, o4 0 (by omega)]
    rw [e0'] at S'
    exact S'
  · exact ⟨by rw [e19]; exact F'.1, fun g => by rw [v_na (by omega)]; exact F'.2 g⟩
  · exact Z.keep (lg _) (o4 0 (by omega)) ⟨by rw [e1]; exact le1, S.2⟩ (o4 22 (by omega)) (o4 32 (by omega)) (by rw [e19]; exact le19) (fun j => ⟨ot _ _ (by omega), ot _ _ (by omega), ot _ _ (by omega), ot _ _ (by omega), ot _ _ (by omega), ot _ _ (by omega)⟩)
  · unfold w_C
    rw [m_count_cg (o4 0 (by omega)) (fun j _ _ => ot _ _ (by omega)), m_count_cg (o4 0 (by omega)) (fun j _ _ => ot _ _ (by omega))]
    exact cc
  · unfold w_R
    rw [o4 32 (by omega), o4 34 (by omega), v_same, o4 0 (by omega), o4 33 (by omega)]
    exact ⟨fun _ z => absurd z hp, fun _ _ => by omega, R.2.2⟩
  · intro z j h1 h2 h3
    rw [o4 0 (by omega)] at h2
    rw [ot 45 j (by omega)] at h3
    rw [e1]
    have := hD hd j h1 h2 h3
    omega
theorem w_F.un_t {V : E_K} (hW : w_F V) (hD : w_D V) (hd : V 44 32 ≠ 0) (hp : V 44 34 ≠ 0) (hn : V 44 35 = 1000) (ho : 0 < m_open V 0) : w_F (m_un2 (m_takeBack V (m_open V 0))) ∧ w_D (m_un2 (m_takeBack V (m_open V 0))) ∧ m_un2 (m_takeBack V (m_open V 0)) 44 32 ≠ 0 ∧ m_un2 (m_takeBack V (m_open V 0)) 44 34 ≠ 0 := by
  have hsz := hW.size
  have hb := m_open_top hW.1 hsz.1 ho
  have W := hW.takeBack hb (Or.inr ⟨hp, hn⟩)
  have e44 : ∀ j : Int, j ≠ 0 ∧ j ≠ 1 ∧ j ≠ 19 ∧ j ≠ 20 ∧ j ≠ 21 → m_takeBack V (m_open V 0) 44 j = V 44 j := fun j hj => m_takeBack_44 hj
  have eU : m_un2 (m_takeBack V (m_open V 0)) = m_takeBack V (m_open V 0) := by
    unfold m_un2
    have hs := W.size
    rw [e44 35 (by omega), hn, if_neg (by omega)]
    funext a j
    rw [v_at]
    split
    · rename_i h; rw [h.1, h.2, e44 35 (by omega), hn]
    · rfl
  rw [eU]
  have E := @takeBack_lg V (m_open V 0) ⟨hb.1.1, hb.1.2.1⟩
  refine ⟨W, ?_, by rw [e44 32 (by omega)]; exact hd, by rw [e44 34 (by omega)]; exact hp⟩
  intro _ j h1 h2 h3
  rw [m_takeBack_0] at h2
  have st : V 44 1 ≤ m_takeBack V (m_open V 0) 44 1 := by
    unfold m_takeBack
    rw [m_apply_na (by omega), m_tb2_44 (by omega)]
    exact m_fetch_1
  by_cases hj : j = V 44 0 + 1
  · rw [hj, E.2.1] at h3; omega
  · have := hD hd j h1 (by omega) (by rw [← (E.1 j h1 (by omega)).1]; exact h3)
    omega
theorem m_open_ge {V : E_K} {t : Int} : 0 ≤ m_open V t := by
  unfold m_open
  have : ∀ {P : Int → Bool} {n : Nat}, 0 ≤ q_last P n := by
    intro P n
    induction n with
    | zero => exact Int.le_refl 0
    | succ n ih => rw [q_last]; split <;> omega
  exact this
theorem w_U.unit {V : E_K} (hU : w_U V) (hd : V 44 32 ≠ 0) : w_U (m_unit V) ∧ (m_unit V 44 32 = 0 → z_rest (m_unit V)) := by
  obtain ⟨hW, hD, hO⟩ := hU
  have hsz := hW.size
  have key : ∀ V2 : E_K, w_F V2 ∧ w_D V2 ∧ V2 44 32 ≠ 0 ∧ V2 44 34 ≠ 0 → w_U (m_un3 V2) ∧ (m_un3 V2 44 32 = 0 → z_rest (m_un3 V2)) := by
    rintro V2 ⟨W, D, d2, p2⟩
    unfold m_un3
    split
    · rename_i h
      have w := W.finish D d2 p2 h.1 (by omega)
      exact ⟨⟨w.1, fun z => absurd m_finish_32 z, fun z => absurd m_finish_32 z⟩, fun _ => w.2⟩
    · rename_i h
      refine ⟨⟨W, D, fun _ _ z => ?_⟩, fun z => absurd z d2⟩
      have := @m_open_ge V2 0
      omega
  unfold m_unit
  apply key
  unfold m_un1
  by_cases hp : V 44 34 = 0
  · rw [if_pos hp]
    exact hW.un_a hD hd hp
  · rw [if_neg hp]
    have r2 := hW.2.2.2.2.2.2.2.1 hd hp
    by_cases hn : V 44 35 ≤ V 44 0 ∧ V 44 35 < 1000
    · rw [if_pos hn, m_redo_44 (by omega)]
      exact hW.un_r hD hd hp hn.1
    · rw [if_neg hn]
      exact hW.un_t hD hd hp (by omega) (hO hd hp (by omega))
