/-! ===== pages against the log, 3: crash, redo ===== -/
theorem m_crA_at {a j : Int} (ha : a = 60 ∨ a = 61) : ∀ {n : Nat} {g : Int} {V : E_K}, m_crA n g V a j = if g ≤ j ∧ j < g + n then 0 else V a j := by
  intro n
  induction n with
  | zero => intro g V; rw [if_neg (by omega)]; rfl
  | succ n ih =>
    intro g V
    rw [m_crA, ih]
    by_cases h2 : g + 1 ≤ j ∧ j < g + 1 + n
    · rw [if_pos h2, if_pos (by omega)]
    · rw [if_neg h2]
      by_cases h3 : j = g
      · rw [if_pos (by omega), h3]
        rcases ha with ha | ha
        · rw [ha, v_same]
        · rw [ha, v_na (by omega), v_same]
      · rw [if_neg (by omega), v_ne h3, v_ne h3]
theorem m_crash_oth {V : E_K} {k a j : Int} (h1 : a ≠ 44) (h2 : a ≠ 60) (h3 : a ≠ 61) (h4 : a ≠ 62) (h5 : a ≠ 69) : m_crash V k a j = V a j := by
  unfold m_crash m_cr1
  rw [m_crB_na h4 h5, m_crA_na h2 h3, v_na h1, v_na h1, v_na h1, v_na h1, v_na h1]
theorem m_crash_44 {V : E_K} {k j : Int} : m_crash V k 44 j = m_cr1 V k 44 j := by
  unfold m_crash
  rw [m_crB_na (by omega) (by omega), m_crA_na (by omega) (by omega)]
theorem m_crash_6x {V : E_K} {k a j : Int} (ha : a = 60 ∨ a = 61) : m_crash V k a j = if 0 ≤ j ∧ j < 6 then 0 else V a j := by
  unfold m_crash
  rw [m_crB_na (by omega) (by omega), m_crA_at ha]
  unfold m_cr1
  rw [v_na (by omega), v_na (by omega), v_na (by omega), v_na (by omega), v_na (by omega)]
  rfl
theorem m_crash_0 {V : E_K} {k : Int} : m_crash V k 44 0 = if k ≤ V 44 0 - V 44 1 then V 44 1 + k else V 44 0 := by
  rw [m_crash_44]
  unfold m_cr1
  rw [v_ne (by omega), v_ne (by omega), v_same]
theorem m_crash_1 {V : E_K} {k : Int} : m_crash V k 44 1 = m_crash V k 44 0 := by
  rw [m_crash_0, m_crash_44]
  unfold m_cr1
  rw [v_ne (by omega), v_ne (by omega), v_ne (by omega), v_same]
theorem m_crash_32 {V : E_K} {k : Int} : m_crash V k 44 32 = 1 := by
  rw [m_crash_44]
  unfold m_cr1
  rw [v_ne (by omega), v_same]
theorem m_crash_34 {V : E_K} {k : Int} : m_crash V k 44 34 = 0 := by
  rw [m_crash_44]
  unfold m_cr1
  rw [v_same]
theorem m_crash_s {V : E_K} {k j : Int} (h : j ≠ 33 ∧ j ≠ 1 ∧ j ≠ 0 ∧ j ≠ 32 ∧ j ≠ 34) : m_crash V k 44 j = V 44 j := by
  rw [m_crash_44]
  unfold m_cr1
  rw [v_ne (by omega), v_ne (by omega), v_ne (by omega), v_ne (by omega), v_ne (by omega)]
theorem p_W.crash {V : E_K} {k : Int} (hW : p_W V) (hS : p_S V) (hk : 0 ≤ k) : p_W (m_crash V k) ∧ p_S (m_crash V k) := by
  obtain ⟨D, P, N, C, T⟩ := hW
  have na : ∀ a j : Int, a < 60 → a ≠ 44 → m_crash V k a j = V a j := fun a j h1 h2 => m_crash_oth h2 (by omega) (by omega) (by omega) (by omega)
  have lg : ∀ n, lg_eq V (m_crash V k) n := fun n i _ _ => ⟨na _ _ (by omega) (by omega), na _ _ (by omega) (by omega), na _ _ (by omega) (by omega), na _ _ (by omega) (by omega), na _ _ (by omega) (by omega), na _ _ (by omega) (by omega)⟩
  have e0 := @m_crash_0 V k
  have s := hS
  unfold p_S at s
  have hs0 : V 44 1 ≤ m_crash V k 44 0 ∧ m_crash V k 44 0 ≤ V 44 0 := by rw [e0]; split <;> omega
  have rec' : ∀ {g j : Int}, p_rec (m_crash V k) g j → p_rec V g j := by
    intro g j hj
    unfold p_rec at hj ⊢
    rw [na 45 j (by omega) (by omega), na 47 j (by omega) (by omega)] at hj
    exact ⟨hj.1, by omega, hj.2.2⟩
  refine ⟨⟨fun g h1 h2 => ?_, fun g h1 h2 h3 => ?_, fun c h1 h2 h3 g h4 h5 => ?_, fun g j h1 h2 h3 h4 => ?_, fun h1 h2 => ?_⟩, ?_⟩
  · obtain ⟨d1, d2, d3⟩ := D g h1 h2
    rw [na 56 g (by omega) (by omega), m_crash_1]
    refine ⟨d1, by omega, fun x hx => ?_⟩
    rw [na 54 x (by omega) (by omega), r_k_cg (lg _)]
    exact d3 x hx
  · rw [m_crash_6x (Or.inr rfl), if_pos ⟨h1, h2⟩] at h3
    exact absurd h3 (by omega)
  · rw [na 45 c (by omega) (by omega)] at h3
    obtain ⟨n1, n2, n3⟩ := N c h1 (by omega) h3 g h4 h5
    rw [na 53 _ (by omega) (by omega), na 56 g (by omega) (by omega)]
    exact ⟨n1, n2, fun j hj => n3 j (rec' hj)⟩
  · have := h3.1
    unfold p_lim at h4
    rw [m_crash_32, m_crash_34, if_neg (by omega), if_pos rfl] at h4
    omega
  · exact absurd m_crash_34 h2
  · unfold p_S
    rw [m_crash_1]
    omega
/-- one record is redone; then next is moved on -/
def p_C1 (V : E_K) (n : Int) : Prop := ∀ g j : Int, 0 ≤ g → g < 6 → p_rec V g j → j ≤ n → j ≤ p_cl V g
theorem p_cl_ge {V : E_K} (hW : p_W V) {g : Int} (h1 : 0 ≤ g) (h2 : g < 6) : V 56 g ≤ p_cl V g := by
  unfold p_cl
  split
  · rename_i hf; exact (hW.2.1 g h1 h2 hf).1
  · omega
theorem m_apply_59 {V : E_K} {n k : Int} : m_apply V n 59 k = if k = V 47 n / 4 then n else V 59 k := by
  unfold m_apply
  rw [v_na (by omega)]
  by_cases hk : k = V 47 n / 4
  · rw [hk, v_same, if_pos rfl]
  · rw [v_ne hk, if_neg hk, v_na (by omega), v_na (by omega)]
theorem m_apply_60 {V : E_K} {n k : Int} : m_apply V n 60 k = if k = V 47 n / 4 then (if V 60 (V 47 n / 4) = 0 then n else V 60 (V 47 n / 4)) else V 60 k := by
  unfold m_apply
  by_cases hk : k = V 47 n / 4
  · rw [hk, v_same, if_pos rfl]
  · rw [v_ne hk, if_neg hk, v_na (by omega), v_na (by omega), v_na (by omega)]
theorem m_apply_57 {V : E_K} {n k : Int} : m_apply V n 57 k = if k = V 47 n then V 50 n else V 57 k := by
  unfold m_apply
  rw [v_na (by omega), v_na (by omega), v_na (by omega)]
  by_cases hk : k = V 47 n
  · rw [hk, v_same, if_pos rfl]
  · rw [v_ne hk, if_neg hk]
theorem m_apply_58 {V : E_K} {n k : Int} : m_apply V n 58 k = if k = V 47 n then V 51 n else V 58 k := by
  unfold m_apply
  rw [v_na (by omega), v_na (by omega)]
  by_cases hk : k = V 47 n
  · rw [hk, v_same, if_pos rfl]
  · rw [v_ne hk, if_neg hk, v_na (by omega)]
theorem p_W.reapply {V : E_K} {n : Int} (hW : p_W V) (h1 : 1 ≤ n) (h2 : n ≤ V 44 0) (hk : V 45 n < 3) (hsp : 0 ≤ V 47 n ∧ V 47 n < 24) (hf : 0 < V 61 (V 47 n / 4)) (hlt : V 59 (V 47 n / 4) < n) (hC : p_C1 V (n - 1)) (hlim : p_lim V ≤ n - 1) : p_W (m_apply V n) ∧ p_C1 (m_apply V n) n := by
  obtain ⟨D, P, N, C, T⟩ := hW
  generalize hx : V 47 n = x at *
  have na : ∀ a j : Int, (a < 57 ∨ 60 < a) → m_apply V n a j = V a j := fun a j ha => m_apply_na ha
  have h : p_eq V (m_apply V n) := ⟨fun j => ⟨na _ _ (by omega), na _ _ (by omega), na _ _ (by omega), na _ _ (by omega), na _ _ (by omega), na _ _ (by omega), na _ _ (by omega), na _ _ (by omega)⟩, na _ _ (by omega), na _ _ (by omega), na _ _ (by omega), na _ _ (by omega)⟩
  have e59 : ∀ k : Int, m_apply V n 59 k = if k = x / 4 then n else V 59 k := fun k => by rw [m_apply_59, hx]
  have e60 : ∀ k : Int, m_apply V n 60 k = if k = x / 4 then (if V 60 (x / 4) = 0 then n else V 60 (x / 4)) else V 60 k := fun k => by rw [m_apply_60, hx]
  have e57 : ∀ k : Int, m_apply V n 57 k = if k = x then V 50 n else V 57 k := fun k => by rw [m_apply_57, hx]
  have hg : 0 ≤ x / 4 ∧ x / 4 < 6 := by omega
  obtain ⟨q1, q2, q3, q4, q5⟩ := P (x / 4) hg.1 hg.2 hf
  have dg := (D (x / 4) hg.1 hg.2).1
  have below : ∀ j : Int, p_rec V (x / 4) j → j < n → j ≤ V 59 (x / 4) := by
    intro j hj hlt'
    have := hC (x / 4) j hg.1 hg.2 hj (by omega)
    unfold p_cl at this
    rw [if_pos hf] at this
    exact this
  have c1 : p_C1 (m_apply V n) n := by
    intro g j g1 g2 hj hjn
    have hj' := h.rec.mp hj
    unfold p_cl
    rw [na 61 g (by omega), na 56 g (by omega), e59]
    by_cases hgx : g = x / 4
    · rw [hgx, if_pos hf, if_pos rfl]
      exact hjn
    · rw [if_neg hgx]
      refine hC g j g1 g2 hj' ?_
      by_cases hz : j = n
      · exact absurd (by rw [← hj'.2.2.2, hz, hx]) hgx
      · omega
  refine ⟨⟨fun g g1 g2 => ?_, fun g g1 g2 g3 => ?_, fun c g1 g2 g3 g g4 g5 => ?_, fun g j g1 g2 g3 g4 => ?_, fun g1 g2 g3 g g4 g5 j g6 => ?_⟩, c1⟩
  · obtain ⟨d1, d2, d3⟩ := D g g1 g2
    rw [na 56 g (by omega), na 44 1 (by omega)]
    refine ⟨d1, d2, fun y hy => ?_⟩
    rw [na 54 y (by omega), h.rk]
    exact d3 y hy
  · rw [na 61 g (by omega)] at g3
    rw [na 56 g (by omega), e59, e60, na 44 0 (by omega)]
    by_cases hgx : g = x / 4
    · rw [if_pos hgx, if_pos hgx, hgx]
      refine ⟨by omega, by omega, fun y hy => ?_, fun hz => ?_, fun hz => ?_⟩
      · obtain ⟨m, hm⟩ : ∃ m : Nat, n = (m : Int) + 1 := ⟨(n - 1).toNat, by omega⟩
        rw [e57, h.rk, show n.toNat = m + 1 by omega, r_k, ← hm, hx]
        by_cases hyx : y = x
        · rw [if_pos hyx, if_pos ⟨hk, hyx.symm⟩]
        · rw [if_neg hyx, if_neg (fun z => hyx z.2.symm), q3 y hy]
          symm
          refine r_k_gap (by omega) (fun j j1 j2 hj => ?_)
          have := below j ⟨by omega, by omega, hj.1, by rw [hj.2]; exact hy⟩ (by omega)
          omega
      · split at hz
        · omega
        · rename_i hz2; exact absurd hz hz2
      · by_cases hz2 : V 60 (x / 4) = 0
        · rw [if_pos hz2]
          have q4' := q4 hz2
          refine ⟨by omega, by omega, fun j hj => ?_⟩
          by_cases hjn : j < n
          · exact Or.inl (by have := below j (h.rec.mp hj) hjn; omega)
          · exact Or.inr (by omega)
        · rw [if_neg hz2]
          obtain ⟨z1, z2, z3⟩ := q5 hz2
          exact ⟨z1, by omega, fun j hj => z3 j (h.rec.mp hj)⟩
    · rw [if_neg hgx, if_neg hgx]
      obtain ⟨p1, p2, p3, p4, p5⟩ := P g g1 g2 g3
      refine ⟨p1, p2, fun y hy => ?_, p4, fun hz => ⟨(p5 hz).1, (p5 hz).2.1, fun j hj => (p5 hz).2.2 j (h.rec.mp hj)⟩⟩
      rw [e57, if_neg (fun z => hgx (by rw [← hy, z])), h.rk]
      exact p3 y hy
  · rw [na 44 0 (by omega)] at g2
    rw [na 45 c (by omega)] at g3
    obtain ⟨n1, n2, n3⟩ := N c g1 g2 g3 g g4 g5
    rw [na 53 _ (by omega), na 56 g (by omega)]
    exact ⟨n1, n2, fun j hj => n3 j (h.rec.mp hj)⟩
  · rw [h.lim] at g4
    exact c1 g j g1 g2 g3 (by omega)
  · rw [na 44 32 (by omega)] at g1
    rw [na 44 34 (by omega)] at g2
    rw [na 44 35 (by omega), na 44 0 (by omega)] at g3
    rw [na 56 g (by omega), na 71 g (by omega)]
    exact T g1 g2 g3 g g4 g5 j (h.rec.mp g6)
theorem m_fetch_61 {V : E_K} {g : Int} : m_fetch V g 61 g = V 44 19 + 1 := by
  unfold m_fetch
  split
  · have e1 := @m_load_61 (m_ft2 (v_up V 44 19 (V 44 19 + 1)) g (m_old (v_up V 44 19 (V 44 19 + 1)) 6 0 0 (-1)).1 (m_old (v_up V 44 19 (V 44 19 + 1)) 6 0 0 (-1)).2) g g
    unfold m_load at e1
    rw [e1, if_pos rfl]
    unfold m_ft2
    split
    · rw [v_na (by omega)]
      split
      · rw [m_spill_44 (by omega) (by omega), v_same]
      · rw [v_same]
    · rw [v_same]
  · rw [v_same]
/-- what a redone record leaves; next is not yet moved -/
theorem p_W.redo {V : E_K} {n : Int} (hW : p_W V) (hS : p_S V) (hF : p_F V) (hd : V 44 32 ≠ 0) (hp : V 44 34 ≠ 0) (hn : V 44 35 = n) (h1 : 1 ≤ n) (h2 : n ≤ V 44 0) (hk1 : 1 ≤ V 45 n) (hsp : 0 ≤ V 47 n ∧ V 47 n < 24) : p_W (m_redo V n) ∧ p_S (m_redo V n) ∧ p_F (m_redo V n) ∧ p_C1 (m_redo V n) n := by
  have hl : p_lim V = n - 1 := by
    unfold p_lim
    rw [if_neg hd, if_neg hp, hn, if_pos h2]
  have hC : p_C1 V (n - 1) := fun g j g1 g2 g3 g4 => hW.2.2.2.1 g j g1 g2 g3 (by rw [hl]; exact g4)
  have stay : V 45 n < 3 → n ≤ V 56 (V 47 n / 4) → p_C1 V n := by
    intro k1 k2 g j g1 g2 g3 g4
    by_cases hj : j = n
    · have := p_cl_ge hW g1 g2
      have e := g3.2.2.2
      rw [hj] at e
      rw [e] at k2
      omega
    · exact hC g j g1 g2 g3 (by omega)
  unfold m_redo
  split
  · rename_i hc
    have hg : 0 ≤ V 47 n / 4 ∧ V 47 n / 4 < 6 := by omega
    have w := hW.fetch hS hg hF
    have f := hF.fetch (g := V 47 n / 4)
    have lgf : ∀ a j : Int, a < 44 ∨ (44 < a ∧ a < 54) ∨ 61 < a → m_fetch V (V 47 n / 4) a j = V a j := fun a j ha => m_fetch_na ha
    have pe : p_eq V (m_fetch V (V 47 n / 4)) := ⟨fun j => ⟨lgf _ _ (by omega), lgf _ _ (by omega), lgf _ _ (by omega), lgf _ _ (by omega), lgf _ _ (by omega), lgf _ _ (by omega), lgf _ _ (by omega), lgf _ _ (by omega)⟩, m_fetch_44 (by omega), m_fetch_44 (by omega), m_fetch_44 (by omega), m_fetch_44 (by omega)⟩
    have hC' : p_C1 (m_fetch V (V 47 n / 4)) (n - 1) := fun g j g1 g2 g3 g4 => w.1.2.2.2.1 g j g1 g2 g3 (by rw [pe.lim, hl]; exact g4)
    have hfe : 0 < m_fetch V (V 47 n / 4) 61 (V 47 n / 4) := by rw [m_fetch_61]; have := hF.1; omega
    have ht : p_rec (m_fetch V (V 47 n / 4)) (V 47 n / 4) n := pe.rec.mpr ⟨h1, h2, hc.1, rfl⟩
    split
    · rename_i hlt
      have r := w.1.reapply h1 (by rw [pe.2.1]; exact h2) (by rw [lgf _ _ (by omega)]; exact hc.1) (by rw [lgf _ _ (by omega)]; exact hsp) (by rw [lgf 47 n (by omega)]; exact hfe) (by rw [lgf 47 n (by omega)]; exact hlt) hC' (by rw [pe.lim, hl]; omega)
      refine ⟨r.1, ?_, ?_, r.2⟩
      · have := w.2
        unfold p_S at this ⊢
        rw [m_apply_na (by omega), m_apply_na (by omega)]
        exact this
      · refine ⟨by rw [m_apply_na (by omega)]; exact f.1, fun g => by rw [m_apply_na (by omega)]; exact f.2 g⟩
    · rename_i hlt
      refine ⟨w.1, w.2, f, fun g j g1 g2 g3 g4 => ?_⟩
      by_cases hj : j = n
      · have e := g3.2.2.2
        rw [hj, lgf 47 n (by omega)] at e
        unfold p_cl
        rw [← e, if_pos hfe]
        omega
      · exact hC' g j g1 g2 g3 (by omega)
  · rename_i hc
    refine ⟨hW, hS, hF, ?_⟩
    by_cases hk : V 45 n < 3
    · rcases hW.2.2.2.2 hd hp (by omega) (V 47 n / 4) (by omega) (by omega) n ⟨h1, h2, hk, rfl⟩ with z | z
      · exact stay hk z
      · exact absurd ⟨hk, z⟩ hc
    · intro g j g1 g2 g3 g4
      refine hC g j g1 g2 g3 ?_
      by_cases hj : j = n
      · rw [hj] at g3
        exact absurd g3.2.2.1 hk
      · omega
/-- next is set -/
theorem p_W.next {V : E_K} {n : Int} (hW : p_W V) (hC : p_C1 V (if n ≤ V 44 0 then n - 1 else V 44 0)) (hT : n ≤ V 44 0 → V 44 32 ≠ 0 → V 44 34 ≠ 0 → ∀ g : Int, 0 ≤ g → g < 6 → ∀ j : Int, p_rec V g j → j ≤ V 56 g ∨ (0 < V 71 g ∧ V 71 g ≤ j)) : p_W (v_up V 44 35 n) := by
  obtain ⟨D, P, N, C, T⟩ := hW
  have rec' : ∀ {g j : Int}, p_rec (v_up V 44 35 n) g j → p_rec V g j := fun hj => hj
  have rk : ∀ {m : Nat} {x : Int}, r_k (v_up V 44 35 n) m x = r_k V m x := fun {m x} => r_k_cg (fun i _ _ => ⟨rfl, rfl, rfl, rfl, rfl, rfl⟩)
  refine ⟨fun g g1 g2 => ?_, fun g g1 g2 g3 => ?_, N, fun g j g1 g2 g3 g4 => ?_, fun g1 g2 g3 g g4 g5 j g6 => ?_⟩
  · obtain ⟨d1, d2, d3⟩ := D g g1 g2
    refine ⟨d1, d2, fun x hx => ?_⟩
    rw [rk]
    exact d3 x hx
  · obtain ⟨p1, p2, p3, p4, p5⟩ := P g g1 g2 g3
    refine ⟨p1, p2, fun x hx => ?_, p4, p5⟩
    rw [rk]
    exact p3 x hx
  · unfold p_lim at g4
    rw [v_ne (show (32 : Int) ≠ 35 by omega), v_ne (show (34 : Int) ≠ 35 by omega), v_ne (show (0 : Int) ≠ 35 by omega), v_same] at g4
    by_cases hd : V 44 32 = 0
    · rw [if_pos hd] at g4
      refine C g j g1 g2 g3 ?_
      unfold p_lim
      rw [if_pos hd]
      exact g4
    · rw [if_neg hd] at g4
      by_cases hp : V 44 34 = 0
      · rw [if_pos hp] at g4
        have := g3.1
        omega
      · rw [if_neg hp] at g4
        exact hC g j g1 g2 g3 g4
  · rw [v_ne (by omega)] at g1 g2
    rw [v_same, v_ne (show (0 : Int) ≠ 35 by omega)] at g3
    exact hT g3 g1 g2 g g4 g5 j g6
