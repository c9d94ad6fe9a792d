/-! ===== pages against the log ===== -/
def p_rec (V : E_K) (g j : Int) : Prop := 1 ≤ j ∧ j ≤ V 44 0 ∧ V 45 j < 3 ∧ V 47 j / 4 = g
def p_D (V : E_K) : Prop := ∀ g : Int, 0 ≤ g → g < 6 → 0 ≤ V 56 g ∧ V 56 g ≤ V 44 1 ∧ ∀ x : Int, x / 4 = g → V 54 x = r_k V (V 56 g).toNat x
def p_P (V : E_K) : Prop := ∀ g : Int, 0 ≤ g → g < 6 → 0 < V 61 g → V 56 g ≤ V 59 g ∧ V 59 g ≤ V 44 0 ∧ (∀ x : Int, x / 4 = g → V 57 x = r_k V (V 59 g).toNat x) ∧ (V 60 g = 0 → V 59 g = V 56 g) ∧ (V 60 g ≠ 0 → V 56 g < V 60 g ∧ V 60 g ≤ V 59 g ∧ ∀ j : Int, p_rec V g j → j ≤ V 56 g ∨ V 60 g ≤ j)
def p_N (V : E_K) : Prop := ∀ c : Int, 1 ≤ c → c ≤ V 44 0 → V 45 c = 4 → ∀ g : Int, 0 ≤ g → g < 6 → 0 ≤ V 53 (6 * c + g) ∧ V 53 (6 * c + g) ≤ c ∧ ∀ j : Int, p_rec V g j → j ≤ c → j ≤ V 56 g ∨ (0 < V 53 (6 * c + g) ∧ V 53 (6 * c + g) ≤ j)
def p_cl (V : E_K) (g : Int) : Int := if 0 < V 61 g then V 59 g else V 56 g
def p_lim (V : E_K) : Int := if V 44 32 = 0 then V 44 0 else if V 44 34 = 0 then 0 else if V 44 35 ≤ V 44 0 then V 44 35 - 1 else V 44 0
def p_C (V : E_K) : Prop := ∀ g j : Int, 0 ≤ g → g < 6 → p_rec V g j → j ≤ p_lim V → j ≤ p_cl V g
def p_T (V : E_K) : Prop := V 44 32 ≠ 0 → V 44 34 ≠ 0 → V 44 35 ≤ V 44 0 → ∀ g : Int, 0 ≤ g → g < 6 → ∀ j : Int, p_rec V g j → j ≤ V 56 g ∨ (0 < V 71 g ∧ V 71 g ≤ j)
def p_W (V : E_K) : Prop := p_D V ∧ p_P V ∧ p_N V ∧ p_C V ∧ p_T V
/-- the same log and the same restart -/
def p_eq (V V' : E_K) : Prop := (∀ j : Int, V' 45 j = V 45 j ∧ V' 46 j = V 46 j ∧ V' 47 j = V 47 j ∧ V' 48 j = V 48 j ∧ V' 50 j = V 50 j ∧ V' 52 j = V 52 j ∧ V' 53 j = V 53 j ∧ V' 71 j = V 71 j) ∧ V' 44 0 = V 44 0 ∧ V' 44 32 = V 44 32 ∧ V' 44 34 = V 44 34 ∧ V' 44 35 = V 44 35
theorem p_eq.lg {V V' : E_K} (h : p_eq V V') (n : Int) : lg_eq V V' n := fun i _ _ => by
  obtain ⟨a, b, c, d, e, f, _⟩ := h.1 i
  exact ⟨a, b, c, d, e, f⟩
theorem p_eq.rk {V V' : E_K} (h : p_eq V V') {n : Nat} {x : Int} : r_k V' n x = r_k V n x := r_k_cg (h.lg n)
theorem p_eq.rec {V V' : E_K} (h : p_eq V V') {g j : Int} : p_rec V' g j ↔ p_rec V g j := by
  obtain ⟨a, _, c, _⟩ := h.1 j
  unfold p_rec
  rw [a, c, h.2.1]
theorem p_eq.lim {V V' : E_K} (h : p_eq V V') : p_lim V' = p_lim V := by
  unfold p_lim
  rw [h.2.1, h.2.2.1, h.2.2.2.1, h.2.2.2.2]
/-- pages kept, maybe another stable mark -/
theorem p_W.keep {V V' : E_K} (hW : p_W V) (h : p_eq V V') (hs : V 44 1 ≤ V' 44 1) (hp : ∀ j : Int, V' 54 j = V 54 j ∧ V' 56 j = V 56 j ∧ V' 57 j = V 57 j ∧ V' 59 j = V 59 j ∧ V' 60 j = V 60 j ∧ (0 < V' 61 j ↔ 0 < V 61 j)) : p_W V' := by
  obtain ⟨D, P, N, C, T⟩ := hW
  refine ⟨fun g h1 h2 => ?_, fun g h1 h2 h3 => ?_, fun c h1 h2 h3 g h4 h5 => ?_, fun g j h1 h2 h3 h4 => ?_, fun h1 h2 h3 g h4 h5 j h6 => ?_⟩
  · obtain ⟨d1, d2, d3⟩ := D g h1 h2
    rw [(hp g).2.1]
    refine ⟨d1, by omega, fun x hx => ?_⟩
    rw [(hp x).1, h.rk]
    exact d3 x hx
  · obtain ⟨q1, q2, q3, q4, q5⟩ := P g h1 h2 ((hp g).2.2.2.2.2.mp h3)
    rw [(hp g).2.1, (hp g).2.2.2.1, (hp g).2.2.2.2.1, h.2.1]
    refine ⟨q1, q2, fun x hx => ?_, q4, fun hz => ⟨(q5 hz).1, (q5 hz).2.1, fun j hj => (q5 hz).2.2 j (h.rec.mp hj)⟩⟩
    rw [(hp x).2.2.1, h.rk]
    exact q3 x hx
  · rw [h.2.1] at h2
    rw [(h.1 c).1] at h3
    obtain ⟨n1, n2, n3⟩ := N c h1 h2 h3 g h4 h5
    rw [(h.1 _).2.2.2.2.2.2.1, (hp g).2.1]
    exact ⟨n1, n2, fun j hj => n3 j (h.rec.mp hj)⟩
  · have := C g j h1 h2 (h.rec.mp h3) (by rw [h.lim] at h4; exact h4)
    unfold p_cl at this ⊢
    rw [(hp g).2.1, (hp g).2.2.2.1]
    by_cases hz : 0 < V 61 g
    · rw [if_pos ((hp g).2.2.2.2.2.mpr hz)]; rw [if_pos hz] at this; exact this
    · rw [if_neg (fun z => hz ((hp g).2.2.2.2.2.mp z))]; rw [if_neg hz] at this; exact this
  · rw [h.2.2.1] at h1
    rw [h.2.2.2.1] at h2
    rw [h.2.1, h.2.2.2.2] at h3
    rw [(hp g).2.1, (h.1 g).2.2.2.2.2.2.2]
    exact T h1 h2 h3 g h4 h5 j (h.rec.mp h6)
theorem m_spl_54 {j : Int} : ∀ {n : Nat} {V : E_K} {x : Int}, m_spl V n x 54 j = if x ≤ j ∧ j < x + n then V 57 j else V 54 j := by
  intro n
  induction n with
  | zero => intro V x; rw [if_neg (by omega)]; rfl
  | succ n ih =>
    intro V x
    rw [m_spl, ih]
    by_cases h2 : x + 1 ≤ j ∧ j < x + 1 + n
    · rw [if_pos h2, if_pos (by omega), v_na (by omega), v_na (by omega)]
    · rw [if_neg h2]
      by_cases h3 : j = x
      · rw [if_pos (by omega), h3]
        rw [v_na (by omega), v_same]
      · rw [if_neg (by omega), v_ne h3, v_ne h3]
theorem m_spl_55 {j : Int} : ∀ {n : Nat} {V : E_K} {x : Int}, m_spl V n x 55 j = if x ≤ j ∧ j < x + n then V 58 j else V 55 j := by
  intro n
  induction n with
  | zero => intro V x; rw [if_neg (by omega)]; rfl
  | succ n ih =>
    intro V x
    rw [m_spl, ih]
    by_cases h2 : x + 1 ≤ j ∧ j < x + 1 + n
    · rw [if_pos h2, if_pos (by omega), v_na (by omega), v_na (by omega)]
    · rw [if_neg h2]
      by_cases h3 : j = x
      · rw [if_pos (by omega), h3]
        rw [v_same]
      · rw [if_neg (by omega), v_ne h3, v_ne h3]
theorem m_ftl_57 {j : Int} : ∀ {n : Nat} {V : E_K} {x : Int}, m_ftl V n x 57 j = if x ≤ j ∧ j < x + n then V 54 j else V 57 j := by
  intro n
  induction n with
  | zero => intro V x; rw [if_neg (by omega)]; rfl
  | succ n ih =>
    intro V x
    rw [m_ftl, ih]
    by_cases h2 : x + 1 ≤ j ∧ j < x + 1 + n
    · rw [if_pos h2, if_pos (by omega), v_na (by omega), v_na (by omega)]
    · rw [if_neg h2]
      by_cases h3 : j = x
      · rw [if_pos (by omega), h3]
        rw [v_na (by omega), v_same]
      · rw [if_neg (by omega), v_ne h3, v_ne h3]
theorem m_ftl_58 {j : Int} : ∀ {n : Nat} {V : E_K} {x : Int}, m_ftl V n x 58 j = if x ≤ j ∧ j < x + n then V 55 j else V 58 j := by
  intro n
  induction n with
  | zero => intro V x; rw [if_neg (by omega)]; rfl
  | succ n ih =>
    intro V x
    rw [m_ftl, ih]
    by_cases h2 : x + 1 ≤ j ∧ j < x + 1 + n
    · rw [if_pos h2, if_pos (by omega), v_na (by omega), v_na (by omega)]
    · rw [if_neg h2]
      by_cases h3 : j = x
      · rw [if_pos (by omega), h3]
        rw [v_same]
      · rw [if_neg (by omega), v_ne h3, v_ne h3]
theorem m_spill_56 {V : E_K} {g k : Int} : m_spill V g 56 k = if k = g then V 59 g else V 56 k := by
  unfold m_spill m_spl2
  rw [v_na (by omega), v_na (by omega)]
  by_cases hk : k = g
  · rw [hk, v_same, if_pos rfl, m_spl_na (by omega) (by omega), v_na (by omega)]
  · rw [v_ne hk, if_neg hk, m_spl_na (by omega) (by omega), v_na (by omega)]
theorem m_spill_60 {V : E_K} {g k : Int} : m_spill V g 60 k = if k = g then 0 else V 60 k := by
  unfold m_spill m_spl2
  rw [v_na (by omega)]
  by_cases hk : k = g
  · rw [hk, v_same, if_pos rfl]
  · rw [v_ne hk, if_neg hk, v_na (by omega), m_spl_na (by omega) (by omega), v_na (by omega)]
theorem m_spill_54 {V : E_K} {g k : Int} : m_spill V g 54 k = if 4 * g ≤ k ∧ k < 4 * g + 4 then V 57 k else V 54 k := by
  unfold m_spill m_spl2
  rw [v_na (by omega), v_na (by omega), v_na (by omega), m_spl_54, v_na (by omega), v_na (by omega)]
  rfl
theorem m_spill_55 {V : E_K} {g k : Int} : m_spill V g 55 k = if 4 * g ≤ k ∧ k < 4 * g + 4 then V 58 k else V 55 k := by
  unfold m_spill m_spl2
  rw [v_na (by omega), v_na (by omega), v_na (by omega), m_spl_55, v_na (by omega), v_na (by omega)]
  rfl
theorem m_spill_1 {V : E_K} {g : Int} : m_spill V g 44 1 = if V 44 1 < V 59 g then V 59 g else V 44 1 := by
  unfold m_spill m_spl2
  rw [v_ne (by omega), v_na (by omega), v_na (by omega), m_spl_na (by omega) (by omega), v_same]
theorem m_spill_21 {V : E_K} {g : Int} : m_spill V g 44 21 = V 44 21 + 1 := by
  unfold m_spill m_spl2
  rw [v_same, m_spl_na (by omega) (by omega), v_ne (by omega)]
theorem m_spill_oth {V : E_K} {g a j : Int} (h1 : a ≠ 44) (h2 : a ≠ 60) (h3 : a ≠ 56) (h4 : a ≠ 54) (h5 : a ≠ 55) : m_spill V g a j = V a j := by
  unfold m_spill m_spl2
  rw [v_na h1, v_na h2, v_na h3, m_spl_na h4 h5, v_na h1]
/-- a page of the pool goes to the disk -/
theorem p_W.spill {V : E_K} {g : Int} (hW : p_W V) (hg : 0 ≤ g ∧ g < 6) (hf : 0 < V 61 g) : p_W (m_spill V g) := by
  obtain ⟨D, P, N, C, T⟩ := hW
  have na : ∀ a j : Int, a ≠ 44 → a ≠ 60 → a ≠ 56 → a ≠ 54 → a ≠ 55 → m_spill V g a j = V a j := by
    intro a j h1 h2 h3 h4 h5
    exact m_spill_oth h1 h2 h3 h4 h5
  have n4 : ∀ j : Int, j ≠ 1 → j ≠ 21 → m_spill V g 44 j = V 44 j := fun j h1 h2 => m_spill_44 h1 h2
  have h : p_eq V (m_spill V g) := ⟨fun j => ⟨na _ _ (by omega) (by omega) (by omega) (by omega) (by omega), na _ _ (by omega) (by omega) (by omega) (by omega) (by omega), na _ _ (by omega) (by omega) (by omega) (by omega) (by omega), na _ _ (by omega) (by omega) (by omega) (by omega) (by omega), na _ _ (by omega) (by omega) (by omega) (by omega) (by omega), na _ _ (by omega) (by omega) (by omega) (by omega) (by omega), na _ _ (by omega) (by omega) (by omega) (by omega) (by omega), na _ _ (by omega) (by omega) (by omega) (by omega) (by omega)⟩, n4 _ (by omega) (by omega), n4 _ (by omega) (by omega), n4 _ (by omega) (by omega), n4 _ (by omega) (by omega)⟩
  have e56 : ∀ k : Int, m_spill V g 56 k = if k = g then V 59 g else V 56 k := fun k => m_spill_56
  have e60 : ∀ k : Int, m_spill V g 60 k = if k = g then 0 else V 60 k := fun k => m_spill_60
  have e54 : ∀ k : Int, m_spill V g 54 k = if 4 * g ≤ k ∧ k < 4 * g + 4 then V 57 k else V 54 k := fun k => m_spill_54
  have e1 : m_spill V g 44 1 = if V 44 1 < V 59 g then V 59 g else V 44 1 := m_spill_1
  have e57 : ∀ k, m_spill V g 57 k = V 57 k := fun k => na _ _ (by omega) (by omega) (by omega) (by omega) (by omega)
  have e59 : ∀ k, m_spill V g 59 k = V 59 k := fun k => na _ _ (by omega) (by omega) (by omega) (by omega) (by omega)
  have e61 : ∀ k, m_spill V g 61 k = V 61 k := fun k => na _ _ (by omega) (by omega) (by omega) (by omega) (by omega)
  obtain ⟨q1, q2, q3, q4, q5⟩ := P g hg.1 hg.2 hf
  have up : ∀ k j : Int, 0 ≤ k → k < 6 → j ≤ V 56 k → j ≤ m_spill V g 56 k := by
    intro k j h1 h2 h3
    rw [e56]
    split
    · rename_i hk; rw [hk] at h3; omega
    · exact h3
  refine ⟨fun k h1 h2 => ?_, fun k h1 h2 h3 => ?_, fun c h1 h2 h3 k h4 h5 => ?_, fun k j h1 h2 h3 h4 => ?_, fun h1 h2 h3 k h4 h5 j h6 => ?_⟩
  · obtain ⟨d1, d2, d3⟩ := D k h1 h2
    obtain ⟨g1, g2, _⟩ := D g hg.1 hg.2
    rw [e56, e1]
    by_cases hk : k = g
    · rw [if_pos hk]
      refine ⟨by omega, by split <;> omega, fun x hx => ?_⟩
      rw [e54, if_pos (by omega), h.rk]
      exact q3 x (by omega)
    · rw [if_neg hk]
      refine ⟨d1, by split <;> omega, fun x hx => ?_⟩
      rw [e54, if_neg (by omega), h.rk]
      exact d3 x hx
  · rw [e61] at h3
    obtain ⟨p1, p2, p3, p4, p5⟩ := P k h1 h2 h3
    rw [e56, e59, e60, h.2.1]
    by_cases hk : k = g
    · rw [if_pos hk, if_pos hk, hk]
      refine ⟨by omega, q2, fun x hx => ?_, fun _ => rfl, fun z => absurd rfl z⟩
      rw [e57, h.rk]
      exact q3 x hx
    · rw [if_neg hk, if_neg hk]
      refine ⟨p1, p2, fun x hx => ?_, p4, fun hz => ⟨(p5 hz).1, (p5 hz).2.1, fun j hj => (p5 hz).2.2 j (h.rec.mp hj)⟩⟩
      rw [e57, h.rk]
      exact p3 x hx
  · rw [h.2.1] at h2
    rw [(h.1 c).1] at h3
    obtain ⟨n1, n2, n3⟩ := N c h1 h2 h3 k h4 h5
    rw [(h.1 _).2.2.2.2.2.2.1]
    refine ⟨n1, n2, fun j hj hc => ?_⟩
    rcases n3 j (h.rec.mp hj) hc with z | z
    · exact Or.inl (up k j h4 h5 z)
    · exact Or.inr z
  · have := C k j h1 h2 (h.rec.mp h3) (by rw [h.lim] at h4; exact h4)
    unfold p_cl at this ⊢
    rw [e61, e59]
    split
    · rename_i hz; rw [if_pos hz] at this; exact this
    · rename_i hz; rw [if_neg hz] at this; exact up k j h1 h2 this
  · rw [h.2.2.1] at h1
    rw [h.2.2.2.1] at h2
    rw [h.2.1, h.2.2.2.2] at h3
    rw [(h.1 k).2.2.2.2.2.2.2]
    rcases T h1 h2 h3 k h4 h5 j (h.rec.mp h6) with z | z
    · exact Or.inl (up k j h4 h5 z)
    · exact Or.inr z
def p_S (V : E_K) : Prop := 0 ≤ V 44 1 ∧ V 44 1 ≤ V 44 0
theorem p_S.spill {V : E_K} {g : Int} (hS : p_S V) (hW : p_W V) (hg : 0 ≤ g ∧ g < 6) (hf : 0 < V 61 g) : p_S (m_spill V g) := by
  have := (hW.2.1 g hg.1 hg.2 hf).2.1
  unfold p_S at hS ⊢
  rw [m_spill_1, m_spill_44 (by omega) (by omega)]
  split <;> omega
/-- a clean page leaves the pool -/
theorem p_W.evict {V : E_K} {o : Int} (hW : p_W V) (ho : 0 ≤ o ∧ o < 6) (hf : 0 < V 61 o) (hr : V 60 o = 0) : p_W (v_up V 61 o 0) := by
  obtain ⟨D, P, N, C, T⟩ := hW
  have na : ∀ a j : Int, a ≠ 61 → v_up V 61 o 0 a j = V a j := fun a j h => v_na h
  have h : p_eq V (v_up V 61 o 0) := ⟨fun j => ⟨na _ _ (by omega), na _ _ (by omega), na _ _ (by omega), na _ _ (by omega), na _ _ (by omega), na _ _ (by omega), na _ _ (by omega), na _ _ (by omega)⟩, na _ _ (by omega), na _ _ (by omega), na _ _ (by omega), na _ _ (by omega)⟩
  refine ⟨fun g h1 h2 => ?_, fun g h1 h2 h3 => ?_, fun c h1 h2 h3 g h4 h5 => ?_, fun g j h1 h2 h3 h4 => ?_, fun h1 h2 h3 g h4 h5 j h6 => ?_⟩
  · obtain ⟨d1, d2, d3⟩ := D g h1 h2
    rw [na 56 g (by omega), na 44 1 (by omega)]
    refine ⟨d1, d2, fun x hx => ?_⟩
    rw [na 54 x (by omega), h.rk]
    exact d3 x hx
  · by_cases hg : g = o
    · rw [hg, v_same] at h3
      exact absurd h3 (by omega)
    · rw [v_ne hg] at h3
      obtain ⟨q1, q2, q3, q4, q5⟩ := P g h1 h2 h3
      rw [na 56 g (by omega), na 59 g (by omega), na 60 g (by omega), na 44 0 (by omega)]
      refine ⟨q1, q2, fun x hx => ?_, q4, fun hz => ⟨(q5 hz).1, (q5 hz).2.1, fun j hj => (q5 hz).2.2 j (h.rec.mp hj)⟩⟩
      rw [na 57 x (by omega), h.rk]
      exact q3 x hx
  · rw [na 44 0 (by omega)] at h2
    rw [na 45 c (by omega)] at h3
    obtain ⟨n1, n2, n3⟩ := N c h1 h2 h3 g h4 h5
    rw [na 53 _ (by omega), na 56 g (by omega)]
    exact ⟨n1, n2, fun j hj => n3 j (h.rec.mp hj)⟩
  · have := C g j h1 h2 (h.rec.mp h3) (by rw [h.lim] at h4; exact h4)
    unfold p_cl at this ⊢
    rw [na 59 g (by omega), na 56 g (by omega)]
    by_cases hg : g = o
    · rw [hg, v_same, if_neg (by omega)]
      rw [hg, if_pos hf, (P o ho.1 ho.2 hf).2.2.2.1 hr] at this
      exact this
    · rw [v_ne hg]
      exact this
  · rw [na 44 32 (by omega)] at h1
    rw [na 44 34 (by omega)] at h2
    rw [na 44 0 (by omega), na 44 35 (by omega)] at h3
    rw [na 56 g (by omega), na 71 g (by omega)]
    exact T h1 h2 h3 g h4 h5 j (h.rec.mp h6)
def m_load (V : E_K) (g : Int) : E_K := m_ft3 (m_ftl V 4 (4 * g)) g
theorem m_load_57 {V : E_K} {g k : Int} : m_load V g 57 k = if 4 * g ≤ k ∧ k < 4 * g + 4 then V 54 k else V 57 k := by
  unfold m_load m_ft3
  rw [v_na (by omega), v_na (by omega), v_na (by omega), v_na (by omega), m_ftl_57]
  rfl
theorem m_load_58 {V : E_K} {g k : Int} : m_load V g 58 k = if 4 * g ≤ k ∧ k < 4 * g + 4 then V 55 k else V 58 k := by
  unfold m_load m_ft3
  rw [v_na (by omega), v_na (by omega), v_na (by omega), v_na (by omega), m_ftl_58]
  rfl
theorem m_load_59 {V : E_K} {g k : Int} : m_load V g 59 k = if k = g then V 56 g else V 59 k := by
  unfold m_load m_ft3
  rw [v_na (by omega), v_na (by omega), v_na (by omega)]
  by_cases hk : k = g
  · rw [hk, v_same, if_pos rfl, m_ftl_na (by omega) (by omega)]
  · rw [v_ne hk, if_neg hk, m_ftl_na (by omega) (by omega)]
theorem m_load_60 {V : E_K} {g k : Int} : m_load V g 60 k = if k = g then 0 else V 60 k := by
  unfold m_load m_ft3
  rw [v_na (by omega), v_na (by omega)]
  by_cases hk : k = g
  · rw [hk, v_same, if_pos rfl]
  · rw [v_ne hk, if_neg hk, v_na (by omega), m_ftl_na (by omega) (by omega)]
theorem m_load_61 {V : E_K} {g k : Int} : m_load V g 61 k = if k = g then V 44 19 else V 61 k := by
  unfold m_load m_ft3
  by_cases hk : k = g
  · rw [hk, v_same, if_pos rfl, m_ftl_na (by omega) (by omega)]
  · rw [v_ne hk, if_neg hk, v_na (by omega), v_na (by omega), v_na (by omega), m_ftl_na (by omega) (by omega)]
theorem m_load_20 {V : E_K} {g : Int} : m_load V g 44 20 = V 44 20 + 1 := by
  unfold m_load m_ft3
  rw [v_na (by omega), v_same, m_ftl_na (by omega) (by omega)]
theorem m_load_44 {V : E_K} {g k : Int} (hk : k ≠ 20) : m_load V g 44 k = V 44 k := by
  unfold m_load m_ft3
  rw [v_na (by omega), v_ne hk, v_na (by omega), v_na (by omega), m_ftl_na (by omega) (by omega)]
theorem m_load_oth {V : E_K} {g a j : Int} (h0 : a ≠ 44) (h1 : a < 57 ∨ 61 < a) : m_load V g a j = V a j := by
  unfold m_load m_ft3
  rw [v_na (by omega), v_na h0, v_na (by omega), v_na (by omega), m_ftl_na (by omega) (by omega)]
/-- a page comes into the pool -/
theorem p_W.load {V : E_K} {g : Int} (hW : p_W V) (hS : p_S V) (hg : 0 ≤ g ∧ g < 6) (hf : V 61 g = 0) : p_W (m_load V g) := by
  obtain ⟨D, P, N, C, T⟩ := hW
  have na : ∀ a j : Int, a ≠ 44 → (a < 57 ∨ 61 < a) → m_load V g a j = V a j := fun a j h0 h1 => m_load_oth h0 h1
  have h : p_eq V (m_load V g) := ⟨fun j => ⟨na _ _ (by omega) (by omega), na _ _ (by omega) (by omega), na _ _ (by omega) (by omega), na _ _ (by omega) (by omega), na _ _ (by omega) (by omega), na _ _ (by omega) (by omega), na _ _ (by omega) (by omega), na _ _ (by omega) (by omega)⟩, m_load_44 (by omega), m_load_44 (by omega), m_load_44 (by omega), m_load_44 (by omega)⟩
  refine ⟨fun k h1 h2 => ?_, fun k h1 h2 h3 => ?_, fun c h1 h2 h3 k h4 h5 => ?_, fun k j h1 h2 h3 h4 => ?_, fun h1 h2 h3 k h4 h5 j h6 => ?_⟩
  · obtain ⟨d1, d2, d3⟩ := D k h1 h2
    rw [na 56 k (by omega) (by omega), m_load_44 (by omega)]
    refine ⟨d1, d2, fun x hx => ?_⟩
    rw [na 54 x (by omega) (by omega), h.rk]
    exact d3 x hx
  · rw [na 56 k (by omega) (by omega), m_load_59, m_load_60, m_load_44 (by omega)]
    by_cases hk : k = g
    · rw [if_pos hk, if_pos hk, hk]
      obtain ⟨d1, d2, d3⟩ := D g hg.1 hg.2
      have := hS.2
      refine ⟨by omega, by omega, fun x hx => ?_, fun _ => rfl, fun z => absurd rfl z⟩
      rw [m_load_57, if_pos (by omega), h.rk]
      exact d3 x hx
    · rw [m_load_61, if_neg hk] at h3
      rw [if_neg hk, if_neg hk]
      obtain ⟨q1, q2, q3, q4, q5⟩ := P k h1 h2 h3
      refine ⟨q1, q2, fun x hx => ?_, q4, fun hz => ⟨(q5 hz).1, (q5 hz).2.1, fun j hj => (q5 hz).2.2 j (h.rec.mp hj)⟩⟩
      rw [m_load_57, if_neg (by omega), h.rk]
      exact q3 x hx
  · rw [m_load_44 (by omega)] at h2
    rw [na 45 c (by omega) (by omega)] at h3
    obtain ⟨n1, n2, n3⟩ := N c h1 h2 h3 k h4 h5
    rw [na 53 _ (by omega) (by omega), na 56 k (by omega) (by omega)]
    exact ⟨n1, n2, fun j hj => n3 j (h.rec.mp hj)⟩
  · have := C k j h1 h2 (h.rec.mp h3) (by rw [h.lim] at h4; exact h4)
    unfold p_cl at this ⊢
    rw [m_load_61, m_load_59, na 56 k (by omega) (by omega)]
    by_cases hk : k = g
    · rw [if_pos hk, if_pos hk, hk]
      rw [hk, hf, if_neg (by omega)] at this
      split <;> exact this
    · rw [if_neg hk, if_neg hk]
      exact this
  · rw [m_load_44 (by omega)] at h1
    rw [m_load_44 (by omega)] at h2
    rw [m_load_44 (by omega), m_load_44 (by omega)] at h3
    rw [na 56 k (by omega) (by omega), na 71 k (by omega) (by omega)]
    exact T h1 h2 h3 k h4 h5 j (h.rec.mp h6)
theorem m_old_pos {V : E_K} : ∀ {n : Nat} {k m o : Int}, 0 ≤ k → (0 ≤ o → 0 < V 61 o) → 0 ≤ (m_old V n k m o).2 → 0 < V 61 (m_old V n k m o).2 := by
  intro n
  induction n with
  | zero => intro k m o _ h h2; exact h h2
  | succ n ih =>
    intro k m o hk h h2
    rw [m_old] at h2 ⊢
    refine ih (by omega) (fun h3 => ?_) h2
    split at h3
    · rename_i hc; rw [if_pos hc]; exact hc.1
    · rename_i hc; rw [if_neg hc]; exact h h3
def p_F (V : E_K) : Prop := 0 ≤ V 44 19 ∧ ∀ g : Int, 0 ≤ V 61 g
theorem p_W.fetch {V : E_K} {g : Int} (hW : p_W V) (hS : p_S V) (hg : 0 ≤ g ∧ g < 6) (hF : p_F V) : p_W (m_fetch V g) ∧ p_S (m_fetch V g) := by
  have keep0 : ∀ x, p_W (v_up V 44 19 x) := fun x => hW.keep ⟨fun j => ⟨rfl, rfl, rfl, rfl, rfl, rfl, rfl, rfl⟩, rfl, rfl, rfl, rfl⟩ (Int.le_refl _) (fun j => ⟨rfl, rfl, rfl, rfl, rfl, Iff.rfl⟩)
  have hS0 : ∀ x, p_S (v_up V 44 19 x) := fun x => hS
  unfold m_fetch
  split
  · rename_i h0
    have hW0 := keep0 (V 44 19 + 1)
    have hS1 := hS0 (V 44 19 + 1)
    have e61 : ∀ j, v_up V 44 19 (V 44 19 + 1) 61 j = V 61 j := fun j => v_na (by omega)
    generalize hV : v_up V 44 19 (V 44 19 + 1) = V0 at *
    have hgz : V0 61 g = 0 := by rw [e61]; exact h0
    have key : p_W (m_ft2 V0 g (m_old V0 6 0 0 (-1)).1 (m_old V0 6 0 0 (-1)).2) ∧ p_S (m_ft2 V0 g (m_old V0 6 0 0 (-1)).1 (m_old V0 6 0 0 (-1)).2) ∧ m_ft2 V0 g (m_old V0 6 0 0 (-1)).1 (m_old V0 6 0 0 (-1)).2 61 g = 0 := by
      unfold m_ft2
      split
      · rename_i h3
        have o1 : 0 ≤ (m_old V0 6 0 0 (-1)).2 := m_old_nonneg (by omega) (fun _ => rfl) (fun z => absurd z (by omega)) (by omega) (by omega)
        have o2 : (m_old V0 6 0 0 (-1)).2 < 6 := by
          have := @m_old_lt V0 6 0 0 (-1) (by omega)
          omega
        have o3 : 0 < V0 61 (m_old V0 6 0 0 (-1)).2 := m_old_pos (by omega) (fun z => absurd z (by omega)) o1
        generalize (m_old V0 6 0 0 (-1)).2 = o at *
        have hgo : g ≠ o := by
          intro z
          rw [z] at hgz
          omega
        split
        · rename_i h4
          have w1 := hW0.spill ⟨o1, o2⟩ o3
          have s1 := hS1.spill hW0 ⟨o1, o2⟩ o3
          have f1 : m_spill V0 o 61 o = V0 61 o := m_spill_oth (by omega) (by omega) (by omega) (by omega) (by omega)
          have f2 : m_spill V0 o 61 g = V0 61 g := m_spill_oth (by omega) (by omega) (by omega) (by omega) (by omega)
          refine ⟨w1.evict ⟨o1, o2⟩ (by rw [f1]; exact o3) (by rw [m_spill_60, if_pos rfl]), s1, ?_⟩
          rw [v_ne hgo, f2]
          exact hgz
        · rename_i h4
          have hz : V0 60 o = 0 := by
            have p := (hW0.2.1 o o1 o2 o3).2.2.2.2
            have d := (hW0.1 o o1 o2).1
            by_cases hz : V0 60 o = 0
            · exact hz
            · have := (p hz).1
              omega
          refine ⟨hW0.evict ⟨o1, o2⟩ o3 hz, hS1, ?_⟩
          rw [v_ne hgo]
          exact hgz
      · exact ⟨hW0, hS1, hgz⟩
    refine ⟨key.1.load key.2.1 hg key.2.2, ?_⟩
    have := key.2.1
    unfold p_S at this ⊢
    have e1 := fun k hk => @m_load_44 (m_ft2 V0 g (m_old V0 6 0 0 (-1)).1 (m_old V0 6 0 0 (-1)).2) g k hk
    unfold m_load at e1
    rw [e1 1 (by omega), e1 0 (by omega)]
    exact this
  · rename_i h0
    refine ⟨(keep0 (V 44 19 + 1)).keep ⟨fun j => ⟨rfl, rfl, rfl, rfl, rfl, rfl, rfl, rfl⟩, rfl, rfl, rfl, rfl⟩ (Int.le_refl _) (fun j => ⟨rfl, rfl, rfl, rfl, rfl, ?_⟩), hS⟩
    by_cases hj : j = g
    · rw [hj, v_same, v_na (by omega)]
      have := hF.1
      have := hF.2 g
      omega
    · rw [v_ne hj]
theorem m_fetch_19 {V : E_K} {g : Int} : m_fetch V g 44 19 = V 44 19 + 1 := by
  unfold m_fetch
  split
  · have e1 := fun k hk => @m_load_44 (m_ft2 (v_up V 44 19 (V 44 19 + 1)) g (m_old (v_up V 44 19 (V 44 19 + 1)) 6 0 0 (-1)).1 (m_old (v_up V 44 19 (V 44 19 + 1)) 6 0 0 (-1)).2) g k hk
    unfold m_load at e1
    rw [e1 19 (by omega)]
    unfold m_ft2
    split
    · rw [v_na (by omega)]
      split
      · rw [m_spill_44 (by omega) (by omega), v_same]
      · rw [v_same]
    · rw [v_same]
  · rw [v_na (by omega), v_same]
theorem p_F.fetch {V : E_K} {g : Int} (hF : p_F V) : p_F (m_fetch V g) := by
  refine ⟨by rw [m_fetch_19]; have := hF.1; omega, fun k => ?_⟩
  have h1 := hF.1
  have h2 := hF.2
  unfold m_fetch
  split
  · have e1 := @m_load_61 (m_ft2 (v_up V 44 19 (V 44 19 + 1)) g (m_old (v_up V 44 19 (V 44 19 + 1)) 6 0 0 (-1)).1 (m_old (v_up V 44 19 (V 44 19 + 1)) 6 0 0 (-1)).2) g k
    unfold m_load at e1
    rw [e1]
    have e19 : m_ft2 (v_up V 44 19 (V 44 19 + 1)) g (m_old (v_up V 44 19 (V 44 19 + 1)) 6 0 0 (-1)).1 (m_old (v_up V 44 19 (V 44 19 + 1)) 6 0 0 (-1)).2 44 19 = V 44 19 + 1 := by
      unfold m_ft2
      split
      · rw [v_na (by omega)]
        split
        · rw [m_spill_44 (by omega) (by omega), v_same]
        · rw [v_same]
      · rw [v_same]
    split
    · rw [e19]; omega
    · unfold m_ft2
      split
      · by_cases hk : k = (m_old (v_up V 44 19 (V 44 19 + 1)) 6 0 0 (-1)).2
        · rw [hk, v_same]; omega
        · rw [v_ne hk]
          split
          · rw [m_spill_oth (by omega) (by omega) (by omega) (by omega) (by omega), v_na (by omega)]
            exact h2 k
          · rw [v_na (by omega)]
            exact h2 k
      · rw [v_na (by omega)]
        exact h2 k
  · by_cases hk : k = g
    · rw [hk, v_same]; omega
    · rw [v_ne hk, v_na (by omega)]
      exact h2 k
