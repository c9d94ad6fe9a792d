/-! ===== pages against the log, 2: a new record ===== -/
theorem r_k_gap {V : E_K} {x : Int} {m : Nat} : ∀ {n : Nat}, m ≤ n → (∀ j : Int, (m : Int) < j → j ≤ n → ¬ (V 45 j < 3 ∧ V 47 j = x)) → r_k V n x = r_k V m x := by
  intro n
  induction n with
  | zero => intro h _; obtain rfl : m = 0 := by omega
            rfl
  | succ n ih =>
    intro h hj
    by_cases hm : m = n + 1
    · rw [hm]
    · rw [r_k_same (hj _ (by omega) (by omega)), ih (by omega) (fun j h1 h2 => hj j h1 (by omega))]
def a_eq (V V1 : E_K) : Prop := lg_eq V V1 (V 44 0) ∧ V1 44 0 = V 44 0 + 1 ∧ (∀ j : Int, V1 54 j = V 54 j ∧ V1 56 j = V 56 j ∧ V1 57 j = V 57 j ∧ V1 59 j = V 59 j ∧ V1 60 j = V 60 j ∧ V1 61 j = V 61 j ∧ V1 71 j = V 71 j) ∧ (∀ j : Int, j < 6 * (V 44 0 + 1) → V1 53 j = V 53 j) ∧ V1 44 1 = V 44 1 ∧ V1 44 32 = V 44 32 ∧ V1 44 34 = V 44 34 ∧ V1 44 35 = V 44 35
theorem a_eq.rec {V V1 : E_K} (h : a_eq V V1) {g j : Int} (hj : p_rec V1 g j) (hn : j ≤ V 44 0) : p_rec V g j := by
  obtain ⟨a, _, c, _⟩ := h.1 j hj.1 hn
  unfold p_rec at hj ⊢
  rw [a, c] at hj
  exact ⟨hj.1, hn, hj.2.2⟩
/-- a COMMIT or a CHECKPOINT is put -/
theorem p_W.app0 {V V1 : E_K} (hW : p_W V) (hS : p_S V) (h : a_eq V V1) (hk : 3 ≤ V1 45 (V 44 0 + 1)) (hl : p_lim V = V 44 0) (hT : V 44 32 ≠ 0 → V 44 0 + 1 < V 44 35) (hN : V1 45 (V 44 0 + 1) = 4 → ∀ g : Int, 0 ≤ g → g < 6 → V1 53 (6 * (V 44 0 + 1) + g) = if V 61 g ≤ 0 then 0 else V 60 g) : p_W V1 := by
  obtain ⟨D, P, N, C, T⟩ := hW
  obtain ⟨s1, s2⟩ := id hS
  obtain ⟨hl1, hsz, hp, h53, h1e, h32, h34, h35⟩ := id h
  have rec' : ∀ {g j : Int}, p_rec V1 g j → p_rec V g j := by
    intro g j hj
    refine h.rec hj ?_
    have h1 := hj.2.1
    have h2 := hj.2.2.1
    by_cases hjn : j = V 44 0 + 1
    · rw [hjn] at h2; omega
    · omega
  have rk : ∀ {n : Nat} {x : Int}, (n : Int) ≤ V 44 0 → r_k V1 n x = r_k V n x := fun hn => r_k_cg (hl1.le hn)
  refine ⟨fun g h1 h2 => ?_, fun g h1 h2 h3 => ?_, fun c h1 h2 h3 g h4 h5 => ?_, fun g j h1 h2 h3 h4 => ?_, fun h1 h2 h3 g h4 h5 j h6 => ?_⟩
  · obtain ⟨d1, d2, d3⟩ := D g h1 h2
    rw [(hp g).2.1, h1e]
    refine ⟨d1, d2, fun x hx => ?_⟩
    rw [(hp x).1, rk (by omega)]
    exact d3 x hx
  · rw [(hp g).2.2.2.2.2.1] at h3
    obtain ⟨q1, q2, q3, q4, q5⟩ := P g h1 h2 h3
    have d1 := (D g h1 h2).1
    rw [(hp g).2.1, (hp g).2.2.2.1, (hp g).2.2.2.2.1, hsz]
    refine ⟨q1, by omega, fun x hx => ?_, q4, fun hz => ⟨(q5 hz).1, (q5 hz).2.1, fun j hj => (q5 hz).2.2 j (rec' hj)⟩⟩
    rw [(hp x).2.2.1, rk (by omega)]
    exact q3 x hx
  · rw [hsz] at h2
    rw [(hp g).2.1]
    by_cases hc : c = V 44 0 + 1
    · rw [hc] at h3
      rw [hc, hN h3 g h4 h5]
      have d1 := (D g h4 h5).1
      have all : ∀ j : Int, p_rec V1 g j → j ≤ p_cl V g := fun j hj => C g j h4 h5 (rec' hj) (by rw [hl]; exact (rec' hj).2.1)
      unfold p_cl at all
      by_cases hf : 0 < V 61 g
      · rw [if_neg (by omega)]
        obtain ⟨q1, q2, q3, q4, q5⟩ := P g h4 h5 hf
        by_cases hz : V 60 g = 0
        · refine ⟨by omega, by omega, fun j hj _ => Or.inl ?_⟩
          have := all j hj
          rw [if_pos hf, q4 hz] at this
          exact this
        · obtain ⟨z1, z2, z3⟩ := q5 hz
          refine ⟨by omega, by omega, fun j hj _ => ?_⟩
          rcases z3 j (rec' hj) with w | w
          · exact Or.inl w
          · exact Or.inr ⟨by omega, w⟩
      · rw [if_pos (by omega)]
        refine ⟨by omega, by omega, fun j hj _ => Or.inl ?_⟩
        have := all j hj
        rw [if_neg hf] at this
        exact this
    · rw [(hl1 c h1 (by omega)).1] at h3
      obtain ⟨n1, n2, n3⟩ := N c h1 (by omega) h3 g h4 h5
      rw [h53 _ (by omega)]
      exact ⟨n1, n2, fun j hj => n3 j (rec' hj)⟩
  · have := C g j h1 h2 (rec' h3) (by rw [hl]; exact (rec' h3).2.1)
    unfold p_cl at this ⊢
    rw [(hp g).2.2.2.2.2.1, (hp g).2.2.2.1, (hp g).2.1]
    exact this
  · rw [h32] at h1
    rw [hsz, h35] at h3
    have := hT h1
    omega
/-- a record that changes a place is put and applied; its page is in the pool -/
theorem p_W.app1 {V V1 : E_K} (hW : p_W V) (hS : p_S V) (h : a_eq V V1) (hk : V1 45 (V 44 0 + 1) < 3) (hsp : 0 ≤ V1 47 (V 44 0 + 1) ∧ V1 47 (V 44 0 + 1) < 24) (hf : 0 < V 61 (V1 47 (V 44 0 + 1) / 4)) (hl : p_lim V = V 44 0) (hT : V 44 32 ≠ 0 → V 44 0 + 1 < V 44 35) : p_W (m_apply V1 (V 44 0 + 1)) := by
  obtain ⟨D, P, N, C, T⟩ := hW
  obtain ⟨s1, s2⟩ := id hS
  obtain ⟨hl1, hsz, hp, h53, h1e, h32, h34, h35⟩ := id h
  generalize hx : V1 47 (V 44 0 + 1) = x at *
  generalize hn : V 44 0 + 1 = n at *
  have na : ∀ a j : Int, (a < 57 ∨ 60 < a) → m_apply V1 n a j = V1 a j := fun a j ha => m_apply_na ha
  have e59 : ∀ k : Int, m_apply V1 n 59 k = if k = x / 4 then n else V 59 k := by
    intro k
    unfold m_apply
    rw [hx, v_na (by omega)]
    by_cases hk : k = x / 4
    · rw [hk, v_same, if_pos rfl]
    · rw [v_ne hk, if_neg hk, v_na (by omega), v_na (by omega), (hp k).2.2.2.1]
  have e60 : ∀ k : Int, m_apply V1 n 60 k = if k = x / 4 then (if V 60 (x / 4) = 0 then n else V 60 (x / 4)) else V 60 k := by
    intro k
    unfold m_apply
    rw [hx, (hp (x / 4)).2.2.2.2.1]
    by_cases hk : k = x / 4
    · rw [hk, v_same, if_pos rfl]
    · rw [v_ne hk, if_neg hk, v_na (by omega), v_na (by omega), v_na (by omega), (hp k).2.2.2.2.1]
  have e57 : ∀ k : Int, m_apply V1 n 57 k = if k = x then V1 50 n else V 57 k := by
    intro k
    unfold m_apply
    rw [hx, v_na (by omega), v_na (by omega), v_na (by omega)]
    by_cases hk : k = x
    · rw [hk, v_same, if_pos rfl]
    · rw [v_ne hk, if_neg hk, (hp k).2.2.1]
  have lgA : lg_eq V1 (m_apply V1 n) n := fun i _ _ => ⟨na _ _ (by omega), na _ _ (by omega), na _ _ (by omega), na _ _ (by omega), na _ _ (by omega), na _ _ (by omega)⟩
  have rk : ∀ {m : Nat} {y : Int}, (m : Int) < n → r_k (m_apply V1 n) m y = r_k V m y := fun {m y} hm => (r_k_cg (lgA.le (by omega))).trans (r_k_cg (hl1.le (by omega)))
  have recO : ∀ {g j : Int}, p_rec (m_apply V1 n) g j → j < n → p_rec V g j := by
    intro g j hj hlt
    refine h.rec ?_ (by omega)
    unfold p_rec at hj ⊢
    rw [na _ _ (by omega), na _ _ (by omega), na _ _ (by omega)] at hj
    exact hj
  have recN : ∀ {g j : Int}, p_rec (m_apply V1 n) g j → j ≤ n ∧ (j = n → g = x / 4) := by
    intro g j hj
    unfold p_rec at hj
    rw [na _ _ (by omega), na _ _ (by omega), na _ _ (by omega), hsz] at hj
    refine ⟨hj.2.1, fun z => ?_⟩
    rw [← hj.2.2.2, z, hx]
  have hg : 0 ≤ x / 4 ∧ x / 4 < 6 := by omega
  obtain ⟨q1, q2, q3, q4, q5⟩ := P (x / 4) hg.1 hg.2 hf
  have dg := D (x / 4) hg.1 hg.2
  have all : ∀ g j : Int, 0 ≤ g → g < 6 → p_rec V g j → j ≤ p_cl V g := fun g j h1 h2 hj => C g j h1 h2 hj (by rw [hl]; exact hj.2.1)
  refine ⟨fun g h1 h2 => ?_, fun g h1 h2 h3 => ?_, fun c h1 h2 h3 g h4 h5 => ?_, fun g j h1 h2 h3 h4 => ?_, fun h1 h2 h3 g h4 h5 j h6 => ?_⟩
  · obtain ⟨d1, d2, d3⟩ := D g h1 h2
    rw [na 56 g (by omega), na 44 1 (by omega), (hp g).2.1, h1e]
    refine ⟨d1, d2, fun y hy => ?_⟩
    rw [na 54 y (by omega), (hp y).1, rk (by omega)]
    exact d3 y hy
  · rw [na 61 g (by omega), (hp g).2.2.2.2.2.1] at h3
    rw [na 56 g (by omega), (hp g).2.1, e59, e60, na 44 0 (by omega), hsz]
    by_cases hgx : g = x / 4
    · rw [if_pos hgx, if_pos hgx, hgx]
      refine ⟨by omega, by omega, fun y hy => ?_, fun hz => ?_, fun hz => ?_⟩
      · obtain ⟨m, hm⟩ : ∃ m : Nat, n = (m : Int) + 1 := ⟨(V 44 0).toNat, by omega⟩
        rw [e57, show n.toNat = m + 1 by omega, r_k, ← hm, na 45 n (by omega), na 47 n (by omega), na 50 n (by omega), hx]
        by_cases hyx : y = x
        · rw [if_pos hyx, if_pos ⟨hk, hyx.symm⟩]
        · rw [if_neg hyx, if_neg (fun z => hyx z.2.symm), rk (by omega), q3 y hy]
          symm
          refine r_k_gap (by omega) (fun j j1 j2 hj => ?_)
          have := all (x / 4) j hg.1 hg.2 ⟨by omega, by omega, hj.1, by rw [hj.2]; exact hy⟩
          unfold p_cl at this
          rw [if_pos hf] at this
          omega
      · split at hz
        · omega
        · rename_i hz2; exact absurd hz hz2
      · by_cases hz2 : V 60 (x / 4) = 0
        · rw [if_pos hz2]
          have q4' := q4 hz2
          refine ⟨by omega, by omega, fun j hj => ?_⟩
          by_cases hjn : j = n
          · exact Or.inr (by omega)
          · have hj' := recO hj (by have := (recN hj).1; omega)
            have := all (x / 4) j hg.1 hg.2 hj'
            unfold p_cl at this
            rw [if_pos hf] at this
            exact Or.inl (by omega)
        · rw [if_neg hz2]
          obtain ⟨z1, z2, z3⟩ := q5 hz2
          refine ⟨z1, by omega, fun j hj => ?_⟩
          by_cases hjn : j = n
          · exact Or.inr (by omega)
          · exact z3 j (recO hj (by have := (recN hj).1; omega))
    · rw [if_neg hgx, if_neg hgx]
      obtain ⟨p1, p2, p3, p4, p5⟩ := P g h1 h2 h3
      have d1 := (D g h1 h2).1
      have recg : ∀ j, p_rec (m_apply V1 n) g j → p_rec V g j := fun j hj => recO hj (by
        have := recN hj
        by_cases hjn : j = n
        · exact absurd (this.2 hjn) hgx
        · omega)
      refine ⟨p1, by omega, fun y hy => ?_, p4, fun hz => ⟨(p5 hz).1, (p5 hz).2.1, fun j hj => (p5 hz).2.2 j (recg j hj)⟩⟩
      rw [e57, if_neg (fun z => hgx (by rw [← hy, z])), rk (by omega)]
      exact p3 y hy
  · rw [na 44 0 (by omega), hsz] at h2
    rw [na 45 c (by omega)] at h3
    have hcn : c ≠ n := by
      intro z
      rw [z] at h3
      omega
    rw [(hl1 c h1 (by omega)).1] at h3
    obtain ⟨n1, n2, n3⟩ := N c h1 (by omega) h3 g h4 h5
    rw [na 53 _ (by omega), h53 _ (by omega), na 56 g (by omega), (hp g).2.1]
    exact ⟨n1, n2, fun j hj hjc => n3 j (recO hj (by omega)) hjc⟩
  · unfold p_cl
    rw [na 61 g (by omega), (hp g).2.2.2.2.2.1, e59, na 56 g (by omega), (hp g).2.1]
    obtain ⟨r1, r2⟩ := recN h3
    by_cases hjn : j = n
    · have hgx := r2 hjn
      rw [hgx, if_pos hf, if_pos rfl]
      exact r1
    · have := all g j h1 h2 (recO h3 (by omega))
      unfold p_cl at this
      by_cases hgx : g = x / 4
      · rw [hgx, if_pos hf, if_pos rfl]
        exact r1
      · rw [if_neg hgx]
        exact this
  · rw [na 44 32 (by omega), h32] at h1
    rw [na 44 35 (by omega), na 44 0 (by omega), hsz, h35] at h3
    have := hT h1
    omega
