/-! ===== how far the counters go ===== -/
def b_g (V : E_K) (N : Int) : Prop := (0 ≤ V 44 19 ∧ V 44 19 ≤ N) ∧ (0 ≤ V 44 20 ∧ V 44 20 ≤ N) ∧ (0 ≤ V 44 21 ∧ V 44 21 ≤ N)
theorem b_g.le {V : E_K} {N M : Int} (h : b_g V N) (hm : N ≤ M) : b_g V M := by
  unfold b_g at h ⊢
  omega
theorem b_g.cg {V V' : E_K} {N : Int} (h : b_g V N) (h1 : V' 44 19 = V 44 19) (h2 : V' 44 20 = V 44 20) (h3 : V' 44 21 = V 44 21) : b_g V' N := by
  unfold b_g at h ⊢
  rw [h1, h2, h3]
  exact h
theorem m_ft2_20 {V : E_K} {g m o : Int} : m_ft2 V g m o 44 20 = V 44 20 ∧ (m_ft2 V g m o 44 21 = V 44 21 ∨ m_ft2 V g m o 44 21 = V 44 21 + 1) := by
  unfold m_ft2
  split
  · rw [v_na (by omega), v_na (by omega)]
    split
    · rw [m_spill_44 (by omega) (by omega), m_spill_21]
      exact ⟨rfl, Or.inr rfl⟩
    · exact ⟨rfl, Or.inl rfl⟩
  · exact ⟨rfl, Or.inl rfl⟩
theorem b_g.fetch {V : E_K} {g N : Int} (h : b_g V N) : b_g (m_fetch V g) (N + 1) := by
  have e19 := @m_fetch_19 V g
  unfold b_g at h ⊢
  rw [e19]
  unfold m_fetch
  split
  · have q := @m_load_20 (m_ft2 (v_up V 44 19 (V 44 19 + 1)) g (m_old (v_up V 44 19 (V 44 19 + 1)) 6 0 0 (-1)).1 (m_old (v_up V 44 19 (V 44 19 + 1)) 6 0 0 (-1)).2) g
    have r := @m_load_44 (m_ft2 (v_up V 44 19 (V 44 19 + 1)) g (m_old (v_up V 44 19 (V 44 19 + 1)) 6 0 0 (-1)).1 (m_old (v_up V 44 19 (V 44 19 + 1)) 6 0 0 (-1)).2) g 21 (by omega)
    have s := @m_ft2_20 (v_up V 44 19 (V 44 19 + 1)) g (m_old (v_up V 44 19 (V 44 19 + 1)) 6 0 0 (-1)).1 (m_old (v_up V 44 19 (V 44 19 + 1)) 6 0 0 (-1)).2
    unfold m_load at q r
    rw [q, r, s.1]
    have s2 := s.2
    rw [v_ne (by omega)] at s2
    rw [v_ne (by omega)]
    omega
  · rw [v_na (show (44 : Int) ≠ 61 by omega), v_na (show (44 : Int) ≠ 61 by omega), v_ne (show (20 : Int) ≠ 19 by omega), v_ne (show (21 : Int) ≠ 19 by omega)]
    omega
theorem b_g.takeBack {V : E_K} {b N : Int} (h : b_g V N) : b_g (m_takeBack V b) (N + 1) := by
  have w := h.fetch (g := V 47 b / 4)
  refine w.cg ?_ ?_ ?_
  · unfold m_takeBack; rw [m_apply_na (by omega), m_tb2_44 (by omega)]
  · unfold m_takeBack; rw [m_apply_na (by omega), m_tb2_44 (by omega)]
  · unfold m_takeBack; rw [m_apply_na (by omega), m_tb2_44 (by omega)]
theorem b_g.redo {V : E_K} {i N : Int} (h : b_g V N) : b_g (m_redo V i) (N + 1) := by
  unfold m_redo
  split
  · split
    · exact (h.fetch (g := V 47 i / 4)).cg (m_apply_na (by omega)) (m_apply_na (by omega)) (m_apply_na (by omega))
    · exact h.fetch
  · exact h.le (by omega)
theorem b_g.grant {V : E_K} {t N : Int} (h : b_g V N) : b_g (m_grant V t) (N + 1) := by
  have h1 : b_g (m_g1 V t) N := h.cg (m_g1_na (by omega)) (m_g1_na (by omega)) (m_g1_na (by omega))
  unfold m_grant
  generalize m_g1 V t = V1 at h1
  unfold m_g2
  split
  · unfold m_gR
    split
    · exact (h1.cg (V' := v_up V1 64 t 0) (v_na (by omega)) (v_na (by omega)) (v_na (by omega))).le (by omega)
    · exact (h1.fetch).cg (v_na (by omega)) (v_na (by omega)) (v_na (by omega))
  · unfold m_gW m_gW2
    generalize (if m_find V1 (V1 65 t) < 0 then m_find V1 (-1) else m_find V1 (V1 65 t)) = x
    split
    · exact (h1.cg (V' := v_up V1 63 t 3) (v_na (by omega)) (v_na (by omega)) (v_na (by omega))).le (by omega)
    · have w := h1.fetch (g := x / 4)
      unfold m_gU
      have e : ∀ k : Int, k ≠ 0 → m_apply (m_gU2 (m_fetch V1 (x / 4)) t x) (V1 44 0 + 1) 44 k = m_fetch V1 (x / 4) 44 k := by
        intro k hk
        rw [m_apply_na (by omega)]
        unfold m_gU2
        rw [v_na (by omega), v_na (by omega), v_na (by omega), v_na (by omega), m_put_44 hk]
      exact w.cg (e _ (by omega)) (e _ (by omega)) (e _ (by omega))
theorem w_F.rg {V : E_K} {N : Int} (hW : w_F V) (hb : b_g V N) (hN : N ≤ 1000000000) : m_rg V := by
  have hsz := hW.size
  have L := hW.1
  have Z := hW.2.2.2.2.1
  have hB := Z.2.2.2.2.2.2.1
  unfold b_g at hb
  refine ⟨by omega, hW.2.2.1, hB, ⟨by omega, by omega, by omega⟩, fun i i1 i2 => ?_, fun t t1 t2 => ?_⟩
  · rcases L i i1 i2 with h | h | h | h
    · have h1 := h.2.1
      have h2 := h.2.2.1
      omega
    · have h2 := h.2.1
      have w := lg_1_at L h2.1 (by have := h2.2.1; omega) h2.2.2.1
      have w1 := w.1
      have w2 := w.2.1
      have := h.2.2.2.1
      have := h.2.2.2.2.1
      omega
    · have h1 := h.2.1
      have h2 := h.2.2.1
      omega
    · omega
  · have := Z.2.2.2.2.1 t t1 t2
    exact ⟨this.1, this.2.1⟩
/-- what settle keeps -/
def b_I (b : Int) (V : E_K) : Prop := w_F V ∧ V 44 32 = 0 ∧ b_g V (b - z_n V)
def b_J (b : Int) (V : E_K) : Prop := w_F V ∧ V 44 32 = 0 ∧ b_g V (b - u_f V (V 44 0).toNat)
theorem b_I.rel {b : Int} {V : E_K} (h : b_I b V) (hf : 0 < m_firm V) : b_I b (m_rel V (m_firm V)) := by
  obtain ⟨hW, hup, hb⟩ := h
  obtain ⟨j, j1, j2, j3, j4, j5⟩ := m_fmL_spec (V := V) hf
  have r := lg_3_of hW.1 (by omega) (by have := hW.2.2.1.2; have := hW.2.2.1.1; omega) j3
  have e : m_firm V = V 46 j := j5
  refine ⟨hW.rel hup hf, ?_, ?_⟩
  · rw [show m_rel V (m_firm V) = m_end V (m_firm V) 4 from rfl, m_end_oth (by omega) (by omega)]; exact hup
  · rw [show m_rel V (m_firm V) = m_end V (m_firm V) 4 from rfl, z_n_flip (V := V) (t := m_firm V) (s := 4) (m_end_oth (by omega) (by omega)) (by rw [e]; exact r.1) (fun j => m_end_62) (Or.inr (by rw [e]; exact j4)) (by omega)]
    exact (hb.cg (V' := m_end V (m_firm V) 4) (m_end_oth (by omega) (by omega)) (m_end_oth (by omega) (by omega)) (m_end_oth (by omega) (by omega))).le (by omega)
theorem b_I.grant {b : Int} {V : E_K} (h : b_I b V) (hf : 0 < m_ff V) : b_I b (m_grant V (m_ff V)) := by
  obtain ⟨hW, hup, hb⟩ := h
  have sp := m_ff_spec hf
  have hB := hW.2.2.2.2.1.2.2.2.2.2.2.1
  have rn := @m_ffL_rng V (V 44 22) (V 44 22).toNat 1 0 (by omega) (by omega) (by omega) (by omega)
  have ht : 1 ≤ m_ff V ∧ m_ff V ≤ V 44 22 := by
    refine ⟨by omega, ?_⟩
    unfold m_ff
    exact rn.2
  have wt := (hW.2.2.2.2.1.2.2.2.2.1 (m_ff V) (by omega) (by omega)).2.2.1 sp.1
  refine ⟨hW.grant hup ht (Or.inr sp.1) wt sp.2, ?_, ?_⟩
  · rw [m_grant_44 (by omega)]; exact hup
  · rw [z_n_flip (V := V) (t := m_ff V) (s := 1) (m_grant_44 (by omega)) ht (fun j => by rw [m_grant_oth (by omega) (by omega) (by omega), m_g1_62]) (Or.inl sp.1) (by omega)]
    exact (hb.grant).le (by omega)
theorem b_I.SI {b : Int} (hb : b ≤ 1000000000) : m_SI (b_I b) := ⟨fun V h => h.1.rg h.2.2 (by have := h.1.zn; omega), fun V h hf => h.rel hf, fun V h _ hf => h.grant hf⟩
theorem b_J.rg {b : Int} (hb : b ≤ 1000000000) : ∀ V, b_J b V → m_rg V := fun V h => h.1.rg h.2.2 (by have := h.1.uf; omega)
theorem b_J.tb {b t : Int} : ∀ V, b_J b V → 0 < m_open V t → b_J b (m_takeBack V (m_open V t)) := by
  intro V h ho
  obtain ⟨hW, hup, hb⟩ := h
  have ht := m_open_top hW.1 hW.size.1 ho
  refine ⟨hW.takeBack ht (Or.inl hup), ?_, ?_⟩
  · rw [m_takeBack_44 (by omega)]; exact hup
  · rw [takeBack_uf hW ht]
    exact hb.takeBack.le (by omega)
theorem b_I.seL {b : Int} : ∀ {n : Nat} {V : E_K}, b_I b V → b_I b (m_seL n V) := by
  intro n
  induction n with
  | zero => intro V h; exact h
  | succ n ih =>
    intro V h
    rw [m_seL]
    split
    · exact ih (h.rel (by assumption))
    · split
      · exact ih (h.grant (by assumption))
      · exact h
theorem b_J.dpL {b t : Int} : ∀ {n : Nat} {V : E_K}, b_J b V → b_J b (m_dpL t n V) := by
  intro n
  induction n with
  | zero => intro V h; exact h
  | succ n ih =>
    intro V h
    rw [m_dpL]
    split
    · exact ih (b_J.tb V h (by assumption))
    · exact h
