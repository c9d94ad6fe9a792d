/-! ===== pages against the log, 4: the analysis ===== -/
def p_ck (V : E_K) (c : Int) : Prop := (c = 0 ∧ ∀ j : Int, 1 ≤ j → j ≤ V 44 0 → V 45 j ≠ 4) ∨ (1 ≤ c ∧ c ≤ V 44 0 ∧ V 45 c = 4 ∧ ∀ j : Int, c < j → j ≤ V 44 0 → V 45 j ≠ 4)
def p_lst (V : E_K) (g c x : Int) : Prop := (x = 0 ∧ ∀ j : Int, p_rec V g j → j ≤ c) ∨ (p_rec V g x ∧ c < x ∧ ∀ j : Int, p_rec V g j → c < j → x ≤ j)
def p_tab (V : E_K) (c g x : Int) : Prop := (¬ (c = 0 ∨ V 53 (6 * c + g) = 0) ∧ x = V 53 (6 * c + g)) ∨ ((c = 0 ∨ V 53 (6 * c + g) = 0) ∧ p_lst V g c x)
theorem m_anC_ck {V : E_K} : ∀ {n : Nat} {i c : Int}, i + n = V 44 0 + 1 → 1 ≤ i → ((c = 0 ∧ ∀ j : Int, 1 ≤ j → j < i → V 45 j ≠ 4) ∨ (1 ≤ c ∧ c < i ∧ V 45 c = 4 ∧ ∀ j : Int, c < j → j < i → V 45 j ≠ 4)) → p_ck V (m_anC V n i c) := by
  intro n
  induction n with
  | zero =>
    intro i c hi h1 h
    rw [show m_anC V 0 i c = c from rfl]
    rcases h with h | h
    · exact Or.inl ⟨h.1, fun j a b => h.2 j a (by omega)⟩
    · exact Or.inr ⟨h.1, by omega, h.2.2.1, fun j a b => h.2.2.2 j a (by omega)⟩
  | succ n ih =>
    intro i c hi h1 h
    rw [m_anC]
    refine ih (by omega) (by omega) ?_
    by_cases h4 : V 45 i = 4
    · rw [if_pos h4]
      exact Or.inr ⟨h1, by omega, h4, fun j a b => absurd b (by omega)⟩
    · rw [if_neg h4]
      rcases h with h | h
      · refine Or.inl ⟨h.1, fun j a b => ?_⟩
        by_cases hj : j = i
        · rw [hj]; exact h4
        · exact h.2 j a (by omega)
      · refine Or.inr ⟨h.1, by omega, h.2.2.1, fun j a b => ?_⟩
        by_cases hj : j = i
        · rw [hj]; exact h4
        · exact h.2.2.2 j a (by omega)
theorem p_rec_71 {V : E_K} {g y h j : Int} : p_rec (v_up V 71 h y) g j ↔ p_rec V g j := by
  unfold p_rec
  rw [v_na (by omega), v_na (by omega), v_na (by omega)]
theorem p_lst_71 {V : E_K} {g y h c x : Int} : p_lst (v_up V 71 h y) g c x ↔ p_lst V g c x := by
  unfold p_lst
  simp only [p_rec_71]
theorem m_anI_lst {c g : Int} (hc : 0 ≤ c) : ∀ {n : Nat} {i : Int} {V : E_K}, i - c = n → i ≤ V 44 0 → (c = 0 ∨ V 53 (6 * c + g) = 0) → p_lst V g i (V 71 g) → p_lst V g c (m_anI c g n i V 71 g) := by
  intro n
  induction n with
  | zero => intro i V hi hs hz h; rw [show c = i by omega]; exact h
  | succ n ih =>
    intro i V hi hs hz h
    rw [m_anI, if_pos hz]
    have st : p_lst V g (i - 1) (if V 45 i < 3 ∧ V 47 i / 4 = g then i else V 71 g) := by
      by_cases hr : V 45 i < 3 ∧ V 47 i / 4 = g
      · rw [if_pos hr]
        exact Or.inr ⟨⟨by omega, hs, hr.1, hr.2⟩, by omega, fun j hj hlt => by omega⟩
      · rw [if_neg hr]
        have no : ∀ j : Int, p_rec V g j → i - 1 < j → i < j := by
          intro j hj hlt
          by_cases hji : j = i
          · rw [hji] at hj; exact absurd hj.2.2 hr
          · omega
        rcases h with h | h
        · refine Or.inl ⟨h.1, fun j hj => ?_⟩
          have := h.2 j hj
          by_cases hlt : i - 1 < j
          · have := no j hj hlt; omega
          · omega
        · exact Or.inr ⟨h.1, by omega, fun j hj hlt => h.2.2 j hj (no j hj hlt)⟩
    have := @ih (i - 1) (v_up V 71 g (if V 45 i < 3 ∧ V 47 i / 4 = g then i else V 71 g)) (by omega) (by rw [v_na (by omega)]; omega) (by rw [v_na (by omega)]; exact hz) (by rw [v_same, p_lst_71]; exact st)
    rw [p_lst_71] at this
    exact this
theorem m_anI_off {c g : Int} {n : Nat} {i : Int} {V : E_K} (h : ¬ (c = 0 ∨ V 53 (6 * c + g) = 0)) : m_anI c g n i V = V := by
  cases n with
  | zero => rfl
  | succ n => rw [m_anI, if_neg h]
theorem m_anI_g {c g k : Int} (hk : k ≠ g) : ∀ {n : Nat} {i : Int} {V : E_K}, m_anI c g n i V 71 k = V 71 k := by
  intro n
  induction n with
  | zero => intro i V; rfl
  | succ n ih =>
    intro i V
    rw [m_anI]
    split
    · rw [ih, v_ne hk]
    · rfl
def m_anT (V : E_K) (c g : Int) : E_K := m_anI c g (V 44 0 - c).toNat (V 44 0) (v_up V 71 g (if c ≤ 0 then 0 else V 53 (6 * c + g)))
theorem m_anT_tab {V : E_K} {c g : Int} (hc : 0 ≤ c ∧ c ≤ V 44 0) : p_tab V c g (m_anT V c g 71 g) := by
  unfold m_anT
  by_cases hz : c = 0 ∨ V 53 (6 * c + g) = 0
  · refine Or.inr ⟨hz, ?_⟩
    have hz' : c = 0 ∨ v_up V 71 g (if c ≤ 0 then 0 else V 53 (6 * c + g)) 53 (6 * c + g) = 0 := by rw [v_na (by omega)]; exact hz
    have := @m_anI_lst c g hc.1 (V 44 0 - c).toNat (V 44 0) (v_up V 71 g (if c ≤ 0 then 0 else V 53 (6 * c + g))) (by omega) (by rw [v_na (by omega)]; omega) hz' ?_
    · rw [p_lst_71] at this
      exact this
    · rw [v_same, p_lst_71]
      refine Or.inl ⟨?_, fun j hj => hj.2.1⟩
      split
      · rfl
      · rcases hz with h | h
        · omega
        · exact h
  · refine Or.inl ⟨hz, ?_⟩
    rw [m_anI_off (by rw [v_na (by omega)]; exact hz), v_same, if_neg (by omega)]
/-- the next record: the least of the table, else one more than the last -/
def p_nxt (V : E_K) (G S nx : Int) : Prop := nx ≤ S + 1 ∧ (nx = S + 1 ∨ ∃ g : Int, 0 ≤ g ∧ g < G ∧ 0 < V 71 g ∧ nx = V 71 g) ∧ ∀ g : Int, 0 ≤ g → g < G → 0 < V 71 g → nx ≤ V 71 g
theorem p_tab_cg {V V' : E_K} (h : ∀ a j : Int, a = 45 ∨ a = 47 ∨ a = 53 → V' a j = V a j) (h0 : V' 44 0 = V 44 0) {c g x : Int} : p_tab V' c g x ↔ p_tab V c g x := by
  unfold p_tab p_lst p_rec
  simp only [h 45 _ (by omega), h 47 _ (by omega), h 53 _ (by omega), h0]
theorem m_anG_spec {c S : Int} {V0 : E_K} (hc : 0 ≤ c ∧ c ≤ S) (h0 : V0 44 0 = S) : ∀ {n : Nat} {g : Int} {V : E_K}, g + n = 6 → 0 ≤ g → (∀ a j : Int, a ≠ 71 → (a ≠ 44 ∨ j ≠ 35) → V a j = V0 a j) → (∀ k : Int, 0 ≤ k → k < g → p_tab V0 c k (V 71 k)) → p_nxt V g S (V 44 35) → (∀ k : Int, 0 ≤ k → k < 6 → p_tab V0 c k (m_anG c n g V 71 k)) ∧ p_nxt (m_anG c n g V) 6 S (m_anG c n g V 44 35) := by
  intro n
  induction n with
  | zero =>
    intro g V hg g0 hV ht hn
    obtain rfl : g = 6 := by omega
    exact ⟨ht, hn⟩
  | succ n ih =>
    intro g V hg g0 hV ht hn
    rw [m_anG]
    have eS : V 44 0 = S := by rw [hV 44 0 (by omega) (by omega), h0]
    have tb : p_tab V0 c g (m_anT V c g 71 g) := (p_tab_cg (fun a j ha => hV a j (by omega) (by omega)) (hV 44 0 (by omega) (by omega))).mp (m_anT_tab (by omega))
    have eT : ∀ a j : Int, a ≠ 71 → m_anT V c g a j = V a j := by
      intro a j ha
      unfold m_anT
      rw [m_anI_na ha, v_na ha]
    have eK : ∀ k : Int, k ≠ g → m_anT V c g 71 k = V 71 k := by
      intro k hk
      unfold m_anT
      rw [m_anI_g hk, v_ne hk]
    have fold : m_anI c g (V 44 0 - c).toNat (V 44 0) (v_up V 71 g (if c ≤ 0 then 0 else V 53 (6 * c + g))) = m_anT V c g := rfl
    rw [fold]
    generalize hW : m_anT V c g = W at *
    have e71 : ∀ k, m_anN W g 71 k = W 71 k := fun k => by unfold m_anN; exact v_na (by omega)
    refine ih (by omega) (by omega) (fun a j h1 h2 => ?_) (fun k k1 k2 => ?_) ?_
    · unfold m_anN
      rcases h2 with h2 | h2
      · rw [v_na h2, eT a j h1]; exact hV a j h1 (Or.inl h2)
      · rw [v_ne h2, eT a j h1]; exact hV a j h1 (Or.inr h2)
    · rw [e71]
      by_cases hk : k = g
      · rw [hk]; exact tb
      · rw [eK k hk]; exact ht k k1 (by omega)
    · have e35 : m_anN W g 44 35 = if 0 < W 71 g ∧ W 71 g < V 44 35 then W 71 g else V 44 35 := by
        unfold m_anN
        rw [v_same, eT 44 35 (by omega)]
      rw [e35]
      obtain ⟨n1, n2, n3⟩ := hn
      unfold p_nxt
      by_cases hcnd : 0 < W 71 g ∧ W 71 g < V 44 35
      · rw [if_pos hcnd]
        refine ⟨by omega, Or.inr ⟨g, g0, by omega, by rw [e71]; exact hcnd.1, by rw [e71]⟩, fun k k1 k2 k3 => ?_⟩
        rw [e71] at k3 ⊢
        by_cases hk : k = g
        · rw [hk]; omega
        · rw [eK k hk] at k3 ⊢
          have := n3 k k1 (by omega) k3
          omega
      · rw [if_neg hcnd]
        refine ⟨n1, ?_, fun k k1 k2 k3 => ?_⟩
        · rcases n2 with n2 | ⟨k, k1, k2, k3, k4⟩
          · exact Or.inl n2
          · refine Or.inr ⟨k, k1, by omega, ?_, ?_⟩
            · rw [e71, eK k (by omega)]; exact k3
            · rw [e71, eK k (by omega)]; exact k4
        · rw [e71] at k3 ⊢
          by_cases hk : k = g
          · rw [hk] at k3 ⊢; omega
          · rw [eK k hk] at k3 ⊢
            exact n3 k k1 (by omega) k3
theorem m_anal_spec {V : E_K} (h0 : 0 ≤ V 44 0) : ∃ c : Int, (0 ≤ c ∧ c ≤ V 44 0) ∧ p_ck V c ∧ (∀ g : Int, 0 ≤ g → g < 6 → p_tab V c g (m_anal V 71 g)) ∧ p_nxt (m_anal V) 6 (V 44 0) (m_anal V 44 35) := by
  have r := @m_anC_rng V (V 44 0).toNat 1 0 (by omega) (by omega)
  have hc : 0 ≤ m_anC V (V 44 0).toNat 1 0 ∧ m_anC V (V 44 0).toNat 1 0 ≤ V 44 0 := by omega
  refine ⟨m_anC V (V 44 0).toNat 1 0, hc, m_anC_ck (by omega) (by omega) (Or.inl ⟨rfl, fun j a b => absurd b (by omega)⟩), ?_⟩
  have := @m_anG_spec (m_anC V (V 44 0).toNat 1 0) (V 44 0) V hc rfl 6 0 (v_up V 44 35 (V 44 0 + 1)) (by omega) (by omega) (fun a j h1 h2 => by
    rcases h2 with h2 | h2
    · exact v_na h2
    · exact v_ne h2) (fun k k1 k2 => absurd k2 (by omega)) ⟨by rw [v_same]; omega, Or.inl v_same, fun k k1 k2 => absurd k2 (by omega)⟩
  unfold m_anal
  refine ⟨fun g g1 g2 => by rw [v_na (by omega)]; exact this.1 g g1 g2, ?_⟩
  rw [v_ne (by omega)]
  obtain ⟨a1, a2, a3⟩ := this.2
  refine ⟨a1, ?_, fun g g1 g2 g3 => by rw [v_na (by omega)] at g3 ⊢; exact a3 g g1 g2 g3⟩
  rcases a2 with a2 | ⟨g, g1, g2, g3, g4⟩
  · exact Or.inl a2
  · exact Or.inr ⟨g, g1, g2, by rw [v_na (by omega)]; exact g3, by rw [v_na (by omega)]; exact g4⟩
theorem p_tab.cov {V : E_K} {c g x : Int} (N : p_N V) (hc : p_ck V c) (h1 : 0 ≤ g) (h2 : g < 6) (h : p_tab V c g x) : ∀ j : Int, p_rec V g j → j ≤ V 56 g ∨ (0 < x ∧ x ≤ j) := by
  intro j hj
  have hj1 := hj.1
  have hN : c ≠ 0 → 0 ≤ V 53 (6 * c + g) ∧ V 53 (6 * c + g) ≤ c ∧ (j ≤ c → j ≤ V 56 g ∨ (0 < V 53 (6 * c + g) ∧ V 53 (6 * c + g) ≤ j)) := by
    intro hz
    rcases hc with hc | hc
    · exact absurd hc.1 hz
    · obtain ⟨n1, n2, n3⟩ := N c hc.1 hc.2.1 hc.2.2.1 g h1 h2
      exact ⟨n1, n2, n3 j hj⟩
  have hc0 : 0 ≤ c := by
    rcases hc with hc | hc
    · omega
    · omega
  rcases h with ⟨hz, rfl⟩ | ⟨hz, hl⟩
  · have hz1 : c ≠ 0 := fun z => hz (Or.inl z)
    have hz2 : V 53 (6 * c + g) ≠ 0 := fun z => hz (Or.inr z)
    obtain ⟨n1, n2, n3⟩ := hN hz1
    by_cases hjc : j ≤ c
    · exact n3 hjc
    · exact Or.inr ⟨by omega, by omega⟩
  · by_cases hjc : j ≤ c
    · have hz1 : c ≠ 0 := by omega
      obtain ⟨n1, n2, n3⟩ := hN hz1
      rcases n3 hjc with w | w
      · exact Or.inl w
      · rcases hz with z | z
        · exact absurd z hz1
        · omega
    · rcases hl with hl | hl
      · exact absurd (hl.2 j hj) hjc
      · exact Or.inr ⟨by omega, hl.2.2 j hj (by omega)⟩
theorem p_W.anal {V : E_K} (hW : p_W V) (h0 : 0 ≤ V 44 0 ∧ V 44 0 < 1000) (hd : V 44 32 ≠ 0) (hz : ∀ g : Int, 0 ≤ g → g < 6 → V 61 g = 0) : p_W (m_un2 (m_anal V)) := by
  obtain ⟨c, hc, hck, htab, hnx⟩ := @m_anal_spec V h0.1
  obtain ⟨D, P, N, C, T⟩ := hW
  have na : ∀ a j : Int, a ≠ 71 → (a ≠ 44 ∨ (j ≠ 35 ∧ j ≠ 34)) → m_anal V a j = V a j := fun a j h1 h2 => m_anal_na h1 h2
  have e34 : m_anal V 44 34 = 1 := by unfold m_anal; exact v_same
  have rec' : ∀ {g j : Int}, p_rec (m_anal V) g j ↔ p_rec V g j := by
    intro g j
    unfold p_rec
    rw [na _ _ (by omega) (by omega), na _ _ (by omega) (by omega), na _ _ (by omega) (by omega)]
  have rk : ∀ {m : Nat} {x : Int}, r_k (m_anal V) m x = r_k V m x := fun {m x} => r_k_cg (fun i _ _ => ⟨na _ _ (by omega) (by omega), na _ _ (by omega) (by omega), na _ _ (by omega) (by omega), na _ _ (by omega) (by omega), na _ _ (by omega) (by omega), na _ _ (by omega) (by omega)⟩)
  have cov : ∀ g : Int, 0 ≤ g → g < 6 → ∀ j : Int, p_rec V g j → j ≤ V 56 g ∨ (0 < m_anal V 71 g ∧ m_anal V 71 g ≤ j) := fun g g1 g2 => (htab g g1 g2).cov N hck g1 g2
  have c1 : p_C1 (m_anal V) (if m_anal V 44 35 ≤ V 44 0 then m_anal V 44 35 - 1 else V 44 0) := by
    intro g j g1 g2 g3 g4
    have g3' := rec'.mp g3
    have j2 := g3'.2.1
    unfold p_cl
    rw [na 61 g (by omega) (by omega), hz g g1 g2, if_neg (by omega), na 56 g (by omega) (by omega)]
    rcases cov g g1 g2 j g3' with w | w
    · exact w
    · have := hnx.2.2 g g1 g2 w.1
      split at g4 <;> omega
  have wA : p_W (m_anal V) := by
    refine ⟨fun g g1 g2 => ?_, fun g g1 g2 g3 => ?_, fun c g1 g2 g3 g g4 g5 => ?_, fun g j g1 g2 g3 g4 => ?_, fun g1 g2 g3 g g4 g5 j g6 => ?_⟩
    · obtain ⟨d1, d2, d3⟩ := D g g1 g2
      rw [na 56 g (by omega) (by omega), na 44 1 (by omega) (by omega)]
      refine ⟨d1, d2, fun x hx => ?_⟩
      rw [na 54 x (by omega) (by omega), rk]
      exact d3 x hx
    · rw [na 61 g (by omega) (by omega), hz g g1 g2] at g3
      exact absurd g3 (by omega)
    · rw [na 44 0 (by omega) (by omega)] at g2
      rw [na 45 c (by omega) (by omega)] at g3
      obtain ⟨n1, n2, n3⟩ := N c g1 g2 g3 g g4 g5
      rw [na 53 _ (by omega) (by omega), na 56 g (by omega) (by omega)]
      exact ⟨n1, n2, fun j hj => n3 j (rec'.mp hj)⟩
    · refine c1 g j g1 g2 g3 ?_
      unfold p_lim at g4
      rw [na 44 32 (by omega) (by omega), if_neg hd, e34, if_neg (by omega), na 44 0 (by omega) (by omega)] at g4
      exact g4
    · rw [na 56 g (by omega) (by omega)]
      exact cov g g4 g5 j (rec'.mp g6)
  unfold m_un2
  rw [na 44 0 (by omega) (by omega)]
  refine wA.next ?_ (fun _ _ _ g g1 g2 j hj => by rw [na 56 g (by omega) (by omega)]; exact cov g g1 g2 j (rec'.mp hj))
  rw [na 44 0 (by omega) (by omega)]
  by_cases hle : m_anal V 44 35 ≤ V 44 0
  · rw [if_pos hle, if_pos hle]
    rw [if_pos hle] at c1
    exact c1
  · rw [if_neg hle, if_neg (by omega)]
    rw [if_neg hle] at c1
    exact c1
