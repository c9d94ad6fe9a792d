/-! ===== the component, 4: the pool against the bank; fetch ===== -/
def c_c (h : E_H) (x k v : Int) : Prop := (x = 0 ∧ k = -1) ∨ (h_kd h x = 8 ∧ h_vl h x 0 = k ∧ h_vl h x 1 = v ∧ 0 ≤ k)
theorem c_c.fr {c : Int → Int → Int → Prop} {h h' : E_H} {x k v : Int} (hc : c_c h x k v) (hf : f_m c h h') (hZ : k_Z h) (h8 : ∀ a j, ¬ c 8 a j) : c_c h' x k v := by
  rcases hc with z | ⟨z1, z2, z3, z4⟩
  · exact Or.inl z
  · exact Or.inr ⟨hf.kd hZ z1 (by omega), by rw [hf.vl hZ z1 (by omega) (h8 _ _)]; exact z2, by rw [hf.vl hZ z1 (by omega) (h8 _ _)]; exact z3, z4⟩
theorem c_c.ok {h : E_H} {x k v : Int} (hc : c_c h x k v) : x = 0 ∨ h_kd h x = 8 := by
  rcases hc with z | z
  · exact Or.inl z.1
  · exact Or.inr z.1
def k_pg (h : E_H) (V : E_K) (g : Int) : Prop := h_vl h (26 + 3 * g) 4 = V 56 g ∧ (∀ s : Int, 0 ≤ s → s < 4 → c_c h (h_vl h (28 + 3 * g) s) (V 54 (4 * g + s)) (V 55 (4 * g + s))) ∧ h_vl h (26 + 3 * g) 6 = (if 0 < V 61 g then 1 else 0) ∧ (0 < V 61 g → h_vl h (26 + 3 * g) 3 = V 59 g ∧ h_vl h (26 + 3 * g) 5 = V 60 g ∧ ∀ s : Int, 0 ≤ s → s < 4 → c_c h (h_vl h (27 + 3 * g) s) (V 57 (4 * g + s)) (V 58 (4 * g + s)))
theorem k_pg.fr {c : Int → Int → Int → Prop} {h h' : E_H} {V V' : E_K} {g : Int} (hp : k_pg h V g) (hf : f_m c h h') (hS : k_S h) (hg : 0 ≤ g ∧ g < 6) (h8 : ∀ a j, ¬ c 8 a j) (hc : ∀ j, (3 ≤ j ∧ j ≤ 6 → ¬ c 4 (26 + 3 * g) j) ∧ ¬ c 25 (27 + 3 * g) j ∧ ¬ c 25 (28 + 3 * g) j) (hV : V' 56 g = V 56 g ∧ (0 < V' 61 g ↔ 0 < V 61 g) ∧ V' 59 g = V 59 g ∧ V' 60 g = V 60 g) (hW : ∀ x : Int, 4 * g ≤ x → x < 4 * g + 4 → V' 54 x = V 54 x ∧ V' 55 x = V 55 x ∧ V' 57 x = V 57 x ∧ V' 58 x = V 58 x) : k_pg h' V' g := by
  obtain ⟨p1, p2, p3, p4⟩ := hp
  obtain ⟨s1, s2, s3, s4, s5, s6, s7, s8, s9⟩ := hS.pg hg
  have hZ := hS.2.2.1
  have e : ∀ j : Int, 3 ≤ j → j ≤ 6 → h_vl h' (26 + 3 * g) j = h_vl h (26 + 3 * g) j := fun j j1 j2 => hf.vl hZ s2 (by omega) ((hc j).1 ⟨j1, j2⟩)
  refine ⟨by rw [e 4 (by omega) (by omega), hV.1]; exact p1, fun s t1 t2 => ?_, by rw [e 6 (by omega) (by omega)]; simp only [hV.2.1]; exact p3, fun z => ?_⟩
  · rw [hf.vl hZ s8 (by omega) (hc s).2.2, (hW _ (by omega) (by omega)).1, (hW _ (by omega) (by omega)).2.1]
    exact (p2 s t1 t2).fr hf hZ h8
  · rw [hV.2.1] at z
    obtain ⟨q1, q2, q3⟩ := p4 z
    refine ⟨by rw [e 3 (by omega) (by omega), hV.2.2.1]; exact q1, by rw [e 5 (by omega) (by omega), hV.2.2.2]; exact q2, fun s t1 t2 => ?_⟩
    rw [hf.vl hZ s6 (by omega) (hc s).2.1, (hW _ (by omega) (by omega)).2.2.1, (hW _ (by omega) (by omega)).2.2.2]
    exact (q3 s t1 t2).fr hf hZ h8
def k_pgs (h : E_H) (V : E_K) : Prop := ∀ g : Int, 0 ≤ g → g < 6 → k_pg h V g
def k_L (h : E_H) (V : E_K) (l : List Int) : Prop := k_rl V l ∧ (∀ g : Int, 0 ≤ g → g < 6 → (g ∈ l ↔ 0 < V 61 g)) ∧ (∀ g, g ∈ l → V 61 g ≤ V 44 19) ∧ k_DL h l ∧ h_vl h 16 3 = l.length
def k_W (h : E_H) (V : E_K) : Prop := h_vl h 16 4 = V 44 20 ∧ h_vl h 16 5 = V 44 21 ∧ h_vl h 16 7 = V 44 1
/-- the pool -/
def k_O (h : E_H) (V : E_K) : Prop := (∃ l, k_L h V l) ∧ k_pgs h V ∧ k_W h V
def k_po (k a j : Int) : Prop := (k = 1 ∧ a = 16 ∧ ((1 ≤ j ∧ j ≤ 5) ∨ j = 7)) ∨ (k = 4 ∧ 3 ≤ j) ∨ k = 25
theorem k_dl.fr {h h' : E_H} : ∀ {l : List Int} {p : Int}, (∀ g, g ∈ l → h_vl h' (26 + 3 * g) 7 = h_vl h (26 + 3 * g) 7 ∧ h_vl h' (26 + 3 * g) 8 = h_vl h (26 + 3 * g) 8) → h_vl h' 16 2 = h_vl h 16 2 → k_dl h p l → k_dl h' p l := by
  intro l
  induction l with
  | nil => intro p _ e d; rw [k_dl] at d ⊢; rw [e]; exact d
  | cons g l ih =>
    intro p e1 e2 d
    rw [k_dl] at d ⊢
    have := e1 g (by simp)
    rw [this.1, this.2]
    exact ⟨d.1, d.2.1, ih (fun x hx => e1 x (by simp [hx])) e2 d.2.2⟩
theorem k_DL.fr {h h' : E_H} {l : List Int} (hD : k_DL h l) (h1 : ∀ g, g ∈ l → h_vl h' (26 + 3 * g) 7 = h_vl h (26 + 3 * g) 7 ∧ h_vl h' (26 + 3 * g) 8 = h_vl h (26 + 3 * g) 8) (h2 : h_vl h' 16 2 = h_vl h 16 2) (h3 : h_vl h' 16 1 = h_vl h 16 1) : k_DL h' l := ⟨hD.1.fr h1 h2, by rw [h3]; exact hD.2⟩
/-- counting -/
def q_ct (P : Int → Bool) : Nat → Int → Int
  | 0, _ => 0
  | n + 1, k => (if P k = true then 1 else 0) + q_ct P n (k + 1)
theorem q_ct_cg {P P' : Int → Bool} : ∀ {n : Nat} {k : Int}, (∀ j : Int, k ≤ j → j < k + n → P' j = P j) → q_ct P' n k = q_ct P n k := by
  intro n
  induction n with
  | zero => intro k _; rfl
  | succ n ih => intro k h; rw [q_ct, q_ct, h k (by omega) (by omega), ih (fun j j1 j2 => h j (by omega) (by omega))]
theorem q_ct_mem : ∀ {n : Nat} {k : Int} {l : List Int}, l.Nodup → (∀ x, x ∈ l → k ≤ x ∧ x < k + n) → q_ct (fun x => decide (x ∈ l)) n k = l.length := by
  intro n
  induction n with
  | zero =>
    intro k l _ h
    rcases l with _ | ⟨a, l⟩
    · rfl
    · have := h a (by simp); omega
  | succ n ih =>
    intro k l hn h
    rw [q_ct]
    by_cases hk : k ∈ l
    · have hn' := hn.erase k
      have hm : ∀ x, x ∈ l.erase k → x ≠ k ∧ x ∈ l := fun x hx => (List.Nodup.mem_erase_iff hn).mp hx
      have e := ih (k := k + 1) (l := l.erase k) hn' (fun x hx => by have := hm x hx; have := h x this.2; omega)
      rw [q_ct_cg (P := fun x => decide (x ∈ l.erase k)) (fun j j1 j2 => by
        have : j ∈ l.erase k ↔ j ∈ l := by
          rw [List.Nodup.mem_erase_iff hn]
          exact ⟨fun z => z.2, fun z => ⟨by omega, z⟩⟩
        simp only [this]), e, if_pos (by simpa using hk), List.length_erase_of_mem hk]
      have : 0 < l.length := List.length_pos_of_mem hk
      omega
    · rw [if_neg (by simpa using hk), ih hn (fun x hx => by have := h x hx; have : x ≠ k := fun z => hk (z ▸ hx); omega)]
      omega
theorem m_old_full {V : E_K} : ∀ {n : Nat} {k m o : Int}, 0 ≤ k → (∀ g : Int, 0 ≤ g → g < k → 0 < V 61 g → 0 ≤ o ∧ V 61 o ≤ V 61 g) → (m_old V n k m o).1 = m + q_ct (fun x => decide (0 < V 61 x)) n k ∧ ∀ g : Int, 0 ≤ g → g < k + n → 0 < V 61 g → 0 ≤ (m_old V n k m o).2 ∧ V 61 (m_old V n k m o).2 ≤ V 61 g := by
  intro n
  induction n with
  | zero => intro k m o _ h; exact ⟨by rw [m_old, q_ct]; omega, fun g g1 g2 => h g g1 (by omega)⟩
  | succ n ih =>
    intro k m o hk h
    rw [m_old, q_ct]
    have r := ih (k := k + 1) (m := m + (if 0 < V 61 k then 1 else 0)) (o := if 0 < V 61 k ∧ (o < 0 ∨ V 61 k < V 61 o) then k else o) (by omega) (fun g g1 g2 g3 => by
      by_cases hg : g = k
      · rw [hg] at g3 ⊢
        split
        · exact ⟨by omega, by omega⟩
        · rename_i z; omega
      · have w := h g g1 (by omega) g3
        split
        · exact ⟨by omega, by omega⟩
        · exact w)
    refine ⟨?_, fun g g1 g2 => r.2 g g1 (by omega)⟩
    rw [r.1]
    have : (if decide (0 < V 61 k) = true then (1 : Int) else 0) = if 0 < V 61 k then 1 else 0 := by simp
    rw [this]
    omega
theorem k_rl.nodup {V : E_K} {l : List Int} (h : k_rl V l) : l.Nodup := h.2.2.imp (fun {a b} z => fun w => by rw [w] at z; omega)
theorem k_L.cnt {h : E_H} {V : E_K} {l : List Int} (hL : k_L h V l) : q_ct (fun x => decide (0 < V 61 x)) 6 0 = l.length := by
  rw [← q_ct_mem (n := 6) (k := 0) hL.1.nodup (fun x hx => by have := hL.1.2.1 x hx; omega)]
  refine q_ct_cg (fun j j1 j2 => ?_)
  simp only [hL.2.1 j j1 (by omega)]
theorem k_L.old {h : E_H} {V : E_K} {a b o : Int} (hL : k_L h V [a, b, o]) : (m_old V 6 0 0 (-1)).1 = 3 ∧ (m_old V 6 0 0 (-1)).2 = o := by
  have f := @m_old_full V 6 0 0 (-1) (by omega) (fun g g1 g2 => by omega)
  have e := hL.cnt
  have hl := hL.1
  obtain ⟨l3, lr, lp⟩ := hl
  simp only [List.pairwise_cons, List.mem_cons, List.not_mem_nil, or_false, forall_eq_or_imp, forall_eq] at lp lr
  have ho := (hL.2.1 o (by omega) (by omega)).mp (by simp)
  have w := f.2 o (by omega) (by omega) ho
  have f1 := f.1
  rw [e] at f1
  refine ⟨f1, ?_⟩
  have lt := @m_old_lt V 6 0 0 (-1) (by omega)
  have ps := @m_old_pos V 6 0 0 (-1) (by omega) (fun z => by omega) w.1
  have mem := (hL.2.1 _ w.1 (by omega)).mpr ps
  simp only [List.mem_cons, List.not_mem_nil, or_false] at mem
  rcases mem with z | z | z
  · rw [z] at w; omega
  · rw [z] at w; omega
  · exact z
theorem k_L.few {h : E_H} {V : E_K} {l : List Int} (hL : k_L h V l) (h2 : l.length ≤ 2) : (m_old V 6 0 0 (-1)).1 ≠ 3 := by
  have f := (@m_old_full V 6 0 0 (-1) (by omega) (fun g g1 g2 => by omega)).1
  rw [f, hL.cnt]
  omega
