/-- what un/linking changes -/
def k_ll (k a j : Int) : Prop := (k = 1 ∧ a = 16 ∧ (j = 1 ∨ j = 2)) ∨ (k = 4 ∧ (j = 7 ∨ j = 8))
def k_rl (V : E_K) (l : List Int) : Prop := l.length ≤ 3 ∧ (∀ g, g ∈ l → 0 ≤ g ∧ g < 6) ∧ l.Pairwise (fun a b => V 61 b < V 61 a)
theorem k_ne {a b : Int} (h : a ≠ b) : (26 + 3 * a : Int) ≠ 26 + 3 * b := by omega
theorem k_n0 {a : Int} (h : 0 ≤ a) : (26 + 3 * a : Int) ≠ 0 ∧ (26 + 3 * a : Int) ≠ 16 ∧ (16 : Int) ≠ 26 + 3 * a := by omega
theorem k_ul_3 {h : E_H} {V : E_K} {l : List Int} {g : Int} (hl : k_rl V l) (hd : k_dl h 0 l) (h1 : h_vl h 16 1 = k_hd l) (hg : g ∈ l) : k_dl (k_ul h (26 + 3 * g)) 0 (l.erase g) ∧ h_vl (k_ul h (26 + 3 * g)) 16 1 = k_hd (l.erase g) := by
  obtain ⟨l3, lr, lp⟩ := hl
  rcases l with _ | ⟨a, _ | ⟨b, _ | ⟨c, _ | ⟨e, l⟩⟩⟩⟩
  · simp at hg
  · simp only [List.mem_cons, List.not_mem_nil, or_false] at hg
    subst hg
    simp only [k_dl, k_hd] at hd h1
    simp [k_ul, hd, k_dl, k_hd, hv_put]
  · simp only [List.mem_cons, List.not_mem_nil, or_false] at hg
    simp only [List.pairwise_cons, List.mem_cons, List.not_mem_nil, or_false, forall_eq_or_imp, forall_eq] at lp lr
    have ab : a ≠ b := fun z => by rw [z] at lp; omega
    have na := @k_n0 a (by omega)
    have nb := @k_n0 b (by omega)
    simp only [k_dl, k_hd] at hd h1
    rcases hg with hg | hg
    · subst hg
      simp [List.erase_cons, ab, ab.symm, k_ul, hd, h1, k_dl, k_hd, hv_put, na, nb] <;> omega
    · subst hg
      simp [List.erase_cons, ab, ab.symm, k_ul, hd, h1, k_dl, k_hd, hv_put, na, nb] <;> omega
  · simp only [List.mem_cons, List.not_mem_nil, or_false] at hg
    simp only [List.pairwise_cons, List.mem_cons, List.not_mem_nil, or_false, forall_eq_or_imp, forall_eq] at lp lr
    have ab : a ≠ b := fun z => by rw [z] at lp; omega
    have ac : a ≠ c := fun z => by rw [z] at lp; omega
    have bc : b ≠ c := fun z => by rw [z] at lp; omega
    have na := @k_n0 a (by omega)
    have nb := @k_n0 b (by omega)
    have nc := @k_n0 c (by omega)
    simp only [k_dl, k_hd] at hd h1
    rcases hg with hg | hg | hg
    · subst hg
      simp [List.erase_cons, ab, ab.symm, ac, ac.symm, bc, bc.symm, k_ul, hd, h1, k_dl, k_hd, hv_put, na, nb, nc] <;> omega
    · subst hg
      simp [List.erase_cons, ab, ab.symm, ac, ac.symm, bc, bc.symm, k_ul, hd, h1, k_dl, k_hd, hv_put, na, nb, nc] <;> omega
    · subst hg
      simp [List.erase_cons, ab, ab.symm, ac, ac.symm, bc, bc.symm, k_ul, hd, h1, k_dl, k_hd, hv_put, na, nb, nc] <;> omega
  · exact absurd l3 (by simp)
theorem k_lk_3 {h : E_H} {l : List Int} {g : Int} (l2 : l.length ≤ 2) (hr : ∀ x, x ∈ l → 0 ≤ x ∧ x < 6) (hd : k_dl h 0 l) (h1 : h_vl h 16 1 = k_hd l) (hg : g ∉ l) (hg2 : 0 ≤ g) (hn : l.Nodup) : k_dl (k_lk h (26 + 3 * g)) 0 (g :: l) ∧ h_vl (k_lk h (26 + 3 * g)) 16 1 = k_hd (g :: l) := by
  have ng := @k_n0 g hg2
  rcases l with _ | ⟨a, _ | ⟨b, _ | ⟨c, l⟩⟩⟩
  · simp only [k_dl, k_hd] at hd h1
    simp [k_lk, hd, h1, k_dl, k_hd, hv_put, ng]
  · simp only [List.mem_cons, List.not_mem_nil, or_false, forall_eq] at hg hr
    have na := @k_n0 a (by omega)
    have ga : ¬ a = g := fun z => hg z.symm
    simp only [k_dl, k_hd] at hd h1
    simp [k_lk, hd, h1, k_dl, k_hd, hv_put, ng, na, hg, ga] <;> omega
  · simp only [List.nodup_cons, List.mem_cons, List.not_mem_nil, or_false, not_or, forall_eq_or_imp, forall_eq] at hg hr hn
    have na := @k_n0 a (by omega)
    have nb := @k_n0 b (by omega)
    have ga : ¬ a = g := fun z => hg.1 z.symm
    have gb : ¬ b = g := fun z => hg.2 z.symm
    have ba : ¬ b = a := fun z => hn.1 z.symm
    simp only [k_dl, k_hd] at hd h1
    simp [k_lk, hd, h1, k_dl, k_hd, hv_put, ng, na, nb, hg, ga, gb, ba, hn] <;> omega
  · exact absurd l2 (by simp)
