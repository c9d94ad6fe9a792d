/-! ===== the log as a list of rows, 1: what is open, what a replay gives ===== -/
abbrev E_K : Type := Int → Int → Int
def o_com (V : E_K) (n t : Int) : Prop := ∃ j : Int, 1 ≤ j ∧ j ≤ n ∧ V 45 j = 3 ∧ V 46 j = t
def o_bk (V : E_K) (n i : Int) : Prop := ∃ j : Int, 1 ≤ j ∧ j ≤ n ∧ V 45 j = 2 ∧ V 52 j = i
def o_op (V : E_K) (n i : Int) : Prop := 1 ≤ i ∧ i ≤ n ∧ V 45 i = 1 ∧ ¬ o_com V n (V 46 i) ∧ ¬ o_bk V n i
def r_k (V : E_K) : Nat → Int → Int
  | 0, _ => -1
  | n + 1, x => if V 45 ((n : Int) + 1) < 3 ∧ V 47 ((n : Int) + 1) = x then V 50 ((n : Int) + 1) else r_k V n x
def lg_1 (V : E_K) (i : Int) : Prop := (1 ≤ V 46 i ∧ V 46 i ≤ V 44 22) ∧ (0 ≤ V 47 i ∧ V 47 i < 24) ∧ (0 ≤ V 50 i ∧ V 50 i ≤ 99) ∧ ¬ o_com V (i - 1) (V 46 i) ∧ V 48 i = r_k V (i - 1).toNat (V 47 i) ∧ (V 48 i = V 50 i ∨ (V 48 i = -1 ∧ ∀ y : Int, 0 ≤ y → y < 24 → r_k V (i - 1).toNat y ≠ V 50 i)) ∧ ∀ j : Int, o_op V (i - 1) j → V 46 j ≠ V 46 i → V 47 j ≠ V 47 i
def lg_2 (V : E_K) (i : Int) : Prop := o_op V (i - 1) (V 52 i) ∧ (∀ j : Int, o_op V (i - 1) j → V 46 j = V 46 (V 52 i) → j ≤ V 52 i) ∧ V 46 i = V 46 (V 52 i) ∧ V 47 i = V 47 (V 52 i) ∧ V 50 i = V 48 (V 52 i)
def lg_3 (V : E_K) (i : Int) : Prop := (1 ≤ V 46 i ∧ V 46 i ≤ V 44 22) ∧ V 47 i = 0 ∧ ¬ o_com V (i - 1) (V 46 i)
def lg_row (V : E_K) (i : Int) : Prop := (V 45 i = 1 ∧ lg_1 V i) ∨ (V 45 i = 2 ∧ lg_2 V i) ∨ (V 45 i = 3 ∧ lg_3 V i) ∨ (V 45 i = 4 ∧ V 46 i = 0 ∧ V 47 i = 0)
def lg_to (V : E_K) (n : Int) : Prop := ∀ i : Int, 1 ≤ i → i ≤ n → lg_row V i
theorem o_com.mono {V : E_K} {n m t : Int} (h : o_com V n t) (hm : n ≤ m) : o_com V m t := by
  obtain ⟨j, h1, h2, h3⟩ := h
  exact ⟨j, h1, by omega, h3⟩
theorem o_bk.mono {V : E_K} {n m t : Int} (h : o_bk V n t) (hm : n ≤ m) : o_bk V m t := by
  obtain ⟨j, h1, h2, h3⟩ := h
  exact ⟨j, h1, by omega, h3⟩
theorem o_op.down {V : E_K} {n m i : Int} (h : o_op V m i) (hm : n ≤ m) (hi : i ≤ n) : o_op V n i := ⟨h.1, hi, h.2.2.1, fun z => h.2.2.2.1 (z.mono hm), fun z => h.2.2.2.2 (z.mono hm)⟩
theorem r_k_same {V : E_K} {n : Nat} {x : Int} (h : ¬ (V 45 ((n : Int) + 1) < 3 ∧ V 47 ((n : Int) + 1) = x)) : r_k V (n + 1) x = r_k V n x := by rw [r_k, if_neg h]
theorem r_k_new {V : E_K} {n : Nat} {x : Int} (h : V 45 ((n : Int) + 1) < 3) (h2 : V 47 ((n : Int) + 1) = x) : r_k V (n + 1) x = V 50 ((n : Int) + 1) := by rw [r_k, if_pos ⟨h, h2⟩]
/-- what holds at every prefix -/
def lg_P (V : E_K) (n : Nat) : Prop := (∀ x : Int, -1 ≤ r_k V n x ∧ r_k V n x ≤ 99) ∧ (∀ x y : Int, 0 ≤ x → x < 24 → 0 ≤ y → y < 24 → r_k V n x = r_k V n y → r_k V n x ≠ -1 → x = y) ∧ (∀ i : Int, o_op V n i → r_k V n (V 47 i) = V 50 i) ∧ ∀ i j : Int, o_op V n i → o_op V n j → V 46 i ≠ V 46 j → V 47 i ≠ V 47 j
theorem lg_1_of {V : E_K} {n i : Int} (hL : lg_to V n) (h : o_op V n i) : lg_1 V i := by
  rcases hL i h.1 h.2.1 with ⟨_, h2⟩ | ⟨h1, _⟩ | ⟨h1, _⟩ | ⟨h1, _⟩
  · exact h2
  · rw [h.2.2.1] at h1; exact absurd h1 (by decide)
  · rw [h.2.2.1] at h1; exact absurd h1 (by decide)
  · rw [h.2.2.1] at h1; exact absurd h1 (by decide)
theorem lg_all {V : E_K} {S : Int} (hL : lg_to V S) : ∀ n : Nat, (n : Int) ≤ S → ∀ m : Nat, m ≤ n → lg_P V m := by
  intro n
  induction n with
  | zero =>
    intro _ m hm
    obtain rfl : m = 0 := by omega
    refine ⟨fun x => ⟨by simp [r_k], by simp [r_k]⟩, fun x y _ _ _ _ _ h => absurd rfl h, fun i h => ?_, fun i j h => ?_⟩
    · have := h.1; have := h.2.1; omega
    · have := h.1; have := h.2.1; omega
  | succ n ih =>
    intro hn m hm
    by_cases hmn : m ≤ n
    · exact ih (by omega) m hmn
    obtain rfl : m = n + 1 := by omega
    have IH := ih (by omega)
    obtain ⟨R, U, O, D⟩ := IH n (Nat.le_refl n)
    have row := hL ((n : Int) + 1) (by omega) (by omega)
    have e1 : ((n : Int) + 1 - 1) = n := by omega
    have e2 : ((n + 1 : Nat) : Int) = (n : Int) + 1 := by omega
    have hLn : lg_to V n := fun i h1 h2 => hL i h1 (by omega)
    have sub : ∀ i : Int, o_op V ((n + 1 : Nat) : Int) i → i ≠ (n : Int) + 1 → o_op V n i := fun i h hi => h.down (by omega) (by have := h.2.1; omega)
    rcases row with ⟨k1, r1⟩ | ⟨k2, r2⟩ | ⟨k3, r3⟩ | ⟨k4, r4⟩
    · obtain ⟨w, sp, nk, nc, ok, fr, ds⟩ := r1
      rw [e1, Int.toNat_natCast] at *
      have st : ∀ x : Int, r_k V (n + 1) x = if V 47 ((n : Int) + 1) = x then V 50 ((n : Int) + 1) else r_k V n x := by
        intro x
        by_cases hx : V 47 ((n : Int) + 1) = x
        · rw [if_pos hx, r_k_new (by omega) hx]
        · rw [if_neg hx, r_k_same (fun z => hx z.2)]
      refine ⟨fun x => ?_, fun x y x1 x2 y1 y2 hxy hne => ?_, fun i hi => ?_, fun i j hi hj hw => ?_⟩
      · rw [st]
        split
        · omega
        · exact R x
      · rw [st x, st y] at hxy
        rw [st x] at hne
        by_cases hx : V 47 ((n : Int) + 1) = x
        · by_cases hy : V 47 ((n : Int) + 1) = y
          · omega
          · rw [if_pos hx, if_neg hy] at hxy
            rcases fr with fr | fr
            · have := U x y x1 x2 y1 y2 (by rw [← hx, ← ok, fr, hxy]) (by rw [← hx, ← ok, fr]; omega)
              exact this
            · exact absurd hxy.symm (fr.2 y y1 y2)
        · by_cases hy : V 47 ((n : Int) + 1) = y
          · rw [if_neg hx, if_pos hy] at hxy
            rcases fr with fr | fr
            · have := U x y x1 x2 y1 y2 (by rw [← hy, ← ok, fr, hxy]) (by rw [hxy]; omega)
              exact this
            · exact absurd hxy (fr.2 x x1 x2)
          · rw [if_neg hx, if_neg hy] at hxy
            rw [if_neg hx] at hne
            exact U x y x1 x2 y1 y2 hxy hne
      · by_cases hin : i = (n : Int) + 1
        · rw [hin, st, if_pos rfl]
        · have hi' := sub i hi hin
          rw [st]
          split
          · rename_i hs
            have o1 := O i hi'
            have := (lg_1_of hLn hi').2.2.1
            rw [← hs, ← ok] at o1
            rcases fr with fr | fr
            · omega
            · omega
          · exact O i hi'
      · by_cases hin : i = (n : Int) + 1
        · by_cases hjn : j = (n : Int) + 1
          · exact absurd (by rw [hin, hjn]) hw
          · have := ds j (sub j hj hjn) (by rw [← hin]; exact fun z => hw z.symm)
            rw [hin]
            exact fun z => this z.symm
        · by_cases hjn : j = (n : Int) + 1
          · rw [hjn]
            exact ds i (sub i hi hin) (by rw [← hjn]; exact hw)
          · exact D i j (sub i hi hin) (sub j hj hjn) hw
    · obtain ⟨ob, gr, we, se, ke⟩ := r2
      rw [e1] at ob gr
      generalize hb : V 52 ((n : Int) + 1) = b at *
      have rb := lg_1_of hLn ob
      obtain ⟨bw, bsp, bnk, bnc, bok, bfr, bds⟩ := rb
      have Ob := O b ob
      have b1 := ob.1
      have b2 := ob.2.1
      have st : ∀ x : Int, r_k V (n + 1) x = if V 47 b = x then V 48 b else r_k V n x := by
        intro x
        by_cases hx : V 47 b = x
        · rw [if_pos hx, r_k_new (by omega) (by rw [se]; exact hx), ke]
        · rw [if_neg hx, r_k_same (fun z => hx (by rw [← se]; exact z.2))]
      have nb : ∀ i : Int, o_op V ((n + 1 : Nat) : Int) i → i ≠ (n : Int) + 1 ∧ i ≠ b := by
        intro i hi
        refine ⟨fun z => ?_, fun z => hi.2.2.2.2 ⟨(n : Int) + 1, by omega, by omega, k2, by rw [hb, z]⟩⟩
        have := hi.2.2.1
        rw [z, k2] at this
        exact absurd this (by decide)
      refine ⟨fun x => ?_, fun x y x1 x2 y1 y2 hxy hne => ?_, fun i hi => ?_, fun i j hi hj hw => ?_⟩
      · rw [st]
        split
        · rcases bfr with z | z
          · omega
          · omega
        · exact R x
      · rw [st x, st y] at hxy
        rw [st x] at hne
        rcases bfr with z | z
        · have e : ∀ w : Int, (if V 47 b = w then V 48 b else r_k V n w) = r_k V n w := by
            intro w
            split
            · rename_i hw
              rw [← hw, Ob, z]
            · rfl
          rw [e, e] at hxy
          rw [e] at hne
          exact U x y x1 x2 y1 y2 hxy hne
        · by_cases hx : V 47 b = x
          · rw [if_pos hx] at hne
            exact absurd z.1 hne
          · rw [if_neg hx] at hxy hne
            by_cases hy : V 47 b = y
            · rw [if_pos hy, z.1] at hxy
              exact absurd hxy hne
            · rw [if_neg hy] at hxy
              exact U x y x1 x2 y1 y2 hxy hne
      · obtain ⟨n1, n2⟩ := nb i hi
        have hi' := sub i hi n1
        rw [st]
        split
        · rename_i hs
          have hw : V 46 i = V 46 b := by
            by_cases hw : V 46 i = V 46 b
            · exact hw
            · exact absurd hs.symm (D i b hi' ob hw)
          have hle := gr i hi' hw
          have hop : o_op V (((b - 1).toNat : Nat) : Int) i := hi'.down (by omega) (by omega)
          have := (IH (b - 1).toNat (by omega)).2.2.1 i hop
          rw [bok, hs, this]
        · exact O i hi'
      · exact D i j (sub i hi (nb i hi).1) (sub j hj (nb j hj).1) hw
    · have st : ∀ x : Int, r_k V (n + 1) x = r_k V n x := fun x => r_k_same (fun z => by have := z.1; omega)
      have nb : ∀ i : Int, o_op V ((n + 1 : Nat) : Int) i → i ≠ (n : Int) + 1 := by
        intro i hi z
        have := hi.2.2.1
        rw [z, k3] at this
        exact absurd this (by decide)
      refine ⟨fun x => by rw [st]; exact R x, fun x y x1 x2 y1 y2 => by rw [st, st]; exact U x y x1 x2 y1 y2, fun i hi => by rw [st]; exact O i (sub i hi (nb i hi)), fun i j hi hj => D i j (sub i hi (nb i hi)) (sub j hj (nb j hj))⟩
    · have st : ∀ x : Int, r_k V (n + 1) x = r_k V n x := fun x => r_k_same (fun z => by have := z.1; omega)
      have nb : ∀ i : Int, o_op V ((n + 1 : Nat) : Int) i → i ≠ (n : Int) + 1 := by
        intro i hi z
        have := hi.2.2.1
        rw [z, k4] at this
        exact absurd this (by decide)
      refine ⟨fun x => by rw [st]; exact R x, fun x y x1 x2 y1 y2 => by rw [st, st]; exact U x y x1 x2 y1 y2, fun i hi => by rw [st]; exact O i (sub i hi (nb i hi)), fun i j hi hj => D i j (sub i hi (nb i hi)) (sub j hj (nb j hj))⟩
theorem lg_pre {V : E_K} {S : Int} (hL : lg_to V S) {n : Nat} (hn : (n : Int) ≤ S) : lg_P V n := lg_all hL n hn n (Nat.le_refl n)
