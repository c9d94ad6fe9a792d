/-! ===== MY EVALUATOR: an abstract machine over whole numbers; it answers none wherever the real one would throw, overflow or meet what isn't covered ===== -/
abbrev E_V : Type := Int ⊕ Int
abbrev E_L : Type := List (Option E_V)
abbrev E_H : Type := Int × Int × (Int → Int) × (Int → Int) × (Int → Int → Int)
/-- op, two numbers, two whole numbers, the next place, the rest -/
abbrev E_I : Type := Nat × Nat × Nat × Int × Int × Nat × List Nat
abbrev E_B : Type := Bool × (Nat × E_L × List E_V × E_H)
def h_sz (h : E_H) : Int := h.1
def h_sl (h : E_H) : Int := h.2.1
def h_kd (h : E_H) (a : Int) : Int := h.2.2.1 a
def h_ln (h : E_H) (a : Int) : Int := h.2.2.2.1 a
def h_vl (h : E_H) (a k : Int) : Int := h.2.2.2.2 a k
def h_put (h : E_H) (a k v : Int) : E_H := (h.1, h.2.1, h.2.2.1, h.2.2.2.1, fun b j => if b = a ∧ j = k then v else h.2.2.2.2 b j)
def h_new (h : E_H) (kd ln n : Int) : E_H := (h.1 + 1, h.2.1 + n, fun b => if b = h.1 then kd else h.2.2.1 b, fun b => if b = h.1 then ln else h.2.2.2.1 b, fun b j => if b = h.1 then 0 else h.2.2.2.2 b j)
def h_cpy (h : E_H) (s sp t tp n : Int) : E_H := (h.1, h.2.1, h.2.2.1, h.2.2.2.1, fun b j => if b = t ∧ tp ≤ j ∧ j < tp + n then h.2.2.2.2 s (sp + (j - tp)) else h.2.2.2.2 b j)
def e_inR (x : Int) : Bool := decide (-2147483648 ≤ x ∧ x ≤ 2147483647)
def e_bopC (b : Nat) (x y : Int) : Bool := match b with
  | 0 => e_inR (x + y)
  | 1 => e_inR (x - y)
  | 2 => e_inR (x * y)
  | 3 => decide (0 ≤ x ∧ 0 < y)
  | 4 => decide (y = 1 ∨ y = 3 ∨ y = 31)
  | 5 => decide (0 ≤ x ∧ 0 ≤ y)
  | 6 => decide (0 ≤ y ∧ y < 31) && e_inR (x * 2 ^ y.toNat)
  | _ => decide (0 ≤ y ∧ y < 32)
def e_bopV (b : Nat) (x y : Int) : Int := match b with
  | 0 => x + y
  | 1 => x - y
  | 2 => x * y
  | 3 => x / y
  | 4 => x % (y + 1)
  | 5 => ((x.toNat ||| y.toNat : Nat) : Int)
  | 6 => x * 2 ^ y.toNat
  | _ => x / 2 ^ y.toNat
def e_cmp (b : Nat) (x y : Int) : Bool := match b with
  | 0 => decide (x = y)
  | 1 => decide (x ≠ y)
  | 2 => decide (x < y)
  | 3 => decide (y ≤ x)
  | 4 => decide (y < x)
  | _ => decide (x ≤ y)
def e_acm (b : Nat) (x y : Int) : Bool := match b with
  | 0 => decide (x = y)
  | _ => decide (x ≠ y)
def e_aok (x y : Int) : Bool := decide (x = y ∨ (x ≠ 12 ∧ y ≠ 12 ∧ (16 ≤ x ∨ 16 ≤ y ∨ (0 ≤ x ∧ x ≤ 10 ∧ 0 ≤ y ∧ y ≤ 10))))
/-- what may be stored where: kind of the array, kind of the object -/
def e_stok (ka kv : Int) : Bool := decide ((ka = 23 ∧ (kv = 5 ∨ kv = 9)) ∨ (ka = 24 ∧ kv = 4) ∨ (ka = 25 ∧ kv = 8) ∨ (ka = 26 ∧ kv = 7) ∨ (ka = 27 ∧ (kv = 3 ∨ kv = 10)))
def e_ord (x : Int) : Int := x - 4
def s_ld (w : Nat) (a : Nat) (nx : Nat) (ls : E_L) (st : List E_V) (h : E_H) : List E_B := match w, ls[a]? with
  | 0, some (some (.inl x)) => [(true, nx, ls, .inl x :: st, h)]
  | 1, some (some (.inr x)) => [(true, nx, ls, .inr x :: st, h)]
  | _, _ => []
def s_st (w : Nat) (a : Nat) (nx : Nat) (ls : E_L) (st : List E_V) (h : E_H) : List E_B := match w, st with
  | 0, .inl x :: r => [(decide (a < ls.length), nx, ls.set a (some (.inl x)), r, h)]
  | 1, .inr x :: r => [(decide (a < ls.length), nx, ls.set a (some (.inr x)), r, h)]
  | _, _ => []
def s_inc (a : Nat) (c : Int) (nx : Nat) (ls : E_L) (st : List E_V) (h : E_H) : List E_B := match ls[a]? with
  | some (some (.inl x)) => [(e_inR (x + c), nx, ls.set a (some (.inl (x + c))), st, h)]
  | _ => []
def s_bin (b : Nat) (nx : Nat) (ls : E_L) (st : List E_V) (h : E_H) : List E_B := match st with
  | .inl y :: .inl x :: r => [(e_bopC b x y, nx, ls, .inl (e_bopV b x y) :: r, h)]
  | _ => []
def s_i2b (nx : Nat) (ls : E_L) (st : List E_V) (h : E_H) : List E_B := match st with
  | .inl x :: r => [(decide (-128 ≤ x ∧ x ≤ 127), nx, ls, .inl x :: r, h)]
  | _ => []
def s_dup (nx : Nat) (ls : E_L) (st : List E_V) (h : E_H) : List E_B := match st with
  | v :: r => [(true, nx, ls, v :: v :: r, h)]
  | _ => []
def s_pop (nx : Nat) (ls : E_L) (st : List E_V) (h : E_H) : List E_B := match st with
  | _ :: r => [(true, nx, ls, r, h)]
  | _ => []
def s_dx1 (nx : Nat) (ls : E_L) (st : List E_V) (h : E_H) : List E_B := match st with
  | v :: w :: r => [(true, nx, ls, v :: w :: v :: r, h)]
  | _ => []
def s_if (b tg nx : Nat) (ls : E_L) (st : List E_V) (h : E_H) : List E_B := match st with
  | .inl x :: r => [(e_cmp b x 0, tg, ls, r, h), (true, nx, ls, r, h)]
  | _ => []
def s_icm (b tg nx : Nat) (ls : E_L) (st : List E_V) (h : E_H) : List E_B := match st with
  | .inl y :: .inl x :: r => [(e_cmp b x y, tg, ls, r, h), (true, nx, ls, r, h)]
  | _ => []
def s_acm (b tg nx : Nat) (ls : E_L) (st : List E_V) (h : E_H) : List E_B := match st with
  | .inr y :: .inr x :: r => [(e_aok x y && e_acm b x y, tg, ls, r, h), (e_aok x y, nx, ls, r, h)]
  | _ => []
def s_nul (b tg nx : Nat) (ls : E_L) (st : List E_V) (h : E_H) : List E_B := match st with
  | .inr x :: r => [(e_acm b x 0, tg, ls, r, h), (true, nx, ls, r, h)]
  | _ => []
def s_swB (x lo : Int) (l : List Nat) (df : Nat) (ls : E_L) (r : List E_V) (h : E_H) : List E_B := match l with
  | [] => [(true, df, ls, r, h)]
  | t :: l' => (decide (x = lo), t, ls, r, h) :: s_swB x (lo + 1) l' df ls r h
def s_sw (lo : Int) (l : List Nat) (df : Nat) (ls : E_L) (st : List E_V) (h : E_H) : List E_B := match st with
  | .inl x :: r => s_swB x lo l df ls r h
  | _ => []
def s_get (w : Nat) (kd k : Int) (nx : Nat) (ls : E_L) (st : List E_V) (h : E_H) : List E_B := match w, st with
  | 0, .inr a :: r => [(decide (h_kd h a = kd), nx, ls, .inl (h_vl h a k) :: r, h)]
  | 1, .inr a :: r => [(decide (h_kd h a = kd), nx, ls, .inr (h_vl h a k) :: r, h)]
  | _, _ => []
def s_put (w : Nat) (kd k : Int) (nx : Nat) (ls : E_L) (st : List E_V) (h : E_H) : List E_B := match w, st with
  | 0, .inl x :: .inr a :: r => [(decide (h_kd h a = kd), nx, ls, r, h_put h a k x)]
  | 1, .inr x :: .inr a :: r => [(decide (h_kd h a = kd), nx, ls, r, h_put h a k x)]
  | 2, .inl x :: .inr a :: r => [(decide (h_kd h a = kd ∧ (x = 0 ∨ x = 1)), nx, ls, r, h_put h a k x)]
  | _, _ => []
def s_new (kd n : Int) (nx : Nat) (ls : E_L) (st : List E_V) (h : E_H) : List E_B := [(true, nx, ls, .inr (h_sz h) :: st, h_new h kd 0 n)]
def s_nwa (kd : Int) (nx : Nat) (ls : E_L) (st : List E_V) (h : E_H) : List E_B := match st with
  | .inl n :: r => [(decide (0 ≤ n ∧ n ≤ 100000), nx, ls, .inr (h_sz h) :: r, h_new h kd n n)]
  | _ => []
def s_ild (nx : Nat) (ls : E_L) (st : List E_V) (h : E_H) : List E_B := match st with
  | .inl i :: .inr a :: r => [(decide (h_kd h a = 20 ∧ 0 ≤ i ∧ i < h_ln h a), nx, ls, .inl (h_vl h a i) :: r, h)]
  | _ => []
def s_ist (nx : Nat) (ls : E_L) (st : List E_V) (h : E_H) : List E_B := match st with
  | .inl x :: .inl i :: .inr a :: r => [(decide (h_kd h a = 20 ∧ a ≠ 13 ∧ 0 ≤ i ∧ i < h_ln h a), nx, ls, r, h_put h a i x)]
  | _ => []
def s_bld (nx : Nat) (ls : E_L) (st : List E_V) (h : E_H) : List E_B := match st with
  | .inl i :: .inr a :: r => [(decide ((h_kd h a = 21 ∨ h_kd h a = 22) ∧ 0 ≤ i ∧ i < h_ln h a), nx, ls, .inl (h_vl h a i) :: r, h)]
  | _ => []
def s_bst (nx : Nat) (ls : E_L) (st : List E_V) (h : E_H) : List E_B := match st with
  | .inl x :: .inl i :: .inr a :: r => [(decide (((h_kd h a = 21 ∧ -128 ≤ x ∧ x ≤ 127) ∨ (h_kd h a = 22 ∧ (x = 0 ∨ x = 1))) ∧ 0 ≤ i ∧ i < h_ln h a), nx, ls, r, h_put h a i x)]
  | _ => []
def s_ald (nx : Nat) (ls : E_L) (st : List E_V) (h : E_H) : List E_B := match st with
  | .inl i :: .inr a :: r => [(decide (23 ≤ h_kd h a ∧ 0 ≤ i ∧ i < h_ln h a), nx, ls, .inr (h_vl h a i) :: r, h)]
  | _ => []
def s_ast (nx : Nat) (ls : E_L) (st : List E_V) (h : E_H) : List E_B := match st with
  | .inr x :: .inl i :: .inr a :: r => [(decide (23 ≤ h_kd h a ∧ 0 ≤ i ∧ i < h_ln h a ∧ (x = 0 ∨ e_stok (h_kd h a) (h_kd h x) = true)), nx, ls, r, h_put h a i x)]
  | _ => []
def s_len (nx : Nat) (ls : E_L) (st : List E_V) (h : E_H) : List E_B := match st with
  | .inr a :: r => [(decide (20 ≤ h_kd h a), nx, ls, .inl (h_ln h a) :: r, h)]
  | _ => []
def s_cst (kd : Int) (nx : Nat) (ls : E_L) (st : List E_V) (h : E_H) : List E_B := match st with
  | .inr a :: r => [(decide (a = 0 ∨ h_kd h a = kd), nx, ls, .inr a :: r, h)]
  | _ => []
def s_oin (d nx : Nat) (ls : E_L) (st : List E_V) (h : E_H) : List E_B := match st with
  | .inr a :: r => [(decide (a ≠ 0 ∧ 0 < d ∧ r.length ≤ 8), nx, ls, r, h)]
  | _ => []
def s_cpy (d nx : Nat) (ls : E_L) (st : List E_V) (h : E_H) : List E_B := match st with
  | .inl n :: .inl tp :: .inr t :: .inl sp :: .inr a :: r => [(decide (0 < d ∧ r.length ≤ 8 ∧ h_kd h a = 23 ∧ h_kd h t = 23 ∧ 16 ≤ a ∧ 16 ≤ t ∧ 0 ≤ n ∧ 0 ≤ sp ∧ 0 ≤ tp ∧ sp + n ≤ h_ln h a ∧ tp + n ≤ h_ln h t) && (List.range n.toNat).all (fun i => decide (h_vl h a (sp + i) = 0) || e_stok 23 (h_kd h (h_vl h a (sp + i)))), nx, ls, r, h_cpy h a sp t tp n)]
  | _ => []
def s_gcl (d nx : Nat) (ls : E_L) (st : List E_V) (h : E_H) : List E_B := match st with
  | .inr a :: r => [(decide (0 < d ∧ r.length ≤ 8 ∧ h_kd h a = 23 ∧ 16 ≤ a), nx, ls, .inr 12 :: r, h)]
  | _ => []
def s_ord (d nx : Nat) (ls : E_L) (st : List E_V) (h : E_H) : List E_B := match st with
  | .inr a :: r => [(decide (0 < d ∧ r.length ≤ 8 ∧ 5 ≤ a ∧ a ≤ 10), nx, ls, .inl (e_ord a) :: r, h)]
  | _ => []
def s_mm (w d nx : Nat) (ls : E_L) (st : List E_V) (h : E_H) : List E_B := match w, st with
  | 0, .inl y :: .inl x :: r => [(decide (0 < d ∧ r.length ≤ 8), nx, ls, .inl (if x < y then y else x) :: r, h)]
  | 1, .inl y :: .inl x :: r => [(decide (0 < d ∧ r.length ≤ 8), nx, ls, .inl (if y < x then y else x) :: r, h)]
  | _, _ => []
/-- one instruction that is neither a call nor a return: branches, the first whose guard holds is taken -/
def e_stp (d op a b : Nat) (c e : Int) (nx : Nat) (l : List Nat) (ls : E_L) (st : List E_V) (h : E_H) : List E_B := match op with
  | 0 => [(true, nx, ls, .inl c :: st, h)]
  | 1 => [(true, nx, ls, .inr 0 :: st, h)]
  | 2 => s_ld 0 a nx ls st h
  | 3 => s_ld 1 a nx ls st h
  | 4 => s_st 0 a nx ls st h
  | 5 => s_st 1 a nx ls st h
  | 6 => s_inc a c nx ls st h
  | 7 => s_bin b nx ls st h
  | 8 => s_i2b nx ls st h
  | 9 => s_dup nx ls st h
  | 10 => s_pop nx ls st h
  | 11 => s_dx1 nx ls st h
  | 12 => s_if b a nx ls st h
  | 13 => s_icm b a nx ls st h
  | 14 => s_acm b a nx ls st h
  | 15 => s_nul 0 a nx ls st h
  | 16 => s_nul 1 a nx ls st h
  | 17 => [(true, a, ls, st, h)]
  | 18 => s_sw c l a ls st h
  | 22 => s_get 0 c e nx ls st h
  | 23 => s_get 1 c e nx ls st h
  | 24 => s_put 0 c e nx ls st h
  | 25 => s_put 1 c e nx ls st h
  | 26 => s_put 2 c e nx ls st h
  | 27 => [(true, nx, ls, .inr c :: st, h)]
  | 28 => s_new c e nx ls st h
  | 29 => s_nwa c nx ls st h
  | 30 => s_ild nx ls st h
  | 31 => s_ist nx ls st h
  | 32 => s_bld nx ls st h
  | 33 => s_bst nx ls st h
  | 34 => s_ald nx ls st h
  | 35 => s_ast nx ls st h
  | 36 => s_len nx ls st h
  | 37 => s_cst c nx ls st h
  | 40 => s_oin d nx ls st h
  | 41 => s_cpy d nx ls st h
  | 42 => s_gcl d nx ls st h
  | 43 => [(true, nx, ls, .inr 12 :: st, h)]
  | 44 => s_ord d nx ls st h
  | 45 => s_mm 0 d nx ls st h
  | 46 => s_mm 1 d nx ls st h
  | _ => []
/-- a return: what is handed back -/
def e_ret (op b : Nat) (st : List E_V) : List (Bool × Option E_V) := match op, st with
  | 19, [.inl x] => [(decide (b = 0 ∨ x = 0 ∨ x = 1), some (.inl x))]
  | 20, [.inr x] => [(true, some (.inr x))]
  | 21, [] => [(true, none)]
  | _, _ => []
/-- which method a call reaches: 50 static, 51 52 a constructor, 53 54 virtual, 55 by the interface -/
def e_tgt (op a b : Nat) (c : Int) (args : List E_V) (h : E_H) : List (Bool × Nat) := match op, args with
  | 50, _ => [(true, a)]
  | 51, .inr r :: _ => [(decide (r ≠ 0), a)]
  | 52, .inr r :: _ => [(decide (r ≠ 0), a)]
  | 53, .inr r :: _ => [(decide (h_kd h r = c), a)]
  | 54, .inr r :: _ => [(decide (h_kd h r = c), a)]
  | 55, .inr r :: _ => [(decide (h_kd h r = 3), a), (decide (h_kd h r = 10), b)]
  | _, _ => []
def e_ent (ml : Nat) (args : List E_V) : E_L := args.map some ++ List.replicate (ml - args.length) none
def e_pick {α : Type} : List (Bool × α) → Option α
  | [] => none
  | (c, x) :: t => if c = true then some x else e_pick t
def e_sel {α : Type} (K : α → Prop) : List (Bool × α) → Prop
  | [] => False
  | [(c, x)] => c = true ∧ K x
  | (c, x) :: y :: t => (c = true → K x) ∧ (c = false → e_sel K (y :: t))
def e_in (x : Nat) : List Nat → Bool
  | [] => false
  | y :: t => x == y || e_in x t
theorem e_sel_pick {α : Type} {K : α → Prop} : ∀ {L : List (Bool × α)}, e_sel K L → ∃ x, e_pick L = some x ∧ K x
  | [], h => h.elim
  | [(c, x)], h => ⟨x, by simp [e_pick, h.1], h.2⟩
  | (c, x) :: y :: t, h => by
    cases c with
    | true => exact ⟨x, by simp [e_pick], h.1 rfl⟩
    | false =>
      obtain ⟨z, h1, h2⟩ := e_sel_pick (h.2 rfl)
      exact ⟨z, by rw [← h1]; simp [e_pick], h2⟩
def e_lk : List (Nat × E_I) → Nat → E_I
  | [], _ => (99, 0, 0, 0, 0, 0, [])
  | (p, a) :: t, pc => if p = pc then a else e_lk t pc
theorem e_pick_mono {α : Type} : ∀ {L L' : List (Bool × α)}, L' = L → ∀ {x : α}, e_pick L = some x → e_pick L' = some x := fun h _ hx => by rw [h]; exact hx
theorem e_pick1 {α : Type} {c : Bool} {x y : α} : e_pick [(c, x)] = some y ↔ c = true ∧ x = y := by
  cases c <;> simp [e_pick]
theorem e_pick2 {α : Type} {c c' : Bool} {x x' y : α} : e_pick [(c, x), (c', x')] = some y ↔ (c = true ∧ x = y) ∨ (c = false ∧ c' = true ∧ x' = y) := by
  cases c <;> cases c' <;> simp [e_pick]
theorem e_pick0 {α : Type} {y : α} : ¬ e_pick ([] : List (Bool × α)) = some y := by simp [e_pick]
theorem e_stp_mono {d d' op a b : Nat} {c e : Int} {nx : Nat} {l : List Nat} {ls : E_L} {st : List E_V} {h : E_H} {q : Nat × E_L × List E_V × E_H} (hd : d ≤ d') (hq : e_pick (e_stp d op a b c e nx l ls st h) = some q) : e_pick (e_stp d' op a b c e nx l ls st h) = some q := by
  unfold e_stp at hq ⊢
  split at hq <;> first | exact hq | (simp only [s_oin, s_cpy, s_gcl, s_ord, s_mm] at hq ⊢; split at hq <;> first | exact absurd hq e_pick0 | (rw [e_pick1] at hq ⊢; simp only [decide_eq_true_eq, Bool.and_eq_true] at hq ⊢; obtain ⟨h1, h2⟩ := hq; refine ⟨?_, h2⟩; first | exact ⟨h1.1, by omega, h1.2.2⟩ | exact ⟨by omega, h1.2⟩ | exact ⟨⟨by omega, h1.1.2⟩, h1.2⟩))
