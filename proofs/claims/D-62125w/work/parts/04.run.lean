/-! ===== the run: fuel, depth, method, place, locals, stack, heap ===== -/
def e_run : Nat → Nat → Nat → Nat → E_L → List E_V → E_H → Option (Option E_V × E_H)
  | 0, _, _, _, _, _, _ => none
  | n + 1, d, mi, pc, ls, st, h =>
    match P_cd mi pc with
    | (op, a, b, c, e, nx, l) =>
      if op < 50 then
        if op = 19 ∨ op = 20 ∨ op = 21 then (e_pick (e_ret op b st)).map (fun r => (r, h))
        else (e_pick (e_stp d op a b c e nx l ls st h)).bind (fun q => e_run n d mi q.1 q.2.1 q.2.2.1 q.2.2.2)
      else
        let na := e.toNat
        (e_pick (e_tgt op a b c (st.take na).reverse h)).bind (fun t =>
          if na ≤ st.length ∧ (st.drop na).length ≤ 8 ∧ 0 < d ∧ na ≤ P_ml t then
            (e_run n (d - 1) t 0 (e_ent (P_ml t) (st.take na).reverse) [] h).bind (fun q => e_run n d mi nx ls (q.1.toList ++ st.drop na) q.2)
          else none)
theorem e_run_mono : ∀ {n : Nat} {d mi pc : Nat} {ls : E_L} {st : List E_V} {h : E_H} {r : Option E_V × E_H}, e_run n d mi pc ls st h = some r → ∀ {m d' : Nat}, n ≤ m → d ≤ d' → e_run m d' mi pc ls st h = some r := by
  intro n
  induction n with
  | zero => intro d mi pc ls st h r hr; simp [e_run] at hr
  | succ n ih =>
    intro d mi pc ls st h r hr m d' hm hd
    obtain ⟨m, rfl⟩ : ∃ k, m = k + 1 := ⟨m - 1, by omega⟩
    have hm' : n ≤ m := by omega
    unfold e_run at hr ⊢
    generalize P_cd mi pc = ai at hr ⊢
    obtain ⟨op, a, b, c, e, nx, l⟩ := ai
    dsimp only at hr ⊢
    by_cases h50 : op < 50
    · rw [if_pos h50] at hr ⊢
      by_cases hre : op = 19 ∨ op = 20 ∨ op = 21
      · rw [if_pos hre] at hr ⊢
        exact hr
      · rw [if_neg hre] at hr ⊢
        obtain ⟨q, hq, hr⟩ := Option.bind_eq_some_iff.mp hr
        rw [e_stp_mono hd hq]
        exact ih hr hm' hd
    · rw [if_neg h50] at hr ⊢
      obtain ⟨t, ht, hr⟩ := Option.bind_eq_some_iff.mp hr
      rw [ht, Option.bind_some]
      split at hr
      · rename_i hc
        rw [if_pos ⟨hc.1, hc.2.1, by omega, hc.2.2.2⟩]
        obtain ⟨q, hq, hr⟩ := Option.bind_eq_some_iff.mp hr
        rw [ih hq hm' (Nat.sub_le_sub_right hd 1), Option.bind_some]
        exact ih hr hm' hd
      · exact absurd hr (by simp)
/-- a method from its entry; a method from a place -/
def e_wpm (d mi : Nat) (args : List E_V) (h : E_H) (Q : Option E_V → E_H → Prop) : Prop := ∃ n r h', e_run n d mi 0 (e_ent (P_ml mi) args) [] h = some (r, h') ∧ Q r h'
def e_wpc (d mi pc : Nat) (ls : E_L) (st : List E_V) (h : E_H) (Q : Option E_V → E_H → Prop) : Prop := ∃ n r h', e_run n d mi pc ls st h = some (r, h') ∧ Q r h'
theorem e_wpm.mono {d d' mi : Nat} {args : List E_V} {h : E_H} {Q Q' : Option E_V → E_H → Prop} (w : e_wpm d mi args h Q) (hd : d ≤ d') (hQ : ∀ r h', Q r h' → Q' r h') : e_wpm d' mi args h Q' := by
  obtain ⟨n, r, h', hr, hq⟩ := w
  exact ⟨n, r, h', e_run_mono hr (Nat.le_refl _) hd, hQ _ _ hq⟩
theorem e_wpc.mono {d d' mi pc : Nat} {ls : E_L} {st : List E_V} {h : E_H} {Q Q' : Option E_V → E_H → Prop} (w : e_wpc d mi pc ls st h Q) (hd : d ≤ d') (hQ : ∀ r h', Q r h' → Q' r h') : e_wpc d' mi pc ls st h Q' := by
  obtain ⟨n, r, h', hr, hq⟩ := w
  exact ⟨n, r, h', e_run_mono hr (Nat.le_refl _) hd, hQ _ _ hq⟩
/-- a block: up to n instructions, until one of the places in 'stops' is come to -/
def e_blk (stops : List Nat) (d mi : Nat) (Q : Option E_V → E_H → Prop) : Nat → Nat → E_L → List E_V → E_H → Prop
  | 0, pc, ls, st, h => e_wpc d mi pc ls st h Q
  | n + 1, pc, ls, st, h =>
    match P_cd mi pc with
    | (op, a, b, c, e, nx, l) =>
      if op < 50 then
        if op = 19 ∨ op = 20 ∨ op = 21 then e_sel (fun r => Q r h) (e_ret op b st)
        else e_sel (fun q => if e_in q.1 stops = true then e_wpc d mi q.1 q.2.1 q.2.2.1 q.2.2.2 Q else e_blk stops d mi Q n q.1 q.2.1 q.2.2.1 q.2.2.2) (e_stp d op a b c e nx l ls st h)
      else
        let na := e.toNat
        e_sel (fun t => (na ≤ st.length ∧ (st.drop na).length ≤ 8 ∧ 0 < d ∧ na ≤ P_ml t) ∧ e_wpm (d - 1) t (st.take na).reverse h (fun r h' => if e_in nx stops = true then e_wpc d mi nx ls (r.toList ++ st.drop na) h' Q else e_blk stops d mi Q n nx ls (r.toList ++ st.drop na) h')) (e_tgt op a b c (st.take na).reverse h)
theorem e_blk_snd {stops : List Nat} {d mi : Nat} {Q : Option E_V → E_H → Prop} : ∀ {n pc : Nat} {ls : E_L} {st : List E_V} {h : E_H}, e_blk stops d mi Q n pc ls st h → e_wpc d mi pc ls st h Q := by
  intro n
  induction n with
  | zero => intro pc ls st h w; exact w
  | succ n ih =>
    intro pc ls st h w
    unfold e_blk at w
    have key : ∀ {pc ls st h}, (if e_in pc stops = true then e_wpc d mi pc ls st h Q else e_blk stops d mi Q n pc ls st h) → e_wpc d mi pc ls st h Q := by
      intro pc ls st h w
      split at w
      · exact w
      · exact ih w
    have run1 : ∀ {k : Nat}, e_run (k + 1) d mi pc ls st h = match P_cd mi pc with
      | (op, a, b, c, e, nx, l) =>
        if op < 50 then
          if op = 19 ∨ op = 20 ∨ op = 21 then (e_pick (e_ret op b st)).map (fun r => (r, h))
          else (e_pick (e_stp d op a b c e nx l ls st h)).bind (fun q => e_run k d mi q.1 q.2.1 q.2.2.1 q.2.2.2)
        else
          let na := e.toNat
          (e_pick (e_tgt op a b c (st.take na).reverse h)).bind (fun t =>
            if na ≤ st.length ∧ (st.drop na).length ≤ 8 ∧ 0 < d ∧ na ≤ P_ml t then
              (e_run k (d - 1) t 0 (e_ent (P_ml t) (st.take na).reverse) [] h).bind (fun q => e_run k d mi nx ls (q.1.toList ++ st.drop na) q.2)
            else none) := by
      intro k
      rw [e_run]
    generalize P_cd mi pc = ai at w run1
    obtain ⟨op, a, b, c, e, nx, l⟩ := ai
    dsimp only at w run1
    by_cases h50 : op < 50
    · rw [if_pos h50] at w
      by_cases hre : op = 19 ∨ op = 20 ∨ op = 21
      · rw [if_pos hre] at w
        obtain ⟨x, h1, h2⟩ := e_sel_pick w
        exact ⟨1, x, h, by rw [run1, if_pos h50, if_pos hre, h1]; rfl, h2⟩
      · rw [if_neg hre] at w
        obtain ⟨x, h1, h2⟩ := e_sel_pick w
        obtain ⟨k, r, h', hr, hq⟩ := key h2
        exact ⟨k + 1, r, h', by rw [run1, if_pos h50, if_neg hre, h1]; exact hr, hq⟩
    · rw [if_neg h50] at w
      obtain ⟨t, h1, h2, h3⟩ := e_sel_pick w
      obtain ⟨k1, r1, h1', hr1, hq1⟩ := h3
      obtain ⟨k, r, h', hr, hq⟩ := key hq1
      refine ⟨max k k1 + 1, r, h', ?_, hq⟩
      rw [run1, if_neg h50, h1, Option.bind_some, if_pos h2, e_run_mono hr1 (Nat.le_max_right _ _) (Nat.le_refl _), Option.bind_some]
      exact e_run_mono hr (Nat.le_max_left _ _) (Nat.le_refl _)
theorem e_wpm_blk (n : Nat) (stops : List Nat) {d mi : Nat} {args : List E_V} {h : E_H} {Q : Option E_V → E_H → Prop} (w : e_blk stops d mi Q n 0 (e_ent (P_ml mi) args) [] h) : e_wpm d mi args h Q := e_blk_snd w
theorem e_wpc_blk (n : Nat) (stops : List Nat) {d mi pc : Nat} {ls : E_L} {st : List E_V} {h : E_H} {Q : Option E_V → E_H → Prop} (w : e_blk stops d mi Q n pc ls st h) : e_wpc d mi pc ls st h Q := e_blk_snd w
/-! rows for simp: a block runs only where the place is a number -/
def e_go (stops : List Nat) (d mi : Nat) (Q : Option E_V → E_H → Prop) (n : Nat) (q : Nat × E_L × List E_V × E_H) : Prop := if e_in q.1 stops = true then e_wpc d mi q.1 q.2.1 q.2.2.1 q.2.2.2 Q else e_blk stops d mi Q n q.1 q.2.1 q.2.2.1 q.2.2.2
def e_rt (Q : Option E_V → E_H → Prop) (h : E_H) (r : Option E_V) : Prop := Q r h
def e_bk (stops : List Nat) (d mi : Nat) (Q : Option E_V → E_H → Prop) (n nx : Nat) (ls : E_L) (rest : List E_V) (r : Option E_V) (h : E_H) : Prop := if e_in nx stops = true then e_wpc d mi nx ls (r.toList ++ rest) h Q else e_blk stops d mi Q n nx ls (r.toList ++ rest) h
def e_cl (stops : List Nat) (d mi : Nat) (Q : Option E_V → E_H → Prop) (n na nx : Nat) (ls : E_L) (st : List E_V) (h : E_H) (t : Nat) : Prop := (na ≤ st.length ∧ (st.drop na).length ≤ 8 ∧ 0 < d ∧ na ≤ P_ml t) ∧ e_wpm (d - 1) t (st.take na).reverse h (e_bk stops d mi Q n nx ls (st.drop na))
def e_ins (stops : List Nat) (d mi : Nat) (Q : Option E_V → E_H → Prop) (n : Nat) (ai : E_I) (ls : E_L) (st : List E_V) (h : E_H) : Prop := match ai with
  | (op, a, b, c, e, nx, l) =>
    if op < 50 then
      if op = 19 ∨ op = 20 ∨ op = 21 then e_sel (e_rt Q h) (e_ret op b st)
      else e_sel (e_go stops d mi Q n) (e_stp d op a b c e nx l ls st h)
    else e_sel (e_cl stops d mi Q n e.toNat nx ls st h) (e_tgt op a b c (st.take e.toNat).reverse h)
theorem e_blk_eq {stops : List Nat} {d mi : Nat} {Q : Option E_V → E_H → Prop} {n pc : Nat} {ls : E_L} {st : List E_V} {h : E_H} : e_blk stops d mi Q (n + 1) pc ls st h = e_ins stops d mi Q n (P_cd mi pc) ls st h := by
  rw [e_blk]
  rfl
theorem e_go_eq {stops : List Nat} {d mi : Nat} {Q : Option E_V → E_H → Prop} {n pc : Nat} {ls : E_L} {st : List E_V} {h : E_H} : e_go stops d mi Q n (pc, ls, st, h) = if e_in pc stops = true then e_wpc d mi pc ls st h Q else e_blk stops d mi Q n pc ls st h := rfl
theorem e_bk_some {stops : List Nat} {d mi : Nat} {Q : Option E_V → E_H → Prop} {n nx : Nat} {ls : E_L} {rest : List E_V} {v : E_V} {h : E_H} : e_bk stops d mi Q n nx ls rest (some v) h = if e_in nx stops = true then e_wpc d mi nx ls (v :: rest) h Q else e_blk stops d mi Q n nx ls (v :: rest) h := rfl
theorem e_bk_none {stops : List Nat} {d mi : Nat} {Q : Option E_V → E_H → Prop} {n nx : Nat} {ls : E_L} {rest : List E_V} {h : E_H} : e_bk stops d mi Q n nx ls rest none h = if e_in nx stops = true then e_wpc d mi nx ls rest h Q else e_blk stops d mi Q n nx ls rest h := rfl
theorem e_ins_eq {stops : List Nat} {d mi : Nat} {Q : Option E_V → E_H → Prop} {n op a b nx : Nat} {c e : Int} {l : List Nat} {ls : E_L} {st : List E_V} {h : E_H} : e_ins stops d mi Q n (op, a, b, c, e, nx, l) ls st h = if op < 50 then (if op = 19 ∨ op = 20 ∨ op = 21 then e_sel (e_rt Q h) (e_ret op b st) else e_sel (e_go stops d mi Q n) (e_stp d op a b c e nx l ls st h)) else e_sel (e_cl stops d mi Q n e.toNat nx ls st h) (e_tgt op a b c (st.take e.toNat).reverse h) := rfl
