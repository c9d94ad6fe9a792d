/-! ===== the evaluator's state against the machine's ===== -/
def g_tys (cA : Nat → ClassId) : List (ClassId × FieldType) := (List.range 8).map (fun k => (cA k, K_at k))
theorem g_tys_get {cA : Nat → ClassId} {k : Nat} (h : k < 8) : (g_tys cA)[k]? = some (cA k, K_at k) := by
  simp [g_tys, h]
theorem K_cl_get {ci : Nat} (h : ci < 11) : K_cl[ci]? = some (K_C ci, K_F ci, K_N ci) := by
  simp [K_cl, h]
/-- the parameters of a launch: where the world begins, where what was there before lies, the script -/
abbrev E_P : Type := va_G × (Nat → ClassId) × Nat × (Nat → Nat) × Nat × (Nat → Int32)
def g_D (G : E_P) : va_G := G.1
def g_cA (G : E_P) : Nat → ClassId := G.2.1
def g_ba (G : E_P) : Nat := G.2.2.1
def g_ex (G : E_P) : Nat → Nat := G.2.2.2.1
def g_L (G : E_P) : Nat := G.2.2.2.2.1
def g_xs (G : E_P) : Nat → Int32 := G.2.2.2.2.2
def g_A (G : E_P) : Nat → Prop := fun q => g_ba G ≤ q
def g_mu (G : E_P) (a : Int) : Nat := if a < 16 then g_ex G a.toNat else g_ba G + (a - 16).toNat
def g_rr (G : E_P) (a : Int) : Option Nat := if a = 0 then none else some (g_mu G a)
def g_V (G : E_P) (v : E_V) (w : Value) : Prop := match v with
  | .inl x => ∃ z : Int32, w = .int z ∧ z.toInt = x
  | .inr a => w = va_rf (g_rr G a)
def g_fv (ci k : Nat) (x : Int) : E_V := if K_ty ci k = 1 then .inr x else .inl x
def g_C (G : E_P) (q : va_E) (kd ln : Int) (v : Int → Int) : Prop := match q with
  | .inr (ci, fs) => kd = ci + 1 ∧ ci < 11 ∧ fs.length = K_N ci ∧ ∀ k : Nat, k < K_N ci → g_V G (g_fv ci k (v k)) (fs.getD k .null)
  | .inl (c, n, .inl f) => ∃ ak : Nat, ak < 3 ∧ kd = 20 + ak ∧ c = g_cA G ak ∧ ln = n ∧ n ≤ 100000 ∧ ∀ j : Nat, j < n → (f j).toInt = v j
  | .inl (c, n, .inr (.inr (.inr (.inr f)))) => ∃ ak : Nat, 3 ≤ ak ∧ ak < 8 ∧ kd = 20 + ak ∧ c = g_cA G ak ∧ ln = n ∧ n ≤ 100000 ∧ ∀ j : Nat, j < n → f j = g_rr G (v j)
  | _ => False
def g_Rw (G : E_P) (ws : va_W) (h : E_H) (H : Heap) : Prop := va_P (g_D G) K_cl ws H ∧ h_sz h = 16 + ws.length ∧ (∀ (i : Nat) (q : Nat × va_E), ws[i]? = some q → q.1 = g_ba G + i ∧ g_C G q.2 (h_kd h (16 + i)) (h_ln h (16 + i)) (h_vl h (16 + i))) ∧ (∀ a : Int, h_sz h ≤ a → h_kd h a = 0) ∧ (∀ a : Int, a < 16 → h_kd h a = if a = 11 then 23 else if a = 13 then 20 else 0) ∧ h_ln h 11 = 0 ∧ h_ln h 13 = g_L G ∧ (∀ j : Nat, j < g_L G → h_vl h 13 j = (g_xs G j).toInt)
def g_R (G : E_P) (h : E_H) (H : Heap) : Prop := ∃ ws : va_W, g_Rw G ws h H
theorem g_Rw.D {G : E_P} {ws : va_W} {h : E_H} {H : Heap} (r : g_Rw G ws h H) : va_D (g_A G) ws := by
  refine ⟨fun i j p q hi hj e => ?_, fun k q hk => ?_⟩
  · have h1 := (r.2.2.1 i p hi).1
    have h2 := (r.2.2.1 j q hj).1
    omega
  · have h1 := (r.2.2.1 k q hk).1
    show g_ba G ≤ q.1
    omega
/-- an object or an array of the world, by its kind -/
theorem g_Rw.at {G : E_P} {ws : va_W} {h : E_H} {H : Heap} (r : g_Rw G ws h H) {a : Int} (h1 : 16 ≤ a) (h2 : h_kd h a ≠ 0) : ∃ (i : Nat) (e : va_E), a = 16 + i ∧ g_mu G a = g_ba G + i ∧ ws[i]? = some (g_ba G + i, e) ∧ g_C G e (h_kd h a) (h_ln h a) (h_vl h a) := by
  obtain ⟨hP, hsz, hc, hz, -⟩ := r
  have hlt : a < h_sz h := by
    rcases Int.lt_or_le a (h_sz h) with q | q
    · exact q
    · exact absurd (hz a q) h2
  obtain ⟨i, rfl⟩ : ∃ i : Nat, a = 16 + i := ⟨(a - 16).toNat, by omega⟩
  have hi : i < ws.length := by omega
  have he := List.getElem?_eq_getElem hi
  obtain ⟨h3, h4⟩ := hc i _ he
  refine ⟨i, (ws[i]).2, rfl, ?_, ?_, h4⟩
  · unfold g_mu
    rw [if_neg (by omega)]
    congr 1
    omega
  · rw [he]
    congr 1
    exact Prod.ext h3 rfl
theorem g_Rw.lo {G : E_P} {ws : va_W} {h : E_H} {H : Heap} (r : g_Rw G ws h H) {a : Int} (h2 : h_kd h a ≠ 0) : 16 ≤ a ∨ a = 11 ∨ a = 13 := by
  rcases Int.lt_or_le a 16 with q | q
  · have h5 := r.2.2.2.2.1 a q
    by_cases e1 : a = 11
    · exact Or.inr (Or.inl e1)
    · by_cases e2 : a = 13
      · exact Or.inr (Or.inr e2)
      · rw [if_neg e1, if_neg e2] at h5
        exact absurd h5 h2
  · exact Or.inl q
theorem g_Rw.obj {G : E_P} {ws : va_W} {h : E_H} {H : Heap} (r : g_Rw G ws h H) {a : Int} {ci : Nat} (hci : ci < 11) (h2 : h_kd h a = ci + 1) : ∃ (i : Nat) (fs : List Value), a = 16 + i ∧ g_rr G a = some (g_ba G + i) ∧ ws[i]? = some (g_ba G + i, .inr (ci, fs)) ∧ fs.length = K_N ci ∧ ∀ k : Nat, k < K_N ci → g_V G (g_fv ci k (h_vl h a k)) (fs.getD k .null) := by
  have hlo : 16 ≤ a := by
    rcases r.lo (a := a) (by omega) with q | q | q
    · exact q
    · subst q
      have h5 := r.2.2.2.2.1 11 (by omega)
      rw [if_pos rfl] at h5
      omega
    · subst q
      have h5 := r.2.2.2.2.1 13 (by omega)
      rw [if_neg (by omega), if_pos rfl] at h5
      omega
  obtain ⟨i, e, e1, e2, e3, e4⟩ := r.at hlo (by omega)
  have hrr : g_rr G a = some (g_ba G + i) := by
    unfold g_rr
    rw [if_neg (by omega), e2]
  rcases e with ⟨c, n, f | f | f | f | f⟩ | ⟨cj, fs⟩
  · obtain ⟨ak, k1, k2, -⟩ := e4
    omega
  · exact e4.elim
  · exact e4.elim
  · exact e4.elim
  · obtain ⟨ak, k0, k1, k2, -⟩ := e4
    omega
  · obtain ⟨k1, k2, k3, k4⟩ := e4
    have : cj = ci := by omega
    subst this
    exact ⟨i, fs, e1, hrr, e3, k3, k4⟩
theorem g_Rw.iar {G : E_P} {ws : va_W} {h : E_H} {H : Heap} (r : g_Rw G ws h H) {a : Int} {ak : Nat} (hak : ak < 3) (h2 : h_kd h a = 20 + ak) (h13 : a ≠ 13) : ∃ (i n : Nat) (f : Nat → Int32), a = 16 + i ∧ g_rr G a = some (g_ba G + i) ∧ ws[i]? = some (g_ba G + i, .inl (g_cA G ak, n, .inl f)) ∧ h_ln h a = n ∧ n ≤ 100000 ∧ ∀ j : Nat, j < n → (f j).toInt = h_vl h a j := by
  have hlo : 16 ≤ a := by
    rcases r.lo (a := a) (by omega) with q | q | q
    · exact q
    · subst q
      have h5 := r.2.2.2.2.1 11 (by omega)
      rw [if_pos rfl] at h5
      omega
    · exact absurd q h13
  obtain ⟨i, e, e1, e2, e3, e4⟩ := r.at hlo (by omega)
  have hrr : g_rr G a = some (g_ba G + i) := by
    unfold g_rr
    rw [if_neg (by omega), e2]
  rcases e with ⟨c, n, f | f | f | f | f⟩ | ⟨cj, fs⟩
  · obtain ⟨aj, k1, k2, k3, k4⟩ := e4
    have : aj = ak := by omega
    subst this
    subst k3
    exact ⟨i, n, f, e1, hrr, e3, k4⟩
  · exact e4.elim
  · exact e4.elim
  · exact e4.elim
  · obtain ⟨ak, k0, k1, k2, -⟩ := e4
    omega
  · obtain ⟨k1, k2, k3, k4⟩ := e4
    omega
theorem g_Rw.rar {G : E_P} {ws : va_W} {h : E_H} {H : Heap} (r : g_Rw G ws h H) {a : Int} (h2 : 23 ≤ h_kd h a) (h13 : a ≠ 11) : ∃ (ak i n : Nat) (f : Nat → Option Nat), 3 ≤ ak ∧ ak < 8 ∧ h_kd h a = 20 + ak ∧ a = 16 + i ∧ g_rr G a = some (g_ba G + i) ∧ ws[i]? = some (g_ba G + i, .inl (g_cA G ak, n, .inr (.inr (.inr (.inr f))))) ∧ h_ln h a = n ∧ n ≤ 100000 ∧ ∀ j : Nat, j < n → f j = g_rr G (h_vl h a j) := by
  have hlo : 16 ≤ a := by
    rcases r.lo (a := a) (by omega) with q | q | q
    · exact q
    · exact absurd q h13
    · subst q
      have h5 := r.2.2.2.2.1 13 (by omega)
      rw [if_neg (by omega), if_pos rfl] at h5
      omega
  obtain ⟨i, e, e1, e2, e3, e4⟩ := r.at hlo (by omega)
  have hrr : g_rr G a = some (g_ba G + i) := by
    unfold g_rr
    rw [if_neg (by omega), e2]
  rcases e with ⟨c, n, f | f | f | f | f⟩ | ⟨cj, fs⟩
  · obtain ⟨aj, k1, k2, k3, k4⟩ := e4
    omega
  · exact e4.elim
  · exact e4.elim
  · exact e4.elim
  · obtain ⟨ak, k0, k1, k2, k3, k4⟩ := e4
    subst k3
    exact ⟨ak, i, n, f, k0, k1, k2, e1, hrr, e3, k4⟩
  · obtain ⟨k1, k2, k3, k4⟩ := e4
    omega
/-- a store in cell i: what is left is that one cell -/
theorem g_Rw.put {G : E_P} {ws : va_W} {h : E_H} {H H1 : Heap} (r : g_Rw G ws h H) {i : Nat} {e0 e : va_E} {a k x : Int} (he : ws[i]? = some (g_ba G + i, e0)) (ha : a = 16 + i) (hP : va_P (g_D G) K_cl (ws.set i (g_ba G + i, e)) H1) (hC : g_C G e (h_kd h a) (h_ln h a) (h_vl (h_put h a k x) a)) : g_Rw G (ws.set i (g_ba G + i, e)) (h_put h a k x) H1 := by
  obtain ⟨-, hsz, hc, hz, h16, h11, h13, hxs⟩ := r
  have hi : i < ws.length := (List.getElem?_eq_some_iff.mp he).1
  have hout : ∀ b j : Int, b ≠ a → h_vl (h_put h a k x) b j = h_vl h b j := by
    intro b j hb
    simp [h_vl, h_put, hb]
  refine ⟨hP, by rw [List.length_set]; exact hsz, ?_, hz, h16, h11, h13, fun j hj => by rw [hout _ _ (by omega)]; exact hxs j hj⟩
  intro j q hq
  by_cases hji : j = i
  · subst hji
    rw [List.getElem?_set_self hi] at hq
    cases hq
    subst ha
    exact ⟨rfl, hC⟩
  · rw [List.getElem?_set_ne (Ne.symm hji)] at hq
    obtain ⟨h1, h2⟩ := hc j q hq
    refine ⟨h1, ?_⟩
    have e1 : h_vl (h_put h a k x) (16 + (j : Int)) = h_vl h (16 + (j : Int)) := by
      funext z
      exact hout _ _ (by omega)
    rw [e1]
    exact h2
theorem g_V.cat {G : E_P} {v : E_V} {w : Value} (h : g_V G v w) : w.category = 1 := by
  rcases v with x | a
  · obtain ⟨z, rfl, -⟩ := h
    rfl
  · have h : w = va_rf (g_rr G a) := h
    subst h
    rcases g_rr G a with _ | b <;> rfl
/-- locals and stack -/
def g_Lc (G : E_P) (n : Nat) (ls : E_L) (ls' : Array Slot) : Prop := ls'.size = n ∧ lv_wf ls' ∧ ls.length = n ∧ ∀ (i : Nat) (v : E_V), ls[i]? = some (some v) → ∃ w, ls'[i]? = some (.val w) ∧ g_V G v w
def g_St (G : E_P) : List E_V → List Value → Prop
  | [], [] => True
  | v :: r, w :: s => g_V G v w ∧ g_St G r s
  | _, _ => False
theorem g_St.app {G : E_P} : ∀ {a b : List E_V} {a' b' : List Value}, g_St G a a' → g_St G b b' → g_St G (a ++ b) (a' ++ b')
  | [], _, [], _, _, h => h
  | _ :: _, _, _ :: _, _, h1, h2 => ⟨h1.1, h1.2.app h2⟩
  | [], _, _ :: _, _, h, _ => h.elim
  | _ :: _, _, [], _, h, _ => h.elim
theorem g_St.len {G : E_P} : ∀ {a : List E_V} {a' : List Value}, g_St G a a' → a'.length = a.length
  | [], [], _ => rfl
  | _ :: _, _ :: _, h => by rw [List.length_cons, List.length_cons, h.2.len]
  | [], _ :: _, h => h.elim
  | _ :: _, [], h => h.elim
theorem g_St.rev {G : E_P} : ∀ {a : List E_V} {a' : List Value}, g_St G a a' → g_St G a.reverse a'.reverse
  | [], [], _ => trivial
  | v :: r, w :: s, h => by
    rw [List.reverse_cons, List.reverse_cons]
    exact h.2.rev.app ⟨h.1, trivial⟩
  | [], _ :: _, h => h.elim
  | _ :: _, [], h => h.elim
theorem g_St.take {G : E_P} (n : Nat) : ∀ {a : List E_V} {a' : List Value}, g_St G a a' → g_St G (a.take n) (a'.take n) := by
  induction n with
  | zero => intro a a' _; simp [g_St]
  | succ n ih =>
    intro a a' h
    match a, a', h with
    | [], [], _ => trivial
    | v :: r, w :: s, h => exact ⟨h.1, ih h.2⟩
theorem g_St.drop {G : E_P} (n : Nat) : ∀ {a : List E_V} {a' : List Value}, g_St G a a' → g_St G (a.drop n) (a'.drop n) := by
  induction n with
  | zero => intro a a' h; exact h
  | succ n ih =>
    intro a a' h
    match a, a', h with
    | [], [], _ => trivial
    | v :: r, w :: s, h => exact ih h.2
theorem g_St.cats {G : E_P} : ∀ {a : List E_V} {a' : List Value}, g_St G a a' → (a'.map fun v => v.category).sum = a.length
  | [], [], _ => rfl
  | _ :: _, _ :: _, h => by rw [List.map_cons, List.sum_cons, h.1.cat, h.2.cats, List.length_cons, Nat.add_comm]
  | [], _ :: _, h => h.elim
  | _ :: _, [], h => h.elim
/-- every listed local of one slot -/
def g_lv (n : Nat) (ls' : Array Slot) : List (Nat × Value) := (List.range n).filterMap (fun (j : Nat) => match ls'[j]? with | some (Slot.val w) => if w.category = 1 then some (j, w) else none | _ => none)
theorem g_lv_mem {n : Nat} {ls' : Array Slot} {j : Nat} {w : Value} (h : ls'[j]? = some (.val w)) (hc : w.category = 1) (hj : j < n) : (j, w) ∈ g_lv n ls' := by
  refine List.mem_filterMap.mpr ⟨j, List.mem_range.mpr hj, ?_⟩
  simp [h, hc]
theorem g_lv_has {n : Nat} {ls' : Array Slot} (h1 : ls'.size = n) (h2 : lv_wf ls') : lv_has ls' n (g_lv n ls') := by
  refine ⟨h1, h2, fun q hq => ?_⟩
  obtain ⟨j, -, hj⟩ := List.mem_filterMap.mp hq
  split at hj
  · rename_i w hw
    split at hj
    · cases hj
      exact hw
    · cases hj
  · cases hj
theorem g_Lc.set {G : E_P} {n : Nat} {ls : E_L} {ls' ls'' : Array Slot} {i : Nat} {v : E_V} {w : Value} (h : g_Lc G n ls ls') (hv : g_V G v w) (hi : i < n) (hs : lv_has ls'' n ((i, w) :: (g_lv n ls').filter (fun q => !(q.1 == i) && !(q.1 + 1 == i && q.2.category == 2)))) : g_Lc G n (ls.set i (some v)) ls'' := by
  obtain ⟨h1, h2, h3, h4⟩ := h
  refine ⟨hs.1, hs.2.1, by rw [List.length_set]; exact h3, fun j u hj => ?_⟩
  by_cases hji : j = i
  · subst hji
    rw [List.getElem?_set_self (by omega)] at hj
    cases hj
    exact ⟨w, hs.2.2 (j, w) List.mem_cons_self, hv⟩
  · rw [List.getElem?_set_ne (Ne.symm hji)] at hj
    obtain ⟨w', hw', hv'⟩ := h4 j u hj
    refine ⟨w', hs.2.2 (j, w') (List.mem_cons_of_mem _ (List.mem_filter.mpr ⟨g_lv_mem hw' hv'.cat ?_, ?_⟩)), hv'⟩
    · have := lv_lt hw'
      omega
    · simp [hji, hv'.cat]
/-- at a method's entry -/
theorem g_sl_one : ∀ {vs : List Value}, (∀ w ∈ vs, w.category = 1) → lg_sl vs = vs.map Slot.val
  | [], _ => rfl
  | w :: vs, h => by
    have h1 : ¬ w.category = 2 := by rw [h w List.mem_cons_self]; decide
    have h2 := g_sl_one (vs := vs) (fun z hz => h z (List.mem_cons_of_mem _ hz))
    unfold lg_sl at h2 ⊢
    rw [List.flatMap_cons, h2, if_neg h1]
    rfl
theorem g_args_one : ∀ {vs : List Value} {i : Nat}, (∀ w ∈ vs, w.category = 1) → ∀ (j : Nat) (w : Value), vs[j]? = some w → (i + j, w) ∈ lv_args i vs
  | [], _, _, j, w, h => by simp at h
  | v :: vs, i, hc, j, w, h => by
    have h1 : ¬ v.category = 2 := by rw [hc v List.mem_cons_self]; decide
    rw [lv_args, if_neg h1]
    cases j with
    | zero =>
      rw [List.getElem?_cons_zero] at h
      cases h
      exact List.mem_cons_self
    | succ j =>
      rw [List.getElem?_cons_succ] at h
      have := g_args_one (i := i + 1) (fun z hz => hc z (List.mem_cons_of_mem _ hz)) j w h
      rw [show i + (j + 1) = i + 1 + j by omega]
      exact List.mem_cons_of_mem _ this
theorem g_St.catsA {G : E_P} : ∀ {a : List E_V} {a' : List Value}, g_St G a a' → ∀ w ∈ a', w.category = 1
  | [], [], _, w, hw => by simp at hw
  | _ :: _, _ :: _, h, w, hw => by
    rcases List.mem_cons.mp hw with rfl | hw
    · exact h.1.cat
    · exact h.2.catsA w hw
  | [], _ :: _, h, _, _ => h.elim
  | _ :: _, [], h, _, _ => h.elim
theorem g_St.get {G : E_P} : ∀ {a : List E_V} {a' : List Value}, g_St G a a' → ∀ (i : Nat) (v : E_V), a[i]? = some v → ∃ w, a'[i]? = some w ∧ g_V G v w
  | [], [], _, i, v, hi => by simp at hi
  | _ :: _, w :: _, h, 0, v, hi => by
    rw [List.getElem?_cons_zero] at hi
    cases hi
    exact ⟨w, rfl, h.1⟩
  | _ :: _, _ :: _, h, i + 1, v, hi => by
    rw [List.getElem?_cons_succ] at hi
    exact h.2.get i v hi
  | [], _ :: _, h, _, _, _ => h.elim
  | _ :: _, [], h, _, _, _ => h.elim
theorem g_enter {G : E_P} {args : List E_V} {vs : List Value} {n : Nat} (h : g_St G args vs) (hn : args.length ≤ n) : g_Lc G n (e_ent n args) ((lg_sl vs ++ List.replicate (n - (lg_sl vs).length) Slot.unset).toArray) := by
  have hlen := h.len
  have hsl : (lg_sl vs).length = vs.length := by rw [g_sl_one h.catsA, List.length_map]
  obtain ⟨h1, h2, h3⟩ := lv_entry vs (n := n) (by omega)
  refine ⟨h1, h2, ?_, fun i v hi => ?_⟩
  · unfold e_ent
    rw [List.length_append, List.length_map, List.length_replicate]
    omega
  · unfold e_ent at hi
    by_cases hil : i < args.length
    · rw [List.getElem?_append_left (by rw [List.length_map]; exact hil), List.getElem?_map] at hi
      cases hai : args[i]? with
      | none => rw [hai] at hi; cases hi
      | some u =>
        rw [hai] at hi
        have : u = v := by simpa using hi
        subst this
        obtain ⟨w, hw, hv⟩ := h.get i u hai
        refine ⟨w, h3 (i, w) ?_, hv⟩
        have := g_args_one (i := 0) h.catsA i w hw
        rwa [Nat.zero_add] at this
    · rw [List.getElem?_append_right (by rw [List.length_map]; omega), List.getElem?_replicate] at hi
      split at hi <;> cases hi
