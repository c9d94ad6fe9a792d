/-! THE CLAIM OUT OF ONE WALK OF THE LAW'S BODY. Your part is whole_start (and what it stands on); all else here is the same for every law, but numbers. -/
def R_law : String := "LogStoreLaw"
def lw_P (b : Addr) (xs : List Int32) (args : Array Value) (s : State) : Prop := args = #[.ref b] ∧ s.IntsAt b xs ∧ xs.length ≤ 2048 ∧ (Jvm.Cond.and given_1 narrow_1).before args s = true
def lw_Q (_ : Array Value) (s : State) (o : Outcome) (t : State) : Prop := o = .returned (some (.int 1)) ∧ Framed s o t [] 600000 7302250
def lw_Z (below : List Frame) (a : Array Value) (s : State) : State → Prop := fun t => ∃ o, t.status = .running ∧ Ended t below o ∧ lw_Q a s o t
/-- the law's own end, with 1 on the stack, nothing written that was there before, its room as the claim has it -/
theorem lw_ret {p : Program} {l : Launch} {e : Env} {s : State} {m : MethodId} {below : List Frame} {meth : Method} {c : Code} {b : Nat} (hx : p.tables.exec = Jvm.exec) (hb : c.code = code) (hr : meth.sig.returnType = ret) (hlocks : meth.locks = false) {pc : Nat} {H : Heap} {ls : Array Slot} (hdg : decode code pc = .ok (.ireturn, 1)) : W p l e room_1 s m #[Value.ref b] below meth c H [] 600000 7302250 (lw_Z below #[Value.ref b] s) (F0 m pc ls [.int 1]) := by
  intro T hT X
  obtain ⟨fs, hret, hrun, hended, hW, hframe⟩ := X.leave (v := some (.int 1)) (hlocks := hlocks) (fun h => by rw [hr] at h; cases h)
  have hmeth' : T.vm.method? m = some meth := X.method'
  refine ⟨T.setFrames fs, ?_, .returned (some (.int 1)), hrun, hended, rfl, ⟨_, rfl⟩, hW, hframe⟩
  jvm_step X.here [X.here.top, hx, hb, hdg, hmeth', hr, ret, narrow_b1]
  (try refine ⟨rfl, ?_⟩); (try refine ⟨rfl, ?_⟩)
  first | (intro acts; rw [hret _ acts rfl rfl rfl]) | rw [hret _ _ rfl rfl rfl]
  exact Steps.refl _
/-- what holds at the law's entry: the machine, the code, the tables' words (any of lw_tbl by 'hts w (by decide +kernel)'), the script of L ints xs at the cell b, what the Statement gives of the start (any of its parts by flat_of_before) -/
def lw_At (p : Program) (s : State) (m : MethodId) (meth : Method) (c : Code) (b L : Nat) (xs : Nat → Int32) : Prop :=
  p.tables.exec = Jvm.exec ∧ c.code = code ∧ meth.sig.returnType = ret ∧ c.maxLocals = 4 ∧ s.vm.findClass R_law = some m.cls ∧ (∀ w ∈ lw_tbl, w.before #[Value.ref b] s = true) ∧ va_X b L xs s s.heap ∧ b < s.heap.size ∧ meth.locks = false ∧ (Jvm.Cond.and given_1 narrow_1).before #[Value.ref b] s = true
-- ===== YOUR PART BEGINS =====
/-! ===== the law's start: the parameters, and the claim out of one run of the evaluator ===== -/
def e_h0 (L : Int) (xs : Int → Int) : E_H := (16, 0, fun a => if a = 11 then 23 else if a = 13 then 20 else 0, fun a => if a = 13 then L else 0, fun a j => if a = 13 then xs j else 0)
def st_N : List Jvm.Cond := flatC (Jvm.Cond.and given_1 narrow_1)
abbrev st_T (k : Nat) : Jvm.Term := .static (K_stc k).1 (K_stc k).2.1 (K_stc k).2.2
theorem st_ex : ∀ k, 1 ≤ k → k ≤ 10 → Jvm.Cond.exactly (st_T k) (K_stc k).1 ∈ st_N := by
  have h : (List.range 10).all (fun i => decide (Jvm.Cond.exactly (st_T (i + 1)) (K_stc (i + 1)).1 ∈ st_N)) = true := by decide +kernel
  intro k h1 h2
  have := of_decide_eq_true (List.all_eq_true.mp h (k - 1) (List.mem_range.mpr (by omega)))
  rwa [show k - 1 + 1 = k by omega] at this
theorem st_ne : ∀ i j, 1 ≤ i → i ≤ 10 → 1 ≤ j → j ≤ 10 → i ≠ j → Jvm.Cond.not (.eq (st_T i) (st_T j)) ∈ st_N ∨ Jvm.Cond.not (.eq (st_T j) (st_T i)) ∈ st_N := by
  have h : (List.range 10).all (fun i => (List.range 10).all (fun j => decide (i = j) || (decide (Jvm.Cond.not (.eq (st_T (i + 1)) (st_T (j + 1))) ∈ st_N) || decide (Jvm.Cond.not (.eq (st_T (j + 1)) (st_T (i + 1))) ∈ st_N)))) = true := by decide +kernel
  intro i j i1 i2 j1 j2 hij
  have := List.all_eq_true.mp (List.all_eq_true.mp h (i - 1) (List.mem_range.mpr (by omega))) (j - 1) (List.mem_range.mpr (by omega))
  rw [show i - 1 + 1 = i by omega, show j - 1 + 1 = j by omega, Bool.or_eq_true, Bool.or_eq_true, decide_eq_true_eq, decide_eq_true_eq, decide_eq_true_eq] at this
  rcases this with h | h
  · omega
  · exact h
theorem st_or : ∀ k, 5 ≤ k → k ≤ 10 → Jvm.Cond.eq (.field (st_T k) "java/lang/Enum" "ordinal" "I") (.int (Int32.ofInt ((k : Int) - 4))) ∈ st_N := by
  have h : (List.range 6).all (fun i => decide (Jvm.Cond.eq (.field (st_T (i + 5)) "java/lang/Enum" "ordinal" "I") (.int (Int32.ofInt (((i + 5 : Nat) : Int) - 4))) ∈ st_N)) = true := by decide +kernel
  intro k h1 h2
  have := of_decide_eq_true (List.all_eq_true.mp h (k - 5) (List.mem_range.mpr (by omega)))
  rwa [show k - 5 + 5 = k by omega] at this
theorem st_lay : ∀ k, 1 ≤ k → k ≤ 11 → Jvm.Cond.laysStatic (K_stc k).1 (K_stc k).2.1 (K_stc k).2.2 ∈ lw_tbl ∧ Jvm.Cond.initialized (K_stc k).1 ∈ lw_tbl := by
  have h : (List.range 11).all (fun i => decide (Jvm.Cond.laysStatic (K_stc (i + 1)).1 (K_stc (i + 1)).2.1 (K_stc (i + 1)).2.2 ∈ lw_tbl) && decide (Jvm.Cond.initialized (K_stc (i + 1)).1 ∈ lw_tbl)) = true := by decide +kernel
  intro k h1 h2
  have := List.all_eq_true.mp h (k - 1) (List.mem_range.mpr (by omega))
  rw [show k - 1 + 1 = k by omega, Bool.and_eq_true, decide_eq_true_eq, decide_eq_true_eq] at this
  exact this
theorem st_E : Jvm.Cond.arrayOf (st_T 11) (.object "java/lang/Object") ∈ st_N ∧ Jvm.Cond.eq (.length (st_T 11)) (.int 0) ∈ st_N ∧ Jvm.Cond.isRef (.mirror "[Ljava/lang/Object;") ∈ st_N := by
  have h1 : decide (Jvm.Cond.arrayOf (st_T 11) (.object "java/lang/Object") ∈ st_N) = true := by decide +kernel
  have h2 : decide (Jvm.Cond.eq (.length (st_T 11)) (.int 0) ∈ st_N) = true := by decide +kernel
  have h3 : decide (Jvm.Cond.isRef (.mirror "[Ljava/lang/Object;") ∈ st_N) = true := by decide +kernel
  exact ⟨of_decide_eq_true h1, of_decide_eq_true h2, of_decide_eq_true h3⟩
theorem st_ao : ∀ k, 3 ≤ k → k < 8 → ∀ C, K_at k = .object C → Jvm.Cond.arrayOver (.object C) ∈ lw_tbl := by
  have h : (List.range 5).all (fun i => decide (Jvm.Cond.arrayOver (K_at (i + 3)) ∈ lw_tbl)) = true := by decide +kernel
  intro k h1 h2 C hC
  have := of_decide_eq_true (List.all_eq_true.mp h (k - 3) (List.mem_range.mpr (by omega)))
  rwa [show k - 3 + 3 = k by omega, hC] at this
theorem st_dc : Jvm.Cond.declares ⟨"java/lang/Object", "getClass", "()Ljava/lang/Class;"⟩ ∈ lw_tbl := by
  have h1 : decide (Jvm.Cond.declares ⟨"java/lang/Object", "getClass", "()Ljava/lang/Class;"⟩ ∈ lw_tbl) = true := by decide +kernel
  exact of_decide_eq_true h1
theorem st_fa : ∀ q ∈ P_fxs, k_fa q.1 = true := by
  have h : P_fxs.all (fun q => k_fa q.1) = true := by decide +kernel
  exact fun q hq => List.all_eq_true.mp h q hq
theorem st_K3 : ∀ k, k < 3 → K_at k = .int ∨ K_at k = .byte ∨ K_at k = .boolean := by
  intro k hk
  rcases (by omega : k = 0 ∨ k = 1 ∨ k = 2) with rfl | rfl | rfl
  · exact Or.inl rfl
  · exact Or.inr (Or.inl rfl)
  · exact Or.inr (Or.inr rfl)
section ST
variable {s : State} {args : Array Value}
theorem st_arr (hts : ∀ w ∈ lw_tbl, w.before args s = true) (k : Nat) (hk : k < 8) : ∃ cB : ClassId, ArrOfT s cB (K_at k) ∧ va_RA s cB (K_at k) := by
  by_cases h3 : k < 3
  · have hw : (Jvm.Cond.arrayClass (K_at k)).before args s = true := by
      refine hts _ (List.mem_filter.mp (?_ : _ ∈ k_T)).1
      rcases st_K3 k h3 with h | h | h <;> rw [h]
      · exact K_arr.1
      · exact K_arr.2.1
      · exact K_arr.2.2
    obtain ⟨cB, kB, comp, h1, h2, h4⟩ := Cond.arrayClass_spec hw
    refine ⟨cB, fun n z => ⟨fun k h => (by cases h), kB, h2, comp, h4⟩, ?_⟩
    rcases st_K3 k h3 with h | h | h <;> rw [h] at h1 ⊢ <;> exact h1
  · obtain ⟨C, hC⟩ := K_atO k (by omega) hk
    obtain ⟨comp, cB, kB, h1, h2, h4, h5, h6⟩ := Cond.arrayOver_spec (hts _ (st_ao k (by omega) hk C hC))
    rw [hC]
    exact ⟨cB, fun n z => ⟨fun k h => (by cases h), kB, h4, comp, h5⟩, kB, comp, h4, h5, h1, h6⟩
/-- the parameters at the law's entry -/
theorem st_G {b L : Nat} {xs : Nat → Int32} (hts : ∀ w ∈ lw_tbl, w.before args s = true) (hgv : (Jvm.Cond.and given_1 narrow_1).before args s = true) (hX : va_X b L xs s s.heap) (hbl : b < s.heap.size) (hL : L ≤ 2048) :
    ∃ G : E_P, g_ba G = s.heap.size ∧ g_ex G 13 = b ∧ g_L G = L ∧ g_xs G = xs ∧ g_W G ∧ g_E G s ∧ va_K (g_D G) K_cl (g_tys (g_cA G)) s := by
  have hN := flat_of_before _ hgv
  have hkT : ∀ w ∈ k_T, w.before args s = true := fun w hw => hts w (List.mem_filter.mp hw).1
  have hA : ∀ a : Nat, a < s.heap.size → ¬ (fun q : Nat => s.heap.size ≤ q) a := fun a h => Nat.not_le.mpr h
  have hcl : ∀ ci : Nat, ∃ q : ClassId × (Nat → Nat), ci < 11 → u_Kn s (K_C ci) (K_F ci) (K_N ci) q.1 q.2 := by
    intro ci
    by_cases h : ci < 11
    · obtain ⟨cC, iS, hk⟩ := u_known hkT (K_in ci h) (hkT _ (K_ini ci h).1)
      exact ⟨(cC, iS), fun _ => hk⟩
    · exact ⟨(0, fun _ => 0), fun z => absurd z h⟩
  obtain ⟨fD, hfD⟩ := Classical.axiomOfChoice hcl
  have har : ∀ k : Nat, ∃ cB : ClassId, k < 8 → ArrOfT s cB (K_at k) ∧ va_RA s cB (K_at k) := by
    intro k
    by_cases h : k < 8
    · obtain ⟨cB, hB⟩ := st_arr hts k h
      exact ⟨cB, fun _ => hB⟩
    · exact ⟨0, fun z => absurd z h⟩
  obtain ⟨fA, hfA⟩ := Classical.axiomOfChoice har
  have h11l : (Jvm.Term.length (st_T 11)).eval args s none [] s = some (.int (Int32.ofNat 0)) := va_eqt (hN _ st_E.2.1)
  obtain ⟨t11, ht11, hT11⟩ := va_Tof (f := fun _ => .null) (A := fun q : Nat => s.heap.size ≤ q) (by decide) (hN _ st_E.1) h11l (fun j hj => absurd hj (Nat.not_lt_zero j)) hA
  obtain ⟨mi12, hM12⟩ := va_Mi.of (hN _ st_E.2.2)
  have hst : ∀ k : Nat, ∃ t : Nat, 1 ≤ k → k ≤ 10 → (st_T k).eval args s none [] s = some (.ref t) ∧ va_O (K_stc k).1 t (fun q : Nat => s.heap.size ≤ q) s s.heap ∧ t < s.heap.size := by
    intro k
    by_cases h : 1 ≤ k ∧ k ≤ 10
    · obtain ⟨a, c, cell, kk, q1, q2, q3, q4, q5, q6, -⟩ := Cond.exactly_spec (hN _ (st_ex k h.1 h.2))
      have hlt := (Array.getElem?_eq_some_iff.mp q3).1
      exact ⟨a, fun _ _ => ⟨q1, ⟨cell, q3, q5, by rw [q6]; exact q2, hA a hlt⟩, hlt⟩⟩
    · exact ⟨0, fun z1 z2 => absurd ⟨z1, z2⟩ h⟩
  obtain ⟨ad, had⟩ := Classical.axiomOfChoice hst
  have h11lt : t11 < s.heap.size := by
    obtain ⟨cell, h1, -⟩ := hT11
    exact (Array.getElem?_eq_some_iff.mp h1).1
  obtain ⟨ex, hex⟩ : ∃ ex : Nat → Nat, ex = fun k => if k = 12 then mi12 else if k = 11 then t11 else if 1 ≤ k ∧ k ≤ 10 then ad k else b := ⟨_, rfl⟩
  have ex12 : ex 12 = mi12 := by rw [hex]; rfl
  have ex11 : ex 11 = t11 := by rw [hex]; rfl
  have ex13 : ex 13 = b := by rw [hex]; rfl
  have exk : ∀ k, 1 ≤ k → k ≤ 10 → ex k = ad k := by
    intro k h1 h2
    rw [hex]
    show (if k = 12 then mi12 else if k = 11 then t11 else if 1 ≤ k ∧ k ≤ 10 then ad k else b) = ad k
    rw [if_neg (by omega), if_neg (by omega), if_pos ⟨h1, h2⟩]
  let G : E_P := ((fun ci => (fD ci).1, fun ci => (fD ci).2), fA, s.heap.size, ex, L, xs)
  refine ⟨G, rfl, ex13, rfl, rfl, ⟨?_, ?_, hL⟩, ?_, ?_⟩
  · intro k hk
    show ex k < s.heap.size
    rw [hex]
    show (if k = 12 then mi12 else if k = 11 then t11 else if 1 ≤ k ∧ k ≤ 10 then ad k else b) < s.heap.size
    rw [if_neg hk]
    split
    · exact h11lt
    · split
      · rename_i h
        exact (had k h.1 h.2).2.2
      · exact hbl
  · intro i j i1 i2 j1 j2 he
    have he : ex i = ex j := he
    rw [exk i i1 i2, exk j j1 j2] at he
    by_cases hij : i = j
    · exact hij
    · rcases st_ne i j i1 i2 j1 j2 hij with h | h
      · exact absurd he (va_neR (hN _ h) (had i i1 i2).1 (had j j1 j2).1)
      · exact absurd he.symm (va_neR (hN _ h) (had j j1 j2).1 (had i i1 i2).1)
  · refine ⟨fun w hw => ?_, fun w hw => ?_, fun q hq => ?_, fun k C hk hC => ?_, va_Dc.of (hts _ st_dc), fun k k1 k2 => ?_, ?_, ?_, ?_, fun k k1 k2 => ?_⟩
    · obtain ⟨own, i, y, host, rfl⟩ := k_nst_form w hw
      unfold k_nst at hw
      obtain ⟨j, -, hj⟩ := List.mem_filterMap.mp hw
      exact va_any rfl (hts _ (List.mem_of_getElem? hj))
    · obtain ⟨x, y, rfl⟩ := k_cst_form w hw
      unfold k_cst at hw
      obtain ⟨j, -, hj⟩ := List.mem_filterMap.mp hw
      exact va_any rfl (hts _ (List.mem_of_getElem? hj))
    · have h := st_fa q hq
      unfold k_fa at h
      generalize P_ix q.1 = qq at h
      obtain ⟨ic, ii, im, is, kd, n⟩ := qq
      dsimp only at h
      simp only [Bool.and_eq_true, decide_eq_true_eq] at h
      obtain ⟨-, -, -, -, -, -, -, h7⟩ := h
      unfold k_fc at h7
      split at h7
      · simp only [Bool.and_eq_true] at h7
        exact va_Fw.of (hts _ (k_iw_mem h7.2.2.2.2.1)) (hts _ (k_iw_mem h7.2.2.2.2.2)) (hts _ (k_iw_mem h7.2.1)) (hts _ (k_iw_mem h7.2.2.1)) (hts _ (k_iw_mem h7.2.2.2.1))
      · cases h7
    · by_cases h3 : k < 3
      · rcases st_K3 k h3 with h | h | h <;> rw [h] at hC <;> cases hC
      · exact va_AO.of (hts _ (st_ao k (by omega) hk C hC))
    · show va_Z _ _ _ (.ref (ex k)) (fun q : Nat => s.heap.size ≤ q) s s.heap
      obtain ⟨l1, l2⟩ := st_lay k k1 k2
      by_cases h11 : k = 11
      · subst h11
        rw [ex11]
        exact va_Zref (hts _ l1) (hts _ l2) ht11 hA
      · rw [exk k k1 (by omega)]
        exact va_Zref (hts _ l1) (hts _ l2) (had k k1 (by omega)).1 hA
    · show va_X (ex 13) L xs s s.heap
      rw [ex13]
      exact hX
    · show va_T _ (ex 11) 0 _ (fun q : Nat => s.heap.size ≤ q) s s.heap
      rw [ex11]
      exact hT11
    · show va_Mi _ (ex 12) s
      rw [ex12]
      exact hM12
    · have hk10 := had k (by omega) k2
      have hcls : (K_stc k).1 = "LogStore$State" := by
        rcases (by omega : k = 5 ∨ k = 6 ∨ k = 7 ∨ k = 8 ∨ k = 9 ∨ k = 10) with rfl | rfl | rfl | rfl | rfl | rfl <;> rfl
      refine ⟨?_, ?_⟩
      · show va_O _ (ex k) (fun q : Nat => s.heap.size ≤ q) s s.heap
        rw [exk k (by omega) k2, ← hcls]
        exact hk10.2.1
      · show va_OF _ _ _ _ (ex k) (fun q : Nat => s.heap.size ≤ q) s s.heap
        rw [exk k (by omega) k2]
        have hv := va_eqt (hN _ (st_or k k1 k2))
        cases hfo : s.fieldFound? "java/lang/Enum" "ordinal" "I" with
        | none =>
          rw [va_fe hk10.1] at hv
          simp [State.fieldOf?, State.fieldNamed?, hfo] at hv
        | some x =>
          obtain ⟨cf, kk, fi, f⟩ := x
          obtain ⟨g1, cell, g2, g3, -, -, g6⟩ := Term.field_spec hfo hk10.1 hv
          exact ⟨cf, kk, fi, f, cell, hfo, g1, g2, g3, g6, hA _ (Array.getElem?_eq_some_iff.mp g2).1⟩
  · refine ⟨fun ci q hq => ?_, fun k q hq => ?_⟩
    · have hci : ci < 11 := by
        have := (List.getElem?_eq_some_iff.mp hq).1
        simpa [K_cl] using this
      rw [K_cl_get hci] at hq
      cases hq
      exact hfD ci hci
    · have hk : k < 8 := by
        have := (List.getElem?_eq_some_iff.mp hq).1
        simpa [g_tys] using this
      rw [g_tys_get hk] at hq
      cases hq
      exact hfA k hk
end ST
/-- the empty world -/
theorem st_R {G : E_P} {H : Heap} : g_R G (e_h0 (g_L G) (fun j => (g_xs G j.toNat).toInt)) H := by
  refine ⟨[], fun k q h => by simp at h, rfl, fun i q h => by simp at h, fun a ha => ?_, fun a ha => rfl, rfl, rfl, fun j hj => ?_⟩
  · have ha : (16 : Int) ≤ a := ha
    show (if a = 11 then (23 : Int) else if a = 13 then 20 else 0) = 0
    rw [if_neg (by omega), if_neg (by omega)]
  · show (if (13 : Int) = 13 then (g_xs G (j : Int).toNat).toInt else 0) = _
    rw [if_pos rfl, Int.toNat_natCast]
/-- the law's walk out of one run of the evaluator -/
theorem whole_of {p : Program} {e : Env} {s : State} {m : MethodId} {below : List Frame} {meth : Method} {c : Code} (l : Launch) {b L : Nat} {xs : Nat → Int32} (hL : L ≤ 2048) (C0 : lw_At p s m meth c b L xs)
    (hrun : ∃ (n : Nat) (h1 : E_H), e_run n 40 145 0 (e_ent 4 [.inr 13]) [] (e_h0 L (fun j => (xs j.toNat).toInt)) = some (some (.inl 1), h1) ∧ h_sz h1 ≤ 600016 ∧ h_sl h1 ≤ 7302250) : W p l e room_1 s m #[Value.ref b] below meth c s.heap [] 0 0 (lw_Z below #[Value.ref b] s) (entryFrame m ([Value.ref b] : List Value).toArray 4) := by
  obtain ⟨hx, hb, hr, hml, hown, hts, hX, hbl, hlocks, hgv⟩ := id C0
  obtain ⟨n, h1, hrun, hz, hsl⟩ := hrun
  obtain ⟨G, G1, G2, G3, G4, hGW, hE, hK⟩ := st_G hts hgv hX hbl hL
  have hkT : ∀ w ∈ k_T, w.before #[Value.ref b] s = true := fun w hw => hts w (List.mem_filter.mp hw).1
  have hR : g_R G (e_h0 L (fun j => (xs j.toNat).toInt)) s.heap := by
    rw [← G3, ← G4]
    exact st_R
  have hXX : g_X G p s m #[Value.ref b] meth c 145 := ⟨hx, hb, hml, hown, hkT, fun z => absurd z (by decide), hK, hE, hGW, by omega⟩
  rw [lg_entry_eq]
  have hent : g_St G [.inr 13] [Value.ref b] := by
    refine ⟨?_, trivial⟩
    show Value.ref b = va_rf (some (g_ex G 13))
    rw [G2]
    rfl
  refine g_sound l n G p e room_1 s m #[Value.ref b] below meth c _ 40 145 0 _ _ (e_h0 L (fun j => (xs j.toNat).toInt)) h1 (some (.inl 1)) 0 hrun hXX ⟨?_, ?_, by decide, by decide⟩ ?_ s.heap [] 0 0 _ _ hR va_S.rf ?_ ?_ (g_enter hent (n := 4) (by decide)) trivial
  · show (g_ba G : Int) + (h_sz h1 - 16) ≤ s.heap.size + ((600000 : Nat) : Int)
    omega
  · show h_sl h1 ≤ 0 + ((7302250 : Nat) : Int)
    omega
  · intro v H locs cells slots ls' pc hre hR1 hS1 hc hs
    obtain ⟨z, rfl, hz1, hd, -⟩ := hre
    have hz1 : z = 1 := by
      rw [← Int32.toInt_inj, hz1]
      rfl
    subst hz1
    refine va_forget (fun q hq => ?_) ?_
    · have := hS1.2.2 q hq
      have : g_ba G ≤ q.base := this
      omega
    · refine W.widen (k := 600000) (n := 7302250) (by omega) (by omega) ?_
      exact lw_ret hx hb hr hlocks hd
  · show (s.heap.size : Int) + ((0 : Nat) : Int) = g_ba G + (16 - 16)
    omega
  · rfl
