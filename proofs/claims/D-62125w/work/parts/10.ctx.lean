/-! ===== what holds of a state beside its heap's world: the tables' weak words, what was there before the law ===== -/
def k_cst : List Jvm.Cond := [460, 473, 1156, 1157, 1161, 1162, 1163, 1164, 1165, 1166, 1167, 1168, 1169, 1170, 1171, 1172].filterMap (fun i => lw_tbl[i]?)
def g_O : MethodName := ⟨"java/lang/Object", "getClass", "()Ljava/lang/Class;"⟩
def g_E (G : E_P) (U : State) : Prop :=
  (∀ w ∈ k_nst, va_Nw w U) ∧ (∀ w ∈ k_cst, va_Nw w U) ∧ (∀ q ∈ P_fxs, va_Fw (P_y q.1).cls ⟨k_nd, (P_y q.1).name, (P_y q.1).desc⟩ (P_y q.1) U) ∧
  (∀ (k : Nat) (C : String), k < 8 → K_at k = .object C → va_AO C U) ∧ va_Dc U ∧
  (∀ k : Nat, 1 ≤ k → k ≤ 11 → va_Z (K_stc k).1 (K_stc k).2.1 (K_stc k).2.2 (.ref (g_ex G k)) (g_A G) U U.heap) ∧
  va_X (g_ex G 13) (g_L G) (g_xs G) U U.heap ∧ va_T (.object "java/lang/Object") (g_ex G 11) 0 (fun _ => .null) (g_A G) U U.heap ∧ va_Mi "[Ljava/lang/Object;" (g_ex G 12) U ∧
  (∀ k : Nat, 5 ≤ k → k ≤ 10 → va_O "LogStore$State" (g_ex G k) (g_A G) U U.heap ∧ va_OF "java/lang/Enum" "ordinal" "I" (.int (Int32.ofInt ((k : Int) - 4))) (g_ex G k) (g_A G) U U.heap)
/-- what the parameters are -/
def g_W (G : E_P) : Prop := (∀ k : Nat, k ≠ 12 → g_ex G k < g_ba G) ∧ (∀ i j : Nat, 1 ≤ i → i ≤ 10 → 1 ≤ j → j ≤ 10 → g_ex G i = g_ex G j → i = j) ∧ g_L G ≤ 2048
theorem k_nst_form : ∀ w ∈ k_nst, ∃ (own : String) (i : Nat) (y : MethodName) (host : String), w = .methodLinkNest own i y host := by
  have h : k_nst.all (fun w => match w with | .methodLinkNest .. => true | _ => false) = true := by decide +kernel
  intro w hw
  have h1 := List.all_eq_true.mp h w hw
  revert h1
  cases w <;> first | (intro h1; exact ⟨_, _, _, _, rfl⟩) | (intro h1; exact absurd h1 (by simp))
theorem k_cst_form : ∀ w ∈ k_cst, ∃ (a b : String), w = .castable a b := by
  have h : k_cst.all (fun w => match w with | .castable .. => true | _ => false) = true := by decide +kernel
  intro w hw
  have h1 := List.all_eq_true.mp h w hw
  revert h1
  cases w <;> first | (intro h1; exact ⟨_, _, rfl⟩) | (intro h1; exact absurd h1 (by simp))
theorem g_E.next {G : E_P} {s U : State} (h : g_E G s) (hb : g_ba G ≤ s.heap.size) (hw : g_W G) (hW : s.WarmedH U.vm) (hq : ∀ a : Nat, a < s.heap.size → ¬ g_A G a → U.heap[a]? = s.heap[a]?) : g_E G U := by
  obtain ⟨h1, h2, h3, h4, h5, h6, h7, h8, h9, h10⟩ := h
  have hal := hW.alike
  refine ⟨fun w hw => ?_, fun w hw => ?_, fun q hq' => ?_, fun k C hk hC => (h4 k C hk hC).moved hal, h5.moved hal, fun k k1 k2 => ((h6 k k1 k2).kept hq).moved hal, ?_, (h8.kept hq).moved hal, h9.moved hal, fun k k1 k2 => ⟨((h10 k k1 k2).1.kept hq).moved hal, ((h10 k k1 k2).2.kept hq).moved hal⟩⟩
  · obtain ⟨own, i, y, host, rfl⟩ := k_nst_form w hw
    exact va_Nw.warmM hW (h1 _ hw)
  · obtain ⟨a, b, rfl⟩ := k_cst_form w hw
    exact va_Nw.warmC hW (h2 _ hw)
  · refine va_Fw.moved ⟨?_, ?_⟩ hal (h3 q hq')
    · show k_nd ≠ _
      decide
    · show k_nd ≠ _
      decide
  · refine (h7.kept (hq _ ?_ ?_)).moved hal
    · exact Nat.lt_of_lt_of_le (hw.1 13 (by decide)) hb
    · show ¬ g_ba G ≤ g_ex G 13
      exact Nat.not_le.mpr (hw.1 13 (by decide))
section GX
variable {G : E_P} {p : Program} {l : Launch} {e : Env} {R : Room} {s : State} {m : MethodId} {args : Array Value} {below : List Frame} {meth : Method} {c : Code} {Q : State → Prop} {mi : Nat}
/-- a method's frame of the walk -/
def g_X (G : E_P) (p : Program) (s : State) (m : MethodId) (args : Array Value) (meth : Method) (c : Code) (mi : Nat) : Prop :=
  p.tables.exec = Jvm.exec ∧ c.code = P_by mi ∧ c.maxLocals = P_ml mi ∧ s.vm.findClass (P_y mi).cls = some m.cls ∧ (∀ w ∈ k_T, w.before args s = true) ∧ ((P_y mi).name = "<init>" → meth.name = "<init>") ∧ va_K (g_D G) K_cl (g_tys (g_cA G)) s ∧ g_E G s ∧ g_W G ∧ g_ba G ≤ s.heap.size
/-- the walk goes on from every state of the machine that is the evaluator's -/
def g_K (G : E_P) (p : Program) (l : Launch) (e : Env) (R : Room) (s : State) (m : MethodId) (args : Array Value) (below : List Frame) (meth : Method) (c : Code) (Q : State → Prop) (mi : Nat) (sl0 : Int) (pc : Nat) (ls : E_L) (st : List E_V) (h : E_H) : Prop :=
  ∀ (H : Heap) (locs : List Loc) (cells slots : Nat) (ls' : Array Slot) (st' : List Value), g_R G h H → va_S (g_A G) s.heap H locs → ((s.heap.size : Int) + cells = g_ba G + (h_sz h - 16)) → ((slots : Int) + sl0 = h_sl h) → g_Lc G (P_ml mi) ls ls' → g_St G st st' → W p l e R s m args below meth c H locs cells slots Q (F0 m pc ls' st')
/-- the room -/
def g_B (G : E_P) (R : Room) (s : State) (sl0 : Int) (d : Nat) (h : E_H) : Prop := (g_ba G : Int) + (h_sz h - 16) ≤ s.heap.size + R.cells ∧ h_sl h ≤ sl0 + R.slots ∧ d ≤ R.frames ∧ 40 * d ≤ R.locals
theorem g_sized {H : Heap} {locs : List Loc} {cells slots : Nat} {g : JFrame} (k : H.size ≤ s.heap.size + cells → W p l e R s m args below meth c H locs cells slots Q g) : W p l e R s m args below meth c H locs cells slots Q g := by
  intro T hT X
  exact k (by rw [← hT]; exact X.heapSize) T hT X
theorem g_i32 (z : Int32) : -2147483648 ≤ z.toInt ∧ z.toInt ≤ 2147483647 := ⟨Int32.minValue_le_toInt z, by have := Int32.toInt_lt z; omega⟩
theorem g_ofInt {x : Int} (h : -2147483648 ≤ x ∧ x ≤ 2147483647) : (Int32.ofInt x).toInt = x := by
  rw [Int32.toInt_ofInt, show Int32.size = 4294967296 from rfl]
  exact Int.bmod_eq_of_le (by omega) (by omega)
theorem g_eqI {x : Int32} {y : Int} (h : x.toInt = y) : x = Int32.ofInt y := by rw [← h, Int32.ofInt_toInt]
end GX
