/-! ===== calls, returns, the whole: what the evaluator answers the machine does ===== -/
def g_Re (G : E_P) (mi : Nat) (r : Option E_V) (v : Option Value) (pc : Nat) : Prop := match r with
  | none => v = none ∧ P_ret mi = none ∧ decode (P_by mi) pc = .ok (.return_, 1)
  | some (.inl x) => ∃ z : Int32, v = some (.int z) ∧ z.toInt = x ∧ decode (P_by mi) pc = .ok (.ireturn, 1) ∧ (P_ret mi = some .int ∨ (P_ret mi = some .boolean ∧ (x = 0 ∨ x = 1)))
  | some (.inr a) => v = some (va_rf (g_rr G a)) ∧ decode (P_by mi) pc = .ok (.areturn, 1) ∧ ∃ t, P_ret mi = some t ∧ ((∃ n, t = .object n) ∨ ∃ u, t = .array u)
def g_Rv (G : E_P) (r : Option E_V) (v : Option Value) : Prop := match r with
  | none => v = none
  | some x => ∃ w, v = some w ∧ g_V G x w
/-- a method's start and end, in the kit's words -/
def g_P (G : E_P) (h : E_H) (U : State) : Prop := g_E G U ∧ va_K (g_D G) K_cl (g_tys (g_cA G)) U ∧ g_R G h U.heap ∧ (U.heap.size : Int) = g_ba G + (h_sz h - 16)
def g_Q (G : E_P) (h1 : E_H) (r : Option E_V) : Array Value → State → Outcome → State → Prop := fun _ st o t => ∃ v, o = .returned v ∧ g_Rv G r v ∧ g_R G h1 t.heap ∧ va_F (g_A G) st t
def g_ws (mi : Nat) : List Jvm.Cond := .code (P_y mi) (P_by mi) (P_ml mi) (P_ret mi) :: k_T
def g_rm (d : Nat) (h h1 : E_H) : Room := { frames := d, cells := (h_sz h1 - h_sz h).toNat, slots := (h_sl h1 - h_sl h).toNat, locals := 40 * d }
section GZ
variable {G : E_P} {p : Program} {l : Launch} {e : Env} {R : Room} {s : State} {m : MethodId} {args : Array Value} {below : List Frame} {meth : Method} {c : Code} {Q : State → Prop} {mi : Nat}
/-- the walk's end: what is done at a return -/
def g_Z (G : E_P) (p : Program) (l : Launch) (e : Env) (R : Room) (s : State) (m : MethodId) (args : Array Value) (below : List Frame) (meth : Method) (c : Code) (Q : State → Prop) (mi : Nat) (sl0 : Int) (r : Option E_V) (h1 : E_H) : Prop :=
  ∀ (v : Option Value) (H : Heap) (locs : List Loc) (cells slots : Nat) (ls' : Array Slot) (pc : Nat), g_Re G mi r v pc → g_R G h1 H → va_S (g_A G) s.heap H locs → ((s.heap.size : Int) + cells = g_ba G + (h_sz h1 - 16)) → ((slots : Int) + sl0 = h_sl h1) → W p l e R s m args below meth c H locs cells slots Q (F0 m pc ls' v.toList)
def g_Sound (l : Launch) (n : Nat) : Prop := ∀ (G : E_P) (p : Program) (e : Env) (R : Room) (s : State) (m : MethodId) (args : Array Value) (below : List Frame) (meth : Method) (c : Code) (Q : State → Prop) (d mi pc : Nat) (ls : E_L) (st : List E_V) (h h1 : E_H) (r : Option E_V) (sl0 : Int),
  e_run n d mi pc ls st h = some (r, h1) → g_X G p s m args meth c mi → g_B G R s sl0 d h1 → g_Z G p l e R s m args below meth c Q mi sl0 r h1 → g_K G p l e R s m args below meth c Q mi sl0 pc ls st h
theorem g_ret {pc op a b nx : Nat} {ls : E_L} {st : List E_V} {h : E_H} {sl0 k e0 : Int} {ll : List Nat} {r : Option E_V} (hop : op = 19 ∨ op = 20 ∨ op = 21) (hok : k_ok mi pc (op, a, b, k, e0, nx, ll) = true) (hq : e_pick (e_ret op b st) = some r) (Z : g_Z G p l e R s m args below meth c Q mi sl0 r h) : g_K G p l e R s m args below meth c Q mi sl0 pc ls st h := by
  intro H locs cells slots ls' st' hR hS hc hsl hl hst
  unfold e_ret at hq
  split at hq
  · rename_i x
    rw [e_pick1, decide_eq_true_eq] at hq
    obtain ⟨hg, rfl⟩ := hq
    match st', hst with
    | [w], hst =>
      obtain ⟨⟨z, rfl, hz⟩, -⟩ := hst
      simp only [k_ok, k_dc, Bool.and_eq_true, decide_eq_true_eq] at hok
      obtain ⟨⟨hd, -⟩, hk⟩ := hok
      refine Z (some (.int z)) H locs cells slots ls' pc ⟨z, rfl, hz, hd, ?_⟩ hR hS hc hsl
      split at hk
      · exact Or.inl (of_decide_eq_true hk)
      · rename_i hb0
        refine Or.inr ⟨of_decide_eq_true hk, ?_⟩
        rcases hg with hg | hg
        · exact absurd hg (fun z => hb0 (by rw [z]))
        · exact hg
  · rename_i x
    rw [e_pick1] at hq
    obtain ⟨-, rfl⟩ := hq
    match st', hst with
    | [w], hst =>
      have hv : w = va_rf (g_rr G x) := hst.1
      subst hv
      simp only [k_ok, k_dc, Bool.and_eq_true, decide_eq_true_eq] at hok
      obtain ⟨⟨hd, -⟩, hk⟩ := hok
      refine Z (some (va_rf (g_rr G x))) H locs cells slots ls' pc ⟨rfl, hd, ?_⟩ hR hS hc hsl
      split at hk
      · exact ⟨_, by assumption, Or.inl ⟨_, rfl⟩⟩
      · exact ⟨_, by assumption, Or.inr ⟨_, rfl⟩⟩
      · cases hk
  · rw [e_pick1] at hq
    obtain ⟨-, rfl⟩ := hq
    match st', hst with
    | [], hst =>
      simp only [k_ok, k_dc, Bool.and_eq_true, decide_eq_true_eq] at hok
      exact Z none H locs cells slots ls' pc ⟨rfl, hok.2, hok.1.1⟩ hR hS hc hsl
  · exact absurd hq e_pick0
/-- a method's contract out of a run of it -/
theorem g_met {n d : Nat} {args0 : List E_V} {vs : List Value} {h h1 : E_H} {r : Option E_V} (S : g_Sound l n) (hrun : e_run n d mi 0 (e_ent (P_ml mi) args0) [] h = some (r, h1)) (hGW : g_W G) (hpl : plainName (P_y mi).cls = true) (ha : g_St G args0 vs) (hlen : args0.length ≤ P_ml mi) :
    Met l (P_y mi) (g_ws mi) (g_rm d h h1) (va_Pc vs (g_P G h)) (g_Q G h1 r) (h_sz h1 - h_sz h).toNat (h_sl h1 - h_sl h).toNat (g_A G) := by
  refine Met.ofW (cc := P_by mi) (maxL := P_ml mi) (ret := P_ret mi) hpl rfl ?_
  intro p e s m args below meth c s₁ B hml hv
  obtain ⟨rfl, hE, hK, hR, hsz⟩ := hv
  have hts0 := atoms_spec (ws := g_ws mi) B.pre
  have hts : ∀ w ∈ k_T, w.before vs.toArray s = true := fun w hw => hts0 w (List.mem_cons_of_mem _ hw)
  have hle := e_run_le hrun
  have hlow : 16 ≤ h_sz h := by
    obtain ⟨ws, hw⟩ := hR
    rw [hw.2.1]
    omega
  have hX : g_X G p s m vs.toArray meth c mi := ⟨B.exec, B.bytes, hml, findClass_of_methodNamed B.named, hts, fun z => ((name_of_methodNamed B.named B.method).1).trans z, hK, hE, hGW, by omega⟩
  have hlocks := B.notSynchronized
  have hr := B.returns
  rw [lg_entry_eq]
  refine S G p e _ s m vs.toArray below meth c _ d mi 0 _ _ h h1 r (h_sl h) hrun hX ⟨?_, ?_, Nat.le_refl _, Nat.le_refl _⟩ ?_ s.heap [] 0 0 _ _ hR va_S.rf (by omega) (by omega) (g_enter ha hlen) trivial
  · show (g_ba G : Int) + (h_sz h1 - 16) ≤ s.heap.size + ((h_sz h1 - h_sz h).toNat : Nat)
    omega
  · show h_sl h1 ≤ h_sl h + ((h_sl h1 - h_sl h).toNat : Nat)
    omega
  · intro v H locs cells slots ls' pc hre hR1 hS1 hc hsl
    have ec : cells = (h_sz h1 - h_sz h).toNat := by omega
    have es : slots = (h_sl h1 - h_sl h).toNat := by omega
    subst ec
    subst es
    have fin : ∀ t : State, t.heap = H → s.WarmedH t.vm → g_Rv G r v → g_Q G h1 r vs.toArray s (.returned v) t := fun t ht _ hrv => ⟨v, rfl, hrv, by rw [ht]; exact hR1, hS1.F ht⟩
    match r, hre, fin with
    | none, hre, fin =>
      obtain ⟨rfl, hret, hd⟩ := hre
      exact W.vret B.exec B.bytes (hr.trans hret) (fun t ht hW => fin t ht hW rfl) hS1.2.2 hd
    | some (.inl x), hre, fin =>
      obtain ⟨z, rfl, hz, hd, hret⟩ := hre
      rcases hret with hret | ⟨hret, hx⟩
      · exact W.iret B.exec B.bytes (hr.trans hret) (fun t ht hW => fin t ht hW ⟨_, rfl, z, rfl, hz⟩) hS1.2.2 hd
      · exact W.zret B.exec B.bytes (hr.trans hret) (g_bool (by omega)).1 (fun t ht hW => fin t ht hW ⟨_, rfl, z, rfl, hz⟩) hS1.2.2 hd
    | some (.inr a), hre, fin =>
      obtain ⟨rfl, hd, t, hret, hrt⟩ := hre
      exact W.aret B.exec B.bytes (hr.trans hret) hrt (va_rf_or _) (fun t ht hW => fin t ht hW ⟨_, rfl, rfl⟩) hS1.2.2 hd
theorem g_blind {vs : List Value} {h : E_H} (hGW : g_W G) (hlow : 16 ≤ h_sz h) : FrameBlind (va_Pc vs (g_P G h)) := by
  intro a U g mk q
  obtain ⟨q0, q1, q2, q3, q4⟩ := q
  refine ⟨q0, q1.next (by omega) hGW (State.WarmedH.refl U) (fun _ _ _ => rfl), va_K.moved (u := U) (U := U.calling g mk a) (Vm.Alike.refl U.vm) q2, q3, q4⟩
/-- before a call: the callee's start -/
theorem g_pre {h : E_H} {H : Heap} {locs : List Loc} {cells : Nat} (X : g_X G p s m args meth c mi) (hR : g_R G h H) (hS : va_S (g_A G) s.heap H locs) (hc : ((s.heap.size : Int) + cells = g_ba G + (h_sz h - 16))) (hz : H.size ≤ s.heap.size + cells) : ∀ U : State, U.heap = H → s.WarmedH U.vm → g_P G h U := by
  obtain ⟨hx, hb, hml, hown, hts, hnm, hK, hE, hGW, hbs⟩ := X
  intro U hU hW
  refine ⟨hE.next hbs hGW hW (fun a h1 h2 => by rw [hU]; exact hS.2.1 a h1 h2), va_K.moved hW.alike hK, by rw [hU]; exact hR, ?_⟩
  rw [hU]
  have hs := hS.1
  obtain ⟨ws, hw⟩ := hR
  have hsz := hw.2.1
  by_cases h0 : ws.length = 0
  · omega
  · have hi : ws.length - 1 < ws.length := by omega
    have hg := List.getElem?_eq_getElem hi
    have h1 := (hw.1 _ _ hg).lt
    have h2 := (hw.2.2.1 _ _ hg).1
    omega
/-- behind a call -/
theorem g_call3 {pc : Nat} {h h' h1 : E_H} {H : Heap} {locs : List Loc} {cells slots : Nat} {ls : E_L} {ls' : Array Slot} {rest : List E_V} {rest' st0 : List Value} {r : Option E_V} {sl0 : Int} {a : Array Value} (hle : h_sz h ≤ h_sz h' ∧ h_sl h ≤ h_sl h') (hr : va_Run p l e R s m args below meth c H locs cells slots (h_sz h' - h_sz h).toNat (h_sl h' - h_sl h).toNat (F0 m pc ls' st0) rest' (g_Q G h' r a) (g_A G)) (hS : va_S (g_A G) s.heap H locs) (hc : ((s.heap.size : Int) + cells = g_ba G + (h_sz h - 16))) (hsl : ((slots : Int) + sl0 = h_sl h)) (hl : g_Lc G (P_ml mi) ls ls') (hst : g_St G rest rest')
    (K : g_K G p l e R s m args below meth c Q mi sl0 (pc + 3) ls (r.toList ++ rest) h') : W p l e R s m args below meth c H locs cells slots Q (F0 m pc ls' st0) := by
  intro T hT X
  obtain ⟨v, st₀, t, T', L, h0, X', hL, e1, e2, ⟨v', hv, hrv, hR', hF⟩, st⟩ := hr T hT X
  cases hv
  have hS' : va_S (g_A G) s.heap T'.heap (locs ++ L) := by
    refine ⟨Nat.le_trans hS.1 (by rw [e1, ← h0]; exact hF.1), fun q h1 h2 => ?_, fun q hq => ?_⟩
    · rw [e1, hF.2 q (by rw [h0]; exact Nat.lt_of_lt_of_le h1 hS.1) h2, h0]
      exact hS.2.1 q h1 h2
    · rcases List.mem_append.mp hq with h | h
      · exact hS.2.2 q h
      · exact hL q h
  have hst' : g_St G (r.toList ++ rest) (v.toList ++ rest') := by
    cases r with
    | none =>
      have hrv : v = none := hrv
      subst hrv
      exact hst
    | some x =>
      obtain ⟨w, rfl, hw⟩ := hrv
      exact ⟨hw, hst⟩
  obtain ⟨t2, a1, b1⟩ := K T'.heap (locs ++ L) (cells + (h_sz h' - h_sz h).toNat) (slots + (h_sl h' - h_sl h).toNat) ls' (v.toList ++ rest') (by rw [e1]; exact hR') hS' (by omega) (by omega) hl hst' T' rfl X'
  exact ⟨t2, st t2 a1, b1⟩
theorem g_call5 {pc : Nat} {h h' h1 : E_H} {H : Heap} {locs : List Loc} {cells slots : Nat} {ls : E_L} {ls' : Array Slot} {rest : List E_V} {rest' st0 : List Value} {r : Option E_V} {sl0 : Int} {a : Array Value} (hle : h_sz h ≤ h_sz h' ∧ h_sl h ≤ h_sl h') (hr : va_Run5 p l e R s m args below meth c H locs cells slots (h_sz h' - h_sz h).toNat (h_sl h' - h_sl h).toNat (F0 m pc ls' st0) rest' (g_Q G h' r a) (g_A G)) (hS : va_S (g_A G) s.heap H locs) (hc : ((s.heap.size : Int) + cells = g_ba G + (h_sz h - 16))) (hsl : ((slots : Int) + sl0 = h_sl h)) (hl : g_Lc G (P_ml mi) ls ls') (hst : g_St G rest rest')
    (K : g_K G p l e R s m args below meth c Q mi sl0 (pc + 5) ls (r.toList ++ rest) h') : W p l e R s m args below meth c H locs cells slots Q (F0 m pc ls' st0) := by
  intro T hT X
  obtain ⟨v, st₀, t, T', L, h0, X', hL, e1, e2, ⟨v', hv, hrv, hR', hF⟩, st⟩ := hr T hT X
  cases hv
  have hS' : va_S (g_A G) s.heap T'.heap (locs ++ L) := by
    refine ⟨Nat.le_trans hS.1 (by rw [e1, ← h0]; exact hF.1), fun q h1 h2 => ?_, fun q hq => ?_⟩
    · rw [e1, hF.2 q (by rw [h0]; exact Nat.lt_of_lt_of_le h1 hS.1) h2, h0]
      exact hS.2.1 q h1 h2
    · rcases List.mem_append.mp hq with h | h
      · exact hS.2.2 q h
      · exact hL q h
  have hst' : g_St G (r.toList ++ rest) (v.toList ++ rest') := by
    cases r with
    | none =>
      have hrv : v = none := hrv
      subst hrv
      exact hst
    | some x =>
      obtain ⟨w, rfl, hw⟩ := hrv
      exact ⟨hw, hst⟩
  obtain ⟨t2, a1, b1⟩ := K T'.heap (locs ++ L) (cells + (h_sz h' - h_sz h).toNat) (slots + (h_sl h' - h_sl h).toNat) ls' (v.toList ++ rest') (by rw [e1]; exact hR') hS' (by omega) (by omega) hl hst' T' rfl X'
  exact ⟨t2, st t2 a1, b1⟩
end GZ
