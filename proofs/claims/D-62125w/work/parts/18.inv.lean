/-! ===== the calls ===== -/
theorem k_mtS {a : Nat} (h : k_mt a = true) : Jvm.Cond.code (P_y a) (P_by a) (P_ml a) (P_ret a) ∈ k_T ∧ Jvm.Cond.initialized (P_y a).cls ∈ k_T ∧ plainName (P_y a).cls = true ∧ ((P_y a).cls ≠ "java/lang/invoke/MethodHandle" ∧ (P_y a).cls ≠ "java/lang/invoke/VarHandle" ∧ (parseMethodDescriptor (P_y a).desc).map (fun d => d.parameters.length) = some (k_np a)) ∧ P_ml a ≤ 8 ∧ (k_kd a = 0 → Jvm.Cond.static (P_y a) ∈ k_T) ∧ (k_kd a = 1 → Jvm.Cond.instanceMethod (P_y a) ∈ k_T ∧ (P_y a).name = "<init>" ∧ P_ret a = none) ∧ (k_kd a = 2 → Jvm.Cond.instanceMethod (P_y a) ∈ k_T ∧ Jvm.Cond.selects (P_y a).cls (P_y a) (P_y a) ∈ k_T) := by
  unfold k_mt at h
  unfold k_kd k_np
  generalize P_ix a = q at h
  obtain ⟨ic, ii, im, is, kd, n⟩ := q
  simp only [Bool.and_eq_true, decide_eq_true_eq] at h
  obtain ⟨h1, h2, h3, h4, h5, h6, h7, h8⟩ := h
  refine ⟨k_is_mem h1, k_is_mem h2, h3, ⟨h4, h5, h6⟩, h7, fun z => ?_, fun z => ?_, fun z => ?_⟩
  · have z : kd = 0 := z
    subst z
    exact k_is_mem h8
  · have z : kd = 1 := z
    subst z
    simp only [Bool.and_eq_true, decide_eq_true_eq] at h8
    exact ⟨k_is_mem h8.1, h8.2⟩
  · have z : kd = 2 := z
    subst z
    simp only [Bool.and_eq_true] at h8
    exact ⟨k_is_mem h8.1, k_is_mem h8.2⟩
theorem k_faS {a : Nat} (h : k_fa a = true) : ∃ L, (a, L) ∈ P_fxs ∧ Jvm.Cond.code (P_y a) (P_by a) (P_ml a) (P_ret a) ∈ k_T ∧ Jvm.Cond.initialized (P_y a).cls ∈ k_T ∧ plainName (P_y a).cls = true ∧ (parseMethodDescriptor (P_y a).desc).map (fun d => d.parameters.length) = some (k_np a) ∧ P_ml a ≤ 8 ∧ Jvm.Cond.instanceMethod (P_y a) ∈ k_T ∧ Jvm.Cond.selects (P_y a).cls ⟨k_nd, (P_y a).name, (P_y a).desc⟩ (P_y a) ∈ k_T := by
  unfold k_fa at h
  unfold k_np
  generalize P_ix a = q at h
  obtain ⟨ic, ii, im, is, kd, n⟩ := q
  dsimp only at h
  simp only [Bool.and_eq_true, decide_eq_true_eq] at h
  obtain ⟨h0, h1, h2, h3, h4, h5, h6, h7⟩ := h
  obtain ⟨⟨a', L⟩, hL, he⟩ := List.mem_map.mp h0
  have he : a' = a := he
  subst he
  refine ⟨L, hL, k_is_mem h1, k_is_mem h2, h3, h4, h5, k_is_mem h6, ?_⟩
  unfold k_fc at h7
  split at h7
  · simp only [Bool.and_eq_true] at h7
    exact k_is_mem h7.1
  · cases h7
section GI
variable {G : E_P} {p : Program} {l : Launch} {e : Env} {R : Room} {s : State} {m : MethodId} {args : Array Value} {below : List Frame} {meth : Method} {c : Code} {Q : State → Prop} {mi : Nat}
theorem g_goodws {a : Nat} (h : Jvm.Cond.code (P_y a) (P_by a) (P_ml a) (P_ret a) ∈ k_T) : GoodIn k_T (g_ws a) := k_goodIn (fun w hw => by
  rcases List.mem_cons.mp hw with rfl | hw
  · exact h
  · exact hw)
/-- the values of a call: what is taken from the stack -/
theorem g_cut {na : Nat} {st : List E_V} {st' : List Value} (hst : g_St G st st') : st' = ((st'.take na).reverse).reverse ++ st'.drop na ∧ g_St G (st.take na).reverse (st'.take na).reverse ∧ g_St G (st.drop na) (st'.drop na) :=
  ⟨by rw [List.reverse_reverse, List.take_append_drop], (hst.take na).rev, hst.drop na⟩
theorem g_room {pc : Nat} {ls' : Array Slot} {rest st' : List Value} {r : List E_V} (hs : g_St G r st') (h8 : r.length ≤ 8) : 2 * (F0 m pc ls' rest).monitorRoom + (st'.map fun v => v.category).sum ≤ 8 := lv_room (by rw [hs.cats]; exact h8)
set_option maxHeartbeats 4000000 in
theorem g_o50 {n pc nx d a b : Nat} {ls : E_L} {st : List E_V} {h h' h1 : E_H} {sl0 k e0 : Int} {ll : List Nat} {r : Option E_V} (S : g_Sound l n) (X : g_X G p s m args meth c mi) (hok : k_ok mi pc (50, a, b, k, e0, nx, ll) = true) (hcond : e0.toNat ≤ st.length ∧ (st.drop e0.toNat).length ≤ 8 ∧ 0 < d ∧ e0.toNat ≤ P_ml a) (hrun : e_run n (d - 1) a 0 (e_ent (P_ml a) (st.take e0.toNat).reverse) [] h = some (r, h')) (hB : g_B G R s sl0 d h1) (hle1 : h_sz h' ≤ h_sz h1 ∧ h_sl h' ≤ h_sl h1) (K : g_K G p l e R s m args below meth c Q mi sl0 nx ls (r.toList ++ st.drop e0.toNat) h') : g_K G p l e R s m args below meth c Q mi sl0 pc ls st h := by
  obtain ⟨hx, hb, hml, hown, hts, hnm, hK, hE, hGW, hbs⟩ := id X
  intro H locs cells slots ls' st' hR hS hc hsl hl hst
  have hle := e_run_le hrun
  simp only [k_ok] at hok
  split at hok
  · rename_i i ti
    simp only [k_dc, Bool.and_eq_true, decide_eq_true_eq] at hok
    obtain ⟨⟨hd, rfl⟩, hk1, hk2, hk3, hk4⟩ := hok
    obtain ⟨m1, m2, m3, m4, m5, m6, m7, m8⟩ := k_mtS hk4
    obtain ⟨c1, c2, c3⟩ := g_cut (na := e0.toNat) hst
    generalize hvs : (st'.take e0.toNat).reverse = vs at c1 c2
    have hlv := c2.len
    rw [List.length_reverse, List.length_take, Nat.min_eq_left hcond.1] at hlv
    obtain ⟨hB1, hB2, hB3, hB4⟩ := hB
    have hlow : 16 ≤ h_sz h := by
      obtain ⟨ws, hw⟩ := hR
      rw [hw.2.1]
      omega
    refine g_sized (fun hz => ?_)
    have hM := g_met (G := G) S hrun hGW m3 c2 (by rw [List.length_reverse, List.length_take]; omega)
    have hcb := callB_of (R := R) (s := s) (args := args) (own := (P_y mi).cls) (index := i) (y := P_y a) (bytes := P_by a) (maxL := P_ml a) (ret := P_ret a) (ws := g_ws a) (rm := g_rm (d - 1) h h') (k_np a) hts (g_goodws m1) rfl rfl rfl (hts _ m2) (hts _ (k_is_mem hk1)) m4 ⟨by show d - 1 + 1 ≤ R.frames; omega, by show 8 + (P_ml a + 11) + 40 * (d - 1) ≤ R.locals; omega⟩
    have hrun3 := va_runS (e := e) (below := below) (meth := meth) (H := H) (locs := locs) (cells := cells) (slots := slots) (g := F0 m pc ls' st') (As := vs) (rest := st'.drop e0.toNat) (⟨hx, hb, hml, hown, hts⟩ : CallFix p m c (P_by mi) (P_ml mi) s args k_T (P_y mi).cls) hM ⟨hcb, hts _ (m6 hk2)⟩ ⟨g_blind hGW hlow, fun U hU hW => ⟨rfl, g_pre X hR hS hc hz U hU hW⟩⟩ rfl (by omega) hl.1 c1 (g_room c3 hcond.2.1) hd ⟨by omega, by omega⟩
    exact g_call3 (h1 := h1) hle hrun3 hS hc hsl hl c3 K
  · cases hok
/-- a receiver: the first of the values -/
theorem g_recv {na : Nat} {st : List E_V} {st' : List Value} {x : Int} {as : List E_V} (hst : g_St G st st') (ha : (st.take na).reverse = .inr x :: as) : ∃ As : List Value, (st'.take na).reverse = va_rf (g_rr G x) :: As ∧ st' = As.reverse ++ va_rf (g_rr G x) :: st'.drop na ∧ g_St G (.inr x :: as) (va_rf (g_rr G x) :: As) ∧ g_St G (st.drop na) (st'.drop na) := by
  obtain ⟨c1, c2, c3⟩ := g_cut (na := na) hst
  generalize hvs : (st'.take na).reverse = vs at c1 c2
  rw [ha] at c2
  match vs, c2 with
  | w :: As, c2 =>
    have hw : w = va_rf (g_rr G x) := c2.1
    subst hw
    refine ⟨As, rfl, ?_, c2, c3⟩
    rw [List.reverse_cons, List.append_assoc, List.singleton_append] at c1
    exact c1
set_option maxHeartbeats 4000000 in
theorem g_o51 {n pc nx d a b : Nat} {ls : E_L} {st as : List E_V} {h h' h1 : E_H} {sl0 k e0 x : Int} {ll : List Nat} {r : Option E_V} (S : g_Sound l n) (X : g_X G p s m args meth c mi) (hok : k_ok mi pc (51, a, b, k, e0, nx, ll) = true ∨ k_ok mi pc (52, a, b, k, e0, nx, ll) = true) (hcond : e0.toNat ≤ st.length ∧ (st.drop e0.toNat).length ≤ 8 ∧ 0 < d ∧ e0.toNat ≤ P_ml a) (ha : (st.take e0.toNat).reverse = .inr x :: as) (hx0 : x ≠ 0) (hrun : e_run n (d - 1) a 0 (e_ent (P_ml a) (st.take e0.toNat).reverse) [] h = some (r, h')) (hB : g_B G R s sl0 d h1) (hle1 : h_sz h' ≤ h_sz h1 ∧ h_sl h' ≤ h_sl h1) (K : g_K G p l e R s m args below meth c Q mi sl0 nx ls (r.toList ++ st.drop e0.toNat) h') : g_K G p l e R s m args below meth c Q mi sl0 pc ls st h := by
  obtain ⟨hx, hb, hml, hown, hts, hnm, hK, hE, hGW, hbs⟩ := id X
  intro H locs cells slots ls' st' hR hS hc hsl hl hst
  have hle := e_run_le hrun
  obtain ⟨As, c0, c1, c2, c3⟩ := g_recv hst ha
  obtain ⟨y, hy⟩ := Option.ne_none_iff_exists'.mp (fun z => hx0 (g_rrN.mp z) : g_rr G x ≠ none)
  have hlv := c2.len
  have hla := congrArg List.length ha
  rw [List.length_reverse, List.length_take, Nat.min_eq_left hcond.1] at hla
  rw [← hla] at hlv
  rw [hy] at c1 c2
  obtain ⟨hB1, hB2, hB3, hB4⟩ := hB
  have hlow : 16 ≤ h_sz h := by
    obtain ⟨ws, hw⟩ := hR
    rw [hw.2.1]
    omega
  refine g_sized (fun hz => ?_)
  rw [ha] at hrun
  have hp : ∀ U : State, U.heap = H → s.WarmedH U.vm → va_Pc (va_rf (some y) :: As) (g_P G h) (Value.ref y :: As).toArray U := fun U hU hW => ⟨rfl, g_pre X hR hS hc hz U hU hW⟩
  rw [List.length_cons] at hlv
  rcases hok with hok | hok
  · simp only [k_ok] at hok
    split at hok
    · rename_i i ti
      simp only [k_dc, Bool.and_eq_true, decide_eq_true_eq] at hok
      obtain ⟨⟨hd, rfl⟩, hk1, hk2, hk3, hk4⟩ := hok
      obtain ⟨m1, m2, m3, m4, m5, m6, m7, m8⟩ := k_mtS hk4
      have hM := g_met (G := G) S hrun hGW m3 c2 (by rw [← ha, List.length_reverse, List.length_take]; omega)
      have hcb := callB_of (R := R) (s := s) (args := args) (own := (P_y mi).cls) (index := i) (y := P_y a) (bytes := P_by a) (maxL := P_ml a) (ret := none) (ws := g_ws a) (rm := g_rm (d - 1) h h') (k_np a) hts (g_goodws m1) (by unfold g_ws; rw [(m7 hk2).2.2]) rfl rfl (hts _ m2) (hts _ (k_is_mem hk1)) m4 ⟨by show d - 1 + 1 ≤ R.frames; omega, by show 8 + (P_ml a + 11) + 40 * (d - 1) ≤ R.locals; omega⟩
      have hrun3 := va_runI (e := e) (below := below) (meth := meth) (H := H) (locs := locs) (cells := cells) (slots := slots) (g := F0 m pc ls' st') (As := As) (rest := st'.drop e0.toNat) (b := y) (⟨hx, hb, hml, hown, hts⟩ : CallFix p m c (P_by mi) (P_ml mi) s args k_T (P_y mi).cls) hM ⟨hcb, (m7 hk2).2.1, hts _ (m7 hk2).1⟩ ⟨g_blind hGW hlow, hp⟩ rfl (by omega) hl.1 c1 (g_room c3 hcond.2.1) hd ⟨by omega, by omega⟩
      exact g_call3 (h1 := h1) hle hrun3 hS hc hsl hl c3 K
    · cases hok
  · simp only [k_ok] at hok
    split at hok
    · rename_i i ti
      simp only [k_dc, Bool.and_eq_true, decide_eq_true_eq] at hok
      obtain ⟨⟨hd, rfl⟩, hk1, hk2, hk3, hk4⟩ := hok
      obtain ⟨m1, m2, m3, m4, m5, m6, m7, m8⟩ := k_mtS hk4
      have hM := g_met (G := G) S hrun hGW m3 c2 (by rw [← ha, List.length_reverse, List.length_take]; omega)
      have hcb := va_cnB (R := R) (s := s) (args := args) (own := (P_y mi).cls) (index := i) (y := P_y a) (bytes := P_by a) (maxL := P_ml a) (ret := none) (ws := g_ws a) (rm := g_rm (d - 1) h h') (k_np a) hts (g_goodws m1) (by unfold g_ws; rw [(m7 hk2).2.2]) rfl rfl (hE.1 _ hk1) (hts _ m2) m4 ⟨by show d - 1 + 1 ≤ R.frames; omega, by show 8 + (P_ml a + 11) + 40 * (d - 1) ≤ R.locals; omega⟩
      have hrun3 := va_runIN (e := e) (below := below) (meth := meth) (H := H) (locs := locs) (cells := cells) (slots := slots) (g := F0 m pc ls' st') (As := As) (rest := st'.drop e0.toNat) (b := y) (⟨hx, hb, hml, hown, hts⟩ : CallFix p m c (P_by mi) (P_ml mi) s args k_T (P_y mi).cls) hM ⟨hcb, (m7 hk2).2.1, hts _ (m7 hk2).1⟩ ⟨g_blind hGW hlow, hp⟩ rfl (by omega) hl.1 c1 (g_room c3 hcond.2.1) hd ⟨by omega, by omega⟩
      exact g_call3 (h1 := h1) hle hrun3 hS hc hsl hl c3 K
    · cases hok
set_option maxHeartbeats 4000000 in
theorem g_o53 {n pc nx d a b : Nat} {ls : E_L} {st as : List E_V} {h h' h1 : E_H} {sl0 k e0 x : Int} {ll : List Nat} {r : Option E_V} (S : g_Sound l n) (X : g_X G p s m args meth c mi) (hok : k_ok mi pc (53, a, b, k, e0, nx, ll) = true ∨ k_ok mi pc (54, a, b, k, e0, nx, ll) = true) (hcond : e0.toNat ≤ st.length ∧ (st.drop e0.toNat).length ≤ 8 ∧ 0 < d ∧ e0.toNat ≤ P_ml a) (ha : (st.take e0.toNat).reverse = .inr x :: as) (hx0 : h_kd h x = k) (hrun : e_run n (d - 1) a 0 (e_ent (P_ml a) (st.take e0.toNat).reverse) [] h = some (r, h')) (hB : g_B G R s sl0 d h1) (hle1 : h_sz h' ≤ h_sz h1 ∧ h_sl h' ≤ h_sl h1) (K : g_K G p l e R s m args below meth c Q mi sl0 nx ls (r.toList ++ st.drop e0.toNat) h') : g_K G p l e R s m args below meth c Q mi sl0 pc ls st h := by
  obtain ⟨hx, hb, hml, hown, hts, hnm, hK, hE, hGW, hbs⟩ := id X
  intro H locs cells slots ls' st' hR hS hc hsl hl hst
  have hle := e_run_le hrun
  obtain ⟨As, c0, c1, c2, c3⟩ := g_recv hst ha
  have hlv := c2.len
  have hla := congrArg List.length ha
  rw [List.length_reverse, List.length_take, Nat.min_eq_left hcond.1] at hla
  rw [← hla] at hlv
  obtain ⟨hB1, hB2, hB3, hB4⟩ := hB
  have hlow : 16 ≤ h_sz h := by
    obtain ⟨ws, hw⟩ := hR
    rw [hw.2.1]
    omega
  refine g_sized (fun hz => ?_)
  rw [ha] at hrun
  rw [List.length_cons] at hlv
  obtain ⟨ws, hRw⟩ := id hR
  rcases hok with hok | hok
  · simp only [k_ok] at hok
    split at hok
    · rename_i i ti
      simp only [k_dc, Bool.and_eq_true, decide_eq_true_eq] at hok
      obtain ⟨⟨hd, rfl⟩, hk1, hk2, hk3, hkc, hkC, hk4⟩ := hok
      obtain ⟨m1, m2, m3, m4, m5, m6, m7, m8⟩ := k_mtS hk4
      obtain ⟨ci, rfl⟩ : ∃ ci : Nat, k = ci + 1 := ⟨k.toNat - 1, by omega⟩
      rw [show (((ci : Int) + 1).toNat - 1) = ci by omega] at hkC
      obtain ⟨ix, fs, f1, f2, f3, f4, f5⟩ := hRw.obj (by omega) hx0
      rw [f2] at c1 c2
      have hp : ∀ U : State, U.heap = H → s.WarmedH U.vm → va_Pc (va_rf (some (g_ba G + ix)) :: As) (g_P G h) (Value.ref (g_ba G + ix) :: As).toArray U := fun U hU hW => ⟨rfl, g_pre X hR hS hc hz U hU hW⟩
      have hM := g_met (G := G) S hrun hGW m3 c2 (by rw [← ha, List.length_reverse, List.length_take]; omega)
      have hcb := callB_of (R := R) (s := s) (args := args) (own := (P_y mi).cls) (index := i) (y := P_y a) (bytes := P_by a) (maxL := P_ml a) (ret := P_ret a) (ws := g_ws a) (rm := g_rm (d - 1) h h') (k_np a) hts (g_goodws m1) rfl rfl rfl (hts _ m2) (hts _ (k_is_mem hk1)) m4 ⟨by show d - 1 + 1 ≤ R.frames; omega, by show 8 + (P_ml a + 11) + 40 * (d - 1) ≤ R.locals; omega⟩
      have hrc := va_recv hK hRw.1 (K_cl_get (by omega : ci < 11)) f3
      have hrc : ∃ cell : Cell, H[g_ba G + ix]? = some cell ∧ cell.vm.isStatics = false ∧ s.vm.findClass (P_y a).cls = some cell.cls := by rw [← hkC]; exact hrc
      have hrun3 := va_runV (C := (P_y a).cls) (e := e) (below := below) (meth := meth) (H := H) (locs := locs) (cells := cells) (slots := slots) (g := F0 m pc ls' st') (As := As) (rest := st'.drop e0.toNat) (b := g_ba G + ix) (⟨hx, hb, hml, hown, hts⟩ : CallFix p m c (P_by mi) (P_ml mi) s args k_T (P_y mi).cls) hM ⟨hcb, hts _ (m8 hk2).1, hts _ (m8 hk2).2⟩ ⟨g_blind hGW hlow, hrc, hp⟩ rfl (by omega) hl.1 c1 (g_room c3 hcond.2.1) hd ⟨by omega, by omega⟩
      exact g_call3 (h1 := h1) hle hrun3 hS hc hsl hl c3 K
    · cases hok
  · simp only [k_ok] at hok
    split at hok
    · rename_i i ti
      simp only [k_dc, Bool.and_eq_true, decide_eq_true_eq] at hok
      obtain ⟨⟨hd, rfl⟩, hk1, hk2, hk3, hkc, hkC, hk4⟩ := hok
      obtain ⟨m1, m2, m3, m4, m5, m6, m7, m8⟩ := k_mtS hk4
      obtain ⟨ci, rfl⟩ : ∃ ci : Nat, k = ci + 1 := ⟨k.toNat - 1, by omega⟩
      rw [show (((ci : Int) + 1).toNat - 1) = ci by omega] at hkC
      obtain ⟨ix, fs, f1, f2, f3, f4, f5⟩ := hRw.obj (by omega) hx0
      rw [f2] at c1 c2
      have hp : ∀ U : State, U.heap = H → s.WarmedH U.vm → va_Pc (va_rf (some (g_ba G + ix)) :: As) (g_P G h) (Value.ref (g_ba G + ix) :: As).toArray U := fun U hU hW => ⟨rfl, g_pre X hR hS hc hz U hU hW⟩
      have hM := g_met (G := G) S hrun hGW m3 c2 (by rw [← ha, List.length_reverse, List.length_take]; omega)
      have hcb := va_cnB (R := R) (s := s) (args := args) (own := (P_y mi).cls) (index := i) (y := P_y a) (bytes := P_by a) (maxL := P_ml a) (ret := P_ret a) (ws := g_ws a) (rm := g_rm (d - 1) h h') (k_np a) hts (g_goodws m1) rfl rfl rfl (hE.1 _ hk1) (hts _ m2) m4 ⟨by show d - 1 + 1 ≤ R.frames; omega, by show 8 + (P_ml a + 11) + 40 * (d - 1) ≤ R.locals; omega⟩
      have hrc := va_recv hK hRw.1 (K_cl_get (by omega : ci < 11)) f3
      have hrc : ∃ cell : Cell, H[g_ba G + ix]? = some cell ∧ cell.vm.isStatics = false ∧ s.vm.findClass (P_y a).cls = some cell.cls := by rw [← hkC]; exact hrc
      have hrun3 := va_runVN (C := (P_y a).cls) (e := e) (below := below) (meth := meth) (H := H) (locs := locs) (cells := cells) (slots := slots) (g := F0 m pc ls' st') (As := As) (rest := st'.drop e0.toNat) (b := g_ba G + ix) (⟨hx, hb, hml, hown, hts⟩ : CallFix p m c (P_by mi) (P_ml mi) s args k_T (P_y mi).cls) hM ⟨hcb, hts _ (m8 hk2).1, hts _ (m8 hk2).2⟩ ⟨g_blind hGW hlow, hrc, hp⟩ rfl (by omega) hl.1 c1 (g_room c3 hcond.2.1) hd ⟨by omega, by omega⟩
      exact g_call3 (h1 := h1) hle hrun3 hS hc hsl hl c3 K
    · cases hok
set_option maxHeartbeats 4000000 in
theorem g_o55 {n pc nx d a ci : Nat} {ls : E_L} {st as : List E_V} {h h' h1 : E_H} {sl0 e0 x : Int} {i ti cn : Nat} {nm ds : String} {r : Option E_V} (S : g_Sound l n) (X : g_X G p s m args meth c mi) (hd : decode (P_by mi) pc = .ok (.invokeinterface i cn, 5)) (hnx : nx = pc + 5) (hk1 : k_is ti (.methodLink (P_y mi).cls i ⟨k_nd, nm, ds⟩) = true) (hnm : (P_y a).name = nm ∧ (P_y a).desc = ds) (hk3 : e0 = k_np a + 1) (hfa : k_fa a = true) (hci : ci < 11) (hkC : K_C ci = (P_y a).cls) (hcond : e0.toNat ≤ st.length ∧ (st.drop e0.toNat).length ≤ 8 ∧ 0 < d ∧ e0.toNat ≤ P_ml a) (ha : (st.take e0.toNat).reverse = .inr x :: as) (hx0 : h_kd h x = ci + 1) (hrun : e_run n (d - 1) a 0 (e_ent (P_ml a) (st.take e0.toNat).reverse) [] h = some (r, h')) (hB : g_B G R s sl0 d h1) (hle1 : h_sz h' ≤ h_sz h1 ∧ h_sl h' ≤ h_sl h1) (K : g_K G p l e R s m args below meth c Q mi sl0 nx ls (r.toList ++ st.drop e0.toNat) h') : g_K G p l e R s m args below meth c Q mi sl0 pc ls st h := by
  obtain ⟨hx, hb, hml, hown, hts, hnm0, hK, hE, hGW, hbs⟩ := id X
  intro H locs cells slots ls' st' hR hS hc hsl hl hst
  have hle := e_run_le hrun
  obtain ⟨As, c0, c1, c2, c3⟩ := g_recv hst ha
  have hlv := c2.len
  have hla := congrArg List.length ha
  rw [List.length_reverse, List.length_take, Nat.min_eq_left hcond.1] at hla
  rw [← hla] at hlv
  obtain ⟨hB1, hB2, hB3, hB4⟩ := hB
  have hlow : 16 ≤ h_sz h := by
    obtain ⟨ws, hw⟩ := hR
    rw [hw.2.1]
    omega
  refine g_sized (fun hz => ?_)
  rw [ha] at hrun
  rw [List.length_cons] at hlv
  obtain ⟨ws, hRw⟩ := id hR
  obtain ⟨ix, fs, f1, f2, f3, f4, f5⟩ := hRw.obj hci hx0
  rw [f2] at c1 c2
  obtain ⟨L, hL, m1, m2, m3, m4, m5, m6, m7⟩ := k_faS hfa
  subst hnx
  obtain ⟨rfl, rfl⟩ := hnm
  have hp : ∀ U : State, U.heap = H → s.WarmedH U.vm → va_Pc (va_rf (some (g_ba G + ix)) :: As) (g_P G h) (Value.ref (g_ba G + ix) :: As).toArray U := fun U hU hW => ⟨rfl, g_pre X hR hS hc hz U hU hW⟩
  have hM := g_met (G := G) S hrun hGW m3 c2 (by rw [← ha, List.length_reverse, List.length_take]; omega)
  have hGI : GoodIn k_T (va_wsF (P_y mi).cls i (P_y a).cls ⟨k_nd, (P_y a).name, (P_y a).desc⟩ (P_y a) (g_ws a)) := by
    refine k_goodIn (fun w hw => ?_)
    unfold va_wsF at hw
    rcases List.mem_append.mp hw with hw | hw
    · simp only [List.mem_cons, List.not_mem_nil, or_false] at hw
      rcases hw with rfl | rfl | rfl | rfl
      · exact k_is_mem hk1
      · exact m7
      · exact m6
      · exact m2
    · exact ((g_goodws m1) w hw).1
  have hcw := va_cwF (R := R) (s := s) (args := args) (bytes := P_by a) (maxL := P_ml a) (ret := P_ret a) (rm := g_rm (d - 1) h h') (k_np a) hts hGI rfl rfl rfl (hE.2.2.1 _ hL) ⟨by show k_nd ≠ _; decide, by show k_nd ≠ _; decide, m4⟩ ⟨by show d - 1 + 1 ≤ R.frames; omega, by show 8 + (P_ml a + 11) + 40 * (d - 1) ≤ R.locals; omega⟩
  have hcl := hK.1 ci _ (K_cl_get hci)
  have hrc := va_recv hK hRw.1 (K_cl_get hci) f3
  have hrc : ∃ cell : Cell, H[g_ba G + ix]? = some cell ∧ cell.vm.isStatics = false ∧ s.vm.findClass (P_y a).cls = some cell.cls := by rw [← hkC]; exact hrc
  have hat : ClassAt s (P_y a).cls ((g_D G).1 ci) := by rw [← hkC]; exact hcl.2
  have hrun3 := va_runF (C := (P_y a).cls) (e := e) (below := below) (meth := meth) (H := H) (locs := locs) (cells := cells) (slots := slots) (g := F0 m pc ls' st') (As := As) (rest := st'.drop e0.toNat) (b := g_ba G + ix) hat (⟨hx, hb, hml, hown, hts⟩ : CallFix p m c (P_by mi) (P_ml mi) s args k_T (P_y mi).cls) hM hcw ⟨g_blind hGW hlow, hrc, hp⟩ rfl (by omega) hl.1 c1 (g_room c3 hcond.2.1) hd ⟨by omega, by omega⟩
  exact g_call5 (h1 := h1) hle hrun3 hS hc hsl hl c3 K
end GI
