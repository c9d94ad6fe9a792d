/-! ===== fields, objects, arrays ===== -/
theorem K_in : ∀ ci, ci < 11 → ∀ w ∈ u_ws (K_C ci) (K_F ci) (K_N ci), w ∈ k_T := by
  have h : (List.range 11).all (fun ci => (u_ws (K_C ci) (K_F ci) (K_N ci)).all (fun w => decide (w ∈ lw_tbl) && goodWord w)) = true := by decide +kernel
  intro ci hci w hw
  have h1 := List.all_eq_true.mp (List.all_eq_true.mp h ci (List.mem_range.mpr hci)) w hw
  rw [Bool.and_eq_true, decide_eq_true_eq] at h1
  exact List.mem_filter.mpr h1
theorem K_ini : ∀ ci, ci < 11 → Jvm.Cond.instantiable (K_C ci) (K_N ci) ∈ k_T ∧ Jvm.Cond.initialized (K_C ci) ∈ k_T := by
  have h : (List.range 11).all (fun ci => decide (Jvm.Cond.instantiable (K_C ci) (K_N ci) ∈ lw_tbl) && decide (Jvm.Cond.initialized (K_C ci) ∈ lw_tbl)) = true := by decide +kernel
  intro ci hci
  have h1 := List.all_eq_true.mp h ci (List.mem_range.mpr hci)
  rw [Bool.and_eq_true, decide_eq_true_eq, decide_eq_true_eq] at h1
  exact ⟨List.mem_filter.mpr ⟨h1.1, rfl⟩, List.mem_filter.mpr ⟨h1.2, rfl⟩⟩
theorem K_tok : ∀ ci, ci < 11 → ∀ k, k < K_N ci → parseFieldDescriptor (K_F ci k).2.2.1 = some (K_t ci k) := by
  have h : (List.range 11).all (fun ci => (List.range (K_N ci)).all (fun k => decide (parseFieldDescriptor (K_F ci k).2.2.1 = some (K_t ci k)))) = true := by decide +kernel
  intro ci hci k hk
  exact of_decide_eq_true (List.all_eq_true.mp (List.all_eq_true.mp h ci (List.mem_range.mpr hci)) k (List.mem_range.mpr hk))
theorem K_nm : ∀ ci, ci < 11 → ∀ a, a < K_N ci → ∀ b, b < K_N ci → a ≠ b → (K_F ci a).2.1 ≠ (K_F ci b).2.1 := by
  have h : (List.range 11).all (fun ci => (List.range (K_N ci)).all (fun a => (List.range (K_N ci)).all (fun b => decide (a ≠ b → (K_F ci a).2.1 ≠ (K_F ci b).2.1)))) = true := by decide +kernel
  intro ci hci a ha b hb
  exact of_decide_eq_true (List.all_eq_true.mp (List.all_eq_true.mp (List.all_eq_true.mp h ci (List.mem_range.mpr hci)) a (List.mem_range.mpr ha)) b (List.mem_range.mpr hb))
theorem K_tys : ∀ ci, ci < 11 → ∀ k, k < K_N ci → K_ty ci k ≤ 2 := by
  have h : (List.range 11).all (fun ci => (List.range (K_N ci)).all (fun k => decide (K_ty ci k ≤ 2))) = true := by decide +kernel
  intro ci hci k hk
  exact of_decide_eq_true (List.all_eq_true.mp (List.all_eq_true.mp h ci (List.mem_range.mpr hci)) k (List.mem_range.mpr hk))
theorem K_ty0 {ci k : Nat} (h : K_ty ci k = 0) : K_t ci k = .int := by
  unfold K_ty at h
  split at h <;> first | assumption | omega
theorem K_ty2 {ci k : Nat} (h : K_ty ci k = 2) : K_t ci k = .boolean := by
  unfold K_ty at h
  split at h <;> first | assumption | omega
theorem K_ty1 {ci k : Nat} (h : K_ty ci k = 1) : (∃ C, K_t ci k = .object C) ∨ ∃ t, K_t ci k = .array t := by
  unfold K_ty at h
  split at h <;> first | omega | exact Or.inl ⟨_, by assumption⟩ | exact Or.inr ⟨_, by assumption⟩
section GO
variable {G : E_P} {p : Program} {l : Launch} {e : Env} {R : Room} {s : State} {m : MethodId} {args : Array Value} {below : List Frame} {meth : Method} {c : Code} {Q : State → Prop} {mi : Nat}
theorem g_fd {a ci k : Nat} {ll : List Nat} (hts : ∀ w ∈ k_T, w.before args s = true) (h : k_fd mi a ci k ll = true) : ∃ ref, (Jvm.Cond.fieldLink (P_y mi).cls a ref (K_F ci k).2.1 (K_F ci k).2.2.1).before args s = true ∧ ∀ x, s.fieldFound? (K_F ci k).1 (K_F ci k).2.1 (K_F ci k).2.2.1 = some x → s.fieldFound? ref (K_F ci k).2.1 (K_F ci k).2.2.1 = some x := by
  unfold k_fd at h
  split at h
  · exact ⟨_, hts _ (k_is_mem h), fun x hx => hx⟩
  · rw [Bool.and_eq_true] at h
    exact ⟨_, hts _ (k_is_mem h.1), u_same (hts _ (k_is_mem h.2))⟩
  · cases h
theorem g_getD {α : Type} {l : List α} {k : Nat} {d v : α} (h : k < l.length) (hv : l.getD k d = v) : l[k]? = some v := by
  rw [← hv, List.getD_eq_getElem?_getD, List.getElem?_eq_getElem h]
  rfl
set_option maxHeartbeats 4000000 in
theorem g_o22 {pc nx d a b : Nat} {ls : E_L} {st : List E_V} {h : E_H} {sl0 k e0 : Int} {ll : List Nat} {q : Nat × E_L × List E_V × E_H} (X : g_X G p s m args meth c mi) (hok : k_ok mi pc (22, a, b, k, e0, nx, ll) = true) (hq : e_pick (e_stp d 22 a b k e0 nx ll ls st h) = some q) (hB : g_B G R s sl0 d q.2.2.2) (K : g_K G p l e R s m args below meth c Q mi sl0 q.1 q.2.1 q.2.2.1 q.2.2.2) : g_K G p l e R s m args below meth c Q mi sl0 pc ls st h := by
  obtain ⟨hx, hb, hml, hown, hts, hnm, hK, hE, hGW, hbs⟩ := X
  intro H locs cells slots ls' st' hR hS hc hsl hl hst
  simp only [k_ok, k_dc, Bool.and_eq_true, decide_eq_true_eq] at hok
  simp only [e_stp, s_get] at hq
  split at hq
  · rename_i x r _
    rw [e_pick1] at hq
    obtain ⟨ha, rfl⟩ := hq
    rw [decide_eq_true_eq] at ha
    match st', hst with
    | w :: st', hst =>
      obtain ⟨hv, hs2⟩ := hst
      have hv : w = va_rf (g_rr G x) := hv
      subst hv
      obtain ⟨⟨hd, rfl⟩, hk1, hk2, hk3, hk4⟩ := hok
      obtain ⟨ws, hRw⟩ := id hR
      obtain ⟨ci, rfl⟩ : ∃ ci : Nat, k = ci + 1 := ⟨k.toNat - 1, by omega⟩
      obtain ⟨kf, rfl⟩ : ∃ kf : Nat, e0 = kf := ⟨e0.toNat, by omega⟩
      have e1 : (((ci : Int) + 1).toNat - 1) = ci := by omega
      have e2 : ((kf : Int)).toNat = kf := by omega
      rw [e1, e2] at hk3 hk4
      rw [e1] at hk2
      obtain ⟨i, fs, f1, f2, f3, f4, f5⟩ := hRw.obj (by omega) ha
      rw [f2]
      obtain ⟨ref, hl1, hl2⟩ := g_fd hts hk4
      have hvv := f5 kf (by omega)
      unfold g_fv at hvv
      rw [if_neg hk3] at hvv
      exact va_get (D := g_D G) (ci := ci) hx hb hts (K_in ci (by omega)) hown hK hRw.1 i f3 (K_cl_get (by omega)) kf (by omega) hl1 hl2 (g_getD (by omega) rfl) hd (K H locs cells slots ls' _ hR hS hc hsl hl ⟨hvv, hs2⟩)
  · rename_i hz
    exact absurd hz (by decide)
  · exact absurd hq e_pick0
set_option maxHeartbeats 4000000 in
theorem g_o23 {pc nx d a b : Nat} {ls : E_L} {st : List E_V} {h : E_H} {sl0 k e0 : Int} {ll : List Nat} {q : Nat × E_L × List E_V × E_H} (X : g_X G p s m args meth c mi) (hok : k_ok mi pc (23, a, b, k, e0, nx, ll) = true) (hq : e_pick (e_stp d 23 a b k e0 nx ll ls st h) = some q) (hB : g_B G R s sl0 d q.2.2.2) (K : g_K G p l e R s m args below meth c Q mi sl0 q.1 q.2.1 q.2.2.1 q.2.2.2) : g_K G p l e R s m args below meth c Q mi sl0 pc ls st h := by
  obtain ⟨hx, hb, hml, hown, hts, hnm, hK, hE, hGW, hbs⟩ := X
  intro H locs cells slots ls' st' hR hS hc hsl hl hst
  simp only [k_ok, k_dc, Bool.and_eq_true, decide_eq_true_eq] at hok
  simp only [e_stp, s_get] at hq
  split at hq
  · rename_i hz
    exact absurd hz (by decide)
  · rename_i x r _
    rw [e_pick1] at hq
    obtain ⟨ha, rfl⟩ := hq
    rw [decide_eq_true_eq] at ha
    match st', hst with
    | w :: st', hst =>
      obtain ⟨hv, hs2⟩ := hst
      have hv : w = va_rf (g_rr G x) := hv
      subst hv
      obtain ⟨⟨hd, rfl⟩, hk1, hk2, hk3, hk4⟩ := hok
      obtain ⟨ws, hRw⟩ := id hR
      obtain ⟨ci, rfl⟩ : ∃ ci : Nat, k = ci + 1 := ⟨k.toNat - 1, by omega⟩
      obtain ⟨kf, rfl⟩ : ∃ kf : Nat, e0 = kf := ⟨e0.toNat, by omega⟩
      have e1 : (((ci : Int) + 1).toNat - 1) = ci := by omega
      have e2 : ((kf : Int)).toNat = kf := by omega
      rw [e1, e2] at hk3 hk4
      rw [e1] at hk2
      obtain ⟨i, fs, f1, f2, f3, f4, f5⟩ := hRw.obj (by omega) ha
      rw [f2]
      obtain ⟨ref, hl1, hl2⟩ := g_fd hts hk4
      have hvv := f5 kf (by omega)
      unfold g_fv at hvv
      rw [if_pos hk3] at hvv
      exact va_get (D := g_D G) (ci := ci) hx hb hts (K_in ci (by omega)) hown hK hRw.1 i f3 (K_cl_get (by omega)) kf (by omega) hl1 hl2 (g_getD (by omega) rfl) hd (K H locs cells slots ls' _ hR hS hc hsl hl ⟨hvv, hs2⟩)
  · exact absurd hq e_pick0
/-- a store into a field, whatever the type -/
theorem g_putf {pc a : Nat} {h : E_H} {H : Heap} {locs : List Loc} {cells slots : Nat} {ls' : Array Slot} {st' : List Value} {ll : List Nat} {ci kf : Nat} {x y : Int} {v : Value} (X : g_X G p s m args meth c mi) (hR : g_R G h H) (hS : va_S (g_A G) s.heap H locs) (hci : ci < 11) (hkf : kf < K_N ci) (ha : h_kd h x = ci + 1) (hfd : k_fd mi a ci kf ll = true) (hpf : k_pf mi ci kf = true) (hv : g_V G (g_fv ci kf y) v) (hn : narrow (K_t ci kf) v = v) (hfit : fits (K_t ci kf) v = true) (hd : decode (P_by mi) pc = .ok (.putfield a, 3))
    (K : ∀ (H1 : Heap) (locs1 : List Loc), g_R G (h_put h x kf y) H1 → va_S (g_A G) s.heap H1 locs1 → W p l e R s m args below meth c H1 locs1 cells slots Q (F0 m (pc + 3) ls' st')) : W p l e R s m args below meth c H locs cells slots Q (F0 m pc ls' (v :: va_rf (g_rr G x) :: st')) := by
  obtain ⟨hx, hb, hml, hown, hts, hnm, hK, hE, hGW, hbs⟩ := X
  obtain ⟨ws, hRw⟩ := id hR
  obtain ⟨i, fs, f1, f2, f3, f4, f5⟩ := hRw.obj hci ha
  rw [f2]
  obtain ⟨ref, hl1, hl2⟩ := g_fd hts hfd
  have kk : ∀ (H1 : Heap) (locs1 : List Loc), va_P (g_D G) K_cl (ws.set i (g_ba G + i, .inr (ci, fs.set kf v))) H1 → va_D (g_A G) (ws.set i (g_ba G + i, .inr (ci, fs.set kf v))) → va_S (g_A G) s.heap H1 locs1 → W p l e R s m args below meth c H1 locs1 cells slots Q (F0 m (pc + 3) ls' st') := by
    intro H1 locs1 hP1 hD1 hS1
    refine K H1 locs1 ⟨_, hRw.put f3 f1 hP1 ⟨ha, hci, by rw [List.length_set]; exact f4, fun k hk => ?_⟩⟩ hS1
    by_cases hkk : k = kf
    · subst hkk
      have e1 : h_vl (h_put h x k y) x k = y := by simp [h_vl, h_put]
      rw [e1]
      have e2 : (fs.set k v).getD k .null = v := by
        rw [List.getD_eq_getElem?_getD, List.getElem?_set_self (by omega)]
        rfl
      rw [e2]
      exact hv
    · have e1 : h_vl (h_put h x kf y) x k = h_vl h x k := by
        have : ¬ ((k : Int) = kf) := by omega
        simp [h_vl, h_put, this]
      rw [e1]
      have e2 : (fs.set kf v).getD k .null = fs.getD k .null := by
        rw [List.getD_eq_getElem?_getD, List.getElem?_set_ne (Ne.symm hkk), ← List.getD_eq_getElem?_getD]
      rw [e2]
      exact f5 k hk
  unfold k_pf at hpf
  rw [Bool.or_eq_true, Bool.and_eq_true, decide_eq_true_eq, decide_eq_true_eq, decide_eq_true_eq] at hpf
  by_cases hfin : (K_F ci kf).2.2.2 = false
  · exact va_put (D := g_D G) (ci := ci) (ty := K_t ci kf) hx hb hts (K_in ci hci) (K_t ci) (K_tok ci hci) (K_nm ci hci) hown hK hRw.1 hRw.D hS i f3 (K_cl_get hci) kf hkf hl1 hl2 hfin (K_tok ci hci kf hkf) hn hfit (by omega) hd kk
  · rcases hpf with h1 | h1
    · exact absurd h1 hfin
    · exact va_putF (D := g_D G) (ci := ci) (ty := K_t ci kf) hx hb hts (K_in ci hci) (K_t ci) (K_tok ci hci) (K_nm ci hci) hown hK hRw.1 hRw.D hS i f3 (K_cl_get hci) kf hkf hl1 hl2 (by simpa using hfin) (hnm h1.1) h1.2 (K_tok ci hci kf hkf) hn hfit (by omega) hd kk
set_option maxHeartbeats 4000000 in
theorem g_o24 {pc nx d a b : Nat} {ls : E_L} {st : List E_V} {h : E_H} {sl0 k e0 : Int} {ll : List Nat} {q : Nat × E_L × List E_V × E_H} (X : g_X G p s m args meth c mi) (hok : k_ok mi pc (24, a, b, k, e0, nx, ll) = true) (hq : e_pick (e_stp d 24 a b k e0 nx ll ls st h) = some q) (hB : g_B G R s sl0 d q.2.2.2) (K : g_K G p l e R s m args below meth c Q mi sl0 q.1 q.2.1 q.2.2.1 q.2.2.2) : g_K G p l e R s m args below meth c Q mi sl0 pc ls st h := by
  obtain ⟨hx, hb, hml, hown, hts, hnm, hK, hE, hGW, hbs⟩ := X
  intro H locs cells slots ls' st' hR hS hc hsl hl hst
  simp only [k_ok, k_dc, Bool.and_eq_true, decide_eq_true_eq] at hok
  simp only [e_stp, s_put] at hq
  split at hq
  · rename_i y x r _
    rw [e_pick1] at hq
    obtain ⟨ha, rfl⟩ := hq
    rw [decide_eq_true_eq] at ha
    match st', hst with
    | w1 :: w2 :: st', hst =>
      obtain ⟨⟨z, rfl, hz⟩, hv, hs2⟩ := hst
      have hv : w2 = va_rf (g_rr G x) := hv
      subst hv
      obtain ⟨⟨hd, rfl⟩, hk1, hk2, hk3, hk4, hk5⟩ := hok
      obtain ⟨ci, rfl⟩ : ∃ ci : Nat, k = ci + 1 := ⟨k.toNat - 1, by omega⟩
      obtain ⟨kf, rfl⟩ : ∃ kf : Nat, e0 = kf := ⟨e0.toNat, by omega⟩
      have e1 : (((ci : Int) + 1).toNat - 1) = ci := by omega
      have e2 : ((kf : Int)).toNat = kf := by omega
      rw [e1, e2] at hk3 hk4 hk5
      rw [e1] at hk2
      refine g_putf (x := x) (y := y) ⟨hx, hb, hml, hown, hts, hnm, hK, hE, hGW, hbs⟩ hR hS (by omega) (by omega) ha hk4 hk5 ?_ ?_ ?_ hd (fun H1 locs1 r1 r2 => K H1 locs1 cells slots ls' _ r1 r2 hc hsl hl hs2)
      · unfold g_fv
        rw [if_neg (by omega)]
        exact ⟨z, rfl, hz⟩
      · rw [K_ty0 hk3]
        rfl
      · rw [K_ty0 hk3]
        rfl
  · rename_i hz
    exact absurd hz (by decide)
  · rename_i hz
    exact absurd hz (by decide)
  · exact absurd hq e_pick0
theorem g_nrf {ci k : Nat} {r : Option Nat} (h : K_ty ci k = 1) : narrow (K_t ci k) (va_rf r) = va_rf r ∧ fits (K_t ci k) (va_rf r) = true := by
  rcases K_ty1 h with ⟨C, h1⟩ | ⟨t, h1⟩ <;> rw [h1] <;> cases r <;> exact ⟨rfl, rfl⟩
set_option maxHeartbeats 4000000 in
theorem g_o25 {pc nx d a b : Nat} {ls : E_L} {st : List E_V} {h : E_H} {sl0 k e0 : Int} {ll : List Nat} {q : Nat × E_L × List E_V × E_H} (X : g_X G p s m args meth c mi) (hok : k_ok mi pc (25, a, b, k, e0, nx, ll) = true) (hq : e_pick (e_stp d 25 a b k e0 nx ll ls st h) = some q) (hB : g_B G R s sl0 d q.2.2.2) (K : g_K G p l e R s m args below meth c Q mi sl0 q.1 q.2.1 q.2.2.1 q.2.2.2) : g_K G p l e R s m args below meth c Q mi sl0 pc ls st h := by
  obtain ⟨hx, hb, hml, hown, hts, hnm, hK, hE, hGW, hbs⟩ := X
  intro H locs cells slots ls' st' hR hS hc hsl hl hst
  simp only [k_ok, k_dc, Bool.and_eq_true, decide_eq_true_eq] at hok
  simp only [e_stp, s_put] at hq
  split at hq
  · rename_i hz
    exact absurd hz (by decide)
  · rename_i y x r _
    rw [e_pick1] at hq
    obtain ⟨ha, rfl⟩ := hq
    rw [decide_eq_true_eq] at ha
    match st', hst with
    | w1 :: w2 :: st', hst =>
      obtain ⟨hv1, hv, hs2⟩ := hst
      have hv : w2 = va_rf (g_rr G x) := hv
      subst hv
      have hv1 : w1 = va_rf (g_rr G y) := hv1
      subst hv1
      obtain ⟨⟨hd, rfl⟩, hk1, hk2, hk3, hk4, hk5⟩ := hok
      obtain ⟨ci, rfl⟩ : ∃ ci : Nat, k = ci + 1 := ⟨k.toNat - 1, by omega⟩
      obtain ⟨kf, rfl⟩ : ∃ kf : Nat, e0 = kf := ⟨e0.toNat, by omega⟩
      have e1 : (((ci : Int) + 1).toNat - 1) = ci := by omega
      have e2 : ((kf : Int)).toNat = kf := by omega
      rw [e1, e2] at hk3 hk4 hk5
      rw [e1] at hk2
      refine g_putf (x := x) (y := y) ⟨hx, hb, hml, hown, hts, hnm, hK, hE, hGW, hbs⟩ hR hS (by omega) (by omega) ha hk4 hk5 ?_ (g_nrf hk3).1 (g_nrf hk3).2 hd (fun H1 locs1 r1 r2 => K H1 locs1 cells slots ls' _ r1 r2 hc hsl hl hs2)
      unfold g_fv
      rw [if_pos hk3]
      rfl
  · rename_i hz
    exact absurd hz (by decide)
  · exact absurd hq e_pick0
theorem g_bool {z : Int32} (h : z.toInt = 0 ∨ z.toInt = 1) : narrow .boolean (.int z) = .int z ∧ fits .boolean (.int z) = true := by
  rcases h with h | h
  · rw [g_eqI h]
    decide
  · rw [g_eqI h]
    decide
set_option maxHeartbeats 4000000 in
theorem g_o26 {pc nx d a b : Nat} {ls : E_L} {st : List E_V} {h : E_H} {sl0 k e0 : Int} {ll : List Nat} {q : Nat × E_L × List E_V × E_H} (X : g_X G p s m args meth c mi) (hok : k_ok mi pc (26, a, b, k, e0, nx, ll) = true) (hq : e_pick (e_stp d 26 a b k e0 nx ll ls st h) = some q) (hB : g_B G R s sl0 d q.2.2.2) (K : g_K G p l e R s m args below meth c Q mi sl0 q.1 q.2.1 q.2.2.1 q.2.2.2) : g_K G p l e R s m args below meth c Q mi sl0 pc ls st h := by
  obtain ⟨hx, hb, hml, hown, hts, hnm, hK, hE, hGW, hbs⟩ := X
  intro H locs cells slots ls' st' hR hS hc hsl hl hst
  simp only [k_ok, k_dc, Bool.and_eq_true, decide_eq_true_eq] at hok
  simp only [e_stp, s_put] at hq
  split at hq
  · rename_i hz
    exact absurd hz (by decide)
  · rename_i hz
    exact absurd hz (by decide)
  · rename_i y x r _
    rw [e_pick1] at hq
    obtain ⟨ha, rfl⟩ := hq
    rw [decide_eq_true_eq] at ha
    obtain ⟨ha, hy01⟩ := ha
    match st', hst with
    | w1 :: w2 :: st', hst =>
      obtain ⟨⟨z, rfl, hz⟩, hv, hs2⟩ := hst
      have hv : w2 = va_rf (g_rr G x) := hv
      subst hv
      obtain ⟨⟨hd, rfl⟩, hk1, hk2, hk3, hk4, hk5⟩ := hok
      obtain ⟨ci, rfl⟩ : ∃ ci : Nat, k = ci + 1 := ⟨k.toNat - 1, by omega⟩
      obtain ⟨kf, rfl⟩ : ∃ kf : Nat, e0 = kf := ⟨e0.toNat, by omega⟩
      have e1 : (((ci : Int) + 1).toNat - 1) = ci := by omega
      have e2 : ((kf : Int)).toNat = kf := by omega
      rw [e1, e2] at hk3 hk4 hk5
      rw [e1] at hk2
      have hzb := g_bool (z := z) (by omega)
      refine g_putf (x := x) (y := y) ⟨hx, hb, hml, hown, hts, hnm, hK, hE, hGW, hbs⟩ hR hS (by omega) (by omega) ha hk4 hk5 ?_ ?_ ?_ hd (fun H1 locs1 r1 r2 => K H1 locs1 cells slots ls' _ r1 r2 hc hsl hl hs2)
      · unfold g_fv
        rw [if_neg (by omega)]
        exact ⟨z, rfl, hz⟩
      · rw [K_ty2 hk3]
        exact hzb.1
      · rw [K_ty2 hk3]
        exact hzb.2
  · exact absurd hq e_pick0
set_option maxHeartbeats 4000000 in
theorem g_o27 {pc nx d a b : Nat} {ls : E_L} {st : List E_V} {h : E_H} {sl0 k e0 : Int} {ll : List Nat} {q : Nat × E_L × List E_V × E_H} (X : g_X G p s m args meth c mi) (hok : k_ok mi pc (27, a, b, k, e0, nx, ll) = true) (hq : e_pick (e_stp d 27 a b k e0 nx ll ls st h) = some q) (hB : g_B G R s sl0 d q.2.2.2) (K : g_K G p l e R s m args below meth c Q mi sl0 q.1 q.2.1 q.2.2.1 q.2.2.2) : g_K G p l e R s m args below meth c Q mi sl0 pc ls st h := by
  obtain ⟨hx, hb, hml, hown, hts, hnm, hK, hE, hGW, hbs⟩ := X
  intro H locs cells slots ls' st' hR hS hc hsl hl hst
  simp only [k_ok, k_dc, Bool.and_eq_true, decide_eq_true_eq] at hok
  simp only [e_stp, e_pick1] at hq
  obtain ⟨-, rfl⟩ := hq
  obtain ⟨⟨hd, rfl⟩, hk1, hk2⟩ := hok
  obtain ⟨kk, rfl⟩ : ∃ kk : Nat, k = kk := ⟨k.toNat, by omega⟩
  rw [Int.toNat_natCast] at hk2
  have hZ := hE.2.2.2.2.2.1 kk (by omega) (by omega)
  refine va_gets hx hb hZ hS hown (hts _ (k_is_mem hk2)) (fun x hx => hx) hd (K H locs cells slots ls' _ hR hS hc hsl hl ⟨?_, hst⟩)
  show Value.ref (g_ex G kk) = va_rf (g_rr G kk)
  unfold g_rr g_mu
  rw [if_neg (by omega), if_pos (by omega), Int.toNat_natCast]
  rfl
end GO
