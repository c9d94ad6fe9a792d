/-! ===== stores of references, casts, natives ===== -/
theorem k_cw (a b : String) (h : decide (Jvm.Cond.castable a b ∈ k_cst) = true) : Jvm.Cond.castable a b ∈ k_cst := of_decide_eq_true h
theorem k_c1 : Jvm.Cond.castable "LogStore$Actor" "java/lang/Object" ∈ k_cst := k_cw _ _ (by decide +kernel)
theorem k_c2 : Jvm.Cond.castable "LogStore$Entry" "java/lang/Object" ∈ k_cst := k_cw _ _ (by decide +kernel)
theorem k_c3 : Jvm.Cond.castable "LogStore$Leaf" "LogStore$Node" ∈ k_cst := k_cw _ _ (by decide +kernel)
theorem k_c4 : Jvm.Cond.castable "LogStore$Inner" "LogStore$Node" ∈ k_cst := k_cw _ _ (by decide +kernel)
theorem k_w1 : Jvm.Cond.instanceMethod Jvm.Lib.objectInit ∈ k_T ∧ Jvm.Cond.code Jvm.Lib.objectInit ⟨#[0xb1]⟩ 1 none ∈ k_T := by
  have h1 : decide (lw_tbl[96]? = some (Jvm.Cond.instanceMethod Jvm.Lib.objectInit)) = true := by decide +kernel
  have h2 : decide (lw_tbl[97]? = some (Jvm.Cond.code Jvm.Lib.objectInit ⟨#[0xb1]⟩ 1 none)) = true := by decide +kernel
  exact ⟨List.mem_filter.mpr ⟨List.mem_of_getElem? (of_decide_eq_true h1), rfl⟩, List.mem_filter.mpr ⟨List.mem_of_getElem? (of_decide_eq_true h2), rfl⟩⟩
theorem k_w2 : Jvm.Cond.native arraycopyName ∈ k_T ∧ Jvm.Cond.static arraycopyName ∈ k_T ∧ Jvm.Cond.initialized "java/lang/System" ∈ k_T := by
  have h1 : decide (lw_tbl[356]? = some (Jvm.Cond.native arraycopyName)) = true := by decide +kernel
  have h2 : decide (lw_tbl[355]? = some (Jvm.Cond.static arraycopyName)) = true := by decide +kernel
  have h3 : decide (lw_tbl[80]? = some (Jvm.Cond.initialized "java/lang/System")) = true := by decide +kernel
  exact ⟨List.mem_filter.mpr ⟨List.mem_of_getElem? (of_decide_eq_true h1), rfl⟩, List.mem_filter.mpr ⟨List.mem_of_getElem? (of_decide_eq_true h2), rfl⟩, List.mem_filter.mpr ⟨List.mem_of_getElem? (of_decide_eq_true h3), rfl⟩⟩
theorem k_w3 : Jvm.Cond.selects "[Ljava/lang/Object;" g_O g_O ∈ k_T ∧ Jvm.Cond.instanceMethod g_O ∈ k_T ∧ Jvm.Cond.native g_O ∈ k_T := by
  have h1 : decide (lw_tbl[1159]? = some (Jvm.Cond.selects "[Ljava/lang/Object;" g_O g_O)) = true := by decide +kernel
  have h2 : decide (Jvm.Cond.instanceMethod g_O ∈ lw_tbl) = true := by decide +kernel
  have h3 : decide (lw_tbl[344]? = some (Jvm.Cond.native g_O)) = true := by decide +kernel
  exact ⟨List.mem_filter.mpr ⟨List.mem_of_getElem? (of_decide_eq_true h1), rfl⟩, List.mem_filter.mpr ⟨of_decide_eq_true h2, rfl⟩, List.mem_filter.mpr ⟨List.mem_of_getElem? (of_decide_eq_true h3), rfl⟩⟩
theorem k_w4 : Jvm.Cond.static Jvm.Lib.Math.max.name ∈ k_T ∧ Jvm.Cond.initialized "java/lang/Math" ∈ k_T ∧ Jvm.Cond.code Jvm.Lib.Math.max.name Jvm.Lib.Math.max.code 2 (some .int) ∈ k_T := by
  have h1 : decide (lw_tbl[319]? = some (Jvm.Cond.static Jvm.Lib.Math.max.name)) = true := by decide +kernel
  have h2 : decide (lw_tbl[78]? = some (Jvm.Cond.initialized "java/lang/Math")) = true := by decide +kernel
  have h3 : decide (lw_tbl[320]? = some (Jvm.Cond.code Jvm.Lib.Math.max.name Jvm.Lib.Math.max.code 2 (some .int))) = true := by decide +kernel
  exact ⟨List.mem_filter.mpr ⟨List.mem_of_getElem? (of_decide_eq_true h1), rfl⟩, List.mem_filter.mpr ⟨List.mem_of_getElem? (of_decide_eq_true h2), rfl⟩, List.mem_filter.mpr ⟨List.mem_of_getElem? (of_decide_eq_true h3), rfl⟩⟩
theorem k_w5 : Jvm.Cond.static Jvm.Lib.Math.min.name ∈ k_T ∧ Jvm.Cond.code Jvm.Lib.Math.min.name Jvm.Lib.Math.min.code 2 (some .int) ∈ k_T := by
  have h1 : decide (lw_tbl[352]? = some (Jvm.Cond.static Jvm.Lib.Math.min.name)) = true := by decide +kernel
  have h3 : decide (lw_tbl[353]? = some (Jvm.Cond.code Jvm.Lib.Math.min.name Jvm.Lib.Math.min.code 2 (some .int))) = true := by decide +kernel
  exact ⟨List.mem_filter.mpr ⟨List.mem_of_getElem? (of_decide_eq_true h1), rfl⟩, List.mem_filter.mpr ⟨List.mem_of_getElem? (of_decide_eq_true h3), rfl⟩⟩
section GO
variable {G : E_P} {p : Program} {l : Launch} {e : Env} {R : Room} {s : State} {m : MethodId} {args : Array Value} {below : List Frame} {meth : Method} {c : Code} {Q : State → Prop} {mi : Nat}
theorem g_asg {a b : String} (hE : g_E G s) (h : Jvm.Cond.castable a b ∈ k_cst) : ∀ comp c0 : ClassId, s.vm.findClass b = some comp → s.vm.findClass a = some c0 → s.vm.assignable c0 comp = true := by
  intro comp c0 h1 h2
  obtain ⟨c1, t1, f1, f2, f3⟩ := Cond.castable_spec (va_Nw.use (A := #[]) rfl (hE.2.1 _ h))
  cases h2.symm.trans f1
  cases h1.symm.trans f2
  exact f3
/-- what is stored fits -/
theorem g_any {ws : va_W} {h : E_H} {H : Heap} {x : Int} {ak : Nat} {E : String} (hRw : g_Rw G ws h H) (hK : va_K (g_D G) K_cl (g_tys (g_cA G)) s) (hE : g_E G s) (hst : e_stok (20 + ak) (h_kd h x) = true) (hak : K_at ak = .object E) : ∃ i : Nat, g_rr G x = some (g_ba G + i) ∧ va_Any E s H (g_ba G + i) := by
  simp only [e_stok, decide_eq_true_eq] at hst
  have same : ∀ ci : Nat, ci < 11 → K_C ci = E → ∀ comp c0 : ClassId, s.vm.findClass E = some comp → s.vm.findClass (K_C ci) = some c0 → s.vm.assignable c0 comp = true := by
    intro ci hci he comp c0 h1 h2
    have hcl := (hK.1 ci _ (K_cl_get hci)).2
    rw [← he] at h1
    cases h1.symm.trans h2
    cases h2.symm.trans hcl.1
    exact va_assign hcl
  have fin : ∀ ci : Nat, ci < 11 → h_kd h x = ci + 1 → (∀ comp c0 : ClassId, s.vm.findClass E = some comp → s.vm.findClass (K_C ci) = some c0 → s.vm.assignable c0 comp = true) → ∃ i : Nat, g_rr G x = some (g_ba G + i) ∧ va_Any E s H (g_ba G + i) := by
    intro ci hci hk hasg
    obtain ⟨i, fs, f1, f2, f3, f4, f5⟩ := hRw.obj hci hk
    exact ⟨i, f2, va_rAny hK hRw.1 f3 (K_cl_get hci) hasg⟩
  rcases hst with ⟨h1, h2 | h2⟩ | ⟨h1, h2⟩ | ⟨h1, h2⟩ | ⟨h1, h2⟩ | ⟨h1, h2 | h2⟩
  · obtain rfl : ak = 3 := by omega
    cases hak
    exact fin 4 (by omega) (by omega) (g_asg hE k_c1)
  · obtain rfl : ak = 3 := by omega
    cases hak
    exact fin 8 (by omega) (by omega) (g_asg hE k_c2)
  · obtain rfl : ak = 4 := by omega
    cases hak
    exact fin 3 (by omega) (by omega) (same 3 (by omega) rfl)
  · obtain rfl : ak = 5 := by omega
    cases hak
    exact fin 7 (by omega) (by omega) (same 7 (by omega) rfl)
  · obtain rfl : ak = 6 := by omega
    cases hak
    exact fin 6 (by omega) (by omega) (same 6 (by omega) rfl)
  · obtain rfl : ak = 7 := by omega
    cases hak
    exact fin 2 (by omega) (by omega) (g_asg hE k_c3)
  · obtain rfl : ak = 7 := by omega
    cases hak
    exact fin 9 (by omega) (by omega) (g_asg hE k_c4)
theorem g_upq {n : Nat} {f : Nat → Option Nat} {h : E_H} {x i y : Int} (h0 : 0 ≤ i) (hf : ∀ j : Nat, j < n → f j = g_rr G (h_vl h x j)) : ∀ j : Nat, j < n → va_up f i.toNat (g_rr G y) j = g_rr G (h_vl (h_put h x i y) x j) := by
  intro j hj
  by_cases hji : j = i.toNat
  · subst hji
    have e1 : h_vl (h_put h x i y) x (i.toNat : Int) = y := by
      rw [Int.toNat_of_nonneg h0]
      simp [h_vl, h_put]
    rw [e1, va_up_self]
  · have e1 : h_vl (h_put h x i y) x j = h_vl h x j := by
      have : ¬ ((j : Int) = i) := by omega
      simp [h_vl, h_put, this]
    rw [e1, va_up_ne _ _ hji]
    exact hf j hj
set_option maxHeartbeats 4000000 in
theorem g_o35 {pc nx d a b : Nat} {ls : E_L} {st : List E_V} {h : E_H} {sl0 k e0 : Int} {ll : List Nat} {q : Nat × E_L × List E_V × E_H} (X : g_X G p s m args meth c mi) (hok : k_ok mi pc (35, a, b, k, e0, nx, ll) = true) (hq : e_pick (e_stp d 35 a b k e0 nx ll ls st h) = some q) (hB : g_B G R s sl0 d q.2.2.2) (K : g_K G p l e R s m args below meth c Q mi sl0 q.1 q.2.1 q.2.2.1 q.2.2.2) : g_K G p l e R s m args below meth c Q mi sl0 pc ls st h := by
  obtain ⟨hx, hb, hml, hown, hts, hnm, hK, hE, hGW, hbs⟩ := X
  intro H locs cells slots ls' st' hR hS hc hsl hl hst
  simp only [k_ok, k_dc, Bool.and_eq_true, decide_eq_true_eq] at hok
  simp only [e_stp, s_ast] at hq
  split at hq
  · rename_i y i x r
    rw [e_pick1] at hq
    obtain ⟨hg, rfl⟩ := hq
    rw [decide_eq_true_eq] at hg
    obtain ⟨hg1, hg2, hg3, hg4⟩ := hg
    match st', hst with
    | w0 :: w1 :: w2 :: st', hst =>
      obtain ⟨hv0, ⟨z, rfl, hz⟩, hv, hs2⟩ := hst
      have hv : w2 = va_rf (g_rr G x) := hv
      subst hv
      have hv0 : w0 = va_rf (g_rr G y) := hv0
      subst hv0
      obtain ⟨hd, rfl⟩ := hok
      obtain ⟨ws, hRw⟩ := id hR
      have h11 : x ≠ 11 := fun q => by
        subst q
        rw [hRw.2.2.2.2.2.1] at hg3
        omega
      obtain ⟨ak, j, n, f, k1, k2, k3, f1, f2, f3, f4, f5, f6⟩ := hRw.rar hg1 h11
      rw [f4] at hg3
      obtain ⟨hin, hcl⟩ := g_inx hz hg2 hg3
      obtain ⟨C, hC⟩ := K_atO ak k1 k2
      rw [f2]
      have kk : ∀ (H1 : Heap) (locs1 : List Loc), va_P (g_D G) K_cl (ws.set j (g_ba G + j, .inl (g_cA G ak, n, .inr (.inr (.inr (.inr (va_up f z.toNatClampNeg (g_rr G y)))))))) H1 → va_S (g_A G) s.heap H1 locs1 → W p l e R s m args below meth c H1 locs1 cells slots Q (F0 m (pc + 1) ls' st') := by
        intro H1 locs1 hP1 hS1
        rw [hcl] at hP1
        exact K H1 locs1 cells slots ls' _ ⟨_, hRw.put f3 f1 hP1 ⟨ak, k1, k2, k3, rfl, f4, f5, g_upq hg2 f6⟩⟩ hS1 hc hsl hl hs2
      rcases hg4 with hg4 | hg4
      · subst hg4
        have e0 : g_rr G 0 = none := rfl
        rw [e0] at kk ⊢
        exact va_astqN (C := C) hx hb hK hRw.1 hRw.D hS j ak f3 (by rw [g_tys_get k2, hC]) hin hd (fun H1 locs1 hP1 hD1 hS1 => kk H1 locs1 hP1 hS1)
      · rw [k3] at hg4
        obtain ⟨iy, hy1, hy2⟩ := g_any hRw hK hE hg4 hC
        rw [hy1] at kk ⊢
        exact va_astqM (E := C) hx hb hK hRw.1 hRw.D hS j ak f3 (by rw [g_tys_get k2, hC]) hy2 hin hd (fun H1 locs1 hP1 hD1 hS1 => kk H1 locs1 hP1 hS1)
  · exact absurd hq e_pick0
set_option maxHeartbeats 4000000 in
theorem g_o36 {pc nx d a b : Nat} {ls : E_L} {st : List E_V} {h : E_H} {sl0 k e0 : Int} {ll : List Nat} {q : Nat × E_L × List E_V × E_H} (X : g_X G p s m args meth c mi) (hok : k_ok mi pc (36, a, b, k, e0, nx, ll) = true) (hq : e_pick (e_stp d 36 a b k e0 nx ll ls st h) = some q) (hB : g_B G R s sl0 d q.2.2.2) (K : g_K G p l e R s m args below meth c Q mi sl0 q.1 q.2.1 q.2.2.1 q.2.2.2) : g_K G p l e R s m args below meth c Q mi sl0 pc ls st h := by
  obtain ⟨hx, hb, hml, hown, hts, hnm, hK, hE, hGW, hbs⟩ := X
  intro H locs cells slots ls' st' hR hS hc hsl hl hst
  simp only [k_ok, k_dc, Bool.and_eq_true, decide_eq_true_eq] at hok
  simp only [e_stp, s_len] at hq
  split at hq
  · rename_i x r
    rw [e_pick1] at hq
    obtain ⟨hg, rfl⟩ := hq
    rw [decide_eq_true_eq] at hg
    match st', hst with
    | w1 :: st', hst =>
      obtain ⟨hv, hs2⟩ := hst
      have hv : w1 = va_rf (g_rr G x) := hv
      subst hv
      obtain ⟨hd, rfl⟩ := hok
      obtain ⟨ws, hRw⟩ := id hR
      by_cases h13 : x = 13
      · subst h13
        have hrr : g_rr G 13 = some (g_ex G 13) := rfl
        rw [hrr]
        refine va_slen (H0 := s.heap) hx hb hE.2.2.2.2.2.2.1 (Nat.lt_of_lt_of_le (hGW.1 13 (by decide)) hbs) (Nat.not_le.mpr (hGW.1 13 (by decide))) hS hd (K H locs cells slots ls' _ hR hS hc hsl hl ⟨⟨_, rfl, ?_⟩, hs2⟩)
        rw [hRw.2.2.2.2.2.2.1]
        exact nI_toInt (by have := hGW.2.2; omega)
      · by_cases h11 : x = 11
        · subst h11
          have hrr : g_rr G 11 = some (g_ex G 11) := rfl
          rw [hrr]
          refine va_tlen hx hb hE.2.2.2.2.2.2.2.1 hS rfl hd (K H locs cells slots ls' _ hR hS hc hsl hl ⟨⟨_, rfl, ?_⟩, hs2⟩)
          rw [hRw.2.2.2.2.2.1]
          rfl
        · by_cases h23 : 23 ≤ h_kd h x
          · obtain ⟨ak, j, n, f, k1, k2, k3, f1, f2, f3, f4, f5, f6⟩ := hRw.rar h23 h11
            rw [f2]
            refine va_alen hx hb hK hRw.1 j ak f3 (g_tys_get k2) rfl hd (K H locs cells slots ls' _ hR hS hc hsl hl ⟨⟨_, rfl, ?_⟩, hs2⟩)
            rw [f4]
            exact nI_toInt (by omega)
          · obtain ⟨ak, hak⟩ : ∃ ak : Nat, h_kd h x = 20 + ak := ⟨(h_kd h x - 20).toNat, by omega⟩
            obtain ⟨j, n, f, f1, f2, f3, f4, f5, f6⟩ := hRw.iar (ak := ak) (by omega) hak h13
            rw [f2]
            refine va_alen hx hb hK hRw.1 j ak f3 (g_tys_get (by omega)) rfl hd (K H locs cells slots ls' _ hR hS hc hsl hl ⟨⟨_, rfl, ?_⟩, hs2⟩)
            rw [f4]
            exact nI_toInt (by omega)
  · exact absurd hq e_pick0
set_option maxHeartbeats 4000000 in
theorem g_o37 {pc nx d a b : Nat} {ls : E_L} {st : List E_V} {h : E_H} {sl0 k e0 : Int} {ll : List Nat} {q : Nat × E_L × List E_V × E_H} (X : g_X G p s m args meth c mi) (hok : k_ok mi pc (37, a, b, k, e0, nx, ll) = true) (hq : e_pick (e_stp d 37 a b k e0 nx ll ls st h) = some q) (hB : g_B G R s sl0 d q.2.2.2) (K : g_K G p l e R s m args below meth c Q mi sl0 q.1 q.2.1 q.2.2.1 q.2.2.2) : g_K G p l e R s m args below meth c Q mi sl0 pc ls st h := by
  obtain ⟨hx, hb, hml, hown, hts, hnm, hK, hE, hGW, hbs⟩ := X
  intro H locs cells slots ls' st' hR hS hc hsl hl hst
  simp only [k_ok, k_dc, Bool.and_eq_true, decide_eq_true_eq] at hok
  simp only [e_stp, s_cst] at hq
  split at hq
  · rename_i x r
    rw [e_pick1] at hq
    obtain ⟨hg, rfl⟩ := hq
    rw [decide_eq_true_eq] at hg
    match st', hst with
    | w1 :: st', hst =>
      have hv : w1 = va_rf (g_rr G x) := hst.1
      obtain ⟨⟨hd, rfl⟩, hk1, hk2⟩ := hok
      have kk := K H locs cells slots ls' _ hR hS hc hsl hl hst
      dsimp only at kk
      subst hv
      obtain ⟨ci, rfl⟩ : ∃ ci : Nat, k = ci + 1 := ⟨k.toNat - 1, by omega⟩
      rw [show (((ci : Int) + 1).toNat - 1) = ci by omega] at hk2
      rcases hg with hg | hg
      · subst hg
        exact lv_castN hx hb hd kk
      · obtain ⟨ws, hRw⟩ := id hR
        obtain ⟨i, fs, f1, f2, f3, f4, f5⟩ := hRw.obj (by omega) hg
        rw [f2] at kk ⊢
        exact va_castS hx hb hown (hts _ (k_is_mem hk2)) (hK.1 ci _ (K_cl_get (by omega))).2 (va_recv hK hRw.1 (K_cl_get (by omega)) f3) hd kk
  · exact absurd hq e_pick0
set_option maxHeartbeats 4000000 in
theorem g_o40 {pc nx d a b : Nat} {ls : E_L} {st : List E_V} {h : E_H} {sl0 k e0 : Int} {ll : List Nat} {q : Nat × E_L × List E_V × E_H} (X : g_X G p s m args meth c mi) (hok : k_ok mi pc (40, a, b, k, e0, nx, ll) = true) (hq : e_pick (e_stp d 40 a b k e0 nx ll ls st h) = some q) (hB : g_B G R s sl0 d q.2.2.2) (K : g_K G p l e R s m args below meth c Q mi sl0 q.1 q.2.1 q.2.2.1 q.2.2.2) : g_K G p l e R s m args below meth c Q mi sl0 pc ls st h := by
  obtain ⟨hx, hb, hml, hown, hts, hnm, hK, hE, hGW, hbs⟩ := X
  intro H locs cells slots ls' st' hR hS hc hsl hl hst
  simp only [k_ok, k_dc, Bool.and_eq_true, decide_eq_true_eq] at hok
  simp only [e_stp, s_oin] at hq
  split at hq
  · rename_i x r
    rw [e_pick1] at hq
    obtain ⟨hg, rfl⟩ := hq
    rw [decide_eq_true_eq] at hg
    obtain ⟨hg1, hg2, hg3⟩ := hg
    match st', hst with
    | w1 :: st', hst =>
      obtain ⟨hv, hs2⟩ := hst
      have hv : w1 = va_rf (g_rr G x) := hv
      subst hv
      obtain ⟨⟨hd, rfl⟩, hk2⟩ := hok
      obtain ⟨y, hy⟩ := Option.ne_none_iff_exists'.mp (fun z => hg1 (g_rrN.mp z) : g_rr G x ≠ none)
      rw [hy]
      obtain ⟨-, -, hB3, hB4⟩ := hB
      have hsum := hs2.cats
      have hrm := lv_room (m := m) (pc := pc) (ls := ls') (rest := va_rf (some y) :: st') (st := st') (by omega)
      refine W.objInit hx hb hown (hts _ (k_is_mem hk2)) (hts _ k_w1.1) (hts _ k_w1.2) rfl (by rw [hml]; exact hl.1) rfl hd (by omega) (by omega) ?_
      exact W.eq (g2 := F0 m (pc + 3) ls' st') rfl (K H locs cells slots ls' _ hR hS hc hsl hl hs2)
  · exact absurd hq e_pick0
set_option maxHeartbeats 4000000 in
theorem g_o42 {pc nx d a b : Nat} {ls : E_L} {st : List E_V} {h : E_H} {sl0 k e0 : Int} {ll : List Nat} {q : Nat × E_L × List E_V × E_H} (X : g_X G p s m args meth c mi) (hok : k_ok mi pc (42, a, b, k, e0, nx, ll) = true) (hq : e_pick (e_stp d 42 a b k e0 nx ll ls st h) = some q) (hB : g_B G R s sl0 d q.2.2.2) (K : g_K G p l e R s m args below meth c Q mi sl0 q.1 q.2.1 q.2.2.1 q.2.2.2) : g_K G p l e R s m args below meth c Q mi sl0 pc ls st h := by
  obtain ⟨hx, hb, hml, hown, hts, hnm, hK, hE, hGW, hbs⟩ := X
  intro H locs cells slots ls' st' hR hS hc hsl hl hst
  simp only [k_ok, k_dc, Bool.and_eq_true, decide_eq_true_eq] at hok
  simp only [e_stp, s_gcl] at hq
  split at hq
  · rename_i x r
    rw [e_pick1] at hq
    obtain ⟨hg, rfl⟩ := hq
    rw [decide_eq_true_eq] at hg
    obtain ⟨hg1, hg2, hg3, hg4⟩ := hg
    match st', hst with
    | w1 :: st', hst =>
      obtain ⟨hv, hs2⟩ := hst
      have hv : w1 = va_rf (g_rr G x) := hv
      subst hv
      obtain ⟨⟨hd, rfl⟩, hk2⟩ := hok
      obtain ⟨-, -, hB3, hB4⟩ := hB
      have hsum := hs2.cats
      obtain ⟨ws, hRw⟩ := id hR
      obtain ⟨ak, j, n, f, k1, k2, k3, f1, f2, f3, f4, f5, f6⟩ := hRw.rar (a := x) (by omega) (by omega)
      obtain rfl : ak = 3 := by omega
      rw [f2]
      have hRA : va_RA s (g_cA G 3) (.object "java/lang/Object") := (hK.2 3 _ (g_tys_get (by omega))).2
      exact va_getC (C := "[Ljava/lang/Object;") hx hb (by rw [hml]; exact hl.1.symm) hown (hts _ (k_is_mem hk2)) (va_Dc.use hE.2.2.2.2.1) (hts _ k_w3.1) (hts _ k_w3.2.1) (hts _ k_w3.2.2) hE.2.2.2.2.2.2.2.2.1 ⟨_, hRw.1 j _ f3, rfl, va_nmO hRA (by decide)⟩ (by omega) (by omega) hd (K H locs cells slots ls' _ hR hS hc hsl hl ⟨rfl, hs2⟩)
  · exact absurd hq e_pick0
set_option maxHeartbeats 4000000 in
theorem g_o43 {pc nx d a b : Nat} {ls : E_L} {st : List E_V} {h : E_H} {sl0 k e0 : Int} {ll : List Nat} {q : Nat × E_L × List E_V × E_H} (X : g_X G p s m args meth c mi) (hok : k_ok mi pc (43, a, b, k, e0, nx, ll) = true) (hq : e_pick (e_stp d 43 a b k e0 nx ll ls st h) = some q) (hB : g_B G R s sl0 d q.2.2.2) (K : g_K G p l e R s m args below meth c Q mi sl0 q.1 q.2.1 q.2.2.1 q.2.2.2) : g_K G p l e R s m args below meth c Q mi sl0 pc ls st h := by
  obtain ⟨hx, hb, hml, hown, hts, hnm, hK, hE, hGW, hbs⟩ := X
  intro H locs cells slots ls' st' hR hS hc hsl hl hst
  simp only [k_ok, k_dc, Bool.and_eq_true, decide_eq_true_eq] at hok
  simp only [e_stp, e_pick1] at hq
  obtain ⟨-, rfl⟩ := hq
  obtain ⟨⟨hd, rfl⟩, hk2⟩ := hok
  exact va_ldcM (C := "[Ljava/lang/Object;") hx hb hown (hts _ (k_is_mem hk2)) hE.2.2.2.2.2.2.2.2.1 hd (K H locs cells slots ls' _ hR hS hc hsl hl ⟨rfl, hst⟩)
set_option maxHeartbeats 4000000 in
theorem g_o45 {pc nx d a b : Nat} {ls : E_L} {st : List E_V} {h : E_H} {sl0 k e0 : Int} {ll : List Nat} {q : Nat × E_L × List E_V × E_H} (X : g_X G p s m args meth c mi) (hok : k_ok mi pc (45, a, b, k, e0, nx, ll) = true) (hq : e_pick (e_stp d 45 a b k e0 nx ll ls st h) = some q) (hB : g_B G R s sl0 d q.2.2.2) (K : g_K G p l e R s m args below meth c Q mi sl0 q.1 q.2.1 q.2.2.1 q.2.2.2) : g_K G p l e R s m args below meth c Q mi sl0 pc ls st h := by
  obtain ⟨hx, hb, hml, hown, hts, hnm, hK, hE, hGW, hbs⟩ := X
  intro H locs cells slots ls' st' hR hS hc hsl hl hst
  simp only [k_ok, k_dc, Bool.and_eq_true, decide_eq_true_eq] at hok
  simp only [e_stp, s_mm] at hq
  split at hq
  · rename_i y x r _
    rw [e_pick1] at hq
    obtain ⟨hg, rfl⟩ := hq
    rw [decide_eq_true_eq] at hg
    match st', hst with
    | w1 :: w2 :: st', hst =>
      obtain ⟨⟨y', rfl, hy⟩, ⟨x', rfl, hx'⟩, hs2⟩ := hst
      obtain ⟨⟨hd, rfl⟩, hk2⟩ := hok
      obtain ⟨hB1, hB2, hB3, hB4⟩ := hB
      dsimp only at hB1 hB2
      have hsum := hs2.cats
      refine va_mmax hx hb (by rw [hml]; exact hl.1.symm) hown (hts _ (k_is_mem hk2)) (hts _ k_w4.1) (hts _ k_w4.2.1) (hts _ k_w4.2.2) (by omega) (by omega) (by omega) (by omega) hd (K H locs cells slots ls' _ hR hS hc hsl hl ⟨⟨_, rfl, ?_⟩, hs2⟩)
      subst hy
      subst hx'
      by_cases hlt : x' < y'
      · rw [if_pos hlt, if_pos (Int32.lt_iff_toInt_lt.mp hlt)]
      · rw [if_neg hlt, if_neg (fun z => hlt (Int32.lt_iff_toInt_lt.mpr z))]
  · rename_i hz
    exact absurd hz (by decide)
  · exact absurd hq e_pick0
set_option maxHeartbeats 4000000 in
theorem g_o46 {pc nx d a b : Nat} {ls : E_L} {st : List E_V} {h : E_H} {sl0 k e0 : Int} {ll : List Nat} {q : Nat × E_L × List E_V × E_H} (X : g_X G p s m args meth c mi) (hok : k_ok mi pc (46, a, b, k, e0, nx, ll) = true) (hq : e_pick (e_stp d 46 a b k e0 nx ll ls st h) = some q) (hB : g_B G R s sl0 d q.2.2.2) (K : g_K G p l e R s m args below meth c Q mi sl0 q.1 q.2.1 q.2.2.1 q.2.2.2) : g_K G p l e R s m args below meth c Q mi sl0 pc ls st h := by
  obtain ⟨hx, hb, hml, hown, hts, hnm, hK, hE, hGW, hbs⟩ := X
  intro H locs cells slots ls' st' hR hS hc hsl hl hst
  simp only [k_ok, k_dc, Bool.and_eq_true, decide_eq_true_eq] at hok
  simp only [e_stp, s_mm] at hq
  split at hq
  · rename_i hz
    exact absurd hz (by decide)
  · rename_i y x r _
    rw [e_pick1] at hq
    obtain ⟨hg, rfl⟩ := hq
    rw [decide_eq_true_eq] at hg
    match st', hst with
    | w1 :: w2 :: st', hst =>
      obtain ⟨⟨y', rfl, hy⟩, ⟨x', rfl, hx'⟩, hs2⟩ := hst
      obtain ⟨⟨hd, rfl⟩, hk2⟩ := hok
      obtain ⟨hB1, hB2, hB3, hB4⟩ := hB
      dsimp only at hB1 hB2
      have hsum := hs2.cats
      refine va_mmin hx hb (by rw [hml]; exact hl.1.symm) hown (hts _ (k_is_mem hk2)) (hts _ k_w5.1) (hts _ k_w4.2.1) (hts _ k_w5.2) (by omega) (by omega) (by omega) (by omega) hd (K H locs cells slots ls' _ hR hS hc hsl hl ⟨⟨_, rfl, ?_⟩, hs2⟩)
      subst hy
      subst hx'
      by_cases hlt : y' < x'
      · rw [if_pos hlt, if_pos (Int32.lt_iff_toInt_lt.mp hlt)]
      · rw [if_neg hlt, if_neg (fun z => hlt (Int32.lt_iff_toInt_lt.mpr z))]
  · exact absurd hq e_pick0
theorem g_cpyq {n0 n1 : Nat} {f g : Nat → Option Nat} {h : E_H} {x t sp tp n : Int} (h0 : 0 ≤ sp) (h1 : 0 ≤ tp) (h2 : 0 ≤ n) (hs : sp + n ≤ n0) (hf : ∀ j : Nat, j < n0 → f j = g_rr G (h_vl h x j)) (hg : ∀ j : Nat, j < n1 → g j = g_rr G (h_vl h t j)) : ∀ j : Nat, j < n1 → va_cpy f g sp.toNat tp.toNat n.toNat j = g_rr G (h_vl (h_cpy h x sp t tp n) t j) := by
  intro j hj
  by_cases hin : tp ≤ (j : Int) ∧ (j : Int) < tp + n
  · have e1 : h_vl (h_cpy h x sp t tp n) t j = h_vl h x (sp + (j - tp)) := by
      simp [h_vl, h_cpy, hin]
    rw [e1, pk_cpy_in (by omega) (by omega), hf _ (by omega)]
    congr 2
    omega
  · have e1 : h_vl (h_cpy h x sp t tp n) t j = h_vl h t j := by
      simp only [h_vl, h_cpy]
      rw [if_neg (fun z => hin z.2)]
    rw [e1, pk_cpy_out (by omega)]
    exact hg j hj
set_option maxHeartbeats 4000000 in
theorem g_o41 {pc nx d a b : Nat} {ls : E_L} {st : List E_V} {h : E_H} {sl0 k e0 : Int} {ll : List Nat} {q : Nat × E_L × List E_V × E_H} (X : g_X G p s m args meth c mi) (hok : k_ok mi pc (41, a, b, k, e0, nx, ll) = true) (hq : e_pick (e_stp d 41 a b k e0 nx ll ls st h) = some q) (hB : g_B G R s sl0 d q.2.2.2) (K : g_K G p l e R s m args below meth c Q mi sl0 q.1 q.2.1 q.2.2.1 q.2.2.2) : g_K G p l e R s m args below meth c Q mi sl0 pc ls st h := by
  obtain ⟨hx, hb, hml, hown, hts, hnm, hK, hE, hGW, hbs⟩ := X
  intro H locs cells slots ls' st' hR hS hc hsl hl hst
  simp only [k_ok, k_dc, Bool.and_eq_true, decide_eq_true_eq] at hok
  simp only [e_stp, s_cpy] at hq
  split at hq
  · rename_i n tp t sp x r
    rw [e_pick1] at hq
    obtain ⟨hg, rfl⟩ := hq
    rw [Bool.and_eq_true, decide_eq_true_eq] at hg
    obtain ⟨⟨hg1, hg2, hg3, hg4, hg5, hg6, hg7, hg8, hg9, hg10, hg11⟩, hall⟩ := hg
    match st', hst with
    | w1 :: w2 :: w3 :: w4 :: w5 :: st', hst =>
      obtain ⟨⟨n', rfl, hn⟩, ⟨tp', rfl, htp⟩, hv3, ⟨sp', rfl, hsp⟩, hv5, hs2⟩ := hst
      have hv3 : w3 = va_rf (g_rr G t) := hv3
      subst hv3
      have hv5 : w5 = va_rf (g_rr G x) := hv5
      subst hv5
      obtain ⟨⟨hd, rfl⟩, hk2⟩ := hok
      obtain ⟨hB1, hB2, hB3, hB4⟩ := hB
      have hsum := hs2.cats
      obtain ⟨ws, hRw⟩ := id hR
      obtain ⟨ak, j, n0, f, k1, k2, k3, f1, f2, f3, f4, f5, f6⟩ := hRw.rar (a := x) (by omega) (by omega)
      obtain rfl : ak = 3 := by omega
      obtain ⟨ak', j', n1, g, k1', k2', k3', f1', f2', f3', f4', f5', f6'⟩ := hRw.rar (a := t) (by omega) (by omega)
      obtain rfl : ak' = 3 := by omega
      rw [f2, f2']
      have c1 : sp'.toNatClampNeg = sp.toNat := by show sp'.toInt.toNat = _; rw [hsp]
      have c2 : tp'.toNatClampNeg = tp.toNat := by show tp'.toInt.toNat = _; rw [htp]
      have c3 : n'.toNatClampNeg = n.toNat := by show n'.toInt.toNat = _; rw [hn]
      have ge : ∀ {z : Int32} {i : Int}, z.toInt = i → 0 ≤ i → ¬ z < 0 := fun h1 h2 q => by
        have := Int32.lt_iff_toInt_lt.mp q
        have e0 : (0 : Int32).toInt = 0 := rfl
        omega
      have hw : nativeFrameWords "java/lang/System" "arraycopy" 5 ≤ 12 := by decide
      refine va_copyM (E0 := "java/lang/Object") (E1 := "java/lang/Object") hx hb (by rw [hml]; exact hl.1.symm) hown (hts _ (k_is_mem hk2)) (hts _ k_w2.1) (hts _ k_w2.2.1) (hts _ k_w2.2.2) hK hRw.1 hRw.D hS j j' 3 3 f3 f3' (g_tys_get (by omega)) (g_tys_get (by omega)) (ge hsp hg8) (ge htp hg9) (ge hn hg7) (by omega) (by omega) ?_ (by omega) (by omega) hd (fun H1 locs1 hP1 hD1 hS1 => ?_)
      · intro i hi y hy
        rw [c1, f6 _ (by omega)] at hy
        have h3 := List.all_eq_true.mp hall i (List.mem_range.mpr (by omega))
        rw [Bool.or_eq_true, decide_eq_true_eq] at h3
        have e1 : ((sp.toNat + i : Nat) : Int) = sp + i := by omega
        rw [e1] at hy
        rcases h3 with h3 | h3
        · rw [h3] at hy
          cases hy
        · obtain ⟨iy, hy1, hy2⟩ := g_any (ak := 3) hRw hK hE h3 rfl
          rw [hy1] at hy
          cases hy
          exact hy2
      · rw [c1, c2, c3] at hP1
        have hC : g_C G (.inl (g_cA G 3, n1, .inr (.inr (.inr (.inr (va_cpy f g sp.toNat tp.toNat n.toNat)))))) (h_kd h t) (h_ln h t) (h_vl (h_cpy h x sp t tp n) t) := ⟨3, by omega, by omega, hg4, rfl, f4', f5', g_cpyq hg8 hg9 hg7 (by omega) f6 f6'⟩
        refine K H1 locs1 cells slots ls' _ ⟨ws.set j' (g_ba G + j', .inl (g_cA G 3, n1, .inr (.inr (.inr (.inr (va_cpy f g sp.toNat tp.toNat n.toNat)))))), ?_⟩ hS1 hc hsl hl hs2
        obtain ⟨-, hsz, hcc, hzz, h16, h11, h13, hxs⟩ := hRw
        have hj : j' < ws.length := (List.getElem?_eq_some_iff.mp f3').1
        have hout : ∀ b k : Int, b ≠ t → h_vl (h_cpy h x sp t tp n) b k = h_vl h b k := by
          intro b k hb
          simp [h_vl, h_cpy, hb]
        refine ⟨hP1, by rw [List.length_set]; exact hsz, ?_, hzz, h16, h11, h13, fun j hj => by rw [hout _ _ (by omega)]; exact hxs j hj⟩
        intro jj q hq
        by_cases hji : jj = j'
        · subst hji
          rw [List.getElem?_set_self hj] at hq
          cases hq
          subst f1'
          exact ⟨rfl, hC⟩
        · rw [List.getElem?_set_ne (Ne.symm hji)] at hq
          obtain ⟨h1, h2⟩ := hcc jj q hq
          refine ⟨h1, ?_⟩
          have e1 : h_vl (h_cpy h x sp t tp n) (16 + (jj : Int)) = h_vl h (16 + (jj : Int)) := by
            funext z
            exact hout _ _ (by omega)
          rw [e1]
          exact h2
  · exact absurd hq e_pick0
end GO
