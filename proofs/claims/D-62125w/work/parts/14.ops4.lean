/-! ===== new objects and arrays; elements ===== -/
theorem g_Rw.new {G : E_P} {ws : va_W} {h : E_H} {H H1 : Heap} (r : g_Rw G ws h H) {e : va_E} {kd ln n : Int} (hP : va_P (g_D G) K_cl (ws ++ [(g_ba G + ws.length, e)]) H1) (hC : g_C G e kd ln (fun _ => 0)) : g_Rw G (ws ++ [(g_ba G + ws.length, e)]) (h_new h kd ln n) H1 := by
  obtain ⟨-, hsz, hc, hz, h16, h11, h13, hxs⟩ := r
  have hsz' : h.1 = 16 + (ws.length : Int) := hsz
  have o1 : ∀ b : Int, b ≠ h_sz h → h_kd (h_new h kd ln n) b = h_kd h b := by
    intro b hb
    have : ¬ b = h.1 := hb
    simp [h_kd, h_new, this]
  have o2 : ∀ b : Int, b ≠ h_sz h → h_ln (h_new h kd ln n) b = h_ln h b := by
    intro b hb
    have : ¬ b = h.1 := hb
    simp [h_ln, h_new, this]
  have o3 : ∀ b : Int, b ≠ h_sz h → h_vl (h_new h kd ln n) b = h_vl h b := by
    intro b hb
    have : ¬ b = h.1 := hb
    funext j
    simp [h_vl, h_new, this]
  have hnz : h_sz (h_new h kd ln n) = h_sz h + 1 := rfl
  refine ⟨hP, ?_, ?_, ?_, ?_, ?_, ?_, ?_⟩
  · rw [hnz, hsz, List.length_append, List.length_singleton]
    omega
  · intro i q hq
    by_cases hi : i < ws.length
    · rw [List.getElem?_append_left hi] at hq
      obtain ⟨h1, h2⟩ := hc i q hq
      refine ⟨h1, ?_⟩
      rw [o1 _ (by omega), o2 _ (by omega), o3 _ (by omega)]
      exact h2
    · rw [List.getElem?_append_right (by omega)] at hq
      have hlt := (List.getElem?_eq_some_iff.mp hq).1
      rw [List.length_singleton] at hlt
      have hi' : i = ws.length := by omega
      subst hi'
      rw [Nat.sub_self] at hq
      cases hq
      refine ⟨rfl, ?_⟩
      have e1 : h_kd (h_new h kd ln n) (16 + (ws.length : Int)) = kd := by simp [h_kd, h_new, hsz']
      have e2 : h_ln (h_new h kd ln n) (16 + (ws.length : Int)) = ln := by simp [h_ln, h_new, hsz']
      have e3 : h_vl (h_new h kd ln n) (16 + (ws.length : Int)) = fun _ => 0 := by
        funext j
        simp [h_vl, h_new, hsz']
      rw [e1, e2, e3]
      exact hC
  · intro a ha
    rw [hnz] at ha
    rw [o1 a (by omega)]
    exact hz a (by omega)
  · intro a ha
    rw [o1 a (by omega)]
    exact h16 a ha
  · rw [o2 _ (by omega)]; exact h11
  · rw [o2 _ (by omega)]; exact h13
  · intro j hj
    rw [o3 _ (by omega)]
    exact hxs j hj
theorem g_fresh {G : E_P} {ws : va_W} {h : E_H} {H H1 : Heap} (r : g_Rw G ws h H) {q sz cells : Nat} {e : va_E} (hP : va_P (g_D G) K_cl (ws ++ [(q, e)]) H1) (hD : va_D (g_A G) (ws ++ [(q, e)])) (hz : H1.size ≤ sz + (cells + 1)) (hc : (sz : Int) + cells = g_ba G + (h_sz h - 16)) : q = g_ba G + ws.length := by
  have hlast : (ws ++ [(q, e)])[ws.length]? = some (q, e) := by simp
  have h1 : q < H1.size := (hP ws.length (q, e) hlast).lt
  have h2 : g_ba G ≤ q := hD.2 ws.length (q, e) hlast
  have hsz := r.2.1
  rcases Nat.lt_or_ge q (g_ba G + ws.length) with hlt | hge
  · have hi : q - g_ba G < ws.length := by omega
    have hg := List.getElem?_eq_getElem hi
    have ha := (r.2.2.1 _ _ hg).1
    have := hD.1 (q - g_ba G) ws.length (ws[q - g_ba G]) (q, e) (by rw [List.getElem?_append_left hi]; exact hg) hlast (by show (ws[q - g_ba G]).1 = q; omega)
    omega
  · omega
theorem K_atO : ∀ k, 3 ≤ k → k < 8 → ∃ C, K_at k = .object C := by
  intro k h1 h2
  rcases (by omega : k = 3 ∨ k = 4 ∨ k = 5 ∨ k = 6 ∨ k = 7) with rfl | rfl | rfl | rfl | rfl <;> exact ⟨_, rfl⟩
theorem K_arr : Jvm.Cond.arrayClass .int ∈ k_T ∧ Jvm.Cond.arrayClass .byte ∈ k_T ∧ Jvm.Cond.arrayClass .boolean ∈ k_T := by
  have h1 : decide (Jvm.Cond.arrayClass .int ∈ lw_tbl) = true := by decide +kernel
  have h2 : decide (Jvm.Cond.arrayClass .byte ∈ lw_tbl) = true := by decide +kernel
  have h3 : decide (Jvm.Cond.arrayClass .boolean ∈ lw_tbl) = true := by decide +kernel
  exact ⟨List.mem_filter.mpr ⟨of_decide_eq_true h1, rfl⟩, List.mem_filter.mpr ⟨of_decide_eq_true h2, rfl⟩, List.mem_filter.mpr ⟨of_decide_eq_true h3, rfl⟩⟩
section GO
variable {G : E_P} {p : Program} {l : Launch} {e : Env} {R : Room} {s : State} {m : MethodId} {args : Array Value} {below : List Frame} {meth : Method} {c : Code} {Q : State → Prop} {mi : Nat}
set_option maxHeartbeats 4000000 in
theorem g_o28 {pc nx d a b : Nat} {ls : E_L} {st : List E_V} {h : E_H} {sl0 k e0 : Int} {ll : List Nat} {q : Nat × E_L × List E_V × E_H} (X : g_X G p s m args meth c mi) (hok : k_ok mi pc (28, a, b, k, e0, nx, ll) = true) (hq : e_pick (e_stp d 28 a b k e0 nx ll ls st h) = some q) (hB : g_B G R s sl0 d q.2.2.2) (K : g_K G p l e R s m args below meth c Q mi sl0 q.1 q.2.1 q.2.2.1 q.2.2.2) : g_K G p l e R s m args below meth c Q mi sl0 pc ls st h := by
  obtain ⟨hx, hb, hml, hown, hts, hnm, hK, hE, hGW, hbs⟩ := X
  intro H locs cells slots ls' st' hR hS hc hsl hl hst
  simp only [k_ok, k_dc, Bool.and_eq_true, decide_eq_true_eq] at hok
  simp only [e_stp, s_new, e_pick1] at hq
  obtain ⟨-, rfl⟩ := hq
  obtain ⟨⟨hd, rfl⟩, hk1, hk2, hk3⟩ := hok
  obtain ⟨ws, hRw⟩ := id hR
  obtain ⟨ci, rfl⟩ : ∃ ci : Nat, k = ci + 1 := ⟨k.toNat - 1, by omega⟩
  have e1 : (((ci : Int) + 1).toNat - 1) = ci := by omega
  rw [e1] at hk2 hk3
  subst hk2
  have hci : ci < 11 := by omega
  obtain ⟨hB1, hB2, -, -⟩ := hB
  have hz1 : h_sz (h_new h (↑ci + 1) 0 ↑(K_N ci)) = h_sz h + 1 := rfl
  have hz2 : h_sl (h_new h (↑ci + 1) 0 ↑(K_N ci)) = h_sl h + K_N ci := rfl
  dsimp only at hB1 hB2
  rw [hz1] at hB1
  rw [hz2] at hB2
  refine va_new (D := g_D G) (ci := ci) (fs := (List.range (K_N ci)).map (fun k => defaultValue (K_t ci k))) hx hb hts (K_in ci hci) (K_t ci) (K_tok ci hci) hown (hts _ (k_is_mem hk3)) (hts _ (K_ini ci hci).1) (hts _ (K_ini ci hci).2) hK hRw.1 hRw.D hS (fun q hq => Nat.le_trans hbs hq) (K_cl_get hci) ?_ (by omega) (by omega) hd (fun q H1 hP1 hD1 hS1 => g_sized (fun hz => ?_))
  · intro j hj
    unfold vp_V
    rw [List.getD_eq_getElem?_getD, List.getElem?_map, List.getElem?_range hj]
    rfl
  · have hqe := g_fresh hRw hP1 hD1 hz hc
    subst hqe
    have hR1 : g_R G (h_new h (↑ci + 1) 0 ↑(K_N ci)) H1 := by
      refine ⟨_, hRw.new hP1 ⟨rfl, hci, by simp, fun k hk => ?_⟩⟩
      rw [List.getD_eq_getElem?_getD, List.getElem?_map, List.getElem?_range hk]
      have h3 := K_tys ci hci k hk
      unfold g_fv
      rcases (by omega : K_ty ci k = 0 ∨ K_ty ci k = 1 ∨ K_ty ci k = 2) with h4 | h4 | h4
      · rw [if_neg (by omega)]
        show g_V G (.inl 0) (defaultValue (K_t ci k))
        rw [K_ty0 h4]
        exact ⟨0, rfl, rfl⟩
      · rw [if_pos h4]
        show defaultValue (K_t ci k) = va_rf (g_rr G 0)
        rcases K_ty1 h4 with ⟨C, h5⟩ | ⟨t, h5⟩ <;> rw [h5] <;> rfl
      · rw [if_neg (by omega)]
        show g_V G (.inl 0) (defaultValue (K_t ci k))
        rw [K_ty2 h4]
        exact ⟨0, rfl, rfl⟩
    refine K H1 locs (cells + 1) (slots + K_N ci) ls' _ hR1 hS1 (by rw [hz1]; omega) (by rw [hz2]; omega) hl ⟨?_, hst⟩
    show Value.ref (g_ba G + ws.length) = va_rf (g_rr G (h_sz h))
    have hsz := hRw.2.1
    unfold g_rr g_mu
    rw [if_neg (by omega), if_neg (by omega), show (h_sz h - 16).toNat = ws.length by omega]
    rfl
/-- what follows a new array -/
theorem g_newa {h : E_H} {H H1 : Heap} {locs : List Loc} {cells slots : Nat} {ls : E_L} {ls' : Array Slot} {st : List E_V} {st' : List Value} {sl0 : Int} {ws : va_W} {q ak N nx : Nat} {cB : ClassId} {x : (Nat → Int32) ⊕ (Nat → Int64) ⊕ (Nat → UInt32) ⊕ (Nat → UInt64) ⊕ (Nat → Option Nat)} (hRw : g_Rw G ws h H) (hc : ((s.heap.size : Int) + cells = g_ba G + (h_sz h - 16))) (hsl : ((slots : Int) + sl0 = h_sl h)) (hl : g_Lc G (P_ml mi) ls ls') (hst : g_St G st st')
    (hP1 : va_P (g_D G) K_cl (ws ++ [(q, .inl (cB, N, x))]) H1) (hD1 : va_D (g_A G) (ws ++ [(q, .inl (cB, N, x))])) (hS1 : va_S (g_A G) s.heap H1 locs) (hC : g_C G (.inl (cB, N, x)) (20 + ak) N (fun _ => 0)) (K : g_K G p l e R s m args below meth c Q mi sl0 nx ls (.inr (h_sz h) :: st) (h_new h (20 + ak) N N)) : W p l e R s m args below meth c H1 locs (cells + 1) (slots + N) Q (F0 m nx ls' (.ref q :: st')) := by
  refine g_sized (fun hz => ?_)
  have hqe := g_fresh hRw hP1 hD1 hz hc
  subst hqe
  have hz1 : h_sz (h_new h (20 + ↑ak) ↑N ↑N) = h_sz h + 1 := rfl
  have hz2 : h_sl (h_new h (20 + ↑ak) ↑N ↑N) = h_sl h + N := rfl
  refine K H1 locs (cells + 1) (slots + N) ls' _ ⟨_, hRw.new hP1 hC⟩ hS1 (by rw [hz1]; omega) (by rw [hz2]; omega) hl ⟨?_, hst⟩
  show Value.ref (g_ba G + ws.length) = va_rf (g_rr G (h_sz h))
  have hsz := hRw.2.1
  unfold g_rr g_mu
  rw [if_neg (by omega), if_neg (by omega), show (h_sz h - 16).toNat = ws.length by omega]
  rfl
theorem g_last {tys : List (ClassId × FieldType)} {cB : ClassId} {ty : FieldType} : (tys ++ [(cB, ty)])[tys.length]? = some (cB, ty) := by simp
set_option maxHeartbeats 4000000 in
theorem g_o29 {pc nx d a b : Nat} {ls : E_L} {st : List E_V} {h : E_H} {sl0 k e0 : Int} {ll : List Nat} {q : Nat × E_L × List E_V × E_H} (X : g_X G p s m args meth c mi) (hok : k_ok mi pc (29, a, b, k, e0, nx, ll) = true) (hq : e_pick (e_stp d 29 a b k e0 nx ll ls st h) = some q) (hB : g_B G R s sl0 d q.2.2.2) (K : g_K G p l e R s m args below meth c Q mi sl0 q.1 q.2.1 q.2.2.1 q.2.2.2) : g_K G p l e R s m args below meth c Q mi sl0 pc ls st h := by
  obtain ⟨hx, hb, hml, hown, hts, hnm, hK, hE, hGW, hbs⟩ := X
  intro H locs cells slots ls' st' hR hS hc hsl hl hst
  simp only [k_ok, k_dc, Bool.and_eq_true, decide_eq_true_eq] at hok
  simp only [e_stp, s_nwa] at hq
  split at hq
  · rename_i nn r
    rw [e_pick1] at hq
    obtain ⟨hg, rfl⟩ := hq
    rw [decide_eq_true_eq] at hg
    match st', hst with
    | w1 :: st', hst =>
      obtain ⟨⟨z, rfl, hz⟩, hs2⟩ := hst
      obtain ⟨ws, hRw⟩ := id hR
      obtain ⟨N, rfl⟩ : ∃ N : Nat, nn = N := ⟨nn.toNat, by omega⟩
      have hzN : z.toNatClampNeg = N := by
        show z.toInt.toNat = N
        omega
      have hz0 : ¬ z < 0 := fun q => by
        have := Int32.lt_iff_toInt_lt.mp q
        have e0 : (0 : Int32).toInt = 0 := rfl
        omega
      obtain ⟨hB1, hB2, -, -⟩ := hB
      have hz1 : h_sz (h_new h k ↑N ↑N) = h_sz h + 1 := rfl
      have hz2 : h_sl (h_new h k ↑N ↑N) = h_sl h + N := rfl
      dsimp only at hB1 hB2
      rw [hz1] at hB1
      rw [hz2] at hB2
      have hA : ∀ q, s.heap.size ≤ q → g_A G q := fun q hq => Nat.le_trans hbs hq
      split at hok
      · split at hok
        · simp only [k_dc, Bool.and_eq_true, decide_eq_true_eq] at hok
          obtain ⟨hd, rfl⟩ := hok
          refine va_newa (D := g_D G) (atype := .int) (ty := .int) (a0 := (N, .inl (fun _ => 0))) hx hb (hts _ K_arr.1) rfl hK hRw.1 hRw.D hS hA (fun _ => rfl) hz0 hzN (by show N * 4 ≤ _; omega) (by omega) (by omega) hd (fun q cB H1 hK1 hP1 hD1 hS1 => ?_)
          have hcB : cB = g_cA G 0 := Option.some.inj (((hK1.2 _ _ g_last).2 : s.vm.findClass _ = some cB).symm.trans ((hK.2 0 _ (g_tys_get (by omega))).2 : s.vm.findClass _ = some (g_cA G 0)))
          exact g_newa (ak := 0) hRw hc hsl hl hs2 hP1 hD1 hS1 ⟨0, by omega, rfl, hcB, rfl, by omega, fun j _ => rfl⟩ K
        · simp only [k_dc, Bool.and_eq_true, decide_eq_true_eq] at hok
          obtain ⟨hd, rfl⟩ := hok
          refine va_newa (D := g_D G) (atype := .byte) (ty := .byte) (a0 := (N, .inl (fun _ => 0))) hx hb (hts _ K_arr.2.1) rfl hK hRw.1 hRw.D hS hA (fun _ => rfl) hz0 hzN (by show N * 1 ≤ _; omega) (by omega) (by omega) hd (fun q cB H1 hK1 hP1 hD1 hS1 => ?_)
          have hcB : cB = g_cA G 1 := Option.some.inj (((hK1.2 _ _ g_last).2 : s.vm.findClass _ = some cB).symm.trans ((hK.2 1 _ (g_tys_get (by omega))).2 : s.vm.findClass _ = some (g_cA G 1)))
          exact g_newa (ak := 1) hRw hc hsl hl hs2 hP1 hD1 hS1 ⟨1, by omega, rfl, hcB, rfl, by omega, fun j _ => rfl⟩ K
        · simp only [k_dc, Bool.and_eq_true, decide_eq_true_eq] at hok
          obtain ⟨hd, rfl⟩ := hok
          refine va_newa (D := g_D G) (atype := .boolean) (ty := .boolean) (a0 := (N, .inl (fun _ => 0))) hx hb (hts _ K_arr.2.2) rfl hK hRw.1 hRw.D hS hA (fun _ => rfl) hz0 hzN (by show N * 1 ≤ _; omega) (by omega) (by omega) hd (fun q cB H1 hK1 hP1 hD1 hS1 => ?_)
          have hcB : cB = g_cA G 2 := Option.some.inj (((hK1.2 _ _ g_last).2 : s.vm.findClass _ = some cB).symm.trans ((hK.2 2 _ (g_tys_get (by omega))).2 : s.vm.findClass _ = some (g_cA G 2)))
          exact g_newa (ak := 2) hRw hc hsl hl hs2 hP1 hD1 hS1 ⟨2, by omega, rfl, hcB, rfl, by omega, fun j _ => rfl⟩ K
        · cases hok
      · simp only [k_dc, Bool.and_eq_true, decide_eq_true_eq] at hok
        obtain ⟨⟨hd, rfl⟩, hk1, hk2⟩ := hok
        obtain ⟨ak, rfl⟩ : ∃ ak : Nat, k = 20 + ak := ⟨k.toNat - 20, by omega⟩
        rw [show ((20 : Int) + (ak : Int)).toNat - 20 = ak by omega] at hk2
        obtain ⟨C, hC⟩ := K_atO ak (by omega) (by omega)
        rw [hC] at hk2
        refine va_newq (D := g_D G) (C := C) hx hb hown (hts _ (k_is_mem hk2)) (hE.2.2.2.1 ak C (by omega) hC) hK hRw.1 hRw.D hS hA hz0 hzN (by omega) (by omega) (by omega) hd (fun q cB H1 hK1 hP1 hD1 hS1 => ?_)
        have r1 := (hK1.2 _ _ g_last).2
        have r2 := (hK.2 ak _ (g_tys_get (by omega))).2
        have r2 : va_RA s (g_cA G ak) (K_at ak) := r2
        rw [hC] at r2
        obtain ⟨-, -, -, -, -, r1⟩ := r1
        obtain ⟨-, -, -, -, -, r2⟩ := r2
        have hcB : cB = g_cA G ak := Option.some.inj (r1.symm.trans r2)
        exact g_newa (ak := ak) hRw hc hsl hl hs2 hP1 hD1 hS1 ⟨ak, by omega, by omega, rfl, hcB, rfl, by omega, fun j _ => rfl⟩ K
  · exact absurd hq e_pick0
theorem g_inx {z : Int32} {i : Int} {n : Nat} (hz : z.toInt = i) (h1 : 0 ≤ i) (h2 : i < n) : vp_in z n ∧ z.toNatClampNeg = i.toNat := by
  refine ⟨vp_in_iff.mpr (by omega), ?_⟩
  show z.toInt.toNat = _
  rw [hz]
set_option maxHeartbeats 4000000 in
theorem g_o30 {pc nx d a b : Nat} {ls : E_L} {st : List E_V} {h : E_H} {sl0 k e0 : Int} {ll : List Nat} {q : Nat × E_L × List E_V × E_H} (X : g_X G p s m args meth c mi) (hok : k_ok mi pc (30, a, b, k, e0, nx, ll) = true) (hq : e_pick (e_stp d 30 a b k e0 nx ll ls st h) = some q) (hB : g_B G R s sl0 d q.2.2.2) (K : g_K G p l e R s m args below meth c Q mi sl0 q.1 q.2.1 q.2.2.1 q.2.2.2) : g_K G p l e R s m args below meth c Q mi sl0 pc ls st h := by
  obtain ⟨hx, hb, hml, hown, hts, hnm, hK, hE, hGW, hbs⟩ := X
  intro H locs cells slots ls' st' hR hS hc hsl hl hst
  simp only [k_ok, k_dc, Bool.and_eq_true, decide_eq_true_eq] at hok
  simp only [e_stp, s_ild] at hq
  split at hq
  · rename_i i x r
    rw [e_pick1] at hq
    obtain ⟨hg, rfl⟩ := hq
    rw [decide_eq_true_eq] at hg
    obtain ⟨hg1, hg2, hg3⟩ := hg
    match st', hst with
    | w1 :: w2 :: st', hst =>
      obtain ⟨⟨z, rfl, hz⟩, hv, hs2⟩ := hst
      have hv : w2 = va_rf (g_rr G x) := hv
      subst hv
      obtain ⟨hd, rfl⟩ := hok
      obtain ⟨ws, hRw⟩ := id hR
      by_cases h13 : x = 13
      · subst h13
        have hL := hRw.2.2.2.2.2.2.1
        rw [hL] at hg3
        obtain ⟨hin, hcl⟩ := g_inx hz hg2 hg3
        have hrr : g_rr G 13 = some (g_ex G 13) := rfl
        rw [hrr]
        refine va_sld (H0 := s.heap) hx hb hE.2.2.2.2.2.2.1 (Nat.lt_of_lt_of_le (hGW.1 13 (by decide)) hbs) (Nat.not_le.mpr (hGW.1 13 (by decide))) hS hin hd (K H locs cells slots ls' _ hR hS hc hsl hl ⟨⟨_, rfl, ?_⟩, hs2⟩)
        rw [hcl, ← hRw.2.2.2.2.2.2.2 i.toNat (by omega), Int.toNat_of_nonneg hg2]
      · obtain ⟨j, n, f, f1, f2, f3, f4, f5, f6⟩ := hRw.iar (ak := 0) (by omega) hg1 h13
        rw [f4] at hg3
        obtain ⟨hin, hcl⟩ := g_inx hz hg2 hg3
        rw [f2]
        refine va_iald hx hb hK hRw.1 j 0 f3 (g_tys_get (by omega)) hin hd (K H locs cells slots ls' _ hR hS hc hsl hl ⟨⟨_, rfl, ?_⟩, hs2⟩)
        rw [hcl, f6 i.toNat (by omega), Int.toNat_of_nonneg hg2]
  · exact absurd hq e_pick0
theorem g_upd {n : Nat} {f : Nat → Int32} {h : E_H} {x i y : Int} {z : Int32} (h0 : 0 ≤ i) (hf : ∀ j : Nat, j < n → (f j).toInt = h_vl h x j) (hz : z.toInt = y) : ∀ j : Nat, j < n → (upd f i.toNat z j).toInt = h_vl (h_put h x i y) x j := by
  intro j hj
  by_cases hji : j = i.toNat
  · subst hji
    have e1 : h_vl (h_put h x i y) x (i.toNat : Int) = y := by
      rw [Int.toNat_of_nonneg h0]
      simp [h_vl, h_put]
    rw [e1, pk_us]
    exact hz
  · have e1 : h_vl (h_put h x i y) x j = h_vl h x j := by
      have : ¬ ((j : Int) = i) := by omega
      simp [h_vl, h_put, this]
    rw [e1, pk_un hji]
    exact hf j hj
set_option maxHeartbeats 4000000 in
theorem g_o31 {pc nx d a b : Nat} {ls : E_L} {st : List E_V} {h : E_H} {sl0 k e0 : Int} {ll : List Nat} {q : Nat × E_L × List E_V × E_H} (X : g_X G p s m args meth c mi) (hok : k_ok mi pc (31, a, b, k, e0, nx, ll) = true) (hq : e_pick (e_stp d 31 a b k e0 nx ll ls st h) = some q) (hB : g_B G R s sl0 d q.2.2.2) (K : g_K G p l e R s m args below meth c Q mi sl0 q.1 q.2.1 q.2.2.1 q.2.2.2) : g_K G p l e R s m args below meth c Q mi sl0 pc ls st h := by
  obtain ⟨hx, hb, hml, hown, hts, hnm, hK, hE, hGW, hbs⟩ := X
  intro H locs cells slots ls' st' hR hS hc hsl hl hst
  simp only [k_ok, k_dc, Bool.and_eq_true, decide_eq_true_eq] at hok
  simp only [e_stp, s_ist] at hq
  split at hq
  · rename_i y i x r
    rw [e_pick1] at hq
    obtain ⟨hg, rfl⟩ := hq
    rw [decide_eq_true_eq] at hg
    obtain ⟨hg1, h13, hg2, hg3⟩ := hg
    match st', hst with
    | w0 :: w1 :: w2 :: st', hst =>
      obtain ⟨⟨y', rfl, hy⟩, ⟨z, rfl, hz⟩, hv, hs2⟩ := hst
      have hv : w2 = va_rf (g_rr G x) := hv
      subst hv
      obtain ⟨hd, rfl⟩ := hok
      obtain ⟨ws, hRw⟩ := id hR
      obtain ⟨j, n, f, f1, f2, f3, f4, f5, f6⟩ := hRw.iar (ak := 0) (by omega) hg1 h13
      rw [f4] at hg3
      obtain ⟨hin, hcl⟩ := g_inx hz hg2 hg3
      rw [f2]
      refine va_iast hx hb hK hRw.1 hRw.D hS j 0 f3 (g_tys_get (by omega)) hin hd (fun H1 locs1 hP1 hD1 hS1 => ?_)
      rw [hcl] at hP1
      exact K H1 locs1 cells slots ls' _ ⟨_, hRw.put f3 f1 hP1 ⟨0, by omega, hg1, rfl, f4, f5, g_upd hg2 f6 hy⟩⟩ hS1 hc hsl hl hs2
  · exact absurd hq e_pick0
set_option maxHeartbeats 4000000 in
theorem g_o32 {pc nx d a b : Nat} {ls : E_L} {st : List E_V} {h : E_H} {sl0 k e0 : Int} {ll : List Nat} {q : Nat × E_L × List E_V × E_H} (X : g_X G p s m args meth c mi) (hok : k_ok mi pc (32, a, b, k, e0, nx, ll) = true) (hq : e_pick (e_stp d 32 a b k e0 nx ll ls st h) = some q) (hB : g_B G R s sl0 d q.2.2.2) (K : g_K G p l e R s m args below meth c Q mi sl0 q.1 q.2.1 q.2.2.1 q.2.2.2) : g_K G p l e R s m args below meth c Q mi sl0 pc ls st h := by
  obtain ⟨hx, hb, hml, hown, hts, hnm, hK, hE, hGW, hbs⟩ := X
  intro H locs cells slots ls' st' hR hS hc hsl hl hst
  simp only [k_ok, k_dc, Bool.and_eq_true, decide_eq_true_eq] at hok
  simp only [e_stp, s_bld] at hq
  split at hq
  · rename_i i x r
    rw [e_pick1] at hq
    obtain ⟨hg, rfl⟩ := hq
    rw [decide_eq_true_eq] at hg
    obtain ⟨hg1, hg2, hg3⟩ := hg
    match st', hst with
    | w1 :: w2 :: st', hst =>
      obtain ⟨⟨z, rfl, hz⟩, hv, hs2⟩ := hst
      have hv : w2 = va_rf (g_rr G x) := hv
      subst hv
      obtain ⟨hd, rfl⟩ := hok
      obtain ⟨ws, hRw⟩ := id hR
      have h13 : x ≠ 13 := fun q => by
        subst q
        have h5 := hRw.2.2.2.2.1 13 (by omega)
        rw [if_neg (by omega), if_pos rfl] at h5
        omega
      rcases hg1 with hg1 | hg1
      · obtain ⟨j, n, f, f1, f2, f3, f4, f5, f6⟩ := hRw.iar (ak := 1) (by omega) hg1 h13
        rw [f4] at hg3
        obtain ⟨hin, hcl⟩ := g_inx hz hg2 hg3
        rw [f2]
        refine va_bald hx hb hK hRw.1 j 1 f3 (g_tys_get (by omega)) hin hd (K H locs cells slots ls' _ hR hS hc hsl hl ⟨⟨_, rfl, ?_⟩, hs2⟩)
        rw [hcl, f6 i.toNat (by omega), Int.toNat_of_nonneg hg2]
      · obtain ⟨j, n, f, f1, f2, f3, f4, f5, f6⟩ := hRw.iar (ak := 2) (by omega) hg1 h13
        rw [f4] at hg3
        obtain ⟨hin, hcl⟩ := g_inx hz hg2 hg3
        rw [f2]
        refine va_zald hx hb hK hRw.1 j 2 f3 (g_tys_get (by omega)) hin hd (K H locs cells slots ls' _ hR hS hc hsl hl ⟨⟨_, rfl, ?_⟩, hs2⟩)
        rw [hcl, f6 i.toNat (by omega), Int.toNat_of_nonneg hg2]
  · exact absurd hq e_pick0
theorem g_nz {z : Int32} (h : z.toInt = 0 ∨ z.toInt = 1) : vp_nar .boolean z = z := by
  rcases h with h | h <;> (rw [g_eqI h]; decide)
theorem g_nb {z : Int32} (h : -128 ≤ z.toInt ∧ z.toInt ≤ 127) : vp_nar .byte z = z := by
  rw [vp_nar_byte, ← Int32.toInt_inj, Int8.toInt_toInt32, Int32.toInt_toInt8]
  exact Int.bmod_eq_of_le (by omega) (by omega)
set_option maxHeartbeats 4000000 in
theorem g_o33 {pc nx d a b : Nat} {ls : E_L} {st : List E_V} {h : E_H} {sl0 k e0 : Int} {ll : List Nat} {q : Nat × E_L × List E_V × E_H} (X : g_X G p s m args meth c mi) (hok : k_ok mi pc (33, a, b, k, e0, nx, ll) = true) (hq : e_pick (e_stp d 33 a b k e0 nx ll ls st h) = some q) (hB : g_B G R s sl0 d q.2.2.2) (K : g_K G p l e R s m args below meth c Q mi sl0 q.1 q.2.1 q.2.2.1 q.2.2.2) : g_K G p l e R s m args below meth c Q mi sl0 pc ls st h := by
  obtain ⟨hx, hb, hml, hown, hts, hnm, hK, hE, hGW, hbs⟩ := X
  intro H locs cells slots ls' st' hR hS hc hsl hl hst
  simp only [k_ok, k_dc, Bool.and_eq_true, decide_eq_true_eq] at hok
  simp only [e_stp, s_bst] at hq
  split at hq
  · rename_i y i x r
    rw [e_pick1] at hq
    obtain ⟨hg, rfl⟩ := hq
    rw [decide_eq_true_eq] at hg
    obtain ⟨hg1, hg2, hg3⟩ := hg
    match st', hst with
    | w0 :: w1 :: w2 :: st', hst =>
      obtain ⟨⟨y', rfl, hy⟩, ⟨z, rfl, hz⟩, hv, hs2⟩ := hst
      have hv : w2 = va_rf (g_rr G x) := hv
      subst hv
      obtain ⟨hd, rfl⟩ := hok
      obtain ⟨ws, hRw⟩ := id hR
      have h13 : x ≠ 13 := fun q => by
        subst q
        have h5 := hRw.2.2.2.2.1 13 (by omega)
        rw [if_neg (by omega), if_pos rfl] at h5
        omega
      rcases hg1 with ⟨hg1, hyr⟩ | ⟨hg1, hyr⟩
      · obtain ⟨j, n, f, f1, f2, f3, f4, f5, f6⟩ := hRw.iar (ak := 1) (by omega) hg1 h13
        rw [f4] at hg3
        obtain ⟨hin, hcl⟩ := g_inx hz hg2 hg3
        rw [f2]
        refine va_bast hx hb hK hRw.1 hRw.D hS j 1 f3 (g_tys_get (by omega)) hin hd (fun H1 locs1 hP1 hD1 hS1 => ?_)
        rw [hcl, g_nb (by omega)] at hP1
        exact K H1 locs1 cells slots ls' _ ⟨_, hRw.put f3 f1 hP1 ⟨1, by omega, hg1, rfl, f4, f5, g_upd hg2 f6 hy⟩⟩ hS1 hc hsl hl hs2
      · obtain ⟨j, n, f, f1, f2, f3, f4, f5, f6⟩ := hRw.iar (ak := 2) (by omega) hg1 h13
        rw [f4] at hg3
        obtain ⟨hin, hcl⟩ := g_inx hz hg2 hg3
        rw [f2]
        refine va_zast hx hb hK hRw.1 hRw.D hS j 2 f3 (g_tys_get (by omega)) hin hd (fun H1 locs1 hP1 hD1 hS1 => ?_)
        rw [hcl, g_nz (by omega)] at hP1
        exact K H1 locs1 cells slots ls' _ ⟨_, hRw.put f3 f1 hP1 ⟨2, by omega, hg1, rfl, f4, f5, g_upd hg2 f6 hy⟩⟩ hS1 hc hsl hl hs2
  · exact absurd hq e_pick0
set_option maxHeartbeats 4000000 in
theorem g_o34 {pc nx d a b : Nat} {ls : E_L} {st : List E_V} {h : E_H} {sl0 k e0 : Int} {ll : List Nat} {q : Nat × E_L × List E_V × E_H} (X : g_X G p s m args meth c mi) (hok : k_ok mi pc (34, a, b, k, e0, nx, ll) = true) (hq : e_pick (e_stp d 34 a b k e0 nx ll ls st h) = some q) (hB : g_B G R s sl0 d q.2.2.2) (K : g_K G p l e R s m args below meth c Q mi sl0 q.1 q.2.1 q.2.2.1 q.2.2.2) : g_K G p l e R s m args below meth c Q mi sl0 pc ls st h := by
  obtain ⟨hx, hb, hml, hown, hts, hnm, hK, hE, hGW, hbs⟩ := X
  intro H locs cells slots ls' st' hR hS hc hsl hl hst
  simp only [k_ok, k_dc, Bool.and_eq_true, decide_eq_true_eq] at hok
  simp only [e_stp, s_ald] at hq
  split at hq
  · rename_i i x r
    rw [e_pick1] at hq
    obtain ⟨hg, rfl⟩ := hq
    rw [decide_eq_true_eq] at hg
    obtain ⟨hg1, hg2, hg3⟩ := hg
    match st', hst with
    | w1 :: w2 :: st', hst =>
      obtain ⟨⟨z, rfl, hz⟩, hv, hs2⟩ := hst
      have hv : w2 = va_rf (g_rr G x) := hv
      subst hv
      obtain ⟨hd, rfl⟩ := hok
      obtain ⟨ws, hRw⟩ := id hR
      have h11 : x ≠ 11 := fun q => by
        subst q
        rw [hRw.2.2.2.2.2.1] at hg3
        omega
      obtain ⟨ak, j, n, f, k1, k2, k3, f1, f2, f3, f4, f5, f6⟩ := hRw.rar hg1 h11
      rw [f4] at hg3
      obtain ⟨hin, hcl⟩ := g_inx hz hg2 hg3
      obtain ⟨C, hC⟩ := K_atO ak k1 k2
      rw [f2]
      refine va_aldq (C := C) hx hb hK hRw.1 j ak f3 (by rw [g_tys_get k2, hC]) hin hd (K H locs cells slots ls' _ hR hS hc hsl hl ⟨?_, hs2⟩)
      show va_rf (f z.toNatClampNeg) = va_rf (g_rr G (h_vl h x i))
      rw [hcl, f6 i.toNat (by omega), Int.toNat_of_nonneg hg2]
  · exact absurd hq e_pick0
end GO
