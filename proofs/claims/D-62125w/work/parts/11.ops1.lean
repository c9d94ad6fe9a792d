/-! ===== each instruction of the evaluator is the machine's: numbers, locals, stack, branches ===== -/
section GO
variable {G : E_P} {p : Program} {l : Launch} {e : Env} {R : Room} {s : State} {m : MethodId} {args : Array Value} {below : List Frame} {meth : Method} {c : Code} {Q : State → Prop} {mi : Nat}
theorem g_o1i {pc len : Nat} {H : Heap} {locs : List Loc} {cells slots : Nat} {ls' : Array Slot} {st' : List Value} : W p l e R s m args below meth c H locs cells slots Q (F0 m (pc + len) ls' st') = W p l e R s m args below meth c H locs cells slots Q (F0 m (pc + len) ls' st') := rfl
set_option maxHeartbeats 4000000 in
theorem g_o0 {pc nx d a b : Nat} {ls : E_L} {st : List E_V} {h : E_H} {sl0 k e0 : Int} {ll : List Nat} {q : Nat × E_L × List E_V × E_H} (X : g_X G p s m args meth c mi) (hok : k_ok mi pc (0, a, b, k, e0, nx, ll) = true) (hq : e_pick (e_stp d 0 a b k e0 nx ll ls st h) = some q) (hB : g_B G R s sl0 d q.2.2.2) (K : g_K G p l e R s m args below meth c Q mi sl0 q.1 q.2.1 q.2.2.1 q.2.2.2) : g_K G p l e R s m args below meth c Q mi sl0 pc ls st h := by
  obtain ⟨hx, hb, hml, hown, hts, hnm, hK, hE, hGW, hbs⟩ := X
  intro H locs cells slots ls' st' hR hS hc hsl hl hst
  simp only [k_ok, k_dc, Bool.and_eq_true, decide_eq_true_eq] at hok
  simp only [e_stp, e_pick1] at hq
  obtain ⟨-, rfl⟩ := hq
  split at hok
  · simp only [k_dc, Bool.and_eq_true, decide_eq_true_eq] at hok
    obtain ⟨⟨hd, rfl⟩, hr⟩ := hok
    exact lv_iconst (v := Int32.ofInt k) hx hb hd rfl (K H locs cells slots ls' _ hR hS hc hsl hl ⟨⟨_, rfl, g_ofInt (by omega)⟩, hst⟩)
  · simp only [k_dc, Bool.and_eq_true, decide_eq_true_eq] at hok
    obtain ⟨⟨hd, rfl⟩, hr⟩ := hok
    refine lv_bipush hx hb hd rfl (K H locs cells slots ls' _ hR hS hc hsl hl ⟨⟨_, rfl, ?_⟩, hst⟩)
    rw [Int8.toInt_toInt32, Int8.toInt_ofInt, show Int8.size = 256 from rfl]
    exact Int.bmod_eq_of_le (by omega) (by omega)
  · simp only [k_dc, Bool.and_eq_true, decide_eq_true_eq] at hok
    obtain ⟨⟨hd, rfl⟩, hr⟩ := hok
    refine lv_sipush hx hb hd rfl (K H locs cells slots ls' _ hR hS hc hsl hl ⟨⟨_, rfl, ?_⟩, hst⟩)
    rw [Int16.toInt_toInt32, Int16.toInt_ofInt, show Int16.size = 65536 from rfl]
    exact Int.bmod_eq_of_le (by omega) (by omega)
  · simp only [k_dc, Bool.and_eq_true, decide_eq_true_eq] at hok
    obtain ⟨⟨hd, rfl⟩, hw, hr⟩ := hok
    exact lv_ldc hx hb hown (hts _ (k_is_mem hw)) hd (K H locs cells slots ls' _ hR hS hc hsl hl ⟨⟨_, rfl, g_ofInt (by omega)⟩, hst⟩)
set_option maxHeartbeats 4000000 in
theorem g_o1 {pc nx d a b : Nat} {ls : E_L} {st : List E_V} {h : E_H} {sl0 k e0 : Int} {ll : List Nat} {q : Nat × E_L × List E_V × E_H} (X : g_X G p s m args meth c mi) (hok : k_ok mi pc (1, a, b, k, e0, nx, ll) = true) (hq : e_pick (e_stp d 1 a b k e0 nx ll ls st h) = some q) (hB : g_B G R s sl0 d q.2.2.2) (K : g_K G p l e R s m args below meth c Q mi sl0 q.1 q.2.1 q.2.2.1 q.2.2.2) : g_K G p l e R s m args below meth c Q mi sl0 pc ls st h := by
  obtain ⟨hx, hb, hml, hown, hts, hnm, hK, hE, hGW, hbs⟩ := X
  intro H locs cells slots ls' st' hR hS hc hsl hl hst
  simp only [k_ok, k_dc, Bool.and_eq_true, decide_eq_true_eq] at hok
  simp only [e_stp, e_pick1] at hq
  obtain ⟨-, rfl⟩ := hq
  obtain ⟨hd, rfl⟩ := hok
  exact lv_null hx hb hd (K H locs cells slots ls' _ hR hS hc hsl hl ⟨rfl, hst⟩)
set_option maxHeartbeats 4000000 in
theorem g_o2 {pc nx d a b : Nat} {ls : E_L} {st : List E_V} {h : E_H} {sl0 k e0 : Int} {ll : List Nat} {q : Nat × E_L × List E_V × E_H} (X : g_X G p s m args meth c mi) (hok : k_ok mi pc (2, a, b, k, e0, nx, ll) = true) (hq : e_pick (e_stp d 2 a b k e0 nx ll ls st h) = some q) (hB : g_B G R s sl0 d q.2.2.2) (K : g_K G p l e R s m args below meth c Q mi sl0 q.1 q.2.1 q.2.2.1 q.2.2.2) : g_K G p l e R s m args below meth c Q mi sl0 pc ls st h := by
  obtain ⟨hx, hb, hml, hown, hts, hnm, hK, hE, hGW, hbs⟩ := X
  intro H locs cells slots ls' st' hR hS hc hsl hl hst
  simp only [k_ok, k_dc, Bool.and_eq_true, decide_eq_true_eq] at hok
  simp only [e_stp, s_ld] at hq
  split at hq
  · rename_i x _ hlx
    rw [e_pick1] at hq
    obtain ⟨-, rfl⟩ := hq
    obtain ⟨w, hw, z, rfl, hz⟩ := hl.2.2.2 a _ hlx
    split at hok
    · simp only [k_dc, Bool.and_eq_true, decide_eq_true_eq] at hok
      obtain ⟨⟨hd, rfl⟩, hr⟩ := hok
      exact lv_iload_n hx hb hd (show a % 4 = a by omega) hw (K H locs cells slots ls' _ hR hS hc hsl hl ⟨⟨z, rfl, hz⟩, hst⟩)
    · simp only [k_dc, Bool.and_eq_true, decide_eq_true_eq] at hok
      obtain ⟨hd, rfl⟩ := hok
      exact lv_iload hx hb hd hw (K H locs cells slots ls' _ hR hS hc hsl hl ⟨⟨z, rfl, hz⟩, hst⟩)
  · rename_i hz _
    exact absurd hz (by decide)
  · exact absurd hq e_pick0
set_option maxHeartbeats 4000000 in
theorem g_o3 {pc nx d a b : Nat} {ls : E_L} {st : List E_V} {h : E_H} {sl0 k e0 : Int} {ll : List Nat} {q : Nat × E_L × List E_V × E_H} (X : g_X G p s m args meth c mi) (hok : k_ok mi pc (3, a, b, k, e0, nx, ll) = true) (hq : e_pick (e_stp d 3 a b k e0 nx ll ls st h) = some q) (hB : g_B G R s sl0 d q.2.2.2) (K : g_K G p l e R s m args below meth c Q mi sl0 q.1 q.2.1 q.2.2.1 q.2.2.2) : g_K G p l e R s m args below meth c Q mi sl0 pc ls st h := by
  obtain ⟨hx, hb, hml, hown, hts, hnm, hK, hE, hGW, hbs⟩ := X
  intro H locs cells slots ls' st' hR hS hc hsl hl hst
  simp only [k_ok, k_dc, Bool.and_eq_true, decide_eq_true_eq] at hok
  simp only [e_stp, s_ld] at hq
  split at hq
  · rename_i hz _
    exact absurd hz (by decide)
  · rename_i x _ hlx
    rw [e_pick1] at hq
    obtain ⟨-, rfl⟩ := hq
    obtain ⟨w, hw, hv⟩ := hl.2.2.2 a _ hlx
    have hv : w = va_rf (g_rr G x) := hv
    subst hv
    have kk := K H locs cells slots ls' (va_rf (g_rr G x) :: st') hR hS hc hsl hl ⟨rfl, hst⟩
    dsimp only at kk
    rcases hrr : g_rr G x with _ | y
    · rw [hrr] at hw kk
      split at hok
      · simp only [k_dc, Bool.and_eq_true, decide_eq_true_eq] at hok
        obtain ⟨⟨hd, rfl⟩, hr⟩ := hok
        exact lv_aload_nN hx hb hd (show a % 4 = a by omega) hw kk
      · simp only [k_dc, Bool.and_eq_true, decide_eq_true_eq] at hok
        obtain ⟨hd, rfl⟩ := hok
        exact lv_aloadN hx hb hd hw kk
    · rw [hrr] at hw kk
      split at hok
      · simp only [k_dc, Bool.and_eq_true, decide_eq_true_eq] at hok
        obtain ⟨⟨hd, rfl⟩, hr⟩ := hok
        exact lv_aload_n hx hb hd (show a % 4 = a by omega) hw kk
      · simp only [k_dc, Bool.and_eq_true, decide_eq_true_eq] at hok
        obtain ⟨hd, rfl⟩ := hok
        exact lv_aload hx hb hd hw kk
  · exact absurd hq e_pick0
set_option maxHeartbeats 4000000 in
theorem g_o4 {pc nx d a b : Nat} {ls : E_L} {st : List E_V} {h : E_H} {sl0 k e0 : Int} {ll : List Nat} {q : Nat × E_L × List E_V × E_H} (X : g_X G p s m args meth c mi) (hok : k_ok mi pc (4, a, b, k, e0, nx, ll) = true) (hq : e_pick (e_stp d 4 a b k e0 nx ll ls st h) = some q) (hB : g_B G R s sl0 d q.2.2.2) (K : g_K G p l e R s m args below meth c Q mi sl0 q.1 q.2.1 q.2.2.1 q.2.2.2) : g_K G p l e R s m args below meth c Q mi sl0 pc ls st h := by
  obtain ⟨hx, hb, hml, hown, hts, hnm, hK, hE, hGW, hbs⟩ := X
  intro H locs cells slots ls' st' hR hS hc hsl hl hst
  simp only [k_ok, k_dc, Bool.and_eq_true, decide_eq_true_eq] at hok
  simp only [e_stp, s_st] at hq
  split at hq
  · rename_i x r _
    rw [e_pick1] at hq
    obtain ⟨ha, rfl⟩ := hq
    rw [decide_eq_true_eq, hl.2.2.1] at ha
    match st', hst with
    | w :: st', hst =>
      obtain ⟨⟨z, rfl, hz⟩, hst⟩ := hst
      have kk : ∀ ls2 : Array Slot, lv_has ls2 (P_ml mi) ((a, .int z) :: (g_lv (P_ml mi) ls').filter (fun q => !(q.1 == a) && !(q.1 + 1 == a && q.2.category == 2))) → W p l e R s m args below meth c H locs cells slots Q (F0 m nx ls2 st') := fun ls2 h2 => K H locs cells slots ls2 st' hR hS hc hsl (hl.set ⟨z, rfl, hz⟩ ha h2) hst
      split at hok
      · simp only [k_dc, Bool.and_eq_true, decide_eq_true_eq] at hok
        obtain ⟨⟨hd, rfl⟩, hr⟩ := hok
        exact lv_istore_n hx hb hd (show a % 4 = a by omega) (g_lv_has hl.1 hl.2.1) ha rfl kk
      · simp only [k_dc, Bool.and_eq_true, decide_eq_true_eq] at hok
        obtain ⟨hd, rfl⟩ := hok
        exact lv_istore hx hb hd (g_lv_has hl.1 hl.2.1) ha rfl kk
  · rename_i hz
    exact absurd hz (by decide)
  · exact absurd hq e_pick0
set_option maxHeartbeats 4000000 in
theorem g_o5 {pc nx d a b : Nat} {ls : E_L} {st : List E_V} {h : E_H} {sl0 k e0 : Int} {ll : List Nat} {q : Nat × E_L × List E_V × E_H} (X : g_X G p s m args meth c mi) (hok : k_ok mi pc (5, a, b, k, e0, nx, ll) = true) (hq : e_pick (e_stp d 5 a b k e0 nx ll ls st h) = some q) (hB : g_B G R s sl0 d q.2.2.2) (K : g_K G p l e R s m args below meth c Q mi sl0 q.1 q.2.1 q.2.2.1 q.2.2.2) : g_K G p l e R s m args below meth c Q mi sl0 pc ls st h := by
  obtain ⟨hx, hb, hml, hown, hts, hnm, hK, hE, hGW, hbs⟩ := X
  intro H locs cells slots ls' st' hR hS hc hsl hl hst
  simp only [k_ok, k_dc, Bool.and_eq_true, decide_eq_true_eq] at hok
  simp only [e_stp, s_st] at hq
  split at hq
  · rename_i hz
    exact absurd hz (by decide)
  · rename_i x r _
    rw [e_pick1] at hq
    obtain ⟨ha, rfl⟩ := hq
    rw [decide_eq_true_eq, hl.2.2.1] at ha
    match st', hst with
    | w :: st', hst =>
      obtain ⟨hv, hst⟩ := hst
      have hv : w = va_rf (g_rr G x) := hv
      subst hv
      have kk : ∀ ls2 : Array Slot, lv_has ls2 (P_ml mi) ((a, va_rf (g_rr G x)) :: (g_lv (P_ml mi) ls').filter (fun q => !(q.1 == a) && !(q.1 + 1 == a && q.2.category == 2))) → W p l e R s m args below meth c H locs cells slots Q (F0 m nx ls2 st') := fun ls2 h2 => K H locs cells slots ls2 st' hR hS hc hsl (hl.set (v := .inr x) rfl ha h2) hst
      rcases hrr : g_rr G x with _ | y
      · rw [hrr] at kk
        split at hok
        · simp only [k_dc, Bool.and_eq_true, decide_eq_true_eq] at hok
          obtain ⟨⟨hd, rfl⟩, hr⟩ := hok
          exact lv_astore_nN hx hb hd (show a % 4 = a by omega) (g_lv_has hl.1 hl.2.1) ha rfl kk
        · simp only [k_dc, Bool.and_eq_true, decide_eq_true_eq] at hok
          obtain ⟨hd, rfl⟩ := hok
          exact lv_astoreN hx hb hd (g_lv_has hl.1 hl.2.1) ha rfl kk
      · rw [hrr] at kk
        split at hok
        · simp only [k_dc, Bool.and_eq_true, decide_eq_true_eq] at hok
          obtain ⟨⟨hd, rfl⟩, hr⟩ := hok
          exact lv_astore_n hx hb hd (show a % 4 = a by omega) (g_lv_has hl.1 hl.2.1) ha rfl kk
        · simp only [k_dc, Bool.and_eq_true, decide_eq_true_eq] at hok
          obtain ⟨hd, rfl⟩ := hok
          exact lv_astore hx hb hd (g_lv_has hl.1 hl.2.1) ha rfl kk
  · exact absurd hq e_pick0
set_option maxHeartbeats 4000000 in
theorem g_o6 {pc nx d a b : Nat} {ls : E_L} {st : List E_V} {h : E_H} {sl0 k e0 : Int} {ll : List Nat} {q : Nat × E_L × List E_V × E_H} (X : g_X G p s m args meth c mi) (hok : k_ok mi pc (6, a, b, k, e0, nx, ll) = true) (hq : e_pick (e_stp d 6 a b k e0 nx ll ls st h) = some q) (hB : g_B G R s sl0 d q.2.2.2) (K : g_K G p l e R s m args below meth c Q mi sl0 q.1 q.2.1 q.2.2.1 q.2.2.2) : g_K G p l e R s m args below meth c Q mi sl0 pc ls st h := by
  obtain ⟨hx, hb, hml, hown, hts, hnm, hK, hE, hGW, hbs⟩ := X
  intro H locs cells slots ls' st' hR hS hc hsl hl hst
  simp only [k_ok, k_dc, Bool.and_eq_true, decide_eq_true_eq] at hok
  simp only [e_stp, s_inc] at hq
  split at hq
  · rename_i x hlx
    rw [e_pick1] at hq
    obtain ⟨hin, rfl⟩ := hq
    simp only [e_inR, decide_eq_true_eq] at hin
    obtain ⟨w, hw, z, rfl, hz⟩ := hl.2.2.2 a _ hlx
    obtain ⟨⟨hd, rfl⟩, hr⟩ := hok
    have ha : a < P_ml mi := by rw [← hl.2.2.1]; exact (List.getElem?_eq_some_iff.mp hlx).1
    obtain ⟨kx, hkx⟩ := List.getElem?_of_mem (g_lv_mem (n := P_ml mi) hw rfl ha)
    refine lv_iinc (k := kx) hx hb hd (g_lv_has hl.1 hl.2.1) hkx rfl ha rfl (fun ls2 h2 => K H locs cells slots ls2 st' hR hS hc hsl (hl.set ⟨_, rfl, ?_⟩ ha h2) hst)
    rw [Int32.toInt_add, hz, g_ofInt (by omega)]
    exact Int.bmod_eq_of_le (by omega) (by omega)
  · exact absurd hq e_pick0
set_option maxHeartbeats 4000000 in
theorem g_o8 {pc nx d a b : Nat} {ls : E_L} {st : List E_V} {h : E_H} {sl0 k e0 : Int} {ll : List Nat} {q : Nat × E_L × List E_V × E_H} (X : g_X G p s m args meth c mi) (hok : k_ok mi pc (8, a, b, k, e0, nx, ll) = true) (hq : e_pick (e_stp d 8 a b k e0 nx ll ls st h) = some q) (hB : g_B G R s sl0 d q.2.2.2) (K : g_K G p l e R s m args below meth c Q mi sl0 q.1 q.2.1 q.2.2.1 q.2.2.2) : g_K G p l e R s m args below meth c Q mi sl0 pc ls st h := by
  obtain ⟨hx, hb, hml, hown, hts, hnm, hK, hE, hGW, hbs⟩ := X
  intro H locs cells slots ls' st' hR hS hc hsl hl hst
  simp only [k_ok, k_dc, Bool.and_eq_true, decide_eq_true_eq] at hok
  simp only [e_stp, s_i2b] at hq
  split at hq
  · rename_i x r
    rw [e_pick1] at hq
    obtain ⟨ha, rfl⟩ := hq
    rw [decide_eq_true_eq] at ha
    match st', hst with
    | w :: st', hst =>
      obtain ⟨⟨z, rfl, hz⟩, hst⟩ := hst
      obtain ⟨hd, rfl⟩ := hok
      refine lv_i2b hx hb hd rfl (K H locs cells slots ls' _ hR hS hc hsl hl ⟨⟨_, rfl, ?_⟩, hst⟩)
      rw [Int8.toInt_toInt32, Int32.toInt_toInt8, hz]
      exact Int.bmod_eq_of_le (by omega) (by omega)
  · exact absurd hq e_pick0
set_option maxHeartbeats 4000000 in
theorem g_o9 {pc nx d a b : Nat} {ls : E_L} {st : List E_V} {h : E_H} {sl0 k e0 : Int} {ll : List Nat} {q : Nat × E_L × List E_V × E_H} (X : g_X G p s m args meth c mi) (hok : k_ok mi pc (9, a, b, k, e0, nx, ll) = true) (hq : e_pick (e_stp d 9 a b k e0 nx ll ls st h) = some q) (hB : g_B G R s sl0 d q.2.2.2) (K : g_K G p l e R s m args below meth c Q mi sl0 q.1 q.2.1 q.2.2.1 q.2.2.2) : g_K G p l e R s m args below meth c Q mi sl0 pc ls st h := by
  obtain ⟨hx, hb, hml, hown, hts, hnm, hK, hE, hGW, hbs⟩ := X
  intro H locs cells slots ls' st' hR hS hc hsl hl hst
  simp only [k_ok, k_dc, Bool.and_eq_true, decide_eq_true_eq] at hok
  simp only [e_stp, s_dup] at hq
  split at hq
  · rename_i v r
    rw [e_pick1] at hq
    obtain ⟨ha, rfl⟩ := hq
    match st', hst with
    | w :: st', hst =>
      obtain ⟨hd, rfl⟩ := hok
      exact lv_dup hx hb hd hst.1.cat (K H locs cells slots ls' _ hR hS hc hsl hl ⟨hst.1, hst.1, hst.2⟩)
  · exact absurd hq e_pick0
set_option maxHeartbeats 4000000 in
theorem g_o10 {pc nx d a b : Nat} {ls : E_L} {st : List E_V} {h : E_H} {sl0 k e0 : Int} {ll : List Nat} {q : Nat × E_L × List E_V × E_H} (X : g_X G p s m args meth c mi) (hok : k_ok mi pc (10, a, b, k, e0, nx, ll) = true) (hq : e_pick (e_stp d 10 a b k e0 nx ll ls st h) = some q) (hB : g_B G R s sl0 d q.2.2.2) (K : g_K G p l e R s m args below meth c Q mi sl0 q.1 q.2.1 q.2.2.1 q.2.2.2) : g_K G p l e R s m args below meth c Q mi sl0 pc ls st h := by
  obtain ⟨hx, hb, hml, hown, hts, hnm, hK, hE, hGW, hbs⟩ := X
  intro H locs cells slots ls' st' hR hS hc hsl hl hst
  simp only [k_ok, k_dc, Bool.and_eq_true, decide_eq_true_eq] at hok
  simp only [e_stp, s_pop] at hq
  split at hq
  · rename_i v r
    rw [e_pick1] at hq
    obtain ⟨ha, rfl⟩ := hq
    match st', hst with
    | w :: st', hst =>
      obtain ⟨hd, rfl⟩ := hok
      exact lv_pop hx hb hd hst.1.cat (K H locs cells slots ls' _ hR hS hc hsl hl hst.2)
  · exact absurd hq e_pick0
set_option maxHeartbeats 4000000 in
theorem g_o11 {pc nx d a b : Nat} {ls : E_L} {st : List E_V} {h : E_H} {sl0 k e0 : Int} {ll : List Nat} {q : Nat × E_L × List E_V × E_H} (X : g_X G p s m args meth c mi) (hok : k_ok mi pc (11, a, b, k, e0, nx, ll) = true) (hq : e_pick (e_stp d 11 a b k e0 nx ll ls st h) = some q) (hB : g_B G R s sl0 d q.2.2.2) (K : g_K G p l e R s m args below meth c Q mi sl0 q.1 q.2.1 q.2.2.1 q.2.2.2) : g_K G p l e R s m args below meth c Q mi sl0 pc ls st h := by
  obtain ⟨hx, hb, hml, hown, hts, hnm, hK, hE, hGW, hbs⟩ := X
  intro H locs cells slots ls' st' hR hS hc hsl hl hst
  simp only [k_ok, k_dc, Bool.and_eq_true, decide_eq_true_eq] at hok
  simp only [e_stp, s_dx1] at hq
  split at hq
  · rename_i v w r
    rw [e_pick1] at hq
    obtain ⟨ha, rfl⟩ := hq
    match st', hst with
    | v' :: w' :: st', hst =>
      obtain ⟨hd, rfl⟩ := hok
      exact lv_dup_x1 hx hb hd hst.1.cat hst.2.1.cat (K H locs cells slots ls' _ hR hS hc hsl hl ⟨hst.1, hst.2.1, hst.1, hst.2.2⟩)
  · exact absurd hq e_pick0
set_option maxHeartbeats 4000000 in
theorem g_o17 {pc nx d a b : Nat} {ls : E_L} {st : List E_V} {h : E_H} {sl0 k e0 : Int} {ll : List Nat} {q : Nat × E_L × List E_V × E_H} (X : g_X G p s m args meth c mi) (hok : k_ok mi pc (17, a, b, k, e0, nx, ll) = true) (hq : e_pick (e_stp d 17 a b k e0 nx ll ls st h) = some q) (hB : g_B G R s sl0 d q.2.2.2) (K : g_K G p l e R s m args below meth c Q mi sl0 q.1 q.2.1 q.2.2.1 q.2.2.2) : g_K G p l e R s m args below meth c Q mi sl0 pc ls st h := by
  obtain ⟨hx, hb, hml, hown, hts, hnm, hK, hE, hGW, hbs⟩ := X
  intro H locs cells slots ls' st' hR hS hc hsl hl hst
  simp only [k_ok, k_dc, Bool.and_eq_true, decide_eq_true_eq] at hok
  simp only [e_stp, e_pick1] at hq
  obtain ⟨-, rfl⟩ := hq
  obtain ⟨hd, rfl⟩ := hok
  exact lv_goto hx hb hd (by omega) (K H locs cells slots ls' _ hR hS hc hsl hl hst)
theorem g_eq0 {x : Int32} : x = 0 ↔ x.toInt = 0 := by
  rw [← Int32.toInt_inj]
  rfl
theorem g_rrN {x : Int} : g_rr G x = none ↔ x = 0 := by
  unfold g_rr
  split <;> simp [*]
set_option maxHeartbeats 4000000 in
theorem g_o15 {pc nx d a b : Nat} {ls : E_L} {st : List E_V} {h : E_H} {sl0 k e0 : Int} {ll : List Nat} {q : Nat × E_L × List E_V × E_H} (X : g_X G p s m args meth c mi) (hok : k_ok mi pc (15, a, b, k, e0, nx, ll) = true) (hq : e_pick (e_stp d 15 a b k e0 nx ll ls st h) = some q) (hB : g_B G R s sl0 d q.2.2.2) (K : g_K G p l e R s m args below meth c Q mi sl0 q.1 q.2.1 q.2.2.1 q.2.2.2) : g_K G p l e R s m args below meth c Q mi sl0 pc ls st h := by
  obtain ⟨hx, hb, hml, hown, hts, hnm, hK, hE, hGW, hbs⟩ := X
  intro H locs cells slots ls' st' hR hS hc hsl hl hst
  simp only [k_ok, k_dc, Bool.and_eq_true, decide_eq_true_eq] at hok
  simp only [e_stp, s_nul] at hq
  split at hq
  · rename_i x r
    rw [e_pick2] at hq
    match st', hst with
    | w :: st', hst =>
      obtain ⟨hv, hst⟩ := hst
      have hv : w = va_rf (g_rr G x) := hv
      subst hv
      obtain ⟨hd, rfl⟩ := hok
      simp only [e_acm, decide_eq_true_eq, decide_eq_false_iff_not] at hq
      rcases hq with ⟨h1, rfl⟩ | ⟨h1, -, rfl⟩
      · rw [g_rrN.mpr h1]
        exact lv_ifnullN hx hb hd (by omega) (K H locs cells slots ls' _ hR hS hc hsl hl hst)
      · obtain ⟨y, hy⟩ := Option.ne_none_iff_exists'.mp (fun z => h1 (g_rrN.mp z) : g_rr G x ≠ none)
        rw [hy]
        exact lv_ifnull hx hb hd (K H locs cells slots ls' _ hR hS hc hsl hl hst)
  · exact absurd hq e_pick0
set_option maxHeartbeats 4000000 in
theorem g_o16 {pc nx d a b : Nat} {ls : E_L} {st : List E_V} {h : E_H} {sl0 k e0 : Int} {ll : List Nat} {q : Nat × E_L × List E_V × E_H} (X : g_X G p s m args meth c mi) (hok : k_ok mi pc (16, a, b, k, e0, nx, ll) = true) (hq : e_pick (e_stp d 16 a b k e0 nx ll ls st h) = some q) (hB : g_B G R s sl0 d q.2.2.2) (K : g_K G p l e R s m args below meth c Q mi sl0 q.1 q.2.1 q.2.2.1 q.2.2.2) : g_K G p l e R s m args below meth c Q mi sl0 pc ls st h := by
  obtain ⟨hx, hb, hml, hown, hts, hnm, hK, hE, hGW, hbs⟩ := X
  intro H locs cells slots ls' st' hR hS hc hsl hl hst
  simp only [k_ok, k_dc, Bool.and_eq_true, decide_eq_true_eq] at hok
  simp only [e_stp, s_nul] at hq
  split at hq
  · rename_i x r
    rw [e_pick2] at hq
    match st', hst with
    | w :: st', hst =>
      obtain ⟨hv, hst⟩ := hst
      have hv : w = va_rf (g_rr G x) := hv
      subst hv
      obtain ⟨hd, rfl⟩ := hok
      simp only [e_acm, decide_eq_true_eq, decide_eq_false_iff_not, ne_eq, Decidable.not_not] at hq
      rcases hq with ⟨h1, rfl⟩ | ⟨h1, -, rfl⟩
      · obtain ⟨y, hy⟩ := Option.ne_none_iff_exists'.mp (fun z => h1 (g_rrN.mp z) : g_rr G x ≠ none)
        rw [hy]
        exact lv_ifnonnull hx hb hd (by omega) (K H locs cells slots ls' _ hR hS hc hsl hl hst)
      · rw [g_rrN.mpr h1]
        exact lv_ifnonnullN hx hb hd (K H locs cells slots ls' _ hR hS hc hsl hl hst)
  · exact absurd hq e_pick0
end GO
