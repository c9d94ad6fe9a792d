/-! ===== arithmetic and comparisons ===== -/
section GO
variable {G : E_P} {p : Program} {l : Launch} {e : Env} {R : Room} {s : State} {m : MethodId} {args : Array Value} {below : List Frame} {meth : Method} {c : Code} {Q : State → Prop} {mi : Nat}
theorem g_bm {x : Int} (h : -2147483648 ≤ x ∧ x ≤ 2147483647) : x.bmod 4294967296 = x := Int.bmod_eq_of_le (by omega) (by omega)
theorem g_add {x y : Int32} (h : -2147483648 ≤ x.toInt + y.toInt ∧ x.toInt + y.toInt ≤ 2147483647) : (x + y).toInt = x.toInt + y.toInt := by
  rw [Int32.toInt_add]; exact g_bm h
theorem g_sub {x y : Int32} (h : -2147483648 ≤ x.toInt - y.toInt ∧ x.toInt - y.toInt ≤ 2147483647) : (x - y).toInt = x.toInt - y.toInt := by
  rw [Int32.toInt_sub]; exact g_bm h
theorem g_mul {x y : Int32} (h : -2147483648 ≤ x.toInt * y.toInt ∧ x.toInt * y.toInt ≤ 2147483647) : (x * y).toInt = x.toInt * y.toInt := by
  rw [Int32.toInt_mul]; exact g_bm h
theorem g_nI {x : Int32} (h : 0 ≤ x.toInt) : ∃ n : Nat, n < 2 ^ 31 ∧ x = nI n ∧ x.toInt = n := by
  have h2 := (g_i32 x).2
  refine ⟨x.toInt.toNat, by omega, ?_, by omega⟩
  rw [← Int32.toInt_inj, nI_toInt (by omega)]
  omega
theorem g_div {x y : Int32} (h : 0 ≤ x.toInt ∧ 0 < y.toInt) : (x / y).toInt = x.toInt / y.toInt := by
  obtain ⟨n, hn, rfl, hx⟩ := g_nI h.1
  obtain ⟨k, hk, rfl, hy⟩ := g_nI (x := y) (by omega)
  rw [pk_div hn (by omega) hk, nI_toInt (Nat.lt_of_le_of_lt (Nat.div_le_self _ _) hn), hx, hy]
  rfl
theorem g_tb (x : Int32) : (x.toBitVec.toNat : Int) = x.toInt ∨ (x.toBitVec.toNat : Int) = x.toInt + 4294967296 := by
  have h : x.toInt = x.toBitVec.toInt := rfl
  have h2 := BitVec.toInt_eq_toNat_cond x.toBitVec
  have h3 := x.toBitVec.isLt
  rw [h, h2]
  split <;> omega
theorem g_and {x y : Int32} (k : Nat) (hk : k = 1 ∨ k = 2 ∨ k = 5) (hy : y.toInt = 2 ^ k - 1) : (x &&& y).toInt = x.toInt % (y.toInt + 1) := by
  have hyy : y.toBitVec.toNat = 2 ^ k - 1 := by
    rcases hk with rfl | rfl | rfl <;> (have := g_tb y; have := y.toBitVec.isLt; omega)
  rw [pk_and x k hyy, nI_toInt (by
    have : x.toBitVec.toNat % 2 ^ k < 2 ^ k := Nat.mod_lt _ (Nat.two_pow_pos k)
    rcases hk with rfl | rfl | rfl <;> omega)]
  have h1 := g_tb x
  rcases hk with rfl | rfl | rfl <;> rw [hy] <;> omega
theorem g_or {x y : Int32} (h : 0 ≤ x.toInt ∧ 0 ≤ y.toInt) : (x ||| y).toInt = ((x.toInt.toNat ||| y.toInt.toNat : Nat) : Int) := by
  obtain ⟨n, hn, rfl, hx⟩ := g_nI h.1
  obtain ⟨k, hk, rfl, hy⟩ := g_nI h.2
  rw [hx, hy, Int.toNat_natCast, Int.toNat_natCast]
  have hlt : n ||| k < 2 ^ 31 := Nat.or_lt_two_pow hn hk
  have e : nI n ||| nI k = nI (n ||| k) := by
    apply Int32.toBitVec_inj.mp
    apply BitVec.eq_of_toNat_eq
    rw [Int32.toBitVec_or, BitVec.toNat_or, pk_tn (by omega), pk_tn (by omega), pk_tn (by omega)]
  rw [e, nI_toInt hlt]
theorem g_amt {y : Int32} (h : 0 ≤ y.toInt ∧ y.toInt < 32) : ((y &&& 31).toBitVec.smod 32).toNat = y.toInt.toNat := by
  obtain ⟨n, hn, rfl, hy⟩ := g_nI h.1
  have hn : n < 32 := by omega
  rw [hy, Int.toNat_natCast]
  have : ∀ n : Nat, n < 32 → ((nI n &&& 31).toBitVec.smod 32).toNat = n := by decide +kernel
  exact this n hn
theorem g_shr {x y : Int32} (h : 0 ≤ y.toInt ∧ y.toInt < 32) : (x >>> (y &&& 31)).toInt = x.toInt / 2 ^ y.toInt.toNat := by
  rw [pk_shr x (y &&& 31) y.toInt.toNat (g_amt h), Int.shiftRight_eq_div_pow]
  norm_cast
theorem g_shl {x y : Int32} (h : 0 ≤ y.toInt ∧ y.toInt < 31) (hr : -2147483648 ≤ x.toInt * 2 ^ y.toInt.toNat ∧ x.toInt * 2 ^ y.toInt.toNat ≤ 2147483647) : (x <<< (y &&& 31)).toInt = x.toInt * 2 ^ y.toInt.toNat := by
  have h1 := pk_shl x (y &&& 31) y.toInt.toNat (g_amt ⟨h.1, by omega⟩)
  have h2 := g_tb x
  have h3 := g_tb (x <<< (y &&& 31))
  have h4 := g_i32 (x <<< (y &&& 31))
  have h5 : ((x.toBitVec.toNat * 2 ^ y.toInt.toNat : Nat) : Int) % 4294967296 = (x.toInt * 2 ^ y.toInt.toNat) % 4294967296 := by
    rw [Int.natCast_mul, Int.natCast_pow]
    rcases h2 with h2 | h2 <;> rw [h2]
    · rfl
    · rw [Int.add_mul, Int.add_mul_emod_self_left]
      rfl
  have h6 : ((x <<< (y &&& 31)).toBitVec.toNat : Int) = (x.toInt * 2 ^ y.toInt.toNat) % 4294967296 := by
    rw [h1, ← h5]
    omega
  omega
set_option maxHeartbeats 4000000 in
theorem g_o7 {pc nx d a b : Nat} {ls : E_L} {st : List E_V} {h : E_H} {sl0 k e0 : Int} {ll : List Nat} {q : Nat × E_L × List E_V × E_H} (X : g_X G p s m args meth c mi) (hok : k_ok mi pc (7, a, b, k, e0, nx, ll) = true) (hq : e_pick (e_stp d 7 a b k e0 nx ll ls st h) = some q) (hB : g_B G R s sl0 d q.2.2.2) (K : g_K G p l e R s m args below meth c Q mi sl0 q.1 q.2.1 q.2.2.1 q.2.2.2) : g_K G p l e R s m args below meth c Q mi sl0 pc ls st h := by
  obtain ⟨hx, hb, hml, hown, hts, hnm, hK, hE, hGW, hbs⟩ := X
  intro H locs cells slots ls' st' hR hS hc hsl hl hst
  simp only [k_ok, k_dc, Bool.and_eq_true, decide_eq_true_eq] at hok
  simp only [e_stp, s_bin] at hq
  split at hq
  · rename_i y x r
    rw [e_pick1] at hq
    obtain ⟨hg, rfl⟩ := hq
    match st', hst with
    | w1 :: w2 :: st', hst =>
      obtain ⟨⟨y', rfl, hy⟩, ⟨x', rfl, hx'⟩, hs2⟩ := hst
      obtain ⟨hd, rfl⟩ := hok
      subst hy
      subst hx'
      have kk : ∀ z : Int32, z.toInt = e_bopV b x'.toInt y'.toInt → W p l e R s m args below meth c H locs cells slots Q (F0 m (pc + 1) ls' (.int z :: st')) := fun z hz => K H locs cells slots ls' _ hR hS hc hsl hl ⟨⟨z, rfl, hz⟩, hs2⟩
      match b, hg, hd, kk with
      | 0, hg, hd, kk =>
        simp only [e_bopC, e_inR, decide_eq_true_eq] at hg
        exact lv_iadd hx hb hd (kk _ (g_add hg))
      | 1, hg, hd, kk =>
        simp only [e_bopC, e_inR, decide_eq_true_eq] at hg
        exact lv_isub hx hb hd (kk _ (g_sub hg))
      | 2, hg, hd, kk =>
        simp only [e_bopC, e_inR, decide_eq_true_eq] at hg
        exact lv_imul hx hb hd (kk _ (g_mul hg))
      | 3, hg, hd, kk =>
        simp only [e_bopC, decide_eq_true_eq] at hg
        exact lv_idiv hx hb hd (fun z => by rw [z] at hg; exact absurd hg.2 (by decide)) (kk _ (g_div hg))
      | 4, hg, hd, kk =>
        simp only [e_bopC, decide_eq_true_eq] at hg
        refine lv_iand hx hb hd (kk _ ?_)
        rcases hg with h1 | h1 | h1
        · exact g_and 1 (by omega) (by omega)
        · exact g_and 2 (by omega) (by omega)
        · exact g_and 5 (by omega) (by omega)
      | 5, hg, hd, kk =>
        simp only [e_bopC, decide_eq_true_eq] at hg
        exact lv_ior hx hb hd (kk _ (g_or hg))
      | 6, hg, hd, kk =>
        simp only [e_bopC, e_inR, Bool.and_eq_true, decide_eq_true_eq] at hg
        exact lv_ishl hx hb hd (kk _ (g_shl hg.1 hg.2))
      | n + 7, hg, hd, kk =>
        simp only [e_bopC, decide_eq_true_eq] at hg
        exact lv_ishr hx hb hd (kk _ (g_shr hg))
  · exact absurd hq e_pick0
set_option maxHeartbeats 4000000 in
theorem g_o12 {pc nx d a b : Nat} {ls : E_L} {st : List E_V} {h : E_H} {sl0 k e0 : Int} {ll : List Nat} {q : Nat × E_L × List E_V × E_H} (X : g_X G p s m args meth c mi) (hok : k_ok mi pc (12, a, b, k, e0, nx, ll) = true) (hq : e_pick (e_stp d 12 a b k e0 nx ll ls st h) = some q) (hB : g_B G R s sl0 d q.2.2.2) (K : g_K G p l e R s m args below meth c Q mi sl0 q.1 q.2.1 q.2.2.1 q.2.2.2) : g_K G p l e R s m args below meth c Q mi sl0 pc ls st h := by
  obtain ⟨hx, hb, hml, hown, hts, hnm, hK, hE, hGW, hbs⟩ := X
  intro H locs cells slots ls' st' hR hS hc hsl hl hst
  simp only [k_ok, k_dc, Bool.and_eq_true, decide_eq_true_eq] at hok
  simp only [e_stp, s_if] at hq
  split at hq
  · rename_i x r
    rw [e_pick2] at hq
    match st', hst with
    | w1 :: st', hst =>
      obtain ⟨⟨x', rfl, hx'⟩, hs2⟩ := hst
      obtain ⟨hd, rfl⟩ := hok
      subst hx'
      have kt : e_cmp b x'.toInt 0 = true → W p l e R s m args below meth c H locs cells slots Q (F0 m a ls' st') := fun z => by
        rcases hq with ⟨h1, rfl⟩ | ⟨h1, -, rfl⟩
        · exact K H locs cells slots ls' _ hR hS hc hsl hl hs2
        · rw [h1] at z; cases z
      have kf : e_cmp b x'.toInt 0 = false → W p l e R s m args below meth c H locs cells slots Q (F0 m (pc + 3) ls' st') := fun z => by
        rcases hq with ⟨h1, rfl⟩ | ⟨h1, -, rfl⟩
        · rw [h1] at z; cases z
        · exact K H locs cells slots ls' _ hR hS hc hsl hl hs2
      have e0 : (0 : Int32).toInt = 0 := rfl
      match b, hd, kt, kf with
      | 0, hd, kt, kf =>
        simp only [e_cmp, decide_eq_true_eq, decide_eq_false_iff_not] at kt kf
        exact lv_if_eq hx hb hd (by omega) (fun z => kt (g_eq0.mp z)) (fun z => kf (fun y => z (g_eq0.mpr y)))
      | 1, hd, kt, kf =>
        simp only [e_cmp, decide_eq_true_eq, decide_eq_false_iff_not, ne_eq, Decidable.not_not] at kt kf
        exact lv_if_ne hx hb hd (by omega) (fun z => kt (fun y => z (g_eq0.mpr y))) (fun z => kf (by first | exact g_eq0.mp z | exact g_eq0.mp (Decidable.not_not.mp z)))
      | 2, hd, kt, kf =>
        simp only [e_cmp, decide_eq_true_eq, decide_eq_false_iff_not] at kt kf
        exact lv_if_lt hx hb hd (by omega) (fun z => kt (by have := Int32.lt_iff_toInt_lt.mp z; omega)) (fun z => kf (fun y => z (Int32.lt_iff_toInt_lt.mpr (by omega))))
      | 3, hd, kt, kf =>
        simp only [e_cmp, decide_eq_true_eq, decide_eq_false_iff_not] at kt kf
        exact lv_if_ge hx hb hd (by omega) (fun z => kt (by have := Int32.le_iff_toInt_le.mp z; omega)) (fun z => kf (fun y => z (Int32.le_iff_toInt_le.mpr (by omega))))
      | 4, hd, kt, kf =>
        simp only [e_cmp, decide_eq_true_eq, decide_eq_false_iff_not] at kt kf
        exact lv_if_gt hx hb hd (by omega) (fun z => kt (by have := Int32.lt_iff_toInt_lt.mp z; omega)) (fun z => kf (fun y => z (Int32.lt_iff_toInt_lt.mpr (by omega))))
      | n + 5, hd, kt, kf =>
        simp only [e_cmp, decide_eq_true_eq, decide_eq_false_iff_not] at kt kf
        exact lv_if_le hx hb hd (by omega) (fun z => kt (by have := Int32.le_iff_toInt_le.mp z; omega)) (fun z => kf (fun y => z (Int32.le_iff_toInt_le.mpr (by omega))))
  · exact absurd hq e_pick0
set_option maxHeartbeats 4000000 in
theorem g_o13 {pc nx d a b : Nat} {ls : E_L} {st : List E_V} {h : E_H} {sl0 k e0 : Int} {ll : List Nat} {q : Nat × E_L × List E_V × E_H} (X : g_X G p s m args meth c mi) (hok : k_ok mi pc (13, a, b, k, e0, nx, ll) = true) (hq : e_pick (e_stp d 13 a b k e0 nx ll ls st h) = some q) (hB : g_B G R s sl0 d q.2.2.2) (K : g_K G p l e R s m args below meth c Q mi sl0 q.1 q.2.1 q.2.2.1 q.2.2.2) : g_K G p l e R s m args below meth c Q mi sl0 pc ls st h := by
  obtain ⟨hx, hb, hml, hown, hts, hnm, hK, hE, hGW, hbs⟩ := X
  intro H locs cells slots ls' st' hR hS hc hsl hl hst
  simp only [k_ok, k_dc, Bool.and_eq_true, decide_eq_true_eq] at hok
  simp only [e_stp, s_icm] at hq
  split at hq
  · rename_i y x r
    rw [e_pick2] at hq
    match st', hst with
    | w1 :: w2 :: st', hst =>
      obtain ⟨⟨y', rfl, hy'⟩, ⟨x', rfl, hx'⟩, hs2⟩ := hst
      obtain ⟨hd, rfl⟩ := hok
      subst hx'
      subst hy'
      have kt : e_cmp b x'.toInt y'.toInt = true → W p l e R s m args below meth c H locs cells slots Q (F0 m a ls' st') := fun z => by
        rcases hq with ⟨h1, rfl⟩ | ⟨h1, -, rfl⟩
        · exact K H locs cells slots ls' _ hR hS hc hsl hl hs2
        · rw [h1] at z; cases z
      have kf : e_cmp b x'.toInt y'.toInt = false → W p l e R s m args below meth c H locs cells slots Q (F0 m (pc + 3) ls' st') := fun z => by
        rcases hq with ⟨h1, rfl⟩ | ⟨h1, -, rfl⟩
        · rw [h1] at z; cases z
        · exact K H locs cells slots ls' _ hR hS hc hsl hl hs2
      match b, hd, kt, kf with
      | 0, hd, kt, kf =>
        simp only [e_cmp, decide_eq_true_eq, decide_eq_false_iff_not] at kt kf
        exact lv_icmp_eq hx hb hd (by omega) (fun z => kt (by rw [z])) (fun z => kf (fun y => z (Int32.toInt_inj.mp y)))
      | 1, hd, kt, kf =>
        simp only [e_cmp, decide_eq_true_eq, decide_eq_false_iff_not, ne_eq, Decidable.not_not] at kt kf
        exact lv_icmp_ne hx hb hd (by omega) (fun z => kt (fun y => z (Int32.toInt_inj.mp y))) (fun z => kf (by first | rw [z] | rw [Decidable.not_not.mp z]))
      | 2, hd, kt, kf =>
        simp only [e_cmp, decide_eq_true_eq, decide_eq_false_iff_not] at kt kf
        exact lv_icmp_lt hx hb hd (by omega) (fun z => kt (Int32.lt_iff_toInt_lt.mp z)) (fun z => kf (fun y => z (Int32.lt_iff_toInt_lt.mpr y)))
      | 3, hd, kt, kf =>
        simp only [e_cmp, decide_eq_true_eq, decide_eq_false_iff_not] at kt kf
        exact lv_icmp_ge hx hb hd (by omega) (fun z => kt (Int32.le_iff_toInt_le.mp z)) (fun z => kf (fun y => z (Int32.le_iff_toInt_le.mpr y)))
      | 4, hd, kt, kf =>
        simp only [e_cmp, decide_eq_true_eq, decide_eq_false_iff_not] at kt kf
        exact lv_icmp_gt hx hb hd (by omega) (fun z => kt (Int32.lt_iff_toInt_lt.mp z)) (fun z => kf (fun y => z (Int32.lt_iff_toInt_lt.mpr y)))
      | n + 5, hd, kt, kf =>
        simp only [e_cmp, decide_eq_true_eq, decide_eq_false_iff_not] at kt kf
        exact lv_icmp_le hx hb hd (by omega) (fun z => kt (Int32.le_iff_toInt_le.mp z)) (fun z => kf (fun y => z (Int32.le_iff_toInt_le.mpr y)))
  · exact absurd hq e_pick0
theorem g_inj {x y : Int} (hW : g_W G) (h : e_aok x y = true) : g_rr G x = g_rr G y ↔ x = y := by
  refine ⟨fun hr => ?_, fun z => by rw [z]⟩
  simp only [e_aok, decide_eq_true_eq] at h
  unfold g_rr at hr
  by_cases hx0 : x = 0
  · rw [if_pos hx0] at hr
    split at hr
    · omega
    · cases hr
  · rw [if_neg hx0] at hr
    by_cases hy0 : y = 0
    · rw [if_pos hy0] at hr
      cases hr
    · rw [if_neg hy0] at hr
      have hm := Option.some.inj hr
      unfold g_mu at hm
      rcases h with h | ⟨hx12, hy12, h⟩
      · exact h
      · have e1 := hW.1 x.toNat (by omega)
        have e2 := hW.1 y.toNat (by omega)
        split at hm <;> split at hm
        · rcases h with h | h | h
          · omega
          · omega
          · have := hW.2.1 x.toNat y.toNat (by omega) (by omega) (by omega) (by omega) hm
            omega
        · omega
        · omega
        · omega
set_option maxHeartbeats 4000000 in
theorem g_o14 {pc nx d a b : Nat} {ls : E_L} {st : List E_V} {h : E_H} {sl0 k e0 : Int} {ll : List Nat} {q : Nat × E_L × List E_V × E_H} (X : g_X G p s m args meth c mi) (hok : k_ok mi pc (14, a, b, k, e0, nx, ll) = true) (hq : e_pick (e_stp d 14 a b k e0 nx ll ls st h) = some q) (hB : g_B G R s sl0 d q.2.2.2) (K : g_K G p l e R s m args below meth c Q mi sl0 q.1 q.2.1 q.2.2.1 q.2.2.2) : g_K G p l e R s m args below meth c Q mi sl0 pc ls st h := by
  obtain ⟨hx, hb, hml, hown, hts, hnm, hK, hE, hGW, hbs⟩ := X
  intro H locs cells slots ls' st' hR hS hc hsl hl hst
  simp only [k_ok, k_dc, Bool.and_eq_true, decide_eq_true_eq] at hok
  simp only [e_stp, s_acm] at hq
  split at hq
  · rename_i y x r
    rw [e_pick2] at hq
    match st', hst with
    | w1 :: w2 :: st', hst =>
      obtain ⟨hy', hx', hs2⟩ := hst
      have hy' : w1 = va_rf (g_rr G y) := hy'
      have hx' : w2 = va_rf (g_rr G x) := hx'
      subst hy'
      subst hx'
      obtain ⟨hd, rfl⟩ := hok
      have hak : e_aok x y = true := by
        rcases hq with ⟨h1, rfl⟩ | ⟨h1, h2, rfl⟩
        · rw [Bool.and_eq_true] at h1
          exact h1.1
        · exact h2
      have kt : e_acm b x y = true → W p l e R s m args below meth c H locs cells slots Q (F0 m a ls' st') := fun z => by
        rcases hq with ⟨h1, rfl⟩ | ⟨h1, -, rfl⟩
        · exact K H locs cells slots ls' _ hR hS hc hsl hl hs2
        · rw [hak, z] at h1; cases h1
      have kf : e_acm b x y = false → W p l e R s m args below meth c H locs cells slots Q (F0 m (pc + 3) ls' st') := fun z => by
        rcases hq with ⟨h1, rfl⟩ | ⟨h1, -, rfl⟩
        · rw [z, Bool.and_false] at h1; cases h1
        · exact K H locs cells slots ls' _ hR hS hc hsl hl hs2
      match b, hd, kt, kf with
      | 0, hd, kt, kf =>
        simp only [e_acm, decide_eq_true_eq, decide_eq_false_iff_not] at kt kf
        exact lv_acmp_eq hx hb hd (by omega) (fun z => kt ((g_inj hGW hak).mp z)) (fun z => kf (fun y => z ((g_inj hGW hak).mpr y)))
      | n + 1, hd, kt, kf =>
        simp only [e_acm, decide_eq_true_eq, decide_eq_false_iff_not, ne_eq, Decidable.not_not] at kt kf
        exact lv_acmp_ne hx hb hd (by omega) (fun z => kt (fun y => z ((g_inj hGW hak).mpr y))) (fun z => kf ((g_inj hGW hak).mp z))
  · exact absurd hq e_pick0
theorem g_sw {x : Int} {df : Nat} {ls : E_L} {r : List E_V} {h : E_H} {q : Nat × E_L × List E_V × E_H} : ∀ {l : List Nat} {lo : Int}, e_pick (s_swB x lo l df ls r h) = some q → (q = (df, ls, r, h) ∧ (x < lo ∨ lo + l.length - 1 < x)) ∨ ∃ t, l[(x - lo).toNat]? = some t ∧ lo ≤ x ∧ x ≤ lo + l.length - 1 ∧ q = (t, ls, r, h)
  | [], lo, hq => by
    simp only [s_swB, e_pick1] at hq
    refine Or.inl ⟨hq.2.symm, ?_⟩
    rw [List.length_nil]
    omega
  | t :: l, lo, hq => by
    simp only [s_swB, e_pick] at hq
    split at hq
    · rename_i h1
      rw [decide_eq_true_eq] at h1
      refine Or.inr ⟨t, ?_, by omega, by rw [List.length_cons]; omega, (Option.some.inj hq).symm⟩
      rw [show (x - lo).toNat = 0 by omega]
      rfl
    · rename_i h1
      rw [decide_eq_true_eq] at h1
      rcases g_sw (lo := lo + 1) hq with ⟨h2, h3⟩ | ⟨t2, h2, h3, h4, h5⟩
      · refine Or.inl ⟨h2, ?_⟩
        rw [List.length_cons]
        omega
      · refine Or.inr ⟨t2, ?_, by omega, by rw [List.length_cons]; omega, h5⟩
        rw [show (x - lo).toNat = (x - (lo + 1)).toNat + 1 by omega]
        exact h2
set_option maxHeartbeats 4000000 in
theorem g_o18 {pc nx d a b : Nat} {ls : E_L} {st : List E_V} {h : E_H} {sl0 k e0 : Int} {ll : List Nat} {q : Nat × E_L × List E_V × E_H} (X : g_X G p s m args meth c mi) (hok : k_ok mi pc (18, a, b, k, e0, nx, ll) = true) (hq : e_pick (e_stp d 18 a b k e0 nx ll ls st h) = some q) (hB : g_B G R s sl0 d q.2.2.2) (K : g_K G p l e R s m args below meth c Q mi sl0 q.1 q.2.1 q.2.2.1 q.2.2.2) : g_K G p l e R s m args below meth c Q mi sl0 pc ls st h := by
  obtain ⟨hx, hb, hml, hown, hts, hnm, hK, hE, hGW, hbs⟩ := X
  intro H locs cells slots ls' st' hR hS hc hsl hl hst
  simp only [k_ok, k_dc, Bool.and_eq_true, decide_eq_true_eq] at hok
  simp only [e_stp, s_sw] at hq
  split at hq
  · rename_i x r
    match st', hst with
    | w1 :: st', hst =>
      obtain ⟨⟨x', rfl, hx'⟩, hs2⟩ := hst
      obtain ⟨hd, hn⟩ := hok
      subst hx'
      rcases g_sw (lo := k) hq with ⟨rfl, h1⟩ | ⟨t, h1, h2, h3, rfl⟩
      · exact lv_tableOut hx hb hd h1 (by omega) (K H locs cells slots ls' _ hR hS hc hsl hl hs2)
      · refine lv_tableIn (off := (t : Int) - pc) hx hb hd (by omega) (by omega) ?_ (by omega) (K H locs cells slots ls' _ hR hS hc hsl hl hs2)
        rw [List.getElem?_toArray, List.getElem?_map, h1]
        rfl
  · exact absurd hq e_pick0
end GO
