/-! ===== the component, 13: put into the tree ===== -/
def t_C (h : E_H) (lv lw f : Int → Int) (m : Nat) (a lo hi n : Int) : Prop := (∀ i : Int, 1 ≤ i → i < n → 0 ≤ h_vl h (a + 2) i ∧ h_vl h (a + 2) i ≤ 99) ∧ (∀ i : Int, 0 ≤ i → i < n → t_lo h a lo i < t_hi h a hi n i) ∧ ∀ i : Int, 0 ≤ i → i < n → t_f h lv lw f m (h_vl h (a + 1) i) (t_lo h a lo i) (t_hi h a hi n i)
/-- the subtrees of a node do not see its own cells -/
theorem t_f.ic {h h' : E_H} {lv lw f : Int → Int} {m : Nat} {a c lo hi : Int} (ht : t_f h lv lw f m c lo hi) (hZ : k_Z h) (hY : k_Y h) (ha : h_kd h a = 10) (hlv : lv a = m + 1) (f1 : f_m (t_ic a) h h') : t_f h' lv lw f m c lo hi := by
  have ya := (hY a).2 ha
  refine t_f.fr hZ f1 (fun b _ => ⟨rfl, rfl⟩) ht (fun _ _ _ => rfl) (fun b b1 b2 b3 b4 j => ?_)
  have yb := hY b
  have nb : b ≠ a := fun z => by rw [z] at b2; omega
  have nb1 : b ≠ a + 1 := fun z => by rw [z] at b1; omega
  have nb2 : b + 1 ≠ a := fun z => by rw [z] at yb; omega
  have nb3 : b + 2 ≠ a := fun z => by rw [z] at yb; omega
  have nb4 : b + 1 = a + 2 → False := fun z => nb1 (by omega)
  have nb5 : b + 2 = a + 1 → h_kd h (b + 2) = 27 := fun z => by rw [z]; exact ya.1
  have nb6 : b ≠ a + 2 := fun z => by rw [z] at b1; omega
  refine ⟨?_, ?_, ?_⟩
  · unfold t_ic; omega
  · unfold t_ic; omega
  · unfold t_ic; omega
/-- a child is cut in two -/
theorem t_C.ins {h h' : E_H} {lv lw f : Int → Int} {m : Nat} {a lo hi n i mid r : Int} (hi0 : 0 ≤ i ∧ i < n) (hlow : ∀ j : Int, 1 ≤ j → j < n → 0 ≤ h_vl h (a + 2) j ∧ h_vl h (a + 2) j ≤ 99) (hlt : ∀ j : Int, 0 ≤ j → j < n → t_lo h a lo j < t_hi h a hi n j) (hoth : ∀ j : Int, 0 ≤ j → j < n → j ≠ i → t_f h' lv lw f m (h_vl h (a + 1) j) (t_lo h a lo j) (t_hi h a hi n j)) (hm : t_lo h a lo i < mid ∧ mid < t_hi h a hi n i) (hm2 : 0 ≤ mid ∧ mid ≤ 99) (hl : t_f h' lv lw f m (h_vl h (a + 1) i) (t_lo h a lo i) mid) (hr : t_f h' lv lw f m r mid (t_hi h a hi n i))
    (b1 : ∀ j : Int, 0 ≤ j → j < i + 1 → h_vl h' (a + 1) j = h_vl h (a + 1) j ∧ h_vl h' (a + 2) j = h_vl h (a + 2) j) (b2 : h_vl h' (a + 1) (i + 1) = r) (b3 : h_vl h' (a + 2) (i + 1) = mid) (b4 : ∀ j : Int, i + 1 ≤ j → j < n → h_vl h' (a + 1) (j + 1) = h_vl h (a + 1) j ∧ h_vl h' (a + 2) (j + 1) = h_vl h (a + 2) j) : t_C h' lv lw f m a lo hi (n + 1) := by
  have lo1 : ∀ j : Int, 0 ≤ j → j ≤ i → t_lo h' a lo j = t_lo h a lo j := by
    intro j j1 j2
    unfold t_lo
    rw [(b1 j j1 (by omega)).2]
  have lo2 : t_lo h' a lo (i + 1) = mid := by
    unfold t_lo
    rw [if_neg (by omega), b3]
  have lo3 : ∀ j : Int, i + 1 < j → j < n + 1 → t_lo h' a lo j = t_lo h a lo (j - 1) := by
    intro j j1 j2
    unfold t_lo
    have := (b4 (j - 1) (by omega) (by omega)).2
    rw [show j - 1 + 1 = j by omega] at this
    rw [if_neg (by omega), if_neg (by omega), this]
  have hi1 : ∀ j : Int, 0 ≤ j → j < i → t_hi h' a hi (n + 1) j = t_hi h a hi n j := by
    intro j j1 j2
    unfold t_hi
    rw [if_neg (by omega), if_neg (by omega), (b1 (j + 1) (by omega) (by omega)).2]
  have hi2 : t_hi h' a hi (n + 1) i = mid := by
    unfold t_hi
    rw [if_neg (by omega), b3]
  have hi3 : ∀ j : Int, i + 1 ≤ j → j < n + 1 → t_hi h' a hi (n + 1) j = t_hi h a hi n (j - 1) := by
    intro j j1 j2
    unfold t_hi
    rw [show j - 1 + 1 = j by omega]
    by_cases hj : j = n
    · rw [if_pos (by omega), if_pos hj]
    · rw [if_neg (by omega), if_neg hj, (b4 j (by omega) (by omega)).2]
  refine ⟨fun j j1 j2 => ?_, fun j j1 j2 => ?_, fun j j1 j2 => ?_⟩
  · by_cases hj : j ≤ i
    · rw [(b1 j (by omega) (by omega)).2]; exact hlow j j1 (by omega)
    · by_cases hj2 : j = i + 1
      · rw [hj2, b3]; exact hm2
      · have := (b4 (j - 1) (by omega) (by omega)).2
        rw [show j - 1 + 1 = j by omega] at this
        rw [this]; exact hlow (j - 1) (by omega) (by omega)
  · by_cases hj : j < i
    · rw [lo1 j j1 (by omega), hi1 j j1 hj]; exact hlt j j1 (by omega)
    · by_cases hj2 : j = i
      · rw [hj2, lo1 i (by omega) (by omega), hi2]; exact hm.1
      · by_cases hj3 : j = i + 1
        · rw [hj3, lo2, hi3 (i + 1) (by omega) (by omega), show i + 1 - 1 = i by omega]; exact hm.2
        · rw [lo3 j (by omega) j2, hi3 j (by omega) j2]; exact hlt (j - 1) (by omega) (by omega)
  · by_cases hj : j < i
    · rw [lo1 j j1 (by omega), hi1 j j1 hj, (b1 j j1 (by omega)).1]; exact hoth j j1 (by omega) (by omega)
    · by_cases hj2 : j = i
      · rw [hj2, lo1 i (by omega) (by omega), hi2, (b1 i (by omega) (by omega)).1]; exact hl
      · by_cases hj3 : j = i + 1
        · rw [hj3, lo2, hi3 (i + 1) (by omega) (by omega), show i + 1 - 1 = i by omega, b2]; exact hr
        · have := (b4 (j - 1) (by omega) (by omega)).1
          rw [show j - 1 + 1 = j by omega] at this
          rw [lo3 j (by omega) j2, hi3 j (by omega) j2, this]; exact hoth (j - 1) (by omega) (by omega) (by omega)
theorem t_f.of_C {h : E_H} {lv lw f : Int → Int} {m : Nat} {a lo hi n : Int} (hN : t_N h a) (hg : lv a = m + 1 ∧ lw a = lo) (hlh : lo < hi) (h2 : h_vl h a 2 = n) (hn : 2 ≤ n ∧ n ≤ 4) (hC : t_C h lv lw f m a lo hi n) : t_f h lv lw f (m + 1) a lo hi := by
  rw [t_f, h2]
  exact ⟨hN, hg, hlh, hn, hC⟩
theorem t_spl {h2 h5 : E_H} {lv1 lw1 f : Int → Int} {m : Nat} {a lo hi r : Int} (Z2 : k_Z h2) (Y2 : k_Y h2) (N2 : t_N h2 a) (al' : a + 2 < r) (hr : h_sz h2 = r) (C2 : t_C h2 lv1 lw1 f m a lo hi 5) (lva : lv1 a = m + 1) (lwa : lw1 a = lo) (gN : f_m (fun _ b _ => r ≤ b) h2 h5) (Na5 : t_N h5 a) (N5 : t_N h5 r) (d10 : h_vl h5 (r + 1) 0 = h_vl h2 (a + 1) 3 ∧ h_vl h5 (r + 2) 0 = h_vl h2 (a + 2) 3) (d11 : h_vl h5 (r + 1) 1 = h_vl h2 (a + 1) 4 ∧ h_vl h5 (r + 2) 1 = h_vl h2 (a + 2) 4) (d5 : h_vl h5 r 2 = 2) : (lo < h_vl h2 (a + 2) 3 ∧ h_vl h2 (a + 2) 3 < hi) ∧ t_f (h_put h5 a 2 3) (fun b => if b = r then (m : Int) + 1 else lv1 b) (fun b => if b = r then h_vl h2 (a + 2) 3 else lw1 b) f (m + 1) a lo (h_vl h2 (a + 2) 3) ∧ t_f (h_put h5 a 2 3) (fun b => if b = r then (m : Int) + 1 else lv1 b) (fun b => if b = r then h_vl h2 (a + 2) 3 else lw1 b) f (m + 1) r (h_vl h2 (a + 2) 3) hi := by
  have N2' := N2.1
  have v5 : ∀ b j : Int, b < r → h_vl h5 b j = h_vl h2 b j := fun b j hb => gN.2.2 b j (by omega) (by omega)
  have sub : ∀ j : Int, 0 ≤ j → j < 5 → ∀ lo' hi' : Int, t_f h2 lv1 lw1 (f) m (h_vl h2 (a + 1) j) lo' hi' → t_f (h_put h5 a 2 3) (fun b => if b = r then (m : Int) + 1 else lv1 b) (fun b => if b = r then h_vl h2 (a + 2) 3 else lw1 b) (f) m (h_vl h2 (a + 1) j) lo' hi' := by
    intro j j1 j2 lo' hi' tj
    have gP : f_m (fun k b j => r ≤ b ∨ (k = 10 ∧ b = a ∧ j = 2)) h2 (h_put h5 a 2 3) := (gN.mono (fun _ _ _ z => Or.inl z)).put (fun _ => Or.inr ⟨N2'.1, rfl, rfl⟩)
    refine t_f.fr Z2 gP (fun b hb => ⟨if_neg (by omega), if_neg (by omega)⟩) tj (fun _ _ _ => rfl) (fun b b1 b2 b3 b4 j' => ?_)
    have yb := Y2 b
    have bl : b + 2 < r := by
      have : h_kd h2 (b + 2) ≠ 0 := by omega
      have := Z2.lt this
      omega
    have nb : b ≠ a := fun z => by rw [z] at b2; omega
    have y0 : b + 1 ≠ a := fun z => by rw [z] at yb; omega
    have y1 : b + 2 ≠ a := fun z => by rw [z] at yb; omega
    omega
  have lo3 := C2.2.1 2 (by omega) (by omega)
  have lo4 := C2.2.1 3 (by omega) (by omega)
  have lo5 := C2.2.1 4 (by omega) (by omega)
  have in4 := t_in2 (by omega) C2.2.1 3 (by omega) (by omega)
  have in2 := t_in2 (by omega) C2.2.1 2 (by omega) (by omega)
  have l3e : t_lo h2 a lo 3 = h_vl h2 (a + 2) 3 := by unfold t_lo; rw [if_neg (by omega)]
  have h2e : t_hi h2 a hi (5) 2 = h_vl h2 (a + 2) 3 := by unfold t_hi; rw [if_neg (by omega)]; rfl
  have h3e : t_hi h2 a hi (5) 3 = h_vl h2 (a + 2) 4 := by unfold t_hi; rw [if_neg (by omega)]; rfl
  have h4e : t_hi h2 a hi (5) 4 = hi := by unfold t_hi; rw [if_pos (by omega)]
  have l4e : t_lo h2 a lo 4 = h_vl h2 (a + 2) 4 := by unfold t_lo; rw [if_neg (by omega)]
  have midb : lo < h_vl h2 (a + 2) 3 ∧ h_vl h2 (a + 2) 3 < hi := by omega
  have vP : ∀ b j : Int, (b ≠ a ∨ j ≠ 2) → h_vl (h_put h5 a 2 3) b j = h_vl h5 b j := fun b j hb => by rw [hv_put, if_neg (by omega)]
  have tL : t_f (h_put h5 a 2 3) (fun b => if b = r then (m : Int) + 1 else lv1 b) (fun b => if b = r then h_vl h2 (a + 2) 3 else lw1 b) (f) (m + 1) a lo (h_vl h2 (a + 2) 3) := by
    refine t_f.of_C (n := 3) (Na5.put (Or.inr rfl)) ⟨?_, ?_⟩ midb.1 hv_same (by omega) ⟨fun j j1 j2 => ?_, fun j j1 j2 => ?_, fun j j1 j2 => ?_⟩
    · show (if a = r then (m : Int) + 1 else lv1 a) = m + 1
      rw [if_neg (by omega)]; exact lva
    · show (if a = r then h_vl h2 (a + 2) 3 else lw1 a) = lo
      rw [if_neg (by omega)]; exact lwa
    · rw [vP _ _ (by omega), v5 _ _ (by omega)]; exact C2.1 j j1 (by omega)
    · have el : t_lo (h_put h5 a 2 3) a lo j = t_lo h2 a lo j := by unfold t_lo; rw [vP _ _ (by omega), v5 _ _ (by omega)]
      have eh : t_hi (h_put h5 a 2 3) a (h_vl h2 (a + 2) 3) 3 j = t_hi h2 a hi (5) j := by
        unfold t_hi
        rw [vP _ _ (by omega), v5 _ _ (by omega), if_neg (show ¬ j + 1 = 5 by omega)]
        split
        · rename_i z; rw [z]
        · rfl
      rw [el, eh]; exact C2.2.1 j j1 (by omega)
    · have el : t_lo (h_put h5 a 2 3) a lo j = t_lo h2 a lo j := by unfold t_lo; rw [vP _ _ (by omega), v5 _ _ (by omega)]
      have eh : t_hi (h_put h5 a 2 3) a (h_vl h2 (a + 2) 3) 3 j = t_hi h2 a hi (5) j := by
        unfold t_hi
        rw [vP _ _ (by omega), v5 _ _ (by omega), if_neg (show ¬ j + 1 = 5 by omega)]
        split
        · rename_i z; rw [z]
        · rfl
      rw [el, eh, vP _ _ (by omega), v5 _ _ (by omega)]
      exact sub j j1 (by omega) _ _ (C2.2.2 j j1 (by omega))
  have tR : t_f (h_put h5 a 2 3) (fun b => if b = r then (m : Int) + 1 else lv1 b) (fun b => if b = r then h_vl h2 (a + 2) 3 else lw1 b) (f) (m + 1) r (h_vl h2 (a + 2) 3) hi := by
    have el0 : t_lo (h_put h5 a 2 3) r (h_vl h2 (a + 2) 3) 0 = h_vl h2 (a + 2) 3 := by unfold t_lo; rw [if_pos rfl]
    have el1 : t_lo (h_put h5 a 2 3) r (h_vl h2 (a + 2) 3) 1 = h_vl h2 (a + 2) 4 := by unfold t_lo; rw [if_neg (by omega), vP _ _ (by omega)]; exact d11.2
    have eh0 : t_hi (h_put h5 a 2 3) r hi 2 0 = h_vl h2 (a + 2) 4 := by unfold t_hi; rw [if_neg (by omega), vP _ _ (by omega)]; exact d11.2
    have eh1 : t_hi (h_put h5 a 2 3) r hi 2 1 = hi := by unfold t_hi; rw [if_pos (by omega)]
    refine t_f.of_C (n := 2) (N5.put (by omega)) ⟨if_pos rfl, if_pos rfl⟩ midb.2 (by rw [vP _ _ (by omega)]; exact d5) (by omega) ⟨fun j j1 j2 => ?_, fun j j1 j2 => ?_, fun j j1 j2 => ?_⟩
    · rw [show j = 1 by omega, vP _ _ (by omega), d11.2]; exact C2.1 4 (by omega) (by omega)
    · have hj : j = 0 ∨ j = 1 := by omega
      rcases hj with hj | hj
      · rw [hj, el0, eh0]; omega
      · rw [hj, el1, eh1]; omega
    · have hj : j = 0 ∨ j = 1 := by omega
      rcases hj with hj | hj
      · rw [hj, el0, eh0, vP _ _ (by omega), d10.1]
        have := C2.2.2 3 (by omega) (by omega)
        rw [l3e, h3e] at this
        exact sub 3 (by omega) (by omega) _ _ this
      · rw [hj, el1, eh1, vP _ _ (by omega), d11.1]
        have := C2.2.2 4 (by omega) (by omega)
        rw [l4e, h4e] at this
        exact sub 4 (by omega) (by omega) _ _ this
  exact ⟨midb, tL, tR⟩
/-- what put leaves -/
def t_pt (h h' : E_H) (lv lw f : Int → Int) (m : Nat) (a lo hi r : Int) : Prop := (r = 0 ∧ t_f h' lv lw f m a lo hi) ∨ (h_sz h ≤ r ∧ ∃ mid : Int, (lo < mid ∧ mid < hi) ∧ (0 ≤ mid ∧ mid ≤ 99) ∧ t_f h' lv lw f m a lo mid ∧ t_f h' lv lw f m r mid hi ∧ h_vl h' (if m = 0 then r + 1 else r + 2) 0 = mid)
set_option maxRecDepth 100000 in
set_option maxHeartbeats 4000000 in
theorem r_tput {lv lw f : Int → Int} {key p : Int} {h : E_H} (hZ : k_Z h) (hz : 16 ≤ h_sz h) (hY : k_Y h) (hk : 0 ≤ key ∧ key ≤ 99) (hfk : f key = -1) (hp : 0 ≤ p) : ∀ (m d : Nat) (a lo hi : Int) (Q : Option E_V → E_H → Prop), m + 3 ≤ d → t_f h lv lw f m a lo hi → lo ≤ key → key < hi → (∀ h' lv' lw' r, (∀ b : Int, b < h_sz h → lv' b = lv b ∧ lw' b = lw b) → f_m (t_cs h lv lw m lo hi) h h' → k_Y h' → h_sz h' ≤ h_sz h + 3 * (m + 1) → h_sl h' ≤ h_sl h + 13 * (m + 1) → t_pt h h' lv' lw' (t_up f key p) m a lo hi r → Q (some (.inr r)) h') → e_wpm d (t_m m 51 50) [.inr a, .inl key, .inl p] h Q := by
  intro m
  induction m with
  | zero =>
    intro d a lo hi Q hd ht k1 k2 hQ
    obtain ⟨t1, t2, t3, t4, t5⟩ := ht
    have hn : t_n lv lw 0 lo hi a := ⟨by omega, by omega, by omega⟩
    have al : a < h_sz h := hZ.lt (by rw [t1.1.1]; omega)
    refine r_lput (by omega) hZ hz t1 rfl t4 t5 ⟨k1, k2⟩ hk hfk hp (fun h' f1 e2 e3 tk => ?_) (fun h' mid nl nr f1 s1 s2 Lr m1 m2 e1 e2 tl e3 e4 tr e5 => ?_)
    · refine hQ h' lv lw 0 (fun b _ => ⟨rfl, rfl⟩) (f1.1.mono (fun k b j z => t_cs.lf t1.1.1 hn z)) (hY.fs hZ f1) (by have := f1.2.1; omega) (by have := f1.2.2; omega) (Or.inl ⟨rfl, t1.fr hZ f1.1 ⟨fun z => by unfold t_lc at z; omega, fun z => by unfold t_lc at z; omega⟩, t2, t3, by omega, ?_⟩)
      rw [e2]; exact tk
    · refine hQ h' (fun b => if b = h_sz h then 0 else lv b) (fun b => if b = h_sz h then mid else lw b) (h_sz h) (fun b hb => ⟨if_neg (by omega), if_neg (by omega)⟩) (f1.mono (fun k b j z => t_cs.lf t1.1.1 hn z)) (hY.nw hZ f1 s1 (Or.inl ⟨Lr.1.1, Lr.1.2.2.2.1, Lr.1.2.2.2.2.2.1⟩)) (by omega) (by omega) (Or.inr ⟨Int.le_refl _, mid, m1, m2, ⟨t1.fr hZ f1 ⟨fun z => by unfold t_lc at z; omega, fun z => by unfold t_lc at z; omega⟩, ⟨?_, ?_⟩, m1.1, by omega, by rw [e1]; exact tl⟩, ⟨Lr, ⟨if_pos rfl, if_pos rfl⟩, m1.2, by omega, by rw [e3]; exact tr⟩, by rw [if_pos rfl]; exact e5⟩)
      · show (if a = h_sz h then 0 else lv a) = 0
        rw [if_neg (by omega)]; exact t2.1
      · show (if a = h_sz h then mid else lw a) = lo
        rw [if_neg (by omega)]; exact t2.2
  | succ m ih =>
    intro d a lo hi Q hd ht k1 k2 hQ
    obtain ⟨t1, t2, t3, t4, t5, t6, t7⟩ := ht
    have hL' := t1.1
    have al : a < h_sz h := hZ.lt (by omega)
    have al2 : a + 2 < h_sz h := hZ.lt (by omega)
    have na : t_n lv lw ((m : Int) + 1) lo hi a := ⟨by omega, by omega, by omega⟩
    generalize hn : h_vl h a 2 = n at *
    show e_wpm d 50 _ h Q
    refine e_wpm_blk 100 [] ?_
    simp only [e_blk_eq, g_go, g_bks, g_bkn, g_gst, g_gsf, e_cl, e_rt, n_0, n_1, n_2, n_3, n_4, n_5, n_6, n_7, n_8, n_9, n_10, n_11, n_12, n_13, n_14, n_15, n_16, n_17, n_18, n_19, n_20, n_21, n_22, n_23, n_24, n_25, n_26, n_27, n_28, n_29, n_30, n_31, n_32, n_33, n_34, n_35, n_36, n_37, n_40, n_41, n_42, n_43, n_44, n_45, n_46, n_50, n_51, n_52, n_53, n_54, n_55, f_ldi, f_lda, f_sti, f_sta, f_inc, f_bin0, f_bin1, f_bin2, f_bin3, f_bin4, f_bin5, f_bin6, f_bin7, f_i2b, f_dup, f_pop, f_dx1, f_if0, f_ic0, f_if1, f_ic1, f_if2, f_ic2, f_if3, f_ic3, f_if4, f_ic4, f_if5, f_ic5, f_ac0, f_ac1, f_nu0, f_nu1, f_sw, f_sw0, f_sw1, f_gti, f_gta, f_pti, f_pta, f_ptz, f_new, f_nwa, f_ild, f_ist, f_bld, f_bst, f_ald, f_ast, f_len, f_cst, f_oin, f_gcl, f_ord, f_mm0, f_mm1, f_cpy, f_re0, f_re1, f_rea, f_rev, f_t50, f_t51, f_t52, f_t53, f_t54, f_t55, f_st, f_sd, f_s2, f_sn, e_in, e_ent, e_inR, Nat.reduceLT, Nat.reduceEqDiff, reduceIte, Nat.reduceBEq, List.length_cons, List.length_nil, List.map_cons, List.map_nil, List.replicate, List.cons_append, List.nil_append, List.append_nil, List.getElem?_cons_zero, List.getElem?_cons_succ, List.getElem?_nil, List.set_cons_zero, List.set_cons_succ, List.take_succ_cons, List.take_zero, List.take_nil, List.drop_succ_cons, List.drop_zero, List.drop_nil, List.reverse_cons, List.reverse_nil, Option.toList_some, Option.toList_none, Int.reduceToNat, hk_pt, hl_pt, hz_pt, hs_pt, hv_same, hv_ne, hv_na, hz_nw, hs_nw, hk_newS, hl_newS, hv_newS, Int.reduceEq, Int.reduceNe, Int.reduceLE, Int.reduceLT, Int.reduceAdd, Int.reduceSub, Int.reduceMul, Int.reduceNeg, Nat.reduceAdd, Nat.reduceSub, Nat.reduceLeDiff, Bool.or_false, Bool.false_or, Bool.or_true, Bool.true_or, or_self, or_false, false_or, true_or, or_true, and_true, true_and, forall_const, decide_eq_true_eq, decide_eq_false_iff_not, Bool.and_eq_true, Bool.false_eq_true, Nat.lt_add_one, imp_self, implies_true, not_true_eq_false, not_false_eq_true, ne_eq, Bool.true_eq_false, Nat.zero_le, Nat.le_refl, and_self, false_implies, q_50, l_50, l_34, hL']
    refine ⟨by omega, r_child t1 (by omega) (fun i i1 i2 i3 i4 => ?_)⟩
    rw [hn] at i2 i4
    have pk := t_pick (lo := lo) (hi := hi) ⟨k1, k2⟩ i3 i4 ⟨i1, i2⟩
    have ti := t7 i i1 i2
    have kd := ti.kd
    have wi := t_in2 (by omega) t6 i i1 i2
    have oa : ¬ t_n lv lw m (t_lo h a lo i) (t_hi h a hi n i) a := fun z => by have := z.1; omega
    have cc := t_cs.out hY (Or.inr hL'.1) oa
    have fin : ∀ (N : Nat) h1 lv1 lw1 r1, 70 ≤ N → (∀ b : Int, b < h_sz h → lv1 b = lv b ∧ lw1 b = lw b) → f_m (t_cs h lv lw m (t_lo h a lo i) (t_hi h a hi n i)) h h1 → k_Y h1 → h_sz h1 ≤ h_sz h + 3 * (m + 1) → h_sl h1 ≤ h_sl h + 13 * (m + 1) → t_pt h h1 lv1 lw1 (t_up f key p) m (h_vl h (a + 1) i) (t_lo h a lo i) (t_hi h a hi n i) r1 → e_blk [] d 50 Q N 19 [some (.inr a), some (.inl key), some (.inl p), some (.inl i), none, none] [.inr r1] h1 := by
      intro N h1 lv1 lw1 r1 hN g1 f1 Y1 s1 sl1 pt
      have Z1 : k_Z h1 := f1.1.2
      have e : ∀ j, h_vl h1 a j = h_vl h a j := fun j => f1.2.2 a j al (cc j).1
      have e1 : ∀ j, h_vl h1 (a + 1) j = h_vl h (a + 1) j := fun j => f1.2.2 _ j (hZ.lt (by omega)) (cc j).2.1
      have e2 : ∀ j, h_vl h1 (a + 2) j = h_vl h (a + 2) j := fun j => f1.2.2 _ j (hZ.lt (by omega)) (cc j).2.2
      have elo : ∀ i, t_lo h1 a lo i = t_lo h a lo i := fun i => by unfold t_lo; rw [e2]
      have ehi : ∀ n i, t_hi h1 a hi n i = t_hi h a hi n i := fun n i => by unfold t_hi; rw [e2]
      have N1 : t_N h1 a := t1.fr hZ f1 (by
        have q0 := (cc 0).1
        have q1 := (cc 1).1
        rw [hL'.1] at q0 q1
        exact ⟨q0, q1⟩)
      have N1' := N1.1
      have ga := g1 a al
      have oth : ∀ j : Int, 0 ≤ j → j < n → j ≠ i → t_f h1 lv1 lw1 (t_up f key p) m (h_vl h (a + 1) j) (t_lo h a lo j) (t_hi h a hi n j) := by
        intro j j1 j2 hj
        have dis : t_hi h a hi n j ≤ t_lo h a lo i ∨ t_hi h a hi n i ≤ t_lo h a lo j := by
          by_cases hji : j < i
          · exact Or.inl (t_in t6 j i j1 hji i2)
          · exact Or.inr (t_in t6 i j i1 (by omega) j2)
        refine t_f.fr hZ f1 g1 (t7 j j1 j2) (fun k k1 k2 => ?_) (fun b b1 b2 b3 b4 j' => t_cs.out hY b1 (fun z => ?_) j')
        · unfold t_up
          rw [if_neg (by omega)]
        · have := z.2; omega
      have f1' : f_m (t_cs h lv lw ((m : Int) + 1) lo hi) h h1 := f1.mono (fun k b j z => t_cs.mono z (by omega) wi.1 wi.2)
      have kdk : ∀ j : Int, 0 ≤ j → j < n → h_kd h (h_vl h (a + 1) j) = 3 ∨ h_kd h (h_vl h (a + 1) j) = 10 := fun j j1 j2 => by
        have := (t7 j j1 j2).kd
        by_cases hm : m = 0
        · exact Or.inl (this.1 hm)
        · exact Or.inr (this.2.1 hm)
      obtain ⟨N', rfl⟩ : ∃ N', N = N' + 70 := ⟨N - 70, by omega⟩
      rcases pt with ⟨r0, tt⟩ | ⟨rs, mid, m1, m2, tl, tr, lw5⟩
      · rw [r0]
        simp only [e_blk_eq, g_go, g_bks, g_bkn, g_gst, g_gsf, e_cl, e_rt, n_0, n_1, n_2, n_3, n_4, n_5, n_6, n_7, n_8, n_9, n_10, n_11, n_12, n_13, n_14, n_15, n_16, n_17, n_18, n_19, n_20, n_21, n_22, n_23, n_24, n_25, n_26, n_27, n_28, n_29, n_30, n_31, n_32, n_33, n_34, n_35, n_36, n_37, n_40, n_41, n_42, n_43, n_44, n_45, n_46, n_50, n_51, n_52, n_53, n_54, n_55, f_ldi, f_lda, f_sti, f_sta, f_inc, f_bin0, f_bin1, f_bin2, f_bin3, f_bin4, f_bin5, f_bin6, f_bin7, f_i2b, f_dup, f_pop, f_dx1, f_if0, f_ic0, f_if1, f_ic1, f_if2, f_ic2, f_if3, f_ic3, f_if4, f_ic4, f_if5, f_ic5, f_ac0, f_ac1, f_nu0, f_nu1, f_sw, f_sw0, f_sw1, f_gti, f_gta, f_pti, f_pta, f_ptz, f_new, f_nwa, f_ild, f_ist, f_bld, f_bst, f_ald, f_ast, f_len, f_cst, f_oin, f_gcl, f_ord, f_mm0, f_mm1, f_cpy, f_re0, f_re1, f_rea, f_rev, f_t50, f_t51, f_t52, f_t53, f_t54, f_t55, f_st, f_sd, f_s2, f_sn, e_in, e_ent, e_inR, Nat.reduceLT, Nat.reduceEqDiff, reduceIte, Nat.reduceBEq, List.length_cons, List.length_nil, List.map_cons, List.map_nil, List.replicate, List.cons_append, List.nil_append, List.append_nil, List.getElem?_cons_zero, List.getElem?_cons_succ, List.getElem?_nil, List.set_cons_zero, List.set_cons_succ, List.take_succ_cons, List.take_zero, List.take_nil, List.drop_succ_cons, List.drop_zero, List.drop_nil, List.reverse_cons, List.reverse_nil, Option.toList_some, Option.toList_none, Int.reduceToNat, hk_pt, hl_pt, hz_pt, hs_pt, hv_same, hv_ne, hv_na, hz_nw, hs_nw, hk_newS, hl_newS, hv_newS, Int.reduceEq, Int.reduceNe, Int.reduceLE, Int.reduceLT, Int.reduceAdd, Int.reduceSub, Int.reduceMul, Int.reduceNeg, Nat.reduceAdd, Nat.reduceSub, Nat.reduceLeDiff, Bool.or_false, Bool.false_or, Bool.or_true, Bool.true_or, or_self, or_false, false_or, true_or, or_true, and_true, true_and, forall_const, decide_eq_true_eq, decide_eq_false_iff_not, Bool.and_eq_true, Bool.false_eq_true, Nat.lt_add_one, imp_self, implies_true, not_true_eq_false, not_false_eq_true, ne_eq, Bool.true_eq_false, Nat.zero_le, Nat.le_refl, and_self, false_implies, q_50, l_50]
        refine hQ h1 lv1 lw1 0 g1 f1' Y1 (by omega) (by omega) (Or.inl ⟨rfl, ?_⟩)
        refine t_f.of_C (n := n) N1 ⟨by rw [ga.1]; exact t2.1, by rw [ga.2]; exact t2.2⟩ t3 (by rw [e]; exact hn) t4 ⟨fun j j1 j2 => by rw [e2]; exact t5 j j1 j2, fun j j1 j2 => by rw [elo, ehi]; exact t6 j j1 j2, fun j j1 j2 => ?_⟩
        rw [elo, ehi, e1]
        by_cases hj : j = i
        · rw [hj]; exact tt
        · exact oth j j1 j2 hj
      · have r00 : ¬ r1 = 0 := by omega
        have krr := tr.kd
        have low : ∀ (M : Nat) (Q1 : Option E_V → E_H → Prop), 1 ≤ M → Q1 (some (.inl mid)) h1 → e_wpm M (t_m m 54 53) [.inr r1] h1 Q1 := by
          intro M Q1 hM hq
          cases m with
          | zero =>
            have Lr := tr.1.1
            rw [if_pos rfl] at lw5
            show e_wpm M 54 _ h1 Q1
            refine e_wpm_blk 100 [] ?_
            simp only [e_blk_eq, g_go, g_bks, g_bkn, g_gst, g_gsf, e_cl, e_rt, n_0, n_1, n_2, n_3, n_4, n_5, n_6, n_7, n_8, n_9, n_10, n_11, n_12, n_13, n_14, n_15, n_16, n_17, n_18, n_19, n_20, n_21, n_22, n_23, n_24, n_25, n_26, n_27, n_28, n_29, n_30, n_31, n_32, n_33, n_34, n_35, n_36, n_37, n_40, n_41, n_42, n_43, n_44, n_45, n_46, n_50, n_51, n_52, n_53, n_54, n_55, f_ldi, f_lda, f_sti, f_sta, f_inc, f_bin0, f_bin1, f_bin2, f_bin3, f_bin4, f_bin5, f_bin6, f_bin7, f_i2b, f_dup, f_pop, f_dx1, f_if0, f_ic0, f_if1, f_ic1, f_if2, f_ic2, f_if3, f_ic3, f_if4, f_ic4, f_if5, f_ic5, f_ac0, f_ac1, f_nu0, f_nu1, f_sw, f_sw0, f_sw1, f_gti, f_gta, f_pti, f_pta, f_ptz, f_new, f_nwa, f_ild, f_ist, f_bld, f_bst, f_ald, f_ast, f_len, f_cst, f_oin, f_gcl, f_ord, f_mm0, f_mm1, f_cpy, f_re0, f_re1, f_rea, f_rev, f_t50, f_t51, f_t52, f_t53, f_t54, f_t55, f_st, f_sd, f_s2, f_sn, e_in, e_ent, e_inR, Nat.reduceLT, Nat.reduceEqDiff, reduceIte, Nat.reduceBEq, List.length_cons, List.length_nil, List.map_cons, List.map_nil, List.replicate, List.cons_append, List.nil_append, List.append_nil, List.getElem?_cons_zero, List.getElem?_cons_succ, List.getElem?_nil, List.set_cons_zero, List.set_cons_succ, List.take_succ_cons, List.take_zero, List.take_nil, List.drop_succ_cons, List.drop_zero, List.drop_nil, List.reverse_cons, List.reverse_nil, Option.toList_some, Option.toList_none, Int.reduceToNat, hk_pt, hl_pt, hz_pt, hs_pt, hv_same, hv_ne, hv_na, hz_nw, hs_nw, hk_newS, hl_newS, hv_newS, Int.reduceEq, Int.reduceNe, Int.reduceLE, Int.reduceLT, Int.reduceAdd, Int.reduceSub, Int.reduceMul, Int.reduceNeg, Nat.reduceAdd, Nat.reduceSub, Nat.reduceLeDiff, Bool.or_false, Bool.false_or, Bool.or_true, Bool.true_or, or_self, or_false, false_or, true_or, or_true, and_true, true_and, forall_const, decide_eq_true_eq, decide_eq_false_iff_not, Bool.and_eq_true, Bool.false_eq_true, Nat.lt_add_one, imp_self, implies_true, not_true_eq_false, not_false_eq_true, ne_eq, Bool.true_eq_false, Nat.zero_le, Nat.le_refl, and_self, false_implies, q_54, l_54, Lr, lw5]
            exact hq
          | succ m =>
            have Lr := tr.1.1
            rw [if_neg (by omega)] at lw5
            show e_wpm M 53 _ h1 Q1
            refine e_wpm_blk 100 [] ?_
            simp only [e_blk_eq, g_go, g_bks, g_bkn, g_gst, g_gsf, e_cl, e_rt, n_0, n_1, n_2, n_3, n_4, n_5, n_6, n_7, n_8, n_9, n_10, n_11, n_12, n_13, n_14, n_15, n_16, n_17, n_18, n_19, n_20, n_21, n_22, n_23, n_24, n_25, n_26, n_27, n_28, n_29, n_30, n_31, n_32, n_33, n_34, n_35, n_36, n_37, n_40, n_41, n_42, n_43, n_44, n_45, n_46, n_50, n_51, n_52, n_53, n_54, n_55, f_ldi, f_lda, f_sti, f_sta, f_inc, f_bin0, f_bin1, f_bin2, f_bin3, f_bin4, f_bin5, f_bin6, f_bin7, f_i2b, f_dup, f_pop, f_dx1, f_if0, f_ic0, f_if1, f_ic1, f_if2, f_ic2, f_if3, f_ic3, f_if4, f_ic4, f_if5, f_ic5, f_ac0, f_ac1, f_nu0, f_nu1, f_sw, f_sw0, f_sw1, f_gti, f_gta, f_pti, f_pta, f_ptz, f_new, f_nwa, f_ild, f_ist, f_bld, f_bst, f_ald, f_ast, f_len, f_cst, f_oin, f_gcl, f_ord, f_mm0, f_mm1, f_cpy, f_re0, f_re1, f_rea, f_rev, f_t50, f_t51, f_t52, f_t53, f_t54, f_t55, f_st, f_sd, f_s2, f_sn, e_in, e_ent, e_inR, Nat.reduceLT, Nat.reduceEqDiff, reduceIte, Nat.reduceBEq, List.length_cons, List.length_nil, List.map_cons, List.map_nil, List.replicate, List.cons_append, List.nil_append, List.append_nil, List.getElem?_cons_zero, List.getElem?_cons_succ, List.getElem?_nil, List.set_cons_zero, List.set_cons_succ, List.take_succ_cons, List.take_zero, List.take_nil, List.drop_succ_cons, List.drop_zero, List.drop_nil, List.reverse_cons, List.reverse_nil, Option.toList_some, Option.toList_none, Int.reduceToNat, hk_pt, hl_pt, hz_pt, hs_pt, hv_same, hv_ne, hv_na, hz_nw, hs_nw, hk_newS, hl_newS, hv_newS, Int.reduceEq, Int.reduceNe, Int.reduceLE, Int.reduceLT, Int.reduceAdd, Int.reduceSub, Int.reduceMul, Int.reduceNeg, Nat.reduceAdd, Nat.reduceSub, Nat.reduceLeDiff, Bool.or_false, Bool.false_or, Bool.or_true, Bool.true_or, or_self, or_false, false_or, true_or, or_true, and_true, true_and, forall_const, decide_eq_true_eq, decide_eq_false_iff_not, Bool.and_eq_true, Bool.false_eq_true, Nat.lt_add_one, imp_self, implies_true, not_true_eq_false, not_false_eq_true, ne_eq, Bool.true_eq_false, Nat.zero_le, Nat.le_refl, and_self, false_implies, q_53, l_53, Lr, lw5]
            exact hq
        have kr : h_kd h1 r1 = 3 ∨ h_kd h1 r1 = 10 := by
          by_cases hm : m = 0
          · exact Or.inl (krr.1 hm)
          · exact Or.inr (krr.2.1 hm)
        have lva : lv1 a = m + 1 := by rw [ga.1]; exact t2.1
        have n1 : h_vl h1 a 2 = n := by rw [e]; exact hn
        have tail : ∀ (M : Nat), 50 ≤ M → e_bk [] d 50 Q M 41 [some (.inr a), some (.inl key), some (.inl p), some (.inl i), some (.inr r1), none] [.inr r1, .inl (i + 1), .inr a] (some (.inl mid)) h1 := by
          intro M hM
          obtain ⟨M', rfl⟩ : ∃ M', M = M' + 50 := ⟨M - 50, by omega⟩
          simp only [e_blk_eq, g_go, g_bks, g_bkn, g_gst, g_gsf, e_cl, e_rt, n_0, n_1, n_2, n_3, n_4, n_5, n_6, n_7, n_8, n_9, n_10, n_11, n_12, n_13, n_14, n_15, n_16, n_17, n_18, n_19, n_20, n_21, n_22, n_23, n_24, n_25, n_26, n_27, n_28, n_29, n_30, n_31, n_32, n_33, n_34, n_35, n_36, n_37, n_40, n_41, n_42, n_43, n_44, n_45, n_46, n_50, n_51, n_52, n_53, n_54, n_55, f_ldi, f_lda, f_sti, f_sta, f_inc, f_bin0, f_bin1, f_bin2, f_bin3, f_bin4, f_bin5, f_bin6, f_bin7, f_i2b, f_dup, f_pop, f_dx1, f_if0, f_ic0, f_if1, f_ic1, f_if2, f_ic2, f_if3, f_ic3, f_if4, f_ic4, f_if5, f_ic5, f_ac0, f_ac1, f_nu0, f_nu1, f_sw, f_sw0, f_sw1, f_gti, f_gta, f_pti, f_pta, f_ptz, f_new, f_nwa, f_ild, f_ist, f_bld, f_bst, f_ald, f_ast, f_len, f_cst, f_oin, f_gcl, f_ord, f_mm0, f_mm1, f_cpy, f_re0, f_re1, f_rea, f_rev, f_t50, f_t51, f_t52, f_t53, f_t54, f_t55, f_st, f_sd, f_s2, f_sn, e_in, e_ent, e_inR, Nat.reduceLT, Nat.reduceEqDiff, reduceIte, Nat.reduceBEq, List.length_cons, List.length_nil, List.map_cons, List.map_nil, List.replicate, List.cons_append, List.nil_append, List.append_nil, List.getElem?_cons_zero, List.getElem?_cons_succ, List.getElem?_nil, List.set_cons_zero, List.set_cons_succ, List.take_succ_cons, List.take_zero, List.take_nil, List.drop_succ_cons, List.drop_zero, List.drop_nil, List.reverse_cons, List.reverse_nil, Option.toList_some, Option.toList_none, Int.reduceToNat, hk_pt, hl_pt, hz_pt, hs_pt, hv_same, hv_ne, hv_na, hz_nw, hs_nw, hk_newS, hl_newS, hv_newS, Int.reduceEq, Int.reduceNe, Int.reduceLE, Int.reduceLT, Int.reduceAdd, Int.reduceSub, Int.reduceMul, Int.reduceNeg, Nat.reduceAdd, Nat.reduceSub, Nat.reduceLeDiff, Bool.or_false, Bool.false_or, Bool.or_true, Bool.true_or, or_self, or_false, false_or, true_or, or_true, and_true, true_and, forall_const, decide_eq_true_eq, decide_eq_false_iff_not, Bool.and_eq_true, Bool.false_eq_true, Nat.lt_add_one, imp_self, implies_true, not_true_eq_false, not_false_eq_true, ne_eq, Bool.true_eq_false, Nat.zero_le, Nat.le_refl, and_self, false_implies, q_50, l_50, l_55, N1']
          refine ⟨by omega, r_iadd Z1 N1 n1 (by omega) (by omega) kr (fun j j1 j2 => ?_) (fun h2 f2 b1 b2 b3 b4 b5 => ?_)⟩
          · rw [e1]
            have w := kdk j j1 j2
            rw [(f1.2.1 _ (hZ.lt (by omega))).1]
            exact w
          · have Z2 : k_Z h2 := f2.1.1.2
            have Y2 : k_Y h2 := Y1.fs Z1 f2
            have N2 : t_N h2 a := N1.fr Z1 f2.1 ⟨fun z => by unfold t_ic at z; omega, fun z => by unfold t_ic at z; omega⟩
            have N2' := N2.1
            have C2 : t_C h2 lv1 lw1 (t_up f key p) m a lo hi (n + 1) := by
              refine t_C.ins (h := h1) ⟨i1, i2⟩ (fun j j1 j2 => by rw [e2]; exact t5 j j1 j2) (fun j j1 j2 => by rw [elo, ehi]; exact t6 j j1 j2) (fun j j1 j2 hj => ?_) (by rw [elo, ehi]; exact m1) m2 ?_ ?_ b1 b2 b3 b4
              · rw [elo, ehi, e1]
                exact (oth j j1 j2 hj).ic Z1 Y1 N1'.1 lva f2.1
              · rw [elo, e1]
                exact tl.ic Z1 Y1 N1'.1 lva f2.1
              · rw [ehi]
                exact tr.ic Z1 Y1 N1'.1 lva f2.1
            have f2' : f_m (t_cs h lv lw ((m : Int) + 1) lo hi) h h2 := by
              have g2 : f_m (fun k b j => t_cs h lv lw ((m : Int) + 1) lo hi k b j ∨ t_ic a k b j) h h2 := (f1'.mono (fun _ _ _ z => Or.inl z)).tr (f2.1.mono (fun _ _ _ z => Or.inr z))
              refine g2.mono (fun k b j z => ?_)
              rcases z with z | z | z | z
              · exact z
              · exact Or.inl ⟨Or.inr z.1, z.2.2, by rw [z.2.1]; exact na⟩
              · exact Or.inr (Or.inl ⟨z.1, by rw [z.2, show a + 1 - 1 = a by omega]; exact ⟨hL'.1, na⟩⟩)
              · exact Or.inr (Or.inr ⟨z.1, Or.inr (by rw [z.2, show a + 2 - 2 = a by omega]; exact ⟨Or.inr hL'.1, na⟩)⟩)
            have sz2 := f2.2.1
            have sl2 := f2.2.2
            have fz := f1.1.1
            simp only [e_blk_eq, g_go, g_bks, g_bkn, g_gst, g_gsf, e_cl, e_rt, n_0, n_1, n_2, n_3, n_4, n_5, n_6, n_7, n_8, n_9, n_10, n_11, n_12, n_13, n_14, n_15, n_16, n_17, n_18, n_19, n_20, n_21, n_22, n_23, n_24, n_25, n_26, n_27, n_28, n_29, n_30, n_31, n_32, n_33, n_34, n_35, n_36, n_37, n_40, n_41, n_42, n_43, n_44, n_45, n_46, n_50, n_51, n_52, n_53, n_54, n_55, f_ldi, f_lda, f_sti, f_sta, f_inc, f_bin0, f_bin1, f_bin2, f_bin3, f_bin4, f_bin5, f_bin6, f_bin7, f_i2b, f_dup, f_pop, f_dx1, f_if0, f_ic0, f_if1, f_ic1, f_if2, f_ic2, f_if3, f_ic3, f_if4, f_ic4, f_if5, f_ic5, f_ac0, f_ac1, f_nu0, f_nu1, f_sw, f_sw0, f_sw1, f_gti, f_gta, f_pti, f_pta, f_ptz, f_new, f_nwa, f_ild, f_ist, f_bld, f_bst, f_ald, f_ast, f_len, f_cst, f_oin, f_gcl, f_ord, f_mm0, f_mm1, f_cpy, f_re0, f_re1, f_rea, f_rev, f_t50, f_t51, f_t52, f_t53, f_t54, f_t55, f_st, f_sd, f_s2, f_sn, e_in, e_ent, e_inR, Nat.reduceLT, Nat.reduceEqDiff, reduceIte, Nat.reduceBEq, List.length_cons, List.length_nil, List.map_cons, List.map_nil, List.replicate, List.cons_append, List.nil_append, List.append_nil, List.getElem?_cons_zero, List.getElem?_cons_succ, List.getElem?_nil, List.set_cons_zero, List.set_cons_succ, List.take_succ_cons, List.take_zero, List.take_nil, List.drop_succ_cons, List.drop_zero, List.drop_nil, List.reverse_cons, List.reverse_nil, Option.toList_some, Option.toList_none, Int.reduceToNat, hk_pt, hl_pt, hz_pt, hs_pt, hv_same, hv_ne, hv_na, hz_nw, hs_nw, hk_newS, hl_newS, hv_newS, Int.reduceEq, Int.reduceNe, Int.reduceLE, Int.reduceLT, Int.reduceAdd, Int.reduceSub, Int.reduceMul, Int.reduceNeg, Nat.reduceAdd, Nat.reduceSub, Nat.reduceLeDiff, Bool.or_false, Bool.false_or, Bool.or_true, Bool.true_or, or_self, or_false, false_or, true_or, or_true, and_true, true_and, forall_const, decide_eq_true_eq, decide_eq_false_iff_not, Bool.and_eq_true, Bool.false_eq_true, Nat.lt_add_one, imp_self, implies_true, not_true_eq_false, not_false_eq_true, ne_eq, Bool.true_eq_false, Nat.zero_le, Nat.le_refl, and_self, false_implies, q_50, l_50, N2', b5, l_56]
            refine ⟨fun h5 => ⟨by omega, by omega, ?_⟩, fun h5 => ?_⟩
            · have n5 : n = 4 := by omega
              subst n5
              have hz2 : 16 ≤ h_sz h2 := by have := f1.1.1; omega
              refine r_iinit (by omega) Z2 hz2 (fun h3 f3 N3 e3 s3 sl3 => ?_)
              generalize hr : h_sz h2 = r at *
              have Z3 : k_Z h3 := f3.1.2
              have Y3 : k_Y h3 := Y2.nw Z2 f3 (by omega) (Or.inr (by rw [hr]; exact ⟨N3.1.1, N3.1.2.2.2.1, N3.1.2.2.2.2.2.1⟩))
              have v3 : ∀ b j : Int, b < r → h_vl h3 b j = h_vl h2 b j := fun b j hb => f3.2.2 b j (by omega) (fun z => z)
              have al' : a + 2 < r := by have := f1.1.1; omega
              have Na3 : t_N h3 a := N2.fr Z2 f3 ⟨fun z => z, fun z => z⟩
              have Na3' := Na3.1
              have N3' := N3.1
              have k2c : ∀ j : Int, 0 ≤ j → j < 4 + 1 → h_kd h2 (h_vl h2 (a + 1) j) = 3 ∨ h_kd h2 (h_vl h2 (a + 1) j) = 10 := fun j j1 j2 => by
                have := (C2.2.2 j j1 j2).kd
                by_cases hm : m = 0
                · exact Or.inl (this.1 hm)
                · exact Or.inr (this.2.1 hm)
              have k3c : ∀ j : Int, 0 ≤ j → j < 4 + 1 → h_kd h3 (h_vl h2 (a + 1) j) = 3 ∨ h_kd h3 (h_vl h2 (a + 1) j) = 10 := fun j j1 j2 => by
                have w := k2c j j1 j2
                rw [(f3.2.1 _ (Z2.lt (by omega))).1]; exact w
              simp only [e_blk_eq, g_go, g_bks, g_bkn, g_gst, g_gsf, e_cl, e_rt, n_0, n_1, n_2, n_3, n_4, n_5, n_6, n_7, n_8, n_9, n_10, n_11, n_12, n_13, n_14, n_15, n_16, n_17, n_18, n_19, n_20, n_21, n_22, n_23, n_24, n_25, n_26, n_27, n_28, n_29, n_30, n_31, n_32, n_33, n_34, n_35, n_36, n_37, n_40, n_41, n_42, n_43, n_44, n_45, n_46, n_50, n_51, n_52, n_53, n_54, n_55, f_ldi, f_lda, f_sti, f_sta, f_inc, f_bin0, f_bin1, f_bin2, f_bin3, f_bin4, f_bin5, f_bin6, f_bin7, f_i2b, f_dup, f_pop, f_dx1, f_if0, f_ic0, f_if1, f_ic1, f_if2, f_ic2, f_if3, f_ic3, f_if4, f_ic4, f_if5, f_ic5, f_ac0, f_ac1, f_nu0, f_nu1, f_sw, f_sw0, f_sw1, f_gti, f_gta, f_pti, f_pta, f_ptz, f_new, f_nwa, f_ild, f_ist, f_bld, f_bst, f_ald, f_ast, f_len, f_cst, f_oin, f_gcl, f_ord, f_mm0, f_mm1, f_cpy, f_re0, f_re1, f_rea, f_rev, f_t50, f_t51, f_t52, f_t53, f_t54, f_t55, f_st, f_sd, f_s2, f_sn, e_in, e_ent, e_inR, Nat.reduceLT, Nat.reduceEqDiff, reduceIte, Nat.reduceBEq, List.length_cons, List.length_nil, List.map_cons, List.map_nil, List.replicate, List.cons_append, List.nil_append, List.append_nil, List.getElem?_cons_zero, List.getElem?_cons_succ, List.getElem?_nil, List.set_cons_zero, List.set_cons_succ, List.take_succ_cons, List.take_zero, List.take_nil, List.drop_succ_cons, List.drop_zero, List.drop_nil, List.reverse_cons, List.reverse_nil, Option.toList_some, Option.toList_none, Int.reduceToNat, hk_pt, hl_pt, hz_pt, hs_pt, hv_same, hv_ne, hv_na, hz_nw, hs_nw, hk_newS, hl_newS, hv_newS, Int.reduceEq, Int.reduceNe, Int.reduceLE, Int.reduceLT, Int.reduceAdd, Int.reduceSub, Int.reduceMul, Int.reduceNeg, Nat.reduceAdd, Nat.reduceSub, Nat.reduceLeDiff, Bool.or_false, Bool.false_or, Bool.or_true, Bool.true_or, or_self, or_false, false_or, true_or, or_true, and_true, true_and, forall_const, decide_eq_true_eq, decide_eq_false_iff_not, Bool.and_eq_true, Bool.false_eq_true, Nat.lt_add_one, imp_self, implies_true, not_true_eq_false, not_false_eq_true, ne_eq, Bool.true_eq_false, Nat.zero_le, Nat.le_refl, and_self, false_implies, q_50, l_50, Na3', N3', l_55]
              refine ⟨by omega, r_iadd (n := 0) Z3 N3 e3 (by omega) (by omega) (by rw [v3 _ _ (by omega)]; exact k3c 3 (by omega) (by omega)) (fun j j1 j2 => by omega) (fun h4 f4 c1 c2 c3 c4 c5 => ?_)⟩
              rw [v3 _ _ (by omega)] at c2
              rw [v3 _ _ (by omega)] at c3
              have Z4 : k_Z h4 := f4.1.1.2
              have v4 : ∀ b j : Int, b < r → h_vl h4 b j = h_vl h2 b j := fun b j hb => by rw [f4.1.2.2 b j (by omega) (fun z => by unfold t_ic at z; omega), v3 b j hb]
              have Na4 : t_N h4 a := Na3.fr Z3 f4.1 ⟨fun z => by unfold t_ic at z; omega, fun z => by unfold t_ic at z; omega⟩
              have N4 : t_N h4 r := N3.fr Z3 f4.1 ⟨fun z => by unfold t_ic at z; omega, fun z => by unfold t_ic at z; omega⟩
              have Na4' := Na4.1
              have N4' := N4.1
              have k4c : ∀ j : Int, 0 ≤ j → j < 4 + 1 → h_kd h4 (h_vl h2 (a + 1) j) = 3 ∨ h_kd h4 (h_vl h2 (a + 1) j) = 10 := fun j j1 j2 => by
                have w := k3c j j1 j2
                rw [(f4.1.2.1 _ (Z3.lt (by omega))).1]; exact w
              simp only [e_blk_eq, g_go, g_bks, g_bkn, g_gst, g_gsf, e_cl, e_rt, n_0, n_1, n_2, n_3, n_4, n_5, n_6, n_7, n_8, n_9, n_10, n_11, n_12, n_13, n_14, n_15, n_16, n_17, n_18, n_19, n_20, n_21, n_22, n_23, n_24, n_25, n_26, n_27, n_28, n_29, n_30, n_31, n_32, n_33, n_34, n_35, n_36, n_37, n_40, n_41, n_42, n_43, n_44, n_45, n_46, n_50, n_51, n_52, n_53, n_54, n_55, f_ldi, f_lda, f_sti, f_sta, f_inc, f_bin0, f_bin1, f_bin2, f_bin3, f_bin4, f_bin5, f_bin6, f_bin7, f_i2b, f_dup, f_pop, f_dx1, f_if0, f_ic0, f_if1, f_ic1, f_if2, f_ic2, f_if3, f_ic3, f_if4, f_ic4, f_if5, f_ic5, f_ac0, f_ac1, f_nu0, f_nu1, f_sw, f_sw0, f_sw1, f_gti, f_gta, f_pti, f_pta, f_ptz, f_new, f_nwa, f_ild, f_ist, f_bld, f_bst, f_ald, f_ast, f_len, f_cst, f_oin, f_gcl, f_ord, f_mm0, f_mm1, f_cpy, f_re0, f_re1, f_rea, f_rev, f_t50, f_t51, f_t52, f_t53, f_t54, f_t55, f_st, f_sd, f_s2, f_sn, e_in, e_ent, e_inR, Nat.reduceLT, Nat.reduceEqDiff, reduceIte, Nat.reduceBEq, List.length_cons, List.length_nil, List.map_cons, List.map_nil, List.replicate, List.cons_append, List.nil_append, List.append_nil, List.getElem?_cons_zero, List.getElem?_cons_succ, List.getElem?_nil, List.set_cons_zero, List.set_cons_succ, List.take_succ_cons, List.take_zero, List.take_nil, List.drop_succ_cons, List.drop_zero, List.drop_nil, List.reverse_cons, List.reverse_nil, Option.toList_some, Option.toList_none, Int.reduceToNat, hk_pt, hl_pt, hz_pt, hs_pt, hv_same, hv_ne, hv_na, hz_nw, hs_nw, hk_newS, hl_newS, hv_newS, Int.reduceEq, Int.reduceNe, Int.reduceLE, Int.reduceLT, Int.reduceAdd, Int.reduceSub, Int.reduceMul, Int.reduceNeg, Nat.reduceAdd, Nat.reduceSub, Nat.reduceLeDiff, Bool.or_false, Bool.false_or, Bool.or_true, Bool.true_or, or_self, or_false, false_or, true_or, or_true, and_true, true_and, forall_const, decide_eq_true_eq, decide_eq_false_iff_not, Bool.and_eq_true, Bool.false_eq_true, Nat.lt_add_one, imp_self, implies_true, not_true_eq_false, not_false_eq_true, ne_eq, Bool.true_eq_false, Nat.zero_le, Nat.le_refl, and_self, false_implies, q_50, l_50, Na4', N4', l_55]
              refine ⟨by omega, r_iadd (n := 1) Z4 N4 (by rw [c5]; rfl) (by omega) (by omega) (by rw [v4 _ _ (by omega)]; exact k4c 4 (by omega) (by omega)) (fun j j1 j2 => ?_) (fun h5 f5 d1 d2 d3 d4 d5 => ?_)⟩
              · rw [show j = 0 by omega, c2]; exact k4c 3 (by omega) (by omega)
              rw [v4 _ _ (by omega)] at d2
              rw [v4 _ _ (by omega)] at d3
              have Z5 : k_Z h5 := f5.1.1.2
              have s4 := f4.2.1
              have s5 := f5.2.1
              have v5 : ∀ b j : Int, b < r → h_vl h5 b j = h_vl h2 b j := fun b j hb => by rw [f5.1.2.2 b j (by omega) (fun z => by unfold t_ic at z; omega), v4 b j hb]
              have Na5 : t_N h5 a := Na4.fr Z4 f5.1 ⟨fun z => by unfold t_ic at z; omega, fun z => by unfold t_ic at z; omega⟩
              have N5 : t_N h5 r := N4.fr Z4 f5.1 ⟨fun z => by unfold t_ic at z; omega, fun z => by unfold t_ic at z; omega⟩
              have Na5' := Na5.1
              simp only [e_blk_eq, g_go, g_bks, g_bkn, g_gst, g_gsf, e_cl, e_rt, n_0, n_1, n_2, n_3, n_4, n_5, n_6, n_7, n_8, n_9, n_10, n_11, n_12, n_13, n_14, n_15, n_16, n_17, n_18, n_19, n_20, n_21, n_22, n_23, n_24, n_25, n_26, n_27, n_28, n_29, n_30, n_31, n_32, n_33, n_34, n_35, n_36, n_37, n_40, n_41, n_42, n_43, n_44, n_45, n_46, n_50, n_51, n_52, n_53, n_54, n_55, f_ldi, f_lda, f_sti, f_sta, f_inc, f_bin0, f_bin1, f_bin2, f_bin3, f_bin4, f_bin5, f_bin6, f_bin7, f_i2b, f_dup, f_pop, f_dx1, f_if0, f_ic0, f_if1, f_ic1, f_if2, f_ic2, f_if3, f_ic3, f_if4, f_ic4, f_if5, f_ic5, f_ac0, f_ac1, f_nu0, f_nu1, f_sw, f_sw0, f_sw1, f_gti, f_gta, f_pti, f_pta, f_ptz, f_new, f_nwa, f_ild, f_ist, f_bld, f_bst, f_ald, f_ast, f_len, f_cst, f_oin, f_gcl, f_ord, f_mm0, f_mm1, f_cpy, f_re0, f_re1, f_rea, f_rev, f_t50, f_t51, f_t52, f_t53, f_t54, f_t55, f_st, f_sd, f_s2, f_sn, e_in, e_ent, e_inR, Nat.reduceLT, Nat.reduceEqDiff, reduceIte, Nat.reduceBEq, List.length_cons, List.length_nil, List.map_cons, List.map_nil, List.replicate, List.cons_append, List.nil_append, List.append_nil, List.getElem?_cons_zero, List.getElem?_cons_succ, List.getElem?_nil, List.set_cons_zero, List.set_cons_succ, List.take_succ_cons, List.take_zero, List.take_nil, List.drop_succ_cons, List.drop_zero, List.drop_nil, List.reverse_cons, List.reverse_nil, Option.toList_some, Option.toList_none, Int.reduceToNat, hk_pt, hl_pt, hz_pt, hs_pt, hv_same, hv_ne, hv_na, hz_nw, hs_nw, hk_newS, hl_newS, hv_newS, Int.reduceEq, Int.reduceNe, Int.reduceLE, Int.reduceLT, Int.reduceAdd, Int.reduceSub, Int.reduceMul, Int.reduceNeg, Nat.reduceAdd, Nat.reduceSub, Nat.reduceLeDiff, Bool.or_false, Bool.false_or, Bool.or_true, Bool.true_or, or_self, or_false, false_or, true_or, or_true, and_true, true_and, forall_const, decide_eq_true_eq, decide_eq_false_iff_not, Bool.and_eq_true, Bool.false_eq_true, Nat.lt_add_one, imp_self, implies_true, not_true_eq_false, not_false_eq_true, ne_eq, Bool.true_eq_false, Nat.zero_le, Nat.le_refl, and_self, false_implies, q_50, l_50, Na5']
              have gN : f_m (fun k b j => r ≤ b) h2 h5 := ((f3.mono (fun _ _ _ z => z.elim)).tr (f4.1.mono (fun _ b _ z => by unfold t_ic at z; omega))).tr (f5.1.mono (fun _ b _ z => by unfold t_ic at z; omega))
              have gF : f_m (t_cs h lv lw ((m : Int) + 1) lo hi) h (h_put h5 a 2 3) := by
                have g2 : f_m (fun k b j => t_cs h lv lw ((m : Int) + 1) lo hi k b j ∨ r ≤ b) h h5 := (f2'.mono (fun _ _ _ z => Or.inl z)).tr (gN.mono (fun _ _ _ z => Or.inr z))
                have g3 : f_m (t_cs h lv lw ((m : Int) + 1) lo hi) h h5 := ⟨g2.1, g2.2.1, fun b j hb hn => g2.2.2 b j hb (fun z => by
                  rcases z with z | z
                  · exact hn z
                  · have := f2'.1.1; omega)⟩
                exact g3.put (fun _ => Or.inl ⟨Or.inr hL'.1, rfl, na⟩)
              have Y5 : k_Y (h_put h5 a 2 3) := ((Y3.fs Z3 f4).fs Z4 f5).fs (c := fun _ _ _ => True) Z5 ((f_s.rf Z5).put (fun _ => trivial))
              have d10 := d1 0 (by omega) (by omega)
              rw [c2, c3] at d10
              obtain ⟨midb, tL, tR⟩ := t_spl Z2 Y2 N2 al' hr C2 lva (ga.2.trans t2.2) gN Na5 N5 d10 ⟨d2, d3⟩ d5
              refine hQ (h_put h5 a 2 3) _ _ r (fun b hb => ?_) gF Y5 ?_ ?_ (Or.inr ⟨by have := f2'.1.1; omega, h_vl h2 (a + 2) 3, midb, C2.1 3 (by omega) (by omega), tL, tR, ?_⟩)
              · have gb := g1 b hb
                have : b ≠ r := by have := f2'.1.1; omega
                exact ⟨by show (if b = r then (m : Int) + 1 else lv1 b) = lv b; rw [if_neg this]; exact gb.1, by show (if b = r then h_vl h2 (a + 2) 3 else lw1 b) = lw b; rw [if_neg this]; exact gb.2⟩
              · show h_sz h5 ≤ _
                omega
              · show h_sl h5 ≤ _
                have := f4.2.2
                have := f5.2.2
                omega
              · rw [if_neg (by omega), hv_na (by omega)]
                exact d10.2
            · refine hQ h2 lv1 lw1 0 g1 f2' Y2 (by omega) (by omega) (Or.inl ⟨rfl, t_f.of_C N2 ⟨lva, by rw [ga.2]; exact t2.2⟩ t3 b5 (by omega) C2⟩)
        cases m with
        | zero =>
          have k3 := krr.1 rfl
          simp only [e_blk_eq, g_go, g_bks, g_bkn, g_gst, g_gsf, e_cl, e_rt, n_0, n_1, n_2, n_3, n_4, n_5, n_6, n_7, n_8, n_9, n_10, n_11, n_12, n_13, n_14, n_15, n_16, n_17, n_18, n_19, n_20, n_21, n_22, n_23, n_24, n_25, n_26, n_27, n_28, n_29, n_30, n_31, n_32, n_33, n_34, n_35, n_36, n_37, n_40, n_41, n_42, n_43, n_44, n_45, n_46, n_50, n_51, n_52, n_53, n_54, n_55, f_ldi, f_lda, f_sti, f_sta, f_inc, f_bin0, f_bin1, f_bin2, f_bin3, f_bin4, f_bin5, f_bin6, f_bin7, f_i2b, f_dup, f_pop, f_dx1, f_if0, f_ic0, f_if1, f_ic1, f_if2, f_ic2, f_if3, f_ic3, f_if4, f_ic4, f_if5, f_ic5, f_ac0, f_ac1, f_nu0, f_nu1, f_sw, f_sw0, f_sw1, f_gti, f_gta, f_pti, f_pta, f_ptz, f_new, f_nwa, f_ild, f_ist, f_bld, f_bst, f_ald, f_ast, f_len, f_cst, f_oin, f_gcl, f_ord, f_mm0, f_mm1, f_cpy, f_re0, f_re1, f_rea, f_rev, f_t50, f_t51, f_t52, f_t53, f_t54, f_t55, f_st, f_sd, f_s2, f_sn, e_in, e_ent, e_inR, Nat.reduceLT, Nat.reduceEqDiff, reduceIte, Nat.reduceBEq, List.length_cons, List.length_nil, List.map_cons, List.map_nil, List.replicate, List.cons_append, List.nil_append, List.append_nil, List.getElem?_cons_zero, List.getElem?_cons_succ, List.getElem?_nil, List.set_cons_zero, List.set_cons_succ, List.take_succ_cons, List.take_zero, List.take_nil, List.drop_succ_cons, List.drop_zero, List.drop_nil, List.reverse_cons, List.reverse_nil, Option.toList_some, Option.toList_none, Int.reduceToNat, hk_pt, hl_pt, hz_pt, hs_pt, hv_same, hv_ne, hv_na, hz_nw, hs_nw, hk_newS, hl_newS, hv_newS, Int.reduceEq, Int.reduceNe, Int.reduceLE, Int.reduceLT, Int.reduceAdd, Int.reduceSub, Int.reduceMul, Int.reduceNeg, Nat.reduceAdd, Nat.reduceSub, Nat.reduceLeDiff, Bool.or_false, Bool.false_or, Bool.or_true, Bool.true_or, or_self, or_false, false_or, true_or, or_true, and_true, true_and, forall_const, decide_eq_true_eq, decide_eq_false_iff_not, Bool.and_eq_true, Bool.false_eq_true, Nat.lt_add_one, imp_self, implies_true, not_true_eq_false, not_false_eq_true, ne_eq, Bool.true_eq_false, Nat.zero_le, Nat.le_refl, and_self, false_implies, q_50, l_50, r00, k3, l_54]
          refine ⟨by omega, by omega, low (d - 1) _ (by omega) (tail _ (by omega))⟩
        | succ m =>
          have k3 := krr.2.1 (by omega)
          simp only [e_blk_eq, g_go, g_bks, g_bkn, g_gst, g_gsf, e_cl, e_rt, n_0, n_1, n_2, n_3, n_4, n_5, n_6, n_7, n_8, n_9, n_10, n_11, n_12, n_13, n_14, n_15, n_16, n_17, n_18, n_19, n_20, n_21, n_22, n_23, n_24, n_25, n_26, n_27, n_28, n_29, n_30, n_31, n_32, n_33, n_34, n_35, n_36, n_37, n_40, n_41, n_42, n_43, n_44, n_45, n_46, n_50, n_51, n_52, n_53, n_54, n_55, f_ldi, f_lda, f_sti, f_sta, f_inc, f_bin0, f_bin1, f_bin2, f_bin3, f_bin4, f_bin5, f_bin6, f_bin7, f_i2b, f_dup, f_pop, f_dx1, f_if0, f_ic0, f_if1, f_ic1, f_if2, f_ic2, f_if3, f_ic3, f_if4, f_ic4, f_if5, f_ic5, f_ac0, f_ac1, f_nu0, f_nu1, f_sw, f_sw0, f_sw1, f_gti, f_gta, f_pti, f_pta, f_ptz, f_new, f_nwa, f_ild, f_ist, f_bld, f_bst, f_ald, f_ast, f_len, f_cst, f_oin, f_gcl, f_ord, f_mm0, f_mm1, f_cpy, f_re0, f_re1, f_rea, f_rev, f_t50, f_t51, f_t52, f_t53, f_t54, f_t55, f_st, f_sd, f_s2, f_sn, e_in, e_ent, e_inR, Nat.reduceLT, Nat.reduceEqDiff, reduceIte, Nat.reduceBEq, List.length_cons, List.length_nil, List.map_cons, List.map_nil, List.replicate, List.cons_append, List.nil_append, List.append_nil, List.getElem?_cons_zero, List.getElem?_cons_succ, List.getElem?_nil, List.set_cons_zero, List.set_cons_succ, List.take_succ_cons, List.take_zero, List.take_nil, List.drop_succ_cons, List.drop_zero, List.drop_nil, List.reverse_cons, List.reverse_nil, Option.toList_some, Option.toList_none, Int.reduceToNat, hk_pt, hl_pt, hz_pt, hs_pt, hv_same, hv_ne, hv_na, hz_nw, hs_nw, hk_newS, hl_newS, hv_newS, Int.reduceEq, Int.reduceNe, Int.reduceLE, Int.reduceLT, Int.reduceAdd, Int.reduceSub, Int.reduceMul, Int.reduceNeg, Nat.reduceAdd, Nat.reduceSub, Nat.reduceLeDiff, Bool.or_false, Bool.false_or, Bool.or_true, Bool.true_or, or_self, or_false, false_or, true_or, or_true, and_true, true_and, forall_const, decide_eq_true_eq, decide_eq_false_iff_not, Bool.and_eq_true, Bool.false_eq_true, Nat.lt_add_one, imp_self, implies_true, not_true_eq_false, not_false_eq_true, ne_eq, Bool.true_eq_false, Nat.zero_le, Nat.le_refl, and_self, false_implies, q_50, l_50, r00, k3, l_53]
          refine ⟨by omega, by omega, low (d - 1) _ (by omega) (tail _ (by omega))⟩
    cases m with
    | zero =>
      have k3 := kd.1 rfl
      simp only [e_blk_eq, g_go, g_bks, g_bkn, g_gst, g_gsf, e_cl, e_rt, n_0, n_1, n_2, n_3, n_4, n_5, n_6, n_7, n_8, n_9, n_10, n_11, n_12, n_13, n_14, n_15, n_16, n_17, n_18, n_19, n_20, n_21, n_22, n_23, n_24, n_25, n_26, n_27, n_28, n_29, n_30, n_31, n_32, n_33, n_34, n_35, n_36, n_37, n_40, n_41, n_42, n_43, n_44, n_45, n_46, n_50, n_51, n_52, n_53, n_54, n_55, f_ldi, f_lda, f_sti, f_sta, f_inc, f_bin0, f_bin1, f_bin2, f_bin3, f_bin4, f_bin5, f_bin6, f_bin7, f_i2b, f_dup, f_pop, f_dx1, f_if0, f_ic0, f_if1, f_ic1, f_if2, f_ic2, f_if3, f_ic3, f_if4, f_ic4, f_if5, f_ic5, f_ac0, f_ac1, f_nu0, f_nu1, f_sw, f_sw0, f_sw1, f_gti, f_gta, f_pti, f_pta, f_ptz, f_new, f_nwa, f_ild, f_ist, f_bld, f_bst, f_ald, f_ast, f_len, f_cst, f_oin, f_gcl, f_ord, f_mm0, f_mm1, f_cpy, f_re0, f_re1, f_rea, f_rev, f_t50, f_t51, f_t52, f_t53, f_t54, f_t55, f_st, f_sd, f_s2, f_sn, e_in, e_ent, e_inR, Nat.reduceLT, Nat.reduceEqDiff, reduceIte, Nat.reduceBEq, List.length_cons, List.length_nil, List.map_cons, List.map_nil, List.replicate, List.cons_append, List.nil_append, List.append_nil, List.getElem?_cons_zero, List.getElem?_cons_succ, List.getElem?_nil, List.set_cons_zero, List.set_cons_succ, List.take_succ_cons, List.take_zero, List.take_nil, List.drop_succ_cons, List.drop_zero, List.drop_nil, List.reverse_cons, List.reverse_nil, Option.toList_some, Option.toList_none, Int.reduceToNat, hk_pt, hl_pt, hz_pt, hs_pt, hv_same, hv_ne, hv_na, hz_nw, hs_nw, hk_newS, hl_newS, hv_newS, Int.reduceEq, Int.reduceNe, Int.reduceLE, Int.reduceLT, Int.reduceAdd, Int.reduceSub, Int.reduceMul, Int.reduceNeg, Nat.reduceAdd, Nat.reduceSub, Nat.reduceLeDiff, Bool.or_false, Bool.false_or, Bool.or_true, Bool.true_or, or_self, or_false, false_or, true_or, or_true, and_true, true_and, forall_const, decide_eq_true_eq, decide_eq_false_iff_not, Bool.and_eq_true, Bool.false_eq_true, Nat.lt_add_one, imp_self, implies_true, not_true_eq_false, not_false_eq_true, ne_eq, Bool.true_eq_false, Nat.zero_le, Nat.le_refl, and_self, false_implies, q_50, l_50, hL', k3, l_51]
      refine ⟨by omega, by omega, ih (d - 1) _ _ _ _ (by omega) ti pk.1 pk.2 (fun h1 lv1 lw1 r1 g1 f1 Y1 s1 sl1 pt => ?_)⟩
      exact fin 89 h1 lv1 lw1 r1 (by omega) g1 f1 Y1 s1 sl1 pt
    | succ m =>
      have k3 := kd.2.1 (by omega)
      simp only [e_blk_eq, g_go, g_bks, g_bkn, g_gst, g_gsf, e_cl, e_rt, n_0, n_1, n_2, n_3, n_4, n_5, n_6, n_7, n_8, n_9, n_10, n_11, n_12, n_13, n_14, n_15, n_16, n_17, n_18, n_19, n_20, n_21, n_22, n_23, n_24, n_25, n_26, n_27, n_28, n_29, n_30, n_31, n_32, n_33, n_34, n_35, n_36, n_37, n_40, n_41, n_42, n_43, n_44, n_45, n_46, n_50, n_51, n_52, n_53, n_54, n_55, f_ldi, f_lda, f_sti, f_sta, f_inc, f_bin0, f_bin1, f_bin2, f_bin3, f_bin4, f_bin5, f_bin6, f_bin7, f_i2b, f_dup, f_pop, f_dx1, f_if0, f_ic0, f_if1, f_ic1, f_if2, f_ic2, f_if3, f_ic3, f_if4, f_ic4, f_if5, f_ic5, f_ac0, f_ac1, f_nu0, f_nu1, f_sw, f_sw0, f_sw1, f_gti, f_gta, f_pti, f_pta, f_ptz, f_new, f_nwa, f_ild, f_ist, f_bld, f_bst, f_ald, f_ast, f_len, f_cst, f_oin, f_gcl, f_ord, f_mm0, f_mm1, f_cpy, f_re0, f_re1, f_rea, f_rev, f_t50, f_t51, f_t52, f_t53, f_t54, f_t55, f_st, f_sd, f_s2, f_sn, e_in, e_ent, e_inR, Nat.reduceLT, Nat.reduceEqDiff, reduceIte, Nat.reduceBEq, List.length_cons, List.length_nil, List.map_cons, List.map_nil, List.replicate, List.cons_append, List.nil_append, List.append_nil, List.getElem?_cons_zero, List.getElem?_cons_succ, List.getElem?_nil, List.set_cons_zero, List.set_cons_succ, List.take_succ_cons, List.take_zero, List.take_nil, List.drop_succ_cons, List.drop_zero, List.drop_nil, List.reverse_cons, List.reverse_nil, Option.toList_some, Option.toList_none, Int.reduceToNat, hk_pt, hl_pt, hz_pt, hs_pt, hv_same, hv_ne, hv_na, hz_nw, hs_nw, hk_newS, hl_newS, hv_newS, Int.reduceEq, Int.reduceNe, Int.reduceLE, Int.reduceLT, Int.reduceAdd, Int.reduceSub, Int.reduceMul, Int.reduceNeg, Nat.reduceAdd, Nat.reduceSub, Nat.reduceLeDiff, Bool.or_false, Bool.false_or, Bool.or_true, Bool.true_or, or_self, or_false, false_or, true_or, or_true, and_true, true_and, forall_const, decide_eq_true_eq, decide_eq_false_iff_not, Bool.and_eq_true, Bool.false_eq_true, Nat.lt_add_one, imp_self, implies_true, not_true_eq_false, not_false_eq_true, ne_eq, Bool.true_eq_false, Nat.zero_le, Nat.le_refl, and_self, false_implies, q_50, l_50, hL', k3, l_50]
      refine ⟨by omega, by omega, ih (d - 1) _ _ _ _ (by omega) ti pk.1 pk.2 (fun h1 lv1 lw1 r1 g1 f1 Y1 s1 sl1 pt => ?_)⟩
      exact fin 89 h1 lv1 lw1 r1 (by omega) g1 f1 Y1 s1 sl1 pt
