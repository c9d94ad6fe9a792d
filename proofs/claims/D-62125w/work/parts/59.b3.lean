/-! ===== the twin, closed: what it does from a good state, and that the state stays good ===== -/
def t_I (V : E_K) (N : Int) : Prop := w_U V ∧ (V 44 32 = 0 → z_rest V) ∧ b_g V N
theorem w_U.up {V : E_K} (h : w_F V) (hup : V 44 32 = 0) : w_U V := ⟨h, fun z => absurd hup z, fun z => absurd hup z⟩
theorem t_I.up {V : E_K} {N : Int} (h : w_F V) (hup : V 44 32 = 0) (hr : z_rest V) (hb : b_g V N) : t_I V N := ⟨w_U.up h hup, fun _ => hr, hb⟩
theorem t_I.le {V : E_K} {N M : Int} (h : t_I V N) (hm : N ≤ M) : t_I V M := ⟨h.1, h.2.1, h.2.2.le hm⟩
theorem b_I.set {V : E_K} {N : Int} (h : w_F V) (hup : V 44 32 = 0) (hb : b_g V N) : t_I (m_settle V) (N + 4) := by
  have z := h.zn
  have w : b_I (N + 4) V := ⟨h, hup, hb.le (by omega)⟩
  have w2 := w.seL (n := 1000)
  exact t_I.up w2.1 w2.2.1 (h.settled hup) (w2.2.2.le (by have := w2.1.zn; omega))
def tw_bg (V : E_K) : Int × E_K := if V 44 32 ≠ 0 ∨ 4 ≤ m_nlv V (V 44 22).toNat 1 0 ∨ 60 ≤ V 44 22 then (-1, V) else (V 44 22 + 1, m_bg V)
def tw_rq (V : E_K) (t key what v : Int) : Int × E_K := if m_isIn V t 1 = true ∧ 0 ≤ key ∧ key ≤ 99 then (m_rq3 (m_rq1 V t key what v) t 63 t, m_settle (m_rq3 (m_rq1 V t key what v) t)) else (-1, V)
def tw_cm (V : E_K) (t : Int) : Int × E_K := if m_isIn V t 1 = true then (1, m_cm V t) else (0, V)
def tw_ab (V : E_K) (t : Int) : Int × E_K := if m_isIn V t 1 = true ∨ m_isIn V t 2 = true then (1, m_settle (m_drop V t)) else (0, V)
def tw_fo (V : E_K) : Int × E_K := if V 44 32 = 0 then (1, m_settle (v_up V 44 1 (V 44 0))) else (0, V)
def tw_ck (V : E_K) : Int × E_K := if V 44 32 = 0 ∧ m_count V 4 < 20 then (V 44 0 + 1, m_ck V) else (-1, V)
def tw_fl (V : E_K) (g : Int) : Int × E_K := if V 44 32 = 0 ∧ 0 ≤ g ∧ g ≤ 5 ∧ V 61 g ≠ 0 ∧ V 60 g ≠ 0 then (1, m_settle (m_spill V g)) else (0, V)
def tw_cr (V : E_K) (k : Int) : Int × E_K := if 0 ≤ k ∧ V 44 33 < 8 then (m_crash V k 44 0, m_crash V k) else (-1, V)
def tw_rs (V : E_K) (n : Int) : Int × E_K := if V 44 32 ≠ 0 ∧ 1 ≤ n ∧ n ≤ 100 then m_rsL n.toNat 0 V else (-1, V)
theorem m_isIn_iff {V : E_K} {t s : Int} : m_isIn V t s = true ↔ V 44 32 = 0 ∧ 1 ≤ t ∧ t ≤ V 44 22 ∧ V 62 t = s := by
  unfold m_isIn
  exact decide_eq_true_iff
theorem m_isIn_f {V : E_K} {t s : Int} (h : ¬ m_isIn V t s = true) : m_isIn V t s = false := Bool.eq_false_iff.mpr h
theorem t_I.begin {V : E_K} {N : Int} (h : t_I V N) : t_I (tw_bg V).2 (N + 200) := by
  unfold tw_bg
  split
  · exact h.le (by omega)
  · rename_i hc
    have hc' : ¬ m_bgC V := hc
    have hup : V 44 32 = 0 := Decidable.not_not.mp (fun z => hc (Or.inl z))
    have e : ∀ k : Int, k ≠ 22 → m_bg V 44 k = V 44 k := by
      intro k hk
      unfold m_bg
      rw [v_na (by omega), v_na (by omega), v_ne hk]
    exact t_I.up (h.1.1.begin hc') (by show m_bg V 44 32 = 0; rw [e 32 (by omega)]; exact hup) ((h.2.1 hup).begin h.1.1 hc') ((h.2.2.cg (e _ (by omega)) (e _ (by omega)) (e _ (by omega))).le (by omega))
theorem b_g.rq1 {V : E_K} {t key what v N : Int} (h : b_g V N) : b_g (m_rq1 V t key what v) (N + 1) := by
  unfold b_g at h ⊢
  rw [m_rq1_19, m_rq1_na (by omega) (by omega), m_rq1_na (by omega) (by omega)]
  omega
theorem b_g.rqd {V : E_K} {t key what v N : Int} (h : b_g V N) : b_g (m_ring (m_rq2 (m_rq1 V t key what v) t) t) (N + 1) ∧ b_g (v_up (m_ring (m_rq2 (m_rq1 V t key what v) t) t) 63 t 2) (N + 1) := by
  have e : ∀ k : Int, m_ring (m_rq2 (m_rq1 V t key what v) t) t 44 k = m_rq1 V t key what v 44 k := by
    intro k
    unfold m_rq2
    rw [m_ring_ok (by omega), v_na (by omega), v_na (by omega)]
  have w : b_g (m_ring (m_rq2 (m_rq1 V t key what v) t) t) (N + 1) := h.rq1.cg (e _) (e _) (e _)
  exact ⟨w, w.cg (v_na (by omega)) (v_na (by omega)) (v_na (by omega))⟩
theorem b_J.drop {V : E_K} {t N : Int} (h : w_F V) (hup : V 44 32 = 0) (hb : b_g V N) : b_g (m_drop V t) (N + 60) := by
  have u := h.uf
  have w : b_J (N + 60) V := ⟨h, hup, hb.le (by omega)⟩
  have w2 := w.dpL (n := 60) (t := t)
  have e : ∀ k : Int, m_drop V t 44 k = m_dpL t 60 V 44 k := by
    intro k
    unfold m_drop
    rw [m_unlock_na (by omega), v_na (by omega)]
  exact (w2.2.2.le (by have := w2.1.uf; omega)).cg (e _) (e _) (e _)
theorem b_g.rq3 {V : E_K} {t key what v N : Int} (h : b_g V N) (hW : w_F V) (hup : V 44 32 = 0) (ht : 1 ≤ t ∧ t ≤ V 44 22) (hst : V 62 t = 1) (hk : 0 ≤ key ∧ key ≤ 99) (hw : 1 ≤ what ∧ what ≤ 2) : b_g (m_rq3 (m_rq1 V t key what v) t) (N + 61) := by
  obtain ⟨w1, w2, w3, w4⟩ := hW.rqs (v := v) hup ht hst hk hw
  obtain ⟨e1, e2, e3, e4⟩ := @m_rq_32 V t key what v
  have d := h.rqd (t := t) (key := key) (what := what) (v := v)
  unfold m_rq3
  split
  · exact h.rq1.grant.le (by omega)
  · split
    · exact d.1.le (by omega)
    · exact (b_J.drop (t := t) w4 (by rw [e1]; exact hup) d.2).le (by omega)
theorem t_I.request {V : E_K} {N t key what v : Int} (h : t_I V N) (hw : 1 ≤ what ∧ what ≤ 2) : t_I (tw_rq V t key what v).2 (N + 200) := by
  unfold tw_rq
  split
  · rename_i hc
    have i := m_isIn_iff.mp hc.1
    have w := h.1.1.request (v := v) i.1 ⟨i.2.1, i.2.2.1⟩ i.2.2.2 hc.2 hw
    exact (b_I.set w.1 w.2 (h.2.2.rq3 h.1.1 i.1 ⟨i.2.1, i.2.2.1⟩ i.2.2.2 hc.2 hw)).le (by omega)
  · exact h.le (by omega)
theorem t_I.commit {V : E_K} {N t : Int} (h : t_I V N) : t_I (tw_cm V t).2 (N + 200) := by
  unfold tw_cm
  split
  · rename_i hc
    have i := m_isIn_iff.mp hc
    have e : ∀ k : Int, k ≠ 0 → m_cm V t 44 k = V 44 k := by
      intro k hk
      unfold m_cm
      rw [v_na (by omega), m_put_44 hk]
    exact t_I.up (h.1.1.commit i.1 ⟨i.2.1, i.2.2.1⟩ i.2.2.2) (by show m_cm V t 44 32 = 0; rw [e 32 (by omega)]; exact i.1) ((h.2.1 i.1).commit h.1.1 i.1 ⟨i.2.1, i.2.2.1⟩ i.2.2.2) ((h.2.2.cg (e _ (by omega)) (e _ (by omega)) (e _ (by omega))).le (by omega))
  · exact h.le (by omega)
theorem t_I.abort {V : E_K} {N t : Int} (h : t_I V N) : t_I (tw_ab V t).2 (N + 200) := by
  unfold tw_ab
  split
  · rename_i hc
    have i : V 44 32 = 0 ∧ (1 ≤ t ∧ t ≤ V 44 22) ∧ (V 62 t = 1 ∨ V 62 t = 2) := by
      rcases hc with hc | hc
      · have := m_isIn_iff.mp hc; omega
      · have := m_isIn_iff.mp hc; omega
    exact (b_I.set (h.1.1.drop i.1 i.2.1 i.2.2) (m_drop_32 h.1.1 i.1 i.2.1.1) (b_J.drop h.1.1 i.1 h.2.2)).le (by omega)
  · exact h.le (by omega)
theorem t_I.force {V : E_K} {N : Int} (h : t_I V N) : t_I (tw_fo V).2 (N + 200) := by
  unfold tw_fo
  split
  · rename_i hc
    exact (b_I.set h.1.1.force (by rw [v_ne (by omega)]; exact hc) (h.2.2.cg (v_ne (by omega)) (v_ne (by omega)) (v_ne (by omega)))).le (by omega)
  · exact h.le (by omega)
theorem t_I.checkpoint {V : E_K} {N : Int} (h : t_I V N) : t_I (tw_ck V).2 (N + 200) := by
  unfold tw_ck
  split
  · rename_i hc
    have e : ∀ k : Int, k ≠ 0 → m_ck V 44 k = V 44 k := by
      intro k hk
      unfold m_ck
      rw [m_ckL_na (by omega), m_put_44 hk]
    exact t_I.up (h.1.1.checkpoint hc.1 hc.2) (by show m_ck V 44 32 = 0; rw [e 32 (by omega)]; exact hc.1) ((h.2.1 hc.1).checkpoint h.1.1 hc.1 hc.2) ((h.2.2.cg (e _ (by omega)) (e _ (by omega)) (e _ (by omega))).le (by omega))
  · exact h.le (by omega)
theorem t_I.flush {V : E_K} {N g : Int} (h : t_I V N) : t_I (tw_fl V g).2 (N + 200) := by
  unfold tw_fl
  split
  · rename_i hc
    have hf : 0 < V 61 g := by have := h.1.1.2.2.2.1.2 g; omega
    have hb : b_g (m_spill V g) (N + 1) := by
      have := h.2.2
      unfold b_g at this ⊢
      rw [m_spill_44 (by omega) (by omega), m_spill_44 (by omega) (by omega), m_spill_21]
      omega
    exact (b_I.set (h.1.1.flush ⟨hc.2.1, by omega⟩ hf) (by rw [m_spill_44 (by omega) (by omega)]; exact hc.1) hb).le (by omega)
  · exact h.le (by omega)
theorem t_I.crash {V : E_K} {N k : Int} (h : t_I V N) : t_I (tw_cr V k).2 (N + 200) := by
  unfold tw_cr
  split
  · rename_i hc
    have w := h.1.1.crash hc.1
    exact ⟨⟨w.1, w.2, fun _ z => absurd m_crash_34 z⟩, fun z => by (have z' : m_crash V k 44 32 = 0 := z; rw [m_crash_32] at z'; omega), (h.2.2.cg (m_crash_s (by omega)) (m_crash_s (by omega)) (m_crash_s (by omega))).le (by omega)⟩
  · exact h.le (by omega)
theorem b_g.unit {V : E_K} {N : Int} (h : b_g V N) : b_g (m_unit V) (N + 1) := by
  have k3 : ∀ W : E_K, b_g W (N + 1) → b_g (m_un3 (m_un2 W)) (N + 1) := by
    intro W hw
    have h2 : b_g (m_un2 W) (N + 1) := hw.cg (v_ne (by omega)) (v_ne (by omega)) (v_ne (by omega))
    unfold m_un3
    split
    · exact h2.cg (m_finish_na (by omega) (by omega)) (m_finish_na (by omega) (by omega)) (m_finish_na (by omega) (by omega))
    · exact h2
  unfold m_unit
  apply k3
  unfold m_un1
  split
  · exact (h.cg (m_anal_na (by omega) (by omega)) (m_anal_na (by omega) (by omega)) (m_anal_na (by omega) (by omega))).le (by omega)
  · split
    · exact (h.redo).cg (v_ne (by omega)) (v_ne (by omega)) (v_ne (by omega))
    · exact h.takeBack
theorem t_I.unit {V : E_K} {N : Int} (h : t_I V N) (hd : V 44 32 ≠ 0) : t_I (m_unit V) (N + 1) := by
  have w := h.1.unit hd
  exact ⟨w.1, w.2, h.2.2.unit⟩
theorem t_I.rsL : ∀ {n : Nat} {V : E_K} {N k : Int}, t_I V N → t_I (m_rsL n k V).2 (N + n) := by
  intro n
  induction n with
  | zero => intro V N k h; exact h.le (by omega)
  | succ n ih =>
    intro V N k h
    rw [m_rsL]
    split
    · exact h.le (by omega)
    · rename_i hd
      exact (ih (h.unit hd)).le (by omega)
theorem t_I.restart {V : E_K} {N n : Int} (h : t_I V N) : t_I (tw_rs V n).2 (N + 200) := by
  unfold tw_rs
  split
  · exact h.rsL.le (by omega)
  · exact h.le (by omega)
theorem h_wv_id {h : E_H} : h_wv h (h_vl h) = h := rfl
theorem t_I.ug {V : E_K} {N : Int} (h : t_I V N) (hN : N ≤ 1000000000) (hd : V 44 32 ≠ 0) : m_ug V := by
  have hsz := h.1.1.size
  refine ⟨h.1.1.rg h.2.2 hN, fun z => ?_, fun z w => ?_⟩
  · have := h.1.1.2.2.2.2.2.2.2.1 hd z; omega
  · have := h.1.1.2.2.2.2.2.2.2.1 hd z
    exact h.1.2.2 hd z (by omega)
theorem d_begin {d : Nat} {N : Int} {h : E_H} {Q : Option E_V → E_H → Prop} (hd : 5 ≤ d) (hM : m_T h) (hI : t_I (h_vl h) N) (hQ : Q (some (.inl (tw_bg (h_vl h)).1)) (h_wv h (tw_bg (h_vl h)).2)) : e_wpm d 96 [.inr 44] h Q := by
  have hB := hI.1.1.2.2.2.2.1.2.2.2.2.2.2.1
  unfold tw_bg at hQ
  refine c_begin (by omega) hM hB (fun hc => ?_) (fun hc => ?_)
  · unfold m_bgC at hc
    rw [if_pos hc] at hQ; exact hQ
  · unfold m_bgC at hc
    rw [if_neg hc] at hQ; exact hQ
theorem d_request {d : Nat} {N t key what v : Int} {h : E_H} {Q : Option E_V → E_H → Prop} (hd : 5 ≤ d) (hM : m_T h) (hI : t_I (h_vl h) N) (hN : N ≤ 900000000) (hw : 1 ≤ what ∧ what ≤ 2) (hQ : Q (some (.inl (tw_rq (h_vl h) t key what v).1)) (h_wv h (tw_rq (h_vl h) t key what v).2)) : e_wpm d 99 [.inr 44, .inl t, .inl key, .inl what, .inl v] h Q := by
  have hB := hI.1.1.2.2.2.2.1.2.2.2.2.2.2.1
  have hb := hI.2.2
  have b1 := hb.1
  unfold tw_rq at hQ
  refine c_request (I := b_I (N + 100)) (J := b_J (N + 61)) hd hM hB (by omega) (b_I.SI (by omega)) (b_J.rg (by omega)) b_J.tb (fun i k1 k2 => ?_) (fun i k1 k2 f r => ?_) (fun i k1 k2 => ?_) (fun hc => ?_) (fun i k1 k2 => ?_)
  · have i' := m_isIn_iff.mp i
    exact (hI.1.1.rqs (v := v) i'.1 ⟨i'.2.1, i'.2.2.1⟩ i'.2.2.2 ⟨k1, k2⟩ hw).1.rg hb.rq1 (by omega)
  · have i' := m_isIn_iff.mp i
    have w := (hI.1.1.rqs (v := v) i'.1 ⟨i'.2.1, i'.2.2.1⟩ i'.2.2.2 ⟨k1, k2⟩ hw).2.2.2
    exact ⟨w, by rw [(@m_rq_32 (h_vl h) t key what v).1]; exact i'.1, hb.rqd.2.le (by have := w.uf; omega)⟩
  · have i' := m_isIn_iff.mp i
    have w := hI.1.1.request (v := v) i'.1 ⟨i'.2.1, i'.2.2.1⟩ i'.2.2.2 ⟨k1, k2⟩ hw
    exact ⟨w.1, w.2, (hb.rq3 hI.1.1 i'.1 ⟨i'.2.1, i'.2.2.1⟩ i'.2.2.2 ⟨k1, k2⟩ hw).le (by have := w.1.zn; omega)⟩
  · rw [if_neg (fun z => by
      rcases hc with hc | hc
      · rw [hc] at z; exact absurd z.1 (by simp)
      · omega)] at hQ
    exact hQ
  · rw [if_pos ⟨i, k1, k2⟩] at hQ
    exact hQ
theorem d_commit {d : Nat} {N t : Int} {h : E_H} {Q : Option E_V → E_H → Prop} (hd : 5 ≤ d) (hM : m_T h) (hI : t_I (h_vl h) N) (hN : N ≤ 900000000) (hQ : Q (some (.inl (tw_cm (h_vl h) t).1)) (h_wv h (tw_cm (h_vl h) t).2)) : e_wpm d 123 [.inr 44, .inl t] h Q := by
  have hB := hI.1.1.2.2.2.2.1.2.2.2.2.2.2.1
  have hsz := hI.1.1.size
  have hb := hI.2.2
  have w0 := @t_I.commit _ _ t hI
  unfold tw_cm at hQ w0
  refine c_commit (I := b_I (N + 300)) hd hM hB (by omega) (b_I.SI (by omega)) (fun i => ?_) (fun i => ?_) (fun i => ?_)
  · rw [if_pos i] at w0
    have i' := m_isIn_iff.mp i
    have e : m_cm (h_vl h) t 44 32 = 0 := by
      unfold m_cm
      rw [v_na (by omega), m_put_44 (by omega)]
      exact i'.1
    exact ⟨w0.1.1, e, w0.2.2.le (by have z := w0.1.1.zn; have z' : z_n (m_cm (h_vl h) t) ≤ 4 := z.2; omega)⟩
  · rw [if_neg (by rw [i]; simp)] at hQ; exact hQ
  · rw [if_pos i] at hQ
    have i' := m_isIn_iff.mp i
    rw [((hI.2.1 i'.1).commit hI.1.1 i'.1 ⟨i'.2.1, i'.2.2.1⟩ i'.2.2.2).settle]
    exact hQ
set_option maxRecDepth 100000 in
set_option maxHeartbeats 4000000 in
theorem d_abort {d : Nat} {N t : Int} {h : E_H} {Q : Option E_V → E_H → Prop} (hd : 5 ≤ d) (hM : m_T h) (hI : t_I (h_vl h) N) (hN : N ≤ 900000000) (hQ : Q (some (.inl (tw_ab (h_vl h) t).1)) (h_wv h (tw_ab (h_vl h) t).2)) : e_wpm d 124 [.inr 44, .inl t] h Q := by
  have hB := hI.1.1.2.2.2.2.1.2.2.2.2.2.2.1
  have hb := hI.2.2
  unfold tw_ab at hQ
  by_cases hup : h_vl h 44 32 = 0
  · refine c_abort (I := b_I (N + 100)) (J := b_J (N + 60)) hd hM hB (b_I.SI (by omega)) (b_J.rg (by omega)) b_J.tb ⟨hI.1.1, hup, hb.le (by have := hI.1.1.uf; omega)⟩ (fun i => ?_) (fun i1 i2 => ?_) (fun i => ?_)
    · have i' : (1 ≤ t ∧ t ≤ h_vl h 44 22) ∧ (h_vl h 62 t = 1 ∨ h_vl h 62 t = 2) := by
        rcases i with i | i
        · have := m_isIn_iff.mp i; omega
        · have := m_isIn_iff.mp i; omega
      have w := hI.1.1.drop hup i'.1 i'.2
      exact ⟨w, m_drop_32 hI.1.1 hup i'.1.1, (b_J.drop hI.1.1 hup hb).le (by have := w.zn; omega)⟩
    · rw [if_neg (by rw [i1, i2]; simp)] at hQ; exact hQ
    · rw [if_pos i] at hQ; exact hQ
  · have i1 : m_isIn (h_vl h) t 1 = false := m_isIn_f (fun z => hup (m_isIn_iff.mp z).1)
    have i2 : m_isIn (h_vl h) t 2 = false := m_isIn_f (fun z => hup (m_isIn_iff.mp z).1)
    rw [if_neg (by rw [i1, i2]; simp)] at hQ
    have hM' := hM
    unfold m_T at hM'
    refine e_wpm_blk 100 [] ?_
    simp only [e_blk_eq, g_go, g_bks, g_bkn, g_gst, g_gsf, e_cl, e_rt, n_0, n_1, n_2, n_3, n_4, n_5, n_6, n_7, n_8, n_9, n_10, n_11, n_12, n_13, n_14, n_15, n_16, n_17, n_18, n_19, n_20, n_21, n_22, n_23, n_24, n_25, n_26, n_27, n_28, n_29, n_30, n_31, n_32, n_33, n_34, n_35, n_36, n_37, n_40, n_41, n_42, n_43, n_44, n_45, n_46, n_50, n_51, n_52, n_53, n_54, n_55, f_ldi, f_lda, f_sti, f_sta, f_inc, f_bin0, f_bin1, f_bin2, f_bin3, f_bin4, f_bin5, f_bin6, f_bin7, f_i2b, f_dup, f_pop, f_dx1, f_if0, f_ic0, f_if1, f_ic1, f_if2, f_ic2, f_if3, f_ic3, f_if4, f_ic4, f_if5, f_ic5, f_ac0, f_ac1, f_nu0, f_nu1, f_sw, f_sw0, f_sw1, f_gti, f_gta, f_pti, f_pta, f_ptz, f_new, f_nwa, f_ild, f_ist, f_bld, f_bst, f_ald, f_ast, f_len, f_cst, f_oin, f_gcl, f_ord, f_mm0, f_mm1, f_cpy, f_re0, f_re1, f_rea, f_rev, f_t50, f_t51, f_t52, f_t53, f_t54, f_t55, f_st, f_sd, f_s2, f_sn, e_in, e_ent, e_inR, Nat.reduceLT, Nat.reduceEqDiff, reduceIte, Nat.reduceBEq, List.length_cons, List.length_nil, List.map_cons, List.map_nil, List.replicate, List.cons_append, List.nil_append, List.append_nil, List.getElem?_cons_zero, List.getElem?_cons_succ, List.getElem?_nil, List.set_cons_zero, List.set_cons_succ, List.take_succ_cons, List.take_zero, List.take_nil, List.drop_succ_cons, List.drop_zero, List.drop_nil, List.reverse_cons, List.reverse_nil, Option.toList_some, Option.toList_none, Int.reduceToNat, hk_put, hl_put, hz_put, hs_put, hv_same, hv_ne, hv_na, hz_new, hs_new, hk_newS, hl_newS, hv_newS, Int.reduceEq, Int.reduceNe, Int.reduceLE, Int.reduceLT, Int.reduceAdd, Int.reduceSub, Int.reduceMul, Int.reduceNeg, Nat.reduceAdd, Nat.reduceSub, Nat.reduceLeDiff, Bool.or_false, Bool.false_or, Bool.or_true, Bool.true_or, or_self, or_false, false_or, true_or, or_true, and_true, true_and, forall_const, decide_eq_true_eq, decide_eq_false_iff_not, Bool.and_eq_true, Bool.false_eq_true, Nat.lt_add_one, imp_self, implies_true, not_true_eq_false, not_false_eq_true, ne_eq, Bool.true_eq_false, Nat.zero_le, Nat.le_refl, and_self, false_implies, q_124, l_124, l_100, hM']
    refine ⟨by omega, c_isIn hM hB.2 ?_⟩
    simp only [e_blk_eq, g_go, g_bks, g_bkn, g_gst, g_gsf, e_cl, e_rt, n_0, n_1, n_2, n_3, n_4, n_5, n_6, n_7, n_8, n_9, n_10, n_11, n_12, n_13, n_14, n_15, n_16, n_17, n_18, n_19, n_20, n_21, n_22, n_23, n_24, n_25, n_26, n_27, n_28, n_29, n_30, n_31, n_32, n_33, n_34, n_35, n_36, n_37, n_40, n_41, n_42, n_43, n_44, n_45, n_46, n_50, n_51, n_52, n_53, n_54, n_55, f_ldi, f_lda, f_sti, f_sta, f_inc, f_bin0, f_bin1, f_bin2, f_bin3, f_bin4, f_bin5, f_bin6, f_bin7, f_i2b, f_dup, f_pop, f_dx1, f_if0, f_ic0, f_if1, f_ic1, f_if2, f_ic2, f_if3, f_ic3, f_if4, f_ic4, f_if5, f_ic5, f_ac0, f_ac1, f_nu0, f_nu1, f_sw, f_sw0, f_sw1, f_gti, f_gta, f_pti, f_pta, f_ptz, f_new, f_nwa, f_ild, f_ist, f_bld, f_bst, f_ald, f_ast, f_len, f_cst, f_oin, f_gcl, f_ord, f_mm0, f_mm1, f_cpy, f_re0, f_re1, f_rea, f_rev, f_t50, f_t51, f_t52, f_t53, f_t54, f_t55, f_st, f_sd, f_s2, f_sn, e_in, e_ent, e_inR, Nat.reduceLT, Nat.reduceEqDiff, reduceIte, Nat.reduceBEq, List.length_cons, List.length_nil, List.map_cons, List.map_nil, List.replicate, List.cons_append, List.nil_append, List.append_nil, List.getElem?_cons_zero, List.getElem?_cons_succ, List.getElem?_nil, List.set_cons_zero, List.set_cons_succ, List.take_succ_cons, List.take_zero, List.take_nil, List.drop_succ_cons, List.drop_zero, List.drop_nil, List.reverse_cons, List.reverse_nil, Option.toList_some, Option.toList_none, Int.reduceToNat, hk_put, hl_put, hz_put, hs_put, hv_same, hv_ne, hv_na, hz_new, hs_new, hk_newS, hl_newS, hv_newS, Int.reduceEq, Int.reduceNe, Int.reduceLE, Int.reduceLT, Int.reduceAdd, Int.reduceSub, Int.reduceMul, Int.reduceNeg, Nat.reduceAdd, Nat.reduceSub, Nat.reduceLeDiff, Bool.or_false, Bool.false_or, Bool.or_true, Bool.true_or, or_self, or_false, false_or, true_or, or_true, and_true, true_and, forall_const, decide_eq_true_eq, decide_eq_false_iff_not, Bool.and_eq_true, Bool.false_eq_true, Nat.lt_add_one, imp_self, implies_true, not_true_eq_false, not_false_eq_true, ne_eq, Bool.true_eq_false, Nat.zero_le, Nat.le_refl, and_self, false_implies, q_124, l_124, l_100, hM']
    rw [i1]
    refine ⟨fun z => absurd rfl z, fun _ => ⟨by omega, c_isIn hM hB.2 ?_⟩⟩
    simp only [e_blk_eq, g_go, g_bks, g_bkn, g_gst, g_gsf, e_cl, e_rt, n_0, n_1, n_2, n_3, n_4, n_5, n_6, n_7, n_8, n_9, n_10, n_11, n_12, n_13, n_14, n_15, n_16, n_17, n_18, n_19, n_20, n_21, n_22, n_23, n_24, n_25, n_26, n_27, n_28, n_29, n_30, n_31, n_32, n_33, n_34, n_35, n_36, n_37, n_40, n_41, n_42, n_43, n_44, n_45, n_46, n_50, n_51, n_52, n_53, n_54, n_55, f_ldi, f_lda, f_sti, f_sta, f_inc, f_bin0, f_bin1, f_bin2, f_bin3, f_bin4, f_bin5, f_bin6, f_bin7, f_i2b, f_dup, f_pop, f_dx1, f_if0, f_ic0, f_if1, f_ic1, f_if2, f_ic2, f_if3, f_ic3, f_if4, f_ic4, f_if5, f_ic5, f_ac0, f_ac1, f_nu0, f_nu1, f_sw, f_sw0, f_sw1, f_gti, f_gta, f_pti, f_pta, f_ptz, f_new, f_nwa, f_ild, f_ist, f_bld, f_bst, f_ald, f_ast, f_len, f_cst, f_oin, f_gcl, f_ord, f_mm0, f_mm1, f_cpy, f_re0, f_re1, f_rea, f_rev, f_t50, f_t51, f_t52, f_t53, f_t54, f_t55, f_st, f_sd, f_s2, f_sn, e_in, e_ent, e_inR, Nat.reduceLT, Nat.reduceEqDiff, reduceIte, Nat.reduceBEq, List.length_cons, List.length_nil, List.map_cons, List.map_nil, List.replicate, List.cons_append, List.nil_append, List.append_nil, List.getElem?_cons_zero, List.getElem?_cons_succ, List.getElem?_nil, List.set_cons_zero, List.set_cons_succ, List.take_succ_cons, List.take_zero, List.take_nil, List.drop_succ_cons, List.drop_zero, List.drop_nil, List.reverse_cons, List.reverse_nil, Option.toList_some, Option.toList_none, Int.reduceToNat, hk_put, hl_put, hz_put, hs_put, hv_same, hv_ne, hv_na, hz_new, hs_new, hk_newS, hl_newS, hv_newS, Int.reduceEq, Int.reduceNe, Int.reduceLE, Int.reduceLT, Int.reduceAdd, Int.reduceSub, Int.reduceMul, Int.reduceNeg, Nat.reduceAdd, Nat.reduceSub, Nat.reduceLeDiff, Bool.or_false, Bool.false_or, Bool.or_true, Bool.true_or, or_self, or_false, false_or, true_or, or_true, and_true, true_and, forall_const, decide_eq_true_eq, decide_eq_false_iff_not, Bool.and_eq_true, Bool.false_eq_true, Nat.lt_add_one, imp_self, implies_true, not_true_eq_false, not_false_eq_true, ne_eq, Bool.true_eq_false, Nat.zero_le, Nat.le_refl, and_self, false_implies, q_124, l_124]
    rw [i2]
    exact ⟨fun z => absurd rfl z, fun _ => hQ⟩
theorem d_force {d : Nat} {N : Int} {h : E_H} {Q : Option E_V → E_H → Prop} (hd : 5 ≤ d) (hM : m_T h) (hI : t_I (h_vl h) N) (hN : N ≤ 900000000) (hQ : Q (some (.inl (tw_fo (h_vl h)).1)) (h_wv h (tw_fo (h_vl h)).2)) : e_wpm d 125 [.inr 44] h Q := by
  unfold tw_fo at hQ
  refine c_force (I := b_I (N + 100)) hd hM (b_I.SI (by omega)) (fun i => ?_) (fun i => ?_) (fun i => ?_)
  · have w := hI.1.1.force
    exact ⟨w, by rw [v_ne (by omega)]; exact i, (hI.2.2.cg (V' := v_up (h_vl h) 44 1 (h_vl h 44 0)) (v_ne (by omega)) (v_ne (by omega)) (v_ne (by omega))).le (by have := w.zn; omega)⟩
  · rw [if_neg i] at hQ; exact hQ
  · rw [if_pos i] at hQ; exact hQ
theorem d_checkpoint {d : Nat} {N : Int} {h : E_H} {Q : Option E_V → E_H → Prop} (hd : 5 ≤ d) (hM : m_T h) (hI : t_I (h_vl h) N) (hN : N ≤ 900000000) (hQ : Q (some (.inl (tw_ck (h_vl h)).1)) (h_wv h (tw_ck (h_vl h)).2)) : e_wpm d 126 [.inr 44] h Q := by
  have hsz := hI.1.1.size
  have w0 := @t_I.checkpoint _ _ hI
  unfold tw_ck at hQ w0
  refine c_checkpoint (I := b_I (N + 300)) hd hM (by omega) (b_I.SI (by omega)) (fun i1 i2 => ?_) (fun i => ?_) (fun i1 i2 => ?_)
  · rw [if_pos ⟨i1, i2⟩] at w0
    have e : m_ck (h_vl h) 44 32 = 0 := by
      unfold m_ck
      rw [m_ckL_na (by omega), m_put_44 (by omega)]
      exact i1
    exact ⟨w0.1.1, e, w0.2.2.le (by have z := w0.1.1.zn; have z' : z_n (m_ck (h_vl h)) ≤ 4 := z.2; omega)⟩
  · rw [if_neg (by omega)] at hQ; exact hQ
  · rw [if_pos ⟨i1, i2⟩] at hQ
    rw [((hI.2.1 i1).checkpoint hI.1.1 i1 i2).settle]
    exact hQ
theorem d_flush {d : Nat} {N g : Int} {h : E_H} {Q : Option E_V → E_H → Prop} (hd : 5 ≤ d) (hM : m_T h) (hI : t_I (h_vl h) N) (hN : N ≤ 900000000) (hQ : Q (some (.inl (tw_fl (h_vl h) g).1)) (h_wv h (tw_fl (h_vl h) g).2)) : e_wpm d 127 [.inr 44, .inl g] h Q := by
  have hb := hI.2.2
  have hb' := hb
  unfold b_g at hb'
  unfold tw_fl at hQ
  refine c_flush (I := b_I (N + 100)) hd hM (by omega) (b_I.SI (by omega)) (fun i => ?_) (fun i => ?_) (fun i => ?_)
  · unfold m_flC at i
    have hf : 0 < h_vl h 61 g := by have := hI.1.1.2.2.2.1.2 g; omega
    have w := hI.1.1.flush ⟨i.2.1, by omega⟩ hf
    refine ⟨w, by rw [m_spill_44 (by omega) (by omega)]; exact i.1, ?_⟩
    have z := w.zn
    unfold b_g
    rw [m_spill_44 (by omega) (by omega), m_spill_44 (by omega) (by omega), m_spill_21]
    omega
  · unfold m_flC at i
    rw [if_neg i] at hQ; exact hQ
  · unfold m_flC at i
    rw [if_pos i] at hQ; exact hQ
theorem d_crash {d : Nat} {N k : Int} {h : E_H} {Q : Option E_V → E_H → Prop} (hd : 5 ≤ d) (hM : m_T h) (hI : t_I (h_vl h) N) (hQ : Q (some (.inl (tw_cr (h_vl h) k).1)) (h_wv h (tw_cr (h_vl h) k).2)) : e_wpm d 128 [.inr 44, .inl k] h Q := by
  have hB := hI.1.1.2.2.2.2.1.2.2.2.2.2.2.1
  have hsz := hI.1.1.size
  have S := hI.1.1.2.2.1
  unfold p_S at S
  have R := hI.1.1.2.2.2.2.2.2.2.2
  unfold tw_cr at hQ
  refine c_crash (by omega) hM hB (by omega) (by omega) (fun i => ?_) (fun i1 i2 => ?_)
  · rw [if_neg (by omega)] at hQ; exact hQ
  · rw [if_pos ⟨i1, i2⟩] at hQ; exact hQ
theorem d_rs_l {d : Nat} {n N : Int} {Q : Option E_V → E_H → Prop} (hd : 5 ≤ d) (hn : n ≤ 100) (hN : N ≤ 900000000) : ∀ (m : Nat) (k : Int) (h : E_H), m_T h → t_I (h_vl h) (N + k) → k + m = n → 0 ≤ k → Q (some (.inl (m_rsL m k (h_vl h)).1)) (h_wv h (m_rsL m k (h_vl h)).2) → e_wpc d 129 22 [some (.inr 44), some (.inl n), some (.inl k)] [] h Q := by
  intro m
  induction m with
  | zero => intro k h hM hi hk h0 hQ; exact c_rs_s hd hM h0 hn (hi.ug (by omega)) (fun _ => hQ) (fun hc => absurd hc (by omega))
  | succ m ih =>
    intro k h hM hi hk h0 hQ
    rw [m_rsL] at hQ
    by_cases hz : h_vl h 44 32 = 0
    · rw [if_pos hz] at hQ
      exact c_rs_s hd hM h0 hn (hi.ug (by omega)) (fun _ => hQ) (fun _ z => absurd hz z)
    · rw [if_neg hz] at hQ
      exact c_rs_s hd hM h0 hn (hi.ug (by omega)) (fun z => absurd z (by omega)) (fun _ _ => ih (k + 1) _ (hM.wv m_unit_ok) ((hi.unit hz).le (by omega)) (by omega) (by omega) hQ)
set_option maxRecDepth 100000 in
set_option maxHeartbeats 4000000 in
theorem d_restart {d : Nat} {N n : Int} {h : E_H} {Q : Option E_V → E_H → Prop} (hd : 5 ≤ d) (hM : m_T h) (hI : t_I (h_vl h) N) (hN : N ≤ 900000000) (hQ : Q (some (.inl (tw_rs (h_vl h) n).1)) (h_wv h (tw_rs (h_vl h) n).2)) : e_wpm d 129 [.inr 44, .inl n] h Q := by
  unfold tw_rs at hQ
  have hM' := hM
  unfold m_T at hM'
  refine e_wpm_blk 100 [22] ?_
  simp only [e_blk_eq, g_go, g_bks, g_bkn, g_gst, g_gsf, e_cl, e_rt, n_0, n_1, n_2, n_3, n_4, n_5, n_6, n_7, n_8, n_9, n_10, n_11, n_12, n_13, n_14, n_15, n_16, n_17, n_18, n_19, n_20, n_21, n_22, n_23, n_24, n_25, n_26, n_27, n_28, n_29, n_30, n_31, n_32, n_33, n_34, n_35, n_36, n_37, n_40, n_41, n_42, n_43, n_44, n_45, n_46, n_50, n_51, n_52, n_53, n_54, n_55, f_ldi, f_lda, f_sti, f_sta, f_inc, f_bin0, f_bin1, f_bin2, f_bin3, f_bin4, f_bin5, f_bin6, f_bin7, f_i2b, f_dup, f_pop, f_dx1, f_if0, f_ic0, f_if1, f_ic1, f_if2, f_ic2, f_if3, f_ic3, f_if4, f_ic4, f_if5, f_ic5, f_ac0, f_ac1, f_nu0, f_nu1, f_sw, f_sw0, f_sw1, f_gti, f_gta, f_pti, f_pta, f_ptz, f_new, f_nwa, f_ild, f_ist, f_bld, f_bst, f_ald, f_ast, f_len, f_cst, f_oin, f_gcl, f_ord, f_mm0, f_mm1, f_cpy, f_re0, f_re1, f_rea, f_rev, f_t50, f_t51, f_t52, f_t53, f_t54, f_t55, f_st, f_sd, f_s2, f_sn, e_in, e_ent, e_inR, Nat.reduceLT, Nat.reduceEqDiff, reduceIte, Nat.reduceBEq, List.length_cons, List.length_nil, List.map_cons, List.map_nil, List.replicate, List.cons_append, List.nil_append, List.append_nil, List.getElem?_cons_zero, List.getElem?_cons_succ, List.getElem?_nil, List.set_cons_zero, List.set_cons_succ, List.take_succ_cons, List.take_zero, List.take_nil, List.drop_succ_cons, List.drop_zero, List.drop_nil, List.reverse_cons, List.reverse_nil, Option.toList_some, Option.toList_none, Int.reduceToNat, hk_put, hl_put, hz_put, hs_put, hv_same, hv_ne, hv_na, hz_new, hs_new, hk_newS, hl_newS, hv_newS, Int.reduceEq, Int.reduceNe, Int.reduceLE, Int.reduceLT, Int.reduceAdd, Int.reduceSub, Int.reduceMul, Int.reduceNeg, Nat.reduceAdd, Nat.reduceSub, Nat.reduceLeDiff, Bool.or_false, Bool.false_or, Bool.or_true, Bool.true_or, or_self, or_false, false_or, true_or, or_true, and_true, true_and, forall_const, decide_eq_true_eq, decide_eq_false_iff_not, Bool.and_eq_true, Bool.false_eq_true, Nat.lt_add_one, imp_self, implies_true, not_true_eq_false, not_false_eq_true, ne_eq, Bool.true_eq_false, Nat.zero_le, Nat.le_refl, and_self, false_implies, q_129, l_129, hM']
  refine ⟨fun h1 => ?_, fun h1 => ⟨fun h2 => ?_, fun h2 => ⟨fun h3 => ?_, fun h3 => ?_⟩⟩⟩
  · rw [if_neg (fun z => z.1 h1)] at hQ; exact hQ
  · rw [if_neg (by omega)] at hQ; exact hQ
  · rw [if_pos ⟨h1, by omega, h3⟩] at hQ
    exact d_rs_l hd h3 hN n.toNat 0 h hM (hI.le (by omega)) (by omega) (by omega) hQ
  · rw [if_neg (by omega)] at hQ; exact hQ
