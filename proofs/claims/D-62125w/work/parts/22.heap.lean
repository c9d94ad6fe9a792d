/-! ===== PLAIN PART: rows about the abstract heap ===== -/
theorem hk_put {h : E_H} {a k v b : Int} : h_kd (h_put h a k v) b = h_kd h b := rfl
theorem hl_put {h : E_H} {a k v b : Int} : h_ln (h_put h a k v) b = h_ln h b := rfl
theorem hz_put {h : E_H} {a k v : Int} : h_sz (h_put h a k v) = h_sz h := rfl
theorem hs_put {h : E_H} {a k v : Int} : h_sl (h_put h a k v) = h_sl h := rfl
theorem hv_put {h : E_H} {a k v b j : Int} : h_vl (h_put h a k v) b j = if b = a ∧ j = k then v else h_vl h b j := rfl
theorem hv_same {h : E_H} {a k v : Int} : h_vl (h_put h a k v) a k = v := by simp [hv_put]
theorem hv_ne {h : E_H} {a k v b j : Int} (hj : j ≠ k) : h_vl (h_put h a k v) b j = h_vl h b j := by simp [hv_put, hj]
theorem hv_na {h : E_H} {a k v b j : Int} (hb : b ≠ a) : h_vl (h_put h a k v) b j = h_vl h b j := by simp [hv_put, hb]
theorem hk_new {h : E_H} {kd ln n b : Int} : h_kd (h_new h kd ln n) b = if b = h_sz h then kd else h_kd h b := rfl
theorem hl_new {h : E_H} {kd ln n b : Int} : h_ln (h_new h kd ln n) b = if b = h_sz h then ln else h_ln h b := rfl
theorem hv_new {h : E_H} {kd ln n b j : Int} : h_vl (h_new h kd ln n) b j = if b = h_sz h then 0 else h_vl h b j := rfl
theorem hz_new {h : E_H} {kd ln n : Int} : h_sz (h_new h kd ln n) = h_sz h + 1 := rfl
theorem hs_new {h : E_H} {kd ln n : Int} : h_sl (h_new h kd ln n) = h_sl h + n := rfl
theorem hk_newS {h : E_H} {kd ln n : Int} : h_kd (h_new h kd ln n) (h_sz h) = kd := by simp [hk_new]
theorem hl_newS {h : E_H} {kd ln n : Int} : h_ln (h_new h kd ln n) (h_sz h) = ln := by simp [hl_new]
theorem hv_newS {h : E_H} {kd ln n j : Int} : h_vl (h_new h kd ln n) (h_sz h) j = 0 := by simp [hv_new]
theorem hk_newN {h : E_H} {kd ln n b : Int} (hb : b ≠ h_sz h) : h_kd (h_new h kd ln n) b = h_kd h b := by simp [hk_new, hb]
theorem hl_newN {h : E_H} {kd ln n b : Int} (hb : b ≠ h_sz h) : h_ln (h_new h kd ln n) b = h_ln h b := by simp [hl_new, hb]
theorem hv_newN {h : E_H} {kd ln n b j : Int} (hb : b ≠ h_sz h) : h_vl (h_new h kd ln n) b j = h_vl h b j := by simp [hv_new, hb]
/-- a bank of values; a heap with another bank -/
def v_up (V : Int → Int → Int) (a k x : Int) : Int → Int → Int := fun b j => if b = a ∧ j = k then x else V b j
def h_wv (h : E_H) (V : Int → Int → Int) : E_H := (h.1, h.2.1, h.2.2.1, h.2.2.2.1, V)
theorem hk_wv {h : E_H} {V : Int → Int → Int} {b : Int} : h_kd (h_wv h V) b = h_kd h b := rfl
theorem hl_wv {h : E_H} {V : Int → Int → Int} {b : Int} : h_ln (h_wv h V) b = h_ln h b := rfl
theorem hz_wv {h : E_H} {V : Int → Int → Int} : h_sz (h_wv h V) = h_sz h := rfl
theorem hs_wv {h : E_H} {V : Int → Int → Int} : h_sl (h_wv h V) = h_sl h := rfl
theorem hv_wv {h : E_H} {V : Int → Int → Int} {b j : Int} : h_vl (h_wv h V) b j = V b j := rfl
theorem hvf_wv {h : E_H} {V : Int → Int → Int} : h_vl (h_wv h V) = V := rfl
theorem h_wv_wv {h : E_H} {V V' : Int → Int → Int} : h_wv (h_wv h V) V' = h_wv h V' := rfl
theorem h_wv_self {h : E_H} : h_wv h (h_vl h) = h := rfl
theorem h_put_wv {h : E_H} {a k x : Int} : h_put h a k x = h_wv h (v_up (h_vl h) a k x) := rfl
theorem v_same {V : Int → Int → Int} {a k x : Int} : v_up V a k x a k = x := by simp [v_up]
theorem v_ne {V : Int → Int → Int} {a k x b j : Int} (hj : j ≠ k) : v_up V a k x b j = V b j := by simp [v_up, hj]
theorem v_na {V : Int → Int → Int} {a k x b j : Int} (hb : b ≠ a) : v_up V a k x b j = V b j := by simp [v_up, hb]
theorem v_at {V : Int → Int → Int} {a k x b j : Int} : v_up V a k x b j = if b = a ∧ j = k then x else V b j := rfl
/-- the twin's object and arrays -/
def m_T (h : E_H) : Prop := h_kd h 44 = 11 ∧ h_vl h 44 2 = 45 ∧ h_vl h 44 3 = 46 ∧ h_vl h 44 4 = 47 ∧ h_vl h 44 5 = 48 ∧ h_vl h 44 6 = 49 ∧ h_vl h 44 7 = 50 ∧ h_vl h 44 8 = 51 ∧ h_vl h 44 9 = 52 ∧ h_vl h 44 10 = 53 ∧ h_vl h 44 11 = 54 ∧ h_vl h 44 12 = 55 ∧ h_vl h 44 13 = 56 ∧ h_vl h 44 14 = 57 ∧ h_vl h 44 15 = 58 ∧ h_vl h 44 16 = 59 ∧ h_vl h 44 17 = 60 ∧ h_vl h 44 18 = 61 ∧ h_vl h 44 23 = 62 ∧ h_vl h 44 24 = 63 ∧ h_vl h 44 25 = 64 ∧ h_vl h 44 26 = 65 ∧ h_vl h 44 27 = 66 ∧ h_vl h 44 28 = 67 ∧ h_vl h 44 29 = 68 ∧ h_vl h 44 30 = 69 ∧ h_vl h 44 31 = 70 ∧ h_vl h 44 36 = 71 ∧
  (h_kd h 45 = 20 ∧ h_ln h 45 = 204 ∧ h_kd h 46 = 20 ∧ h_ln h 46 = 204 ∧ h_kd h 47 = 20 ∧ h_ln h 47 = 204 ∧ h_kd h 48 = 20 ∧ h_ln h 48 = 204 ∧ h_kd h 49 = 20 ∧ h_ln h 49 = 204 ∧ h_kd h 50 = 20 ∧ h_ln h 50 = 204 ∧ h_kd h 51 = 20 ∧ h_ln h 51 = 204 ∧ h_kd h 52 = 20 ∧ h_ln h 52 = 204 ∧ h_kd h 53 = 20 ∧ h_ln h 53 = 1224 ∧ h_kd h 54 = 20 ∧ h_ln h 54 = 24 ∧ h_kd h 55 = 20 ∧ h_ln h 55 = 24 ∧ h_kd h 56 = 20 ∧ h_ln h 56 = 6 ∧ h_kd h 57 = 20 ∧ h_ln h 57 = 24 ∧ h_kd h 58 = 20 ∧ h_ln h 58 = 24 ∧ h_kd h 59 = 20 ∧ h_ln h 59 = 6 ∧ h_kd h 60 = 20 ∧ h_ln h 60 = 6 ∧ h_kd h 61 = 20 ∧ h_ln h 61 = 6 ∧ h_kd h 62 = 20 ∧ h_ln h 62 = 61 ∧ h_kd h 63 = 20 ∧ h_ln h 63 = 61 ∧ h_kd h 64 = 20 ∧ h_ln h 64 = 61 ∧ h_kd h 65 = 20 ∧ h_ln h 65 = 61 ∧ h_kd h 66 = 20 ∧ h_ln h 66 = 61 ∧ h_kd h 67 = 20 ∧ h_ln h 67 = 61 ∧ h_kd h 68 = 20 ∧ h_ln h 68 = 61 ∧ h_kd h 69 = 21 ∧ h_ln h 69 = 6100 ∧ h_kd h 70 = 22 ∧ h_ln h 70 = 61 ∧ h_kd h 71 = 20 ∧ h_ln h 71 = 6)
/-- only the twin's own cells differ, and its references stand -/
def m_ok (V V' : Int → Int → Int) : Prop := (∀ b j : Int, (b < 44 ∨ 71 < b) → V' b j = V b j) ∧ ∀ k : Int, ((2 ≤ k ∧ k ≤ 18) ∨ (23 ≤ k ∧ k ≤ 31) ∨ k = 36) → V' 44 k = V 44 k
theorem m_T.wv {h : E_H} {V : Int → Int → Int} (hM : m_T h) (hV : m_ok (h_vl h) V) : m_T (h_wv h V) := by
  have e : ∀ k : Int, ((2 ≤ k ∧ k ≤ 18) ∨ (23 ≤ k ∧ k ≤ 31) ∨ k = 36) → h_vl (h_wv h V) 44 k = h_vl h 44 k := hV.2
  unfold m_T at hM ⊢
  simp only [hk_wv, hl_wv]
  rw [e 2 (by omega), e 3 (by omega), e 4 (by omega), e 5 (by omega), e 6 (by omega), e 7 (by omega), e 8 (by omega), e 9 (by omega), e 10 (by omega), e 11 (by omega), e 12 (by omega), e 13 (by omega), e 14 (by omega), e 15 (by omega), e 16 (by omega), e 17 (by omega), e 18 (by omega), e 23 (by omega), e 24 (by omega), e 25 (by omega), e 26 (by omega), e 27 (by omega), e 28 (by omega), e 29 (by omega), e 30 (by omega), e 31 (by omega), e 36 (by omega)]
  exact hM
theorem m_ok.rf {V : Int → Int → Int} : m_ok V V := ⟨fun _ _ _ => rfl, fun _ _ => rfl⟩
theorem m_ok.tr {V V' V'' : Int → Int → Int} (h1 : m_ok V V') (h2 : m_ok V' V'') : m_ok V V'' := ⟨fun b j hb => (h2.1 b j hb).trans (h1.1 b j hb), fun k hk => (h2.2 k hk).trans (h1.2 k hk)⟩
theorem m_ok.up {V V' : Int → Int → Int} {a k x : Int} (h : m_ok V V') (ha : 45 ≤ a ∧ a ≤ 71) : m_ok V (v_up V' a k x) :=
  ⟨fun b j hb => (v_na (by omega)).trans (h.1 b j hb), fun j hj => (v_na (by omega)).trans (h.2 j hj)⟩
theorem m_ok.us {V V' : Int → Int → Int} {k x : Int} (h : m_ok V V') (hk : k = 0 ∨ k = 1 ∨ (19 ≤ k ∧ k ≤ 22) ∨ (32 ≤ k ∧ k ≤ 35)) : m_ok V (v_up V' 44 k x) :=
  ⟨fun b j hb => (v_na (by omega)).trans (h.1 b j hb), fun j hj => (v_ne (by omega)).trans (h.2 j hj)⟩
