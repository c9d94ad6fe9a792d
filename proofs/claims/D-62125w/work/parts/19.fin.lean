/-! ===== ordinal; the whole soundness ===== -/
def y_ord : MethodName := ⟨"java/lang/Enum", "ordinal", "()I"⟩
def x_ord : MethodName := ⟨"LogStore$State", "ordinal", "()I"⟩
abbrev b_ord : ByteArray := prog_17_method_2_code
def w_ord : List Jvm.Cond := .code y_ord b_ord 1 (some .int) :: k_T
theorem d_ord_0 : decode b_ord 0 = .ok (.aload_n 0, 1) := by decide +kernel
theorem d_ord_1 : decode b_ord 1 = .ok (.getfield 7, 3) := by decide +kernel
theorem d_ord_4 : decode b_ord 4 = .ok (.ireturn, 1) := by decide +kernel
theorem k_o1 : Jvm.Cond.code y_ord b_ord 1 (some .int) ∈ k_T := k_is_mem (i := 794) (by decide +kernel)
theorem k_o2 : Jvm.Cond.fieldLink "java/lang/Enum" 7 "java/lang/Enum" "ordinal" "I" ∈ k_T := k_is_mem (i := 1173) (by decide +kernel)
theorem k_o3 : Jvm.Cond.sameMethod "LogStore$State" "java/lang/Enum" "ordinal" "()I" ∈ k_T := k_is_mem (i := 790) (by decide +kernel)
theorem k_o4 : Jvm.Cond.selects "LogStore$State" x_ord y_ord ∈ k_T := k_is_mem (i := 792) (by decide +kernel)
theorem k_o5 : Jvm.Cond.instanceMethod y_ord ∈ k_T := k_is_mem (i := 793) (by decide +kernel)
theorem k_o6 : Jvm.Cond.initialized "java/lang/Enum" ∈ k_T := k_is_mem (i := 75) (by decide +kernel)
section GF
variable {G : E_P} {p : Program} {l : Launch} {e : Env} {R : Room} {s : State} {m : MethodId} {args : Array Value} {below : List Frame} {meth : Method} {c : Code} {Q : State → Prop} {mi : Nat}
theorem g_mord {k : Nat} (h1 : 5 ≤ k) (h2 : k ≤ 10) : Met l y_ord w_ord { frames := 0, cells := 0, slots := 0, locals := 0 } (va_Pc [.ref (g_ex G k)] (fun U => g_E G U)) (fun _ st o t => o = .returned (some (.int (Int32.ofInt ((k : Int) - 4)))) ∧ t.heap = st.heap) 0 0 (fun _ => False) := by
  refine Met.ofW (cc := b_ord) (maxL := 1) (ret := some .int) (by decide) rfl ?_
  intro p e s m args below meth c s₁ B hml hv
  obtain ⟨rfl, hE⟩ := hv
  have hx := B.exec
  have hb := B.bytes
  have hr := B.returns
  have hts0 := atoms_spec (ws := w_ord) B.pre
  have hts : ∀ w ∈ k_T, w.before #[Value.ref (g_ex G k)] s = true := fun w hw => hts0 w (List.mem_cons_of_mem _ hw)
  have hown : s.vm.findClass "java/lang/Enum" = some m.cls := findClass_of_methodNamed B.named
  have hlocks := B.notSynchronized
  have hl := lv_entry ([.ref (g_ex G k)]) (n := 1) (Nat.le_of_ble_eq_true rfl)
  rw [lg_entry_eq]
  generalize (lg_sl ([.ref (g_ex G k)]) ++ List.replicate (1 - (lg_sl ([.ref (g_ex G k)])).length) Slot.unset).toArray = ls at hl ⊢
  have hl : lv_has ls 1 [(0, .ref (g_ex G k))] := hl
  obtain ⟨cf, kk, i, f, cell, o1, o2, o3, o4, o5, o6⟩ := (hE.2.2.2.2.2.2.2.2.2 k h1 h2).2
  refine lv_aload_n hx hb d_ord_0 rfl (lv_at hl 0 rfl) ?_
  refine W.getf hx hb hown (hts _ k_o2) o1 o2 o3 o4 o5 rfl rfl d_ord_1 ?_
  exact W.iret hx hb hr (fun t ht hW => ⟨rfl, ht⟩) (fun _ h => by cases h) d_ord_4
set_option maxHeartbeats 4000000 in
theorem g_o44 {pc nx d a b : Nat} {ls : E_L} {st : List E_V} {h : E_H} {sl0 k e0 : Int} {ll : List Nat} {q : Nat × E_L × List E_V × E_H} (X : g_X G p s m args meth c mi) (hok : k_ok mi pc (44, a, b, k, e0, nx, ll) = true) (hq : e_pick (e_stp d 44 a b k e0 nx ll ls st h) = some q) (hB : g_B G R s sl0 d q.2.2.2) (K : g_K G p l e R s m args below meth c Q mi sl0 q.1 q.2.1 q.2.2.1 q.2.2.2) : g_K G p l e R s m args below meth c Q mi sl0 pc ls st h := by
  obtain ⟨hx, hb, hml, hown, hts, hnm, hK, hE, hGW, hbs⟩ := id X
  intro H locs cells slots ls' st' hR hS hc hsl hl hst
  simp only [k_ok, k_dc, Bool.and_eq_true, decide_eq_true_eq] at hok
  simp only [e_stp, s_ord] at hq
  split at hq
  · rename_i x r
    rw [e_pick1] at hq
    obtain ⟨hg, rfl⟩ := hq
    rw [decide_eq_true_eq] at hg
    obtain ⟨hg1, hg2, hg3, hg4⟩ := hg
    match st', hst with
    | w1 :: st', hst =>
      obtain ⟨hv, hs2⟩ := hst
      have hv : w1 = va_rf (g_rr G x) := hv
      subst hv
      obtain ⟨⟨hd, rfl⟩, hk2⟩ := hok
      obtain ⟨hB1, hB2, hB3, hB4⟩ := hB
      dsimp only at hB1 hB2
      obtain ⟨k, rfl⟩ : ∃ k : Nat, x = k := ⟨x.toNat, by omega⟩
      have hrr : g_rr G (k : Int) = some (g_ex G k) := by
        unfold g_rr g_mu
        rw [if_neg (by omega), if_pos (by omega), Int.toNat_natCast]
      rw [hrr]
      have hO := (hE.2.2.2.2.2.2.2.2.2 k (by omega) (by omega)).1
      have hGI : GoodIn k_T (va_wsU (P_y mi).cls a "LogStore$State" "java/lang/Enum" x_ord y_ord w_ord) := by
        refine k_goodIn (fun w hw => ?_)
        unfold va_wsU at hw
        rcases List.mem_append.mp hw with hw | hw
        · simp only [List.mem_cons, List.not_mem_nil, or_false] at hw
          rcases hw with rfl | rfl | rfl | rfl | rfl
          · exact k_is_mem hk2
          · exact k_o3
          · exact k_o4
          · exact k_o5
          · exact k_o6
        · rcases List.mem_cons.mp hw with rfl | hw
          · exact k_o1
          · exact hw
      have hcw := va_cwU (R := R) (s := s) (args := args) (bytes := b_ord) (maxL := 1) (ret := some .int) (rm := { frames := 0, cells := 0, slots := 0, locals := 0 }) (mc := 0) (ms := 0) 0 hts hGI rfl rfl rfl rfl ⟨by decide, by decide, by decide +kernel⟩ ⟨by show 0 + 1 ≤ R.frames; omega, by show 8 + (1 + 11) + 0 ≤ R.locals; omega⟩
      have hbl : FrameBlind (va_Pc [Value.ref (g_ex G k)] (fun U => g_E G U ∧ g_ba G ≤ U.heap.size)) := by
        intro a U g mk q
        exact ⟨q.1, q.2.1.next q.2.2 hGW (State.WarmedH.refl U) (fun _ _ _ => rfl), q.2.2⟩
      have hM : Met l y_ord w_ord { frames := 0, cells := 0, slots := 0, locals := 0 } (va_Pc [.ref (g_ex G k)] (fun U => g_E G U ∧ g_ba G ≤ U.heap.size)) (fun _ st o t => o = .returned (some (.int (Int32.ofInt ((k : Int) - 4)))) ∧ t.heap = st.heap) 0 0 (fun _ => False) := by
        intro p e ha hc hk s m args below hf happ hP hT
        exact g_mord (G := G) (by omega) (by omega) p e ha hc hk s m args below hf happ ⟨hP.1, hP.2.1⟩ hT
      have hrun := va_runU (e := e) (below := below) (meth := meth) (H := H) (locs := locs) (cells := cells) (slots := slots) (g := F0 m pc ls' (va_rf (some (g_ex G k)) :: st')) (As := []) (rest := st') (b := g_ex G k) (⟨hx, hb, hml, hown, hts⟩ : CallFix p m c (P_by mi) (P_ml mi) s args k_T (P_y mi).cls) hM hcw ⟨hbl, va_Orecv hO hS, fun U hU hW => ⟨rfl, hE.next hbs hGW hW (fun a h1 h2 => by rw [hU]; exact hS.2.1 a h1 h2), by rw [hU]; exact Nat.le_trans hbs hS.1⟩⟩ rfl rfl hl.1 rfl (g_room hs2 hg2) hd ⟨by omega, by omega⟩
      intro T hT XT
      obtain ⟨v, st₀, t, T', L, h0, X', hL, e1, e2, ⟨hv, hh⟩, stp⟩ := hrun T hT XT
      cases hv
      have hLn : L = [] := by
        cases L with
        | nil => rfl
        | cons q L => exact (hL q List.mem_cons_self).elim
      subst hLn
      rw [List.append_nil] at X'
      have hTH : T'.heap = H := by rw [e1, hh, h0]
      obtain ⟨t2, a1, b1⟩ := K T'.heap locs cells slots ls' (.int (Int32.ofInt ((k : Int) - 4)) :: st') (by rw [hTH]; exact hR) (by rw [hTH]; exact hS) hc hsl hl ⟨⟨_, rfl, g_ofInt (by omega)⟩, hs2⟩ T' rfl X'
      exact ⟨t2, stp t2 a1, b1⟩
  · exact absurd hq e_pick0
theorem g_stp {pc nx d op a b : Nat} {ls : E_L} {st : List E_V} {h : E_H} {sl0 k e0 : Int} {ll : List Nat} {q : Nat × E_L × List E_V × E_H} (X : g_X G p s m args meth c mi) (hok : k_ok mi pc (op, a, b, k, e0, nx, ll) = true) (hq : e_pick (e_stp d op a b k e0 nx ll ls st h) = some q) (hB : g_B G R s sl0 d q.2.2.2) (K : g_K G p l e R s m args below meth c Q mi sl0 q.1 q.2.1 q.2.2.1 q.2.2.2) : g_K G p l e R s m args below meth c Q mi sl0 pc ls st h := by
  by_cases h0 : op < 47
  · match op, h0, hok, hq with
    | 0, _, hok, hq => exact g_o0 X hok hq hB K
    | 1, _, hok, hq => exact g_o1 X hok hq hB K
    | 2, _, hok, hq => exact g_o2 X hok hq hB K
    | 3, _, hok, hq => exact g_o3 X hok hq hB K
    | 4, _, hok, hq => exact g_o4 X hok hq hB K
    | 5, _, hok, hq => exact g_o5 X hok hq hB K
    | 6, _, hok, hq => exact g_o6 X hok hq hB K
    | 7, _, hok, hq => exact g_o7 X hok hq hB K
    | 8, _, hok, hq => exact g_o8 X hok hq hB K
    | 9, _, hok, hq => exact g_o9 X hok hq hB K
    | 10, _, hok, hq => exact g_o10 X hok hq hB K
    | 11, _, hok, hq => exact g_o11 X hok hq hB K
    | 12, _, hok, hq => exact g_o12 X hok hq hB K
    | 13, _, hok, hq => exact g_o13 X hok hq hB K
    | 14, _, hok, hq => exact g_o14 X hok hq hB K
    | 15, _, hok, hq => exact g_o15 X hok hq hB K
    | 16, _, hok, hq => exact g_o16 X hok hq hB K
    | 17, _, hok, hq => exact g_o17 X hok hq hB K
    | 18, _, hok, hq => exact g_o18 X hok hq hB K
    | 19, _, hok, hq => exact absurd hq e_pick0
    | 20, _, hok, hq => exact absurd hq e_pick0
    | 21, _, hok, hq => exact absurd hq e_pick0
    | 22, _, hok, hq => exact g_o22 X hok hq hB K
    | 23, _, hok, hq => exact g_o23 X hok hq hB K
    | 24, _, hok, hq => exact g_o24 X hok hq hB K
    | 25, _, hok, hq => exact g_o25 X hok hq hB K
    | 26, _, hok, hq => exact g_o26 X hok hq hB K
    | 27, _, hok, hq => exact g_o27 X hok hq hB K
    | 28, _, hok, hq => exact g_o28 X hok hq hB K
    | 29, _, hok, hq => exact g_o29 X hok hq hB K
    | 30, _, hok, hq => exact g_o30 X hok hq hB K
    | 31, _, hok, hq => exact g_o31 X hok hq hB K
    | 32, _, hok, hq => exact g_o32 X hok hq hB K
    | 33, _, hok, hq => exact g_o33 X hok hq hB K
    | 34, _, hok, hq => exact g_o34 X hok hq hB K
    | 35, _, hok, hq => exact g_o35 X hok hq hB K
    | 36, _, hok, hq => exact g_o36 X hok hq hB K
    | 37, _, hok, hq => exact g_o37 X hok hq hB K
    | 38, _, hok, hq => exact absurd hq e_pick0
    | 39, _, hok, hq => exact absurd hq e_pick0
    | 40, _, hok, hq => exact g_o40 X hok hq hB K
    | 41, _, hok, hq => exact g_o41 X hok hq hB K
    | 42, _, hok, hq => exact g_o42 X hok hq hB K
    | 43, _, hok, hq => exact g_o43 X hok hq hB K
    | 44, _, hok, hq => exact g_o44 X hok hq hB K
    | 45, _, hok, hq => exact g_o45 X hok hq hB K
    | 46, _, hok, hq => exact g_o46 X hok hq hB K
    | n + 47, h0, _, _ => omega
  · obtain ⟨n, rfl⟩ : ∃ n, op = n + 47 := ⟨op - 47, by omega⟩
    exact absurd hq e_pick0
theorem k_55 : P_tbs.all (fun T => T.all (fun r => if r.2.1 = 55 then decide ((P_y r.2.2.2.1).name = (P_y r.2.2.1).name) && (decide ((P_y r.2.2.2.1).desc = (P_y r.2.2.1).desc) && (decide (K_C 2 = (P_y r.2.2.1).cls) && decide (K_C 9 = (P_y r.2.2.2.1).cls))) else true)) = true := by decide +kernel
theorem k_55S {mi pc a b nx : Nat} {k e0 : Int} {ll : List Nat} (h : P_cd mi pc = (55, a, b, k, e0, nx, ll)) : (P_y b).name = (P_y a).name ∧ (P_y b).desc = (P_y a).desc ∧ K_C 2 = (P_y a).cls ∧ K_C 9 = (P_y b).cls := by
  have lk : ∀ {T : List (Nat × E_I)}, T.all (fun r => if r.2.1 = 55 then decide ((P_y r.2.2.2.1).name = (P_y r.2.2.1).name) && (decide ((P_y r.2.2.2.1).desc = (P_y r.2.2.1).desc) && (decide (K_C 2 = (P_y r.2.2.1).cls) && decide (K_C 9 = (P_y r.2.2.2.1).cls))) else true) = true → e_lk T pc = (55, a, b, k, e0, nx, ll) → (P_y b).name = (P_y a).name ∧ (P_y b).desc = (P_y a).desc ∧ K_C 2 = (P_y a).cls ∧ K_C 9 = (P_y b).cls := by
    intro T
    induction T with
    | nil =>
      intro _ h
      have h : (99 : Nat) = 55 := congrArg (fun q => q.1) h
      exact absurd h (by decide)
    | cons q T ih =>
      obtain ⟨p, ai⟩ := q
      intro hall h
      rw [List.all_cons, Bool.and_eq_true] at hall
      unfold e_lk at h
      split at h
      · subst h
        have h1 := hall.1
        dsimp only at h1
        rw [if_pos rfl] at h1
        simp only [Bool.and_eq_true, decide_eq_true_eq] at h1
        exact h1
      · exact ih hall.2 h
  unfold P_cd P_tb at h
  rw [List.getD_eq_getElem?_getD] at h
  cases hT : P_tbs[mi]? with
  | none =>
    rw [hT] at h
    have h : (99 : Nat) = 55 := congrArg (fun q => q.1) h
    exact absurd h (by decide)
  | some T =>
    rw [hT] at h
    exact lk (List.all_eq_true.mp k_55 T (List.mem_of_getElem? hT)) h
set_option maxHeartbeats 4000000 in
theorem g_sound (l : Launch) : ∀ n, g_Sound l n := by
  intro n
  induction n with
  | zero =>
    intro G p e R s m args below meth c Q d mi pc ls st h h1 r sl0 hr
    simp [e_run] at hr
  | succ n ih =>
    intro G p e R s m args below meth c Q d mi pc ls st h h1 r sl0 hr X hB Z
    unfold e_run at hr
    cases hai : P_cd mi pc with
    | mk op ai =>
    obtain ⟨a, b, k, e0, nx, ll⟩ := ai
    have hok99 : op ≠ 99 → k_ok mi pc (op, a, b, k, e0, nx, ll) = true := fun z => by
      rw [← hai]
      exact k_okall (by rw [hai]; exact z)
    rw [hai] at hr
    dsimp only at hr
    by_cases h50 : op < 50
    · have hok := hok99 (by omega)
      rw [if_pos h50] at hr
      by_cases hre : op = 19 ∨ op = 20 ∨ op = 21
      · rw [if_pos hre] at hr
        obtain ⟨x, hx, he⟩ := Option.map_eq_some_iff.mp hr
        cases he
        exact g_ret hre hok hx Z
      · rw [if_neg hre] at hr
        obtain ⟨q, hq, hr⟩ := Option.bind_eq_some_iff.mp hr
        have hle := e_run_le hr
        exact g_stp X hok hq ⟨by have := hB.1; omega, by have := hB.2.1; omega, hB.2.2⟩ (ih G p e R s m args below meth c Q d mi _ _ _ _ h1 r sl0 hr X hB Z)
    · rw [if_neg h50] at hr
      obtain ⟨t, ht, hr⟩ := Option.bind_eq_some_iff.mp hr
      split at hr
      · rename_i hcond
        obtain ⟨⟨r1, h'⟩, hq, hr⟩ := Option.bind_eq_some_iff.mp hr
        have hle1 := e_run_le hr
        have K := ih G p e R s m args below meth c Q d mi _ _ _ _ h1 r sl0 hr X hB Z
        dsimp only at hle1 K
        unfold e_tgt at ht
        split at ht
        · rw [e_pick1] at ht
          obtain ⟨-, rfl⟩ := ht
          exact g_o50 ih X (hok99 (by decide)) hcond hq hB hle1 K
        · rename_i x as hta
          rw [e_pick1, decide_eq_true_eq] at ht
          obtain ⟨hx0, rfl⟩ := ht
          exact g_o51 ih X (Or.inl (hok99 (by decide))) hcond hta hx0 hq hB hle1 K
        · rename_i x as hta
          rw [e_pick1, decide_eq_true_eq] at ht
          obtain ⟨hx0, rfl⟩ := ht
          exact g_o51 ih X (Or.inr (hok99 (by decide))) hcond hta hx0 hq hB hle1 K
        · rename_i x as hta
          rw [e_pick1, decide_eq_true_eq] at ht
          obtain ⟨hx0, rfl⟩ := ht
          exact g_o53 ih X (Or.inl (hok99 (by decide))) hcond hta hx0 hq hB hle1 K
        · rename_i x as hta
          rw [e_pick1, decide_eq_true_eq] at ht
          obtain ⟨hx0, rfl⟩ := ht
          exact g_o53 ih X (Or.inr (hok99 (by decide))) hcond hta hx0 hq hB hle1 K
        · rename_i x as hta
          rw [e_pick2, decide_eq_true_eq, decide_eq_true_eq] at ht
          obtain ⟨n1, n2, n3, n4⟩ := k_55S hai
          have hok := hok99 (by decide)
          simp only [k_ok] at hok
          split at hok
          · rename_i i ti cn
            simp only [k_dc, Bool.and_eq_true, decide_eq_true_eq] at hok
            obtain ⟨⟨hd, hnx⟩, hk1, hk3, hk4, hfa, hfb⟩ := hok
            rcases ht with ⟨hx0, rfl⟩ | ⟨-, hx0, rfl⟩
            · exact g_o55 (ci := 2) ih X hd hnx hk1 ⟨rfl, rfl⟩ hk3 hfa (by omega) n3 hcond hta (by omega) hq hB hle1 K
            · exact g_o55 (ci := 9) ih X hd hnx hk1 ⟨n1, n2⟩ hk4 hfb (by omega) n4 hcond hta (by omega) hq hB hle1 K
          · cases hok
        · exact absurd ht e_pick0
      · cases hr
end GF
