/-! ===== rows for simp: one instruction, one row (nothing is unfolded that is not met) ===== -/
def s_ldv (w : Nat) (v : Option (Option E_V)) (nx : Nat) (ls : E_L) (st : List E_V) (h : E_H) : List E_B := match w, v with
  | 0, some (some (.inl x)) => [(true, nx, ls, .inl x :: st, h)]
  | 1, some (some (.inr x)) => [(true, nx, ls, .inr x :: st, h)]
  | _, _ => []
def s_icv (c : Int) (a : Nat) (v : Option (Option E_V)) (nx : Nat) (ls : E_L) (st : List E_V) (h : E_H) : List E_B := match v with
  | some (some (.inl x)) => [(e_inR (x + c), nx, ls.set a (some (.inl (x + c))), st, h)]
  | _ => []
theorem n_0 {stops : List Nat} {d mi : Nat} {Q : Option E_V → E_H → Prop} {n : Nat} {a b nx : Nat} {c e : Int} {l : List Nat} {ls : E_L} {st : List E_V} {h : E_H} : e_ins stops d mi Q n (0, a, b, c, e, nx, l) ls st h = e_sel (e_go stops d mi Q n) ([(true, nx, ls, .inl c :: st, h)]) := rfl
theorem n_1 {stops : List Nat} {d mi : Nat} {Q : Option E_V → E_H → Prop} {n : Nat} {a b nx : Nat} {c e : Int} {l : List Nat} {ls : E_L} {st : List E_V} {h : E_H} : e_ins stops d mi Q n (1, a, b, c, e, nx, l) ls st h = e_sel (e_go stops d mi Q n) ([(true, nx, ls, .inr 0 :: st, h)]) := rfl
theorem n_2 {stops : List Nat} {d mi : Nat} {Q : Option E_V → E_H → Prop} {n : Nat} {a b nx : Nat} {c e : Int} {l : List Nat} {ls : E_L} {st : List E_V} {h : E_H} : e_ins stops d mi Q n (2, a, b, c, e, nx, l) ls st h = e_sel (e_go stops d mi Q n) (s_ldv 0 ls[a]? nx ls st h) := rfl
theorem n_3 {stops : List Nat} {d mi : Nat} {Q : Option E_V → E_H → Prop} {n : Nat} {a b nx : Nat} {c e : Int} {l : List Nat} {ls : E_L} {st : List E_V} {h : E_H} : e_ins stops d mi Q n (3, a, b, c, e, nx, l) ls st h = e_sel (e_go stops d mi Q n) (s_ldv 1 ls[a]? nx ls st h) := rfl
theorem n_4 {stops : List Nat} {d mi : Nat} {Q : Option E_V → E_H → Prop} {n : Nat} {a b nx : Nat} {c e : Int} {l : List Nat} {ls : E_L} {st : List E_V} {h : E_H} : e_ins stops d mi Q n (4, a, b, c, e, nx, l) ls st h = e_sel (e_go stops d mi Q n) (s_st 0 a nx ls st h) := rfl
theorem n_5 {stops : List Nat} {d mi : Nat} {Q : Option E_V → E_H → Prop} {n : Nat} {a b nx : Nat} {c e : Int} {l : List Nat} {ls : E_L} {st : List E_V} {h : E_H} : e_ins stops d mi Q n (5, a, b, c, e, nx, l) ls st h = e_sel (e_go stops d mi Q n) (s_st 1 a nx ls st h) := rfl
theorem n_6 {stops : List Nat} {d mi : Nat} {Q : Option E_V → E_H → Prop} {n : Nat} {a b nx : Nat} {c e : Int} {l : List Nat} {ls : E_L} {st : List E_V} {h : E_H} : e_ins stops d mi Q n (6, a, b, c, e, nx, l) ls st h = e_sel (e_go stops d mi Q n) (s_icv c a ls[a]? nx ls st h) := rfl
theorem n_7 {stops : List Nat} {d mi : Nat} {Q : Option E_V → E_H → Prop} {n : Nat} {a b nx : Nat} {c e : Int} {l : List Nat} {ls : E_L} {st : List E_V} {h : E_H} : e_ins stops d mi Q n (7, a, b, c, e, nx, l) ls st h = e_sel (e_go stops d mi Q n) (s_bin b nx ls st h) := rfl
theorem n_8 {stops : List Nat} {d mi : Nat} {Q : Option E_V → E_H → Prop} {n : Nat} {a b nx : Nat} {c e : Int} {l : List Nat} {ls : E_L} {st : List E_V} {h : E_H} : e_ins stops d mi Q n (8, a, b, c, e, nx, l) ls st h = e_sel (e_go stops d mi Q n) (s_i2b nx ls st h) := rfl
theorem n_9 {stops : List Nat} {d mi : Nat} {Q : Option E_V → E_H → Prop} {n : Nat} {a b nx : Nat} {c e : Int} {l : List Nat} {ls : E_L} {st : List E_V} {h : E_H} : e_ins stops d mi Q n (9, a, b, c, e, nx, l) ls st h = e_sel (e_go stops d mi Q n) (s_dup nx ls st h) := rfl
theorem n_10 {stops : List Nat} {d mi : Nat} {Q : Option E_V → E_H → Prop} {n : Nat} {a b nx : Nat} {c e : Int} {l : List Nat} {ls : E_L} {st : List E_V} {h : E_H} : e_ins stops d mi Q n (10, a, b, c, e, nx, l) ls st h = e_sel (e_go stops d mi Q n) (s_pop nx ls st h) := rfl
theorem n_11 {stops : List Nat} {d mi : Nat} {Q : Option E_V → E_H → Prop} {n : Nat} {a b nx : Nat} {c e : Int} {l : List Nat} {ls : E_L} {st : List E_V} {h : E_H} : e_ins stops d mi Q n (11, a, b, c, e, nx, l) ls st h = e_sel (e_go stops d mi Q n) (s_dx1 nx ls st h) := rfl
theorem n_12 {stops : List Nat} {d mi : Nat} {Q : Option E_V → E_H → Prop} {n : Nat} {a b nx : Nat} {c e : Int} {l : List Nat} {ls : E_L} {st : List E_V} {h : E_H} : e_ins stops d mi Q n (12, a, b, c, e, nx, l) ls st h = e_sel (e_go stops d mi Q n) (s_if b a nx ls st h) := rfl
theorem n_13 {stops : List Nat} {d mi : Nat} {Q : Option E_V → E_H → Prop} {n : Nat} {a b nx : Nat} {c e : Int} {l : List Nat} {ls : E_L} {st : List E_V} {h : E_H} : e_ins stops d mi Q n (13, a, b, c, e, nx, l) ls st h = e_sel (e_go stops d mi Q n) (s_icm b a nx ls st h) := rfl
theorem n_14 {stops : List Nat} {d mi : Nat} {Q : Option E_V → E_H → Prop} {n : Nat} {a b nx : Nat} {c e : Int} {l : List Nat} {ls : E_L} {st : List E_V} {h : E_H} : e_ins stops d mi Q n (14, a, b, c, e, nx, l) ls st h = e_sel (e_go stops d mi Q n) (s_acm b a nx ls st h) := rfl
theorem n_15 {stops : List Nat} {d mi : Nat} {Q : Option E_V → E_H → Prop} {n : Nat} {a b nx : Nat} {c e : Int} {l : List Nat} {ls : E_L} {st : List E_V} {h : E_H} : e_ins stops d mi Q n (15, a, b, c, e, nx, l) ls st h = e_sel (e_go stops d mi Q n) (s_nul 0 a nx ls st h) := rfl
theorem n_16 {stops : List Nat} {d mi : Nat} {Q : Option E_V → E_H → Prop} {n : Nat} {a b nx : Nat} {c e : Int} {l : List Nat} {ls : E_L} {st : List E_V} {h : E_H} : e_ins stops d mi Q n (16, a, b, c, e, nx, l) ls st h = e_sel (e_go stops d mi Q n) (s_nul 1 a nx ls st h) := rfl
theorem n_17 {stops : List Nat} {d mi : Nat} {Q : Option E_V → E_H → Prop} {n : Nat} {a b nx : Nat} {c e : Int} {l : List Nat} {ls : E_L} {st : List E_V} {h : E_H} : e_ins stops d mi Q n (17, a, b, c, e, nx, l) ls st h = e_sel (e_go stops d mi Q n) ([(true, a, ls, st, h)]) := rfl
theorem n_18 {stops : List Nat} {d mi : Nat} {Q : Option E_V → E_H → Prop} {n : Nat} {a b nx : Nat} {c e : Int} {l : List Nat} {ls : E_L} {st : List E_V} {h : E_H} : e_ins stops d mi Q n (18, a, b, c, e, nx, l) ls st h = e_sel (e_go stops d mi Q n) (s_sw c l a ls st h) := rfl
theorem n_19 {stops : List Nat} {d mi : Nat} {Q : Option E_V → E_H → Prop} {n : Nat} {a b nx : Nat} {c e : Int} {l : List Nat} {ls : E_L} {st : List E_V} {h : E_H} : e_ins stops d mi Q n (19, a, b, c, e, nx, l) ls st h = e_sel (e_rt Q h) (e_ret 19 b st) := rfl
theorem n_20 {stops : List Nat} {d mi : Nat} {Q : Option E_V → E_H → Prop} {n : Nat} {a b nx : Nat} {c e : Int} {l : List Nat} {ls : E_L} {st : List E_V} {h : E_H} : e_ins stops d mi Q n (20, a, b, c, e, nx, l) ls st h = e_sel (e_rt Q h) (e_ret 20 b st) := rfl
theorem n_21 {stops : List Nat} {d mi : Nat} {Q : Option E_V → E_H → Prop} {n : Nat} {a b nx : Nat} {c e : Int} {l : List Nat} {ls : E_L} {st : List E_V} {h : E_H} : e_ins stops d mi Q n (21, a, b, c, e, nx, l) ls st h = e_sel (e_rt Q h) (e_ret 21 b st) := rfl
theorem n_22 {stops : List Nat} {d mi : Nat} {Q : Option E_V → E_H → Prop} {n : Nat} {a b nx : Nat} {c e : Int} {l : List Nat} {ls : E_L} {st : List E_V} {h : E_H} : e_ins stops d mi Q n (22, a, b, c, e, nx, l) ls st h = e_sel (e_go stops d mi Q n) (s_get 0 c e nx ls st h) := rfl
theorem n_23 {stops : List Nat} {d mi : Nat} {Q : Option E_V → E_H → Prop} {n : Nat} {a b nx : Nat} {c e : Int} {l : List Nat} {ls : E_L} {st : List E_V} {h : E_H} : e_ins stops d mi Q n (23, a, b, c, e, nx, l) ls st h = e_sel (e_go stops d mi Q n) (s_get 1 c e nx ls st h) := rfl
theorem n_24 {stops : List Nat} {d mi : Nat} {Q : Option E_V → E_H → Prop} {n : Nat} {a b nx : Nat} {c e : Int} {l : List Nat} {ls : E_L} {st : List E_V} {h : E_H} : e_ins stops d mi Q n (24, a, b, c, e, nx, l) ls st h = e_sel (e_go stops d mi Q n) (s_put 0 c e nx ls st h) := rfl
theorem n_25 {stops : List Nat} {d mi : Nat} {Q : Option E_V → E_H → Prop} {n : Nat} {a b nx : Nat} {c e : Int} {l : List Nat} {ls : E_L} {st : List E_V} {h : E_H} : e_ins stops d mi Q n (25, a, b, c, e, nx, l) ls st h = e_sel (e_go stops d mi Q n) (s_put 1 c e nx ls st h) := rfl
theorem n_26 {stops : List Nat} {d mi : Nat} {Q : Option E_V → E_H → Prop} {n : Nat} {a b nx : Nat} {c e : Int} {l : List Nat} {ls : E_L} {st : List E_V} {h : E_H} : e_ins stops d mi Q n (26, a, b, c, e, nx, l) ls st h = e_sel (e_go stops d mi Q n) (s_put 2 c e nx ls st h) := rfl
theorem n_27 {stops : List Nat} {d mi : Nat} {Q : Option E_V → E_H → Prop} {n : Nat} {a b nx : Nat} {c e : Int} {l : List Nat} {ls : E_L} {st : List E_V} {h : E_H} : e_ins stops d mi Q n (27, a, b, c, e, nx, l) ls st h = e_sel (e_go stops d mi Q n) ([(true, nx, ls, .inr c :: st, h)]) := rfl
theorem n_28 {stops : List Nat} {d mi : Nat} {Q : Option E_V → E_H → Prop} {n : Nat} {a b nx : Nat} {c e : Int} {l : List Nat} {ls : E_L} {st : List E_V} {h : E_H} : e_ins stops d mi Q n (28, a, b, c, e, nx, l) ls st h = e_sel (e_go stops d mi Q n) (s_new c e nx ls st h) := rfl
theorem n_29 {stops : List Nat} {d mi : Nat} {Q : Option E_V → E_H → Prop} {n : Nat} {a b nx : Nat} {c e : Int} {l : List Nat} {ls : E_L} {st : List E_V} {h : E_H} : e_ins stops d mi Q n (29, a, b, c, e, nx, l) ls st h = e_sel (e_go stops d mi Q n) (s_nwa c nx ls st h) := rfl
theorem n_30 {stops : List Nat} {d mi : Nat} {Q : Option E_V → E_H → Prop} {n : Nat} {a b nx : Nat} {c e : Int} {l : List Nat} {ls : E_L} {st : List E_V} {h : E_H} : e_ins stops d mi Q n (30, a, b, c, e, nx, l) ls st h = e_sel (e_go stops d mi Q n) (s_ild nx ls st h) := rfl
theorem n_31 {stops : List Nat} {d mi : Nat} {Q : Option E_V → E_H → Prop} {n : Nat} {a b nx : Nat} {c e : Int} {l : List Nat} {ls : E_L} {st : List E_V} {h : E_H} : e_ins stops d mi Q n (31, a, b, c, e, nx, l) ls st h = e_sel (e_go stops d mi Q n) (s_ist nx ls st h) := rfl
theorem n_32 {stops : List Nat} {d mi : Nat} {Q : Option E_V → E_H → Prop} {n : Nat} {a b nx : Nat} {c e : Int} {l : List Nat} {ls : E_L} {st : List E_V} {h : E_H} : e_ins stops d mi Q n (32, a, b, c, e, nx, l) ls st h = e_sel (e_go stops d mi Q n) (s_bld nx ls st h) := rfl
theorem n_33 {stops : List Nat} {d mi : Nat} {Q : Option E_V → E_H → Prop} {n : Nat} {a b nx : Nat} {c e : Int} {l : List Nat} {ls : E_L} {st : List E_V} {h : E_H} : e_ins stops d mi Q n (33, a, b, c, e, nx, l) ls st h = e_sel (e_go stops d mi Q n) (s_bst nx ls st h) := rfl
theorem n_34 {stops : List Nat} {d mi : Nat} {Q : Option E_V → E_H → Prop} {n : Nat} {a b nx : Nat} {c e : Int} {l : List Nat} {ls : E_L} {st : List E_V} {h : E_H} : e_ins stops d mi Q n (34, a, b, c, e, nx, l) ls st h = e_sel (e_go stops d mi Q n) (s_ald nx ls st h) := rfl
theorem n_35 {stops : List Nat} {d mi : Nat} {Q : Option E_V → E_H → Prop} {n : Nat} {a b nx : Nat} {c e : Int} {l : List Nat} {ls : E_L} {st : List E_V} {h : E_H} : e_ins stops d mi Q n (35, a, b, c, e, nx, l) ls st h = e_sel (e_go stops d mi Q n) (s_ast nx ls st h) := rfl
theorem n_36 {stops : List Nat} {d mi : Nat} {Q : Option E_V → E_H → Prop} {n : Nat} {a b nx : Nat} {c e : Int} {l : List Nat} {ls : E_L} {st : List E_V} {h : E_H} : e_ins stops d mi Q n (36, a, b, c, e, nx, l) ls st h = e_sel (e_go stops d mi Q n) (s_len nx ls st h) := rfl
theorem n_37 {stops : List Nat} {d mi : Nat} {Q : Option E_V → E_H → Prop} {n : Nat} {a b nx : Nat} {c e : Int} {l : List Nat} {ls : E_L} {st : List E_V} {h : E_H} : e_ins stops d mi Q n (37, a, b, c, e, nx, l) ls st h = e_sel (e_go stops d mi Q n) (s_cst c nx ls st h) := rfl
theorem n_40 {stops : List Nat} {d mi : Nat} {Q : Option E_V → E_H → Prop} {n : Nat} {a b nx : Nat} {c e : Int} {l : List Nat} {ls : E_L} {st : List E_V} {h : E_H} : e_ins stops d mi Q n (40, a, b, c, e, nx, l) ls st h = e_sel (e_go stops d mi Q n) (s_oin d nx ls st h) := rfl
theorem n_41 {stops : List Nat} {d mi : Nat} {Q : Option E_V → E_H → Prop} {n : Nat} {a b nx : Nat} {c e : Int} {l : List Nat} {ls : E_L} {st : List E_V} {h : E_H} : e_ins stops d mi Q n (41, a, b, c, e, nx, l) ls st h = e_sel (e_go stops d mi Q n) (s_cpy d nx ls st h) := rfl
theorem n_42 {stops : List Nat} {d mi : Nat} {Q : Option E_V → E_H → Prop} {n : Nat} {a b nx : Nat} {c e : Int} {l : List Nat} {ls : E_L} {st : List E_V} {h : E_H} : e_ins stops d mi Q n (42, a, b, c, e, nx, l) ls st h = e_sel (e_go stops d mi Q n) (s_gcl d nx ls st h) := rfl
theorem n_44 {stops : List Nat} {d mi : Nat} {Q : Option E_V → E_H → Prop} {n : Nat} {a b nx : Nat} {c e : Int} {l : List Nat} {ls : E_L} {st : List E_V} {h : E_H} : e_ins stops d mi Q n (44, a, b, c, e, nx, l) ls st h = e_sel (e_go stops d mi Q n) (s_ord d nx ls st h) := rfl
theorem n_43 {stops : List Nat} {d mi : Nat} {Q : Option E_V → E_H → Prop} {n : Nat} {a b nx : Nat} {c e : Int} {l : List Nat} {ls : E_L} {st : List E_V} {h : E_H} : e_ins stops d mi Q n (43, a, b, c, e, nx, l) ls st h = e_sel (e_go stops d mi Q n) ([(true, nx, ls, .inr 12 :: st, h)]) := rfl
theorem n_45 {stops : List Nat} {d mi : Nat} {Q : Option E_V → E_H → Prop} {n : Nat} {a b nx : Nat} {c e : Int} {l : List Nat} {ls : E_L} {st : List E_V} {h : E_H} : e_ins stops d mi Q n (45, a, b, c, e, nx, l) ls st h = e_sel (e_go stops d mi Q n) (s_mm 0 d nx ls st h) := rfl
theorem n_46 {stops : List Nat} {d mi : Nat} {Q : Option E_V → E_H → Prop} {n : Nat} {a b nx : Nat} {c e : Int} {l : List Nat} {ls : E_L} {st : List E_V} {h : E_H} : e_ins stops d mi Q n (46, a, b, c, e, nx, l) ls st h = e_sel (e_go stops d mi Q n) (s_mm 1 d nx ls st h) := rfl
theorem n_50 {stops : List Nat} {d mi : Nat} {Q : Option E_V → E_H → Prop} {n : Nat} {a b nx : Nat} {c e : Int} {l : List Nat} {ls : E_L} {st : List E_V} {h : E_H} : e_ins stops d mi Q n (50, a, b, c, e, nx, l) ls st h = e_sel (e_cl stops d mi Q n e.toNat nx ls st h) (e_tgt 50 a b c (st.take e.toNat).reverse h) := rfl
theorem n_51 {stops : List Nat} {d mi : Nat} {Q : Option E_V → E_H → Prop} {n : Nat} {a b nx : Nat} {c e : Int} {l : List Nat} {ls : E_L} {st : List E_V} {h : E_H} : e_ins stops d mi Q n (51, a, b, c, e, nx, l) ls st h = e_sel (e_cl stops d mi Q n e.toNat nx ls st h) (e_tgt 51 a b c (st.take e.toNat).reverse h) := rfl
theorem n_52 {stops : List Nat} {d mi : Nat} {Q : Option E_V → E_H → Prop} {n : Nat} {a b nx : Nat} {c e : Int} {l : List Nat} {ls : E_L} {st : List E_V} {h : E_H} : e_ins stops d mi Q n (52, a, b, c, e, nx, l) ls st h = e_sel (e_cl stops d mi Q n e.toNat nx ls st h) (e_tgt 52 a b c (st.take e.toNat).reverse h) := rfl
theorem n_53 {stops : List Nat} {d mi : Nat} {Q : Option E_V → E_H → Prop} {n : Nat} {a b nx : Nat} {c e : Int} {l : List Nat} {ls : E_L} {st : List E_V} {h : E_H} : e_ins stops d mi Q n (53, a, b, c, e, nx, l) ls st h = e_sel (e_cl stops d mi Q n e.toNat nx ls st h) (e_tgt 53 a b c (st.take e.toNat).reverse h) := rfl
theorem n_54 {stops : List Nat} {d mi : Nat} {Q : Option E_V → E_H → Prop} {n : Nat} {a b nx : Nat} {c e : Int} {l : List Nat} {ls : E_L} {st : List E_V} {h : E_H} : e_ins stops d mi Q n (54, a, b, c, e, nx, l) ls st h = e_sel (e_cl stops d mi Q n e.toNat nx ls st h) (e_tgt 54 a b c (st.take e.toNat).reverse h) := rfl
theorem n_55 {stops : List Nat} {d mi : Nat} {Q : Option E_V → E_H → Prop} {n : Nat} {a b nx : Nat} {c e : Int} {l : List Nat} {ls : E_L} {st : List E_V} {h : E_H} : e_ins stops d mi Q n (55, a, b, c, e, nx, l) ls st h = e_sel (e_cl stops d mi Q n e.toNat nx ls st h) (e_tgt 55 a b c (st.take e.toNat).reverse h) := rfl
theorem f_ldi {nx : Nat} {ls : E_L} {r : List E_V} {h : E_H} {x : Int} : s_ldv 0 (some (some (.inl x))) nx ls r h = [(true, nx, ls, .inl x :: r, h)] := rfl
theorem f_lda {nx : Nat} {ls : E_L} {r : List E_V} {h : E_H} {x : Int} : s_ldv 1 (some (some (.inr x))) nx ls r h = [(true, nx, ls, .inr x :: r, h)] := rfl
theorem f_sti {nx : Nat} {ls : E_L} {r : List E_V} {h : E_H} {x : Int} {a : Nat} : s_st 0 a nx ls (.inl x :: r) h = [(decide (a < ls.length), nx, ls.set a (some (.inl x)), r, h)] := rfl
theorem f_sta {nx : Nat} {ls : E_L} {r : List E_V} {h : E_H} {x : Int} {a : Nat} : s_st 1 a nx ls (.inr x :: r) h = [(decide (a < ls.length), nx, ls.set a (some (.inr x)), r, h)] := rfl
theorem f_inc {nx : Nat} {ls : E_L} {r : List E_V} {h : E_H} {x c : Int} {a : Nat} : s_icv c a (some (some (.inl x))) nx ls r h = [(e_inR (x + c), nx, ls.set a (some (.inl (x + c))), r, h)] := rfl
theorem f_bin0 {nx : Nat} {ls : E_L} {r : List E_V} {h : E_H} {x y : Int} : s_bin 0 nx ls (.inl y :: .inl x :: r) h = [(decide (-2147483648 ≤ x + y ∧ x + y ≤ 2147483647), nx, ls, .inl (x + y) :: r, h)] := rfl
theorem f_bin1 {nx : Nat} {ls : E_L} {r : List E_V} {h : E_H} {x y : Int} : s_bin 1 nx ls (.inl y :: .inl x :: r) h = [(decide (-2147483648 ≤ x - y ∧ x - y ≤ 2147483647), nx, ls, .inl (x - y) :: r, h)] := rfl
theorem f_bin2 {nx : Nat} {ls : E_L} {r : List E_V} {h : E_H} {x y : Int} : s_bin 2 nx ls (.inl y :: .inl x :: r) h = [(decide (-2147483648 ≤ x * y ∧ x * y ≤ 2147483647), nx, ls, .inl (x * y) :: r, h)] := rfl
theorem f_bin3 {nx : Nat} {ls : E_L} {r : List E_V} {h : E_H} {x y : Int} : s_bin 3 nx ls (.inl y :: .inl x :: r) h = [(decide (0 ≤ x ∧ 0 < y), nx, ls, .inl (x / y) :: r, h)] := rfl
theorem f_bin4 {nx : Nat} {ls : E_L} {r : List E_V} {h : E_H} {x y : Int} : s_bin 4 nx ls (.inl y :: .inl x :: r) h = [(decide (y = 1 ∨ y = 3 ∨ y = 31), nx, ls, .inl (x % (y + 1)) :: r, h)] := rfl
theorem f_bin5 {nx : Nat} {ls : E_L} {r : List E_V} {h : E_H} {x y : Int} : s_bin 5 nx ls (.inl y :: .inl x :: r) h = [(decide (0 ≤ x ∧ 0 ≤ y), nx, ls, .inl (((x.toNat ||| y.toNat : Nat) : Int)) :: r, h)] := rfl
theorem f_bin6 {nx : Nat} {ls : E_L} {r : List E_V} {h : E_H} {x y : Int} : s_bin 6 nx ls (.inl y :: .inl x :: r) h = [((decide (0 ≤ y ∧ y < 31) && e_inR (x * 2 ^ y.toNat)), nx, ls, .inl (x * 2 ^ y.toNat) :: r, h)] := rfl
theorem f_bin7 {nx : Nat} {ls : E_L} {r : List E_V} {h : E_H} {x y : Int} : s_bin 7 nx ls (.inl y :: .inl x :: r) h = [(decide (0 ≤ y ∧ y < 32), nx, ls, .inl (x / 2 ^ y.toNat) :: r, h)] := rfl
theorem f_i2b {nx : Nat} {ls : E_L} {r : List E_V} {h : E_H} {x : Int} : s_i2b nx ls (.inl x :: r) h = [(decide (-128 ≤ x ∧ x ≤ 127), nx, ls, .inl x :: r, h)] := rfl
theorem f_dup {nx : Nat} {ls : E_L} {r : List E_V} {h : E_H} {v : E_V} : s_dup nx ls (v :: r) h = [(true, nx, ls, v :: v :: r, h)] := rfl
theorem f_pop {nx : Nat} {ls : E_L} {r : List E_V} {h : E_H} {v : E_V} : s_pop nx ls (v :: r) h = [(true, nx, ls, r, h)] := rfl
theorem f_dx1 {nx : Nat} {ls : E_L} {r : List E_V} {h : E_H} {v w : E_V} : s_dx1 nx ls (v :: w :: r) h = [(true, nx, ls, v :: w :: v :: r, h)] := rfl
theorem f_if0 {nx : Nat} {ls : E_L} {r : List E_V} {h : E_H} {x : Int} {tg : Nat} : s_if 0 tg nx ls (.inl x :: r) h = [(decide (x = 0), tg, ls, r, h), (true, nx, ls, r, h)] := rfl
theorem f_ic0 {nx : Nat} {ls : E_L} {r : List E_V} {h : E_H} {x y : Int} {tg : Nat} : s_icm 0 tg nx ls (.inl y :: .inl x :: r) h = [(decide (x = y), tg, ls, r, h), (true, nx, ls, r, h)] := rfl
theorem f_if1 {nx : Nat} {ls : E_L} {r : List E_V} {h : E_H} {x : Int} {tg : Nat} : s_if 1 tg nx ls (.inl x :: r) h = [(decide (x ≠ 0), tg, ls, r, h), (true, nx, ls, r, h)] := rfl
theorem f_ic1 {nx : Nat} {ls : E_L} {r : List E_V} {h : E_H} {x y : Int} {tg : Nat} : s_icm 1 tg nx ls (.inl y :: .inl x :: r) h = [(decide (x ≠ y), tg, ls, r, h), (true, nx, ls, r, h)] := rfl
theorem f_if2 {nx : Nat} {ls : E_L} {r : List E_V} {h : E_H} {x : Int} {tg : Nat} : s_if 2 tg nx ls (.inl x :: r) h = [(decide (x < 0), tg, ls, r, h), (true, nx, ls, r, h)] := rfl
theorem f_ic2 {nx : Nat} {ls : E_L} {r : List E_V} {h : E_H} {x y : Int} {tg : Nat} : s_icm 2 tg nx ls (.inl y :: .inl x :: r) h = [(decide (x < y), tg, ls, r, h), (true, nx, ls, r, h)] := rfl
theorem f_if3 {nx : Nat} {ls : E_L} {r : List E_V} {h : E_H} {x : Int} {tg : Nat} : s_if 3 tg nx ls (.inl x :: r) h = [(decide (0 ≤ x), tg, ls, r, h), (true, nx, ls, r, h)] := rfl
theorem f_ic3 {nx : Nat} {ls : E_L} {r : List E_V} {h : E_H} {x y : Int} {tg : Nat} : s_icm 3 tg nx ls (.inl y :: .inl x :: r) h = [(decide (y ≤ x), tg, ls, r, h), (true, nx, ls, r, h)] := rfl
theorem f_if4 {nx : Nat} {ls : E_L} {r : List E_V} {h : E_H} {x : Int} {tg : Nat} : s_if 4 tg nx ls (.inl x :: r) h = [(decide (0 < x), tg, ls, r, h), (true, nx, ls, r, h)] := rfl
theorem f_ic4 {nx : Nat} {ls : E_L} {r : List E_V} {h : E_H} {x y : Int} {tg : Nat} : s_icm 4 tg nx ls (.inl y :: .inl x :: r) h = [(decide (y < x), tg, ls, r, h), (true, nx, ls, r, h)] := rfl
theorem f_if5 {nx : Nat} {ls : E_L} {r : List E_V} {h : E_H} {x : Int} {tg : Nat} : s_if 5 tg nx ls (.inl x :: r) h = [(decide (x ≤ 0), tg, ls, r, h), (true, nx, ls, r, h)] := rfl
theorem f_ic5 {nx : Nat} {ls : E_L} {r : List E_V} {h : E_H} {x y : Int} {tg : Nat} : s_icm 5 tg nx ls (.inl y :: .inl x :: r) h = [(decide (x ≤ y), tg, ls, r, h), (true, nx, ls, r, h)] := rfl
theorem f_ac0 {K : Nat × E_L × List E_V × E_H → Prop} {nx tg : Nat} {ls : E_L} {r : List E_V} {h : E_H} {x y : Int} : e_sel K (s_acm 0 tg nx ls (.inr y :: .inr x :: r) h) = ((x = y ∨ (x ≠ 12 ∧ y ≠ 12 ∧ (16 ≤ x ∨ 16 ≤ y ∨ (0 ≤ x ∧ x ≤ 10 ∧ 0 ≤ y ∧ y ≤ 10)))) ∧ (x = y → K (tg, ls, r, h)) ∧ (x ≠ y → K (nx, ls, r, h))) := by
  simp only [s_acm, e_sel, e_aok, e_acm, Bool.and_eq_true, Bool.and_eq_false_iff, decide_eq_true_eq, decide_eq_false_iff_not]
  apply propext
  constructor
  · rintro ⟨h1, h2⟩
    by_cases hxy : x = y
    · exact ⟨Or.inl hxy, fun _ => h1 ⟨Or.inl hxy, hxy⟩, fun z => absurd hxy z⟩
    · obtain ⟨h3, h4⟩ := h2 (Or.inr hxy)
      exact ⟨h3, fun z => absurd z hxy, fun _ => h4⟩
  · rintro ⟨h1, h2, h3⟩
    refine ⟨fun z => h2 z.2, fun z => ⟨h1, h3 ?_⟩⟩
    rcases z with z | z
    · exact absurd h1 z
    · exact z
theorem f_ac1 {K : Nat × E_L × List E_V × E_H → Prop} {nx tg : Nat} {ls : E_L} {r : List E_V} {h : E_H} {x y : Int} : e_sel K (s_acm 1 tg nx ls (.inr y :: .inr x :: r) h) = ((x = y ∨ (x ≠ 12 ∧ y ≠ 12 ∧ (16 ≤ x ∨ 16 ≤ y ∨ (0 ≤ x ∧ x ≤ 10 ∧ 0 ≤ y ∧ y ≤ 10)))) ∧ (x ≠ y → K (tg, ls, r, h)) ∧ (x = y → K (nx, ls, r, h))) := by
  simp only [s_acm, e_sel, e_aok, e_acm, Bool.and_eq_true, Bool.and_eq_false_iff, decide_eq_true_eq, decide_eq_false_iff_not]
  apply propext
  constructor
  · rintro ⟨h1, h2⟩
    by_cases hxy : x = y
    · obtain ⟨h3, h4⟩ := h2 (Or.inr (fun z => z hxy))
      exact ⟨h3, fun z => absurd hxy z, fun _ => h4⟩
    · by_cases hak : (x = y ∨ (x ≠ 12 ∧ y ≠ 12 ∧ (16 ≤ x ∨ 16 ≤ y ∨ (0 ≤ x ∧ x ≤ 10 ∧ 0 ≤ y ∧ y ≤ 10))))
      · exact ⟨hak, fun z => h1 ⟨hak, z⟩, fun z => absurd z hxy⟩
      · obtain ⟨h3, h4⟩ := h2 (Or.inl hak)
        exact absurd h3 hak
  · rintro ⟨h1, h2, h3⟩
    refine ⟨fun z => h2 z.2, fun z => ⟨h1, h3 ?_⟩⟩
    rcases z with z | z
    · exact absurd h1 z
    · exact Decidable.not_not.mp z
theorem f_nu0 {nx : Nat} {ls : E_L} {r : List E_V} {h : E_H} {x : Int} {tg : Nat} : s_nul 0 tg nx ls (.inr x :: r) h = [(decide (x = 0), tg, ls, r, h), (true, nx, ls, r, h)] := rfl
theorem f_nu1 {nx : Nat} {ls : E_L} {r : List E_V} {h : E_H} {x : Int} {tg : Nat} : s_nul 1 tg nx ls (.inr x :: r) h = [(decide (x ≠ 0), tg, ls, r, h), (true, nx, ls, r, h)] := rfl
theorem f_sw {lo : Int} {l : List Nat} {df : Nat} {ls : E_L} {r : List E_V} {h : E_H} {x : Int} : s_sw lo l df ls (.inl x :: r) h = s_swB x lo l df ls r h := rfl
theorem f_sw0 {lo : Int} {df : Nat} {ls : E_L} {r : List E_V} {h : E_H} {x : Int} : s_swB x lo [] df ls r h = [(true, df, ls, r, h)] := rfl
theorem f_sw1 {lo : Int} {t : Nat} {l : List Nat} {df : Nat} {ls : E_L} {r : List E_V} {h : E_H} {x : Int} : s_swB x lo (t :: l) df ls r h = (decide (x = lo), t, ls, r, h) :: s_swB x (lo + 1) l df ls r h := rfl
theorem f_gti {nx : Nat} {ls : E_L} {r : List E_V} {h : E_H} {kd k a : Int} : s_get 0 kd k nx ls (.inr a :: r) h = [(decide (h_kd h a = kd), nx, ls, .inl (h_vl h a k) :: r, h)] := rfl
theorem f_gta {nx : Nat} {ls : E_L} {r : List E_V} {h : E_H} {kd k a : Int} : s_get 1 kd k nx ls (.inr a :: r) h = [(decide (h_kd h a = kd), nx, ls, .inr (h_vl h a k) :: r, h)] := rfl
theorem f_pti {nx : Nat} {ls : E_L} {r : List E_V} {h : E_H} {kd k a x : Int} : s_put 0 kd k nx ls (.inl x :: .inr a :: r) h = [(decide (h_kd h a = kd), nx, ls, r, h_put h a k x)] := rfl
theorem f_pta {nx : Nat} {ls : E_L} {r : List E_V} {h : E_H} {kd k a x : Int} : s_put 1 kd k nx ls (.inr x :: .inr a :: r) h = [(decide (h_kd h a = kd), nx, ls, r, h_put h a k x)] := rfl
theorem f_ptz {nx : Nat} {ls : E_L} {r : List E_V} {h : E_H} {kd k a x : Int} : s_put 2 kd k nx ls (.inl x :: .inr a :: r) h = [(decide (h_kd h a = kd ∧ (x = 0 ∨ x = 1)), nx, ls, r, h_put h a k x)] := rfl
theorem f_new {nx : Nat} {ls : E_L} {r : List E_V} {h : E_H} {kd n : Int} : s_new kd n nx ls r h = [(true, nx, ls, .inr (h_sz h) :: r, h_new h kd 0 n)] := rfl
theorem f_nwa {nx : Nat} {ls : E_L} {r : List E_V} {h : E_H} {kd n : Int} : s_nwa kd nx ls (.inl n :: r) h = [(decide (0 ≤ n ∧ n ≤ 100000), nx, ls, .inr (h_sz h) :: r, h_new h kd n n)] := rfl
theorem f_ild {nx : Nat} {ls : E_L} {r : List E_V} {h : E_H} {i a : Int} : s_ild nx ls (.inl i :: .inr a :: r) h = [(decide (h_kd h a = 20 ∧ 0 ≤ i ∧ i < h_ln h a), nx, ls, .inl (h_vl h a i) :: r, h)] := rfl
theorem f_ist {nx : Nat} {ls : E_L} {r : List E_V} {h : E_H} {x i a : Int} : s_ist nx ls (.inl x :: .inl i :: .inr a :: r) h = [(decide (h_kd h a = 20 ∧ a ≠ 13 ∧ 0 ≤ i ∧ i < h_ln h a), nx, ls, r, h_put h a i x)] := rfl
theorem f_bld {nx : Nat} {ls : E_L} {r : List E_V} {h : E_H} {i a : Int} : s_bld nx ls (.inl i :: .inr a :: r) h = [(decide ((h_kd h a = 21 ∨ h_kd h a = 22) ∧ 0 ≤ i ∧ i < h_ln h a), nx, ls, .inl (h_vl h a i) :: r, h)] := rfl
theorem f_bst {nx : Nat} {ls : E_L} {r : List E_V} {h : E_H} {x i a : Int} : s_bst nx ls (.inl x :: .inl i :: .inr a :: r) h = [(decide (((h_kd h a = 21 ∧ -128 ≤ x ∧ x ≤ 127) ∨ (h_kd h a = 22 ∧ (x = 0 ∨ x = 1))) ∧ 0 ≤ i ∧ i < h_ln h a), nx, ls, r, h_put h a i x)] := rfl
theorem f_ald {nx : Nat} {ls : E_L} {r : List E_V} {h : E_H} {i a : Int} : s_ald nx ls (.inl i :: .inr a :: r) h = [(decide (23 ≤ h_kd h a ∧ 0 ≤ i ∧ i < h_ln h a), nx, ls, .inr (h_vl h a i) :: r, h)] := rfl
theorem f_ast {nx : Nat} {ls : E_L} {r : List E_V} {h : E_H} {x i a : Int} : s_ast nx ls (.inr x :: .inl i :: .inr a :: r) h = [(decide (23 ≤ h_kd h a ∧ 0 ≤ i ∧ i < h_ln h a ∧ (x = 0 ∨ e_stok (h_kd h a) (h_kd h x) = true)), nx, ls, r, h_put h a i x)] := rfl
theorem f_len {nx : Nat} {ls : E_L} {r : List E_V} {h : E_H} {a : Int} : s_len nx ls (.inr a :: r) h = [(decide (20 ≤ h_kd h a), nx, ls, .inl (h_ln h a) :: r, h)] := rfl
theorem f_cst {nx : Nat} {ls : E_L} {r : List E_V} {h : E_H} {kd a : Int} : s_cst kd nx ls (.inr a :: r) h = [(decide (a = 0 ∨ h_kd h a = kd), nx, ls, .inr a :: r, h)] := rfl
theorem f_oin {nx : Nat} {ls : E_L} {r : List E_V} {h : E_H} {d : Nat} {a : Int} : s_oin d nx ls (.inr a :: r) h = [(decide (a ≠ 0 ∧ 0 < d ∧ r.length ≤ 8), nx, ls, r, h)] := rfl
theorem f_gcl {nx : Nat} {ls : E_L} {r : List E_V} {h : E_H} {d : Nat} {a : Int} : s_gcl d nx ls (.inr a :: r) h = [(decide (0 < d ∧ r.length ≤ 8 ∧ h_kd h a = 23 ∧ 16 ≤ a), nx, ls, .inr 12 :: r, h)] := rfl
theorem f_ord {nx : Nat} {ls : E_L} {r : List E_V} {h : E_H} {d : Nat} {a : Int} : s_ord d nx ls (.inr a :: r) h = [(decide (0 < d ∧ r.length ≤ 8 ∧ 5 ≤ a ∧ a ≤ 10), nx, ls, .inl (a - 4) :: r, h)] := rfl
theorem f_mm0 {nx : Nat} {ls : E_L} {r : List E_V} {h : E_H} {d : Nat} {x y : Int} : s_mm 0 d nx ls (.inl y :: .inl x :: r) h = [(decide (0 < d ∧ r.length ≤ 8), nx, ls, .inl (if x < y then y else x) :: r, h)] := rfl
theorem f_mm1 {nx : Nat} {ls : E_L} {r : List E_V} {h : E_H} {d : Nat} {x y : Int} : s_mm 1 d nx ls (.inl y :: .inl x :: r) h = [(decide (0 < d ∧ r.length ≤ 8), nx, ls, .inl (if y < x then y else x) :: r, h)] := rfl
theorem f_cpy {nx : Nat} {ls : E_L} {r : List E_V} {h : E_H} {d : Nat} {n tp t sp a : Int} : s_cpy d nx ls (.inl n :: .inl tp :: .inr t :: .inl sp :: .inr a :: r) h = [(decide (0 < d ∧ r.length ≤ 8 ∧ h_kd h a = 23 ∧ h_kd h t = 23 ∧ 16 ≤ a ∧ 16 ≤ t ∧ 0 ≤ n ∧ 0 ≤ sp ∧ 0 ≤ tp ∧ sp + n ≤ h_ln h a ∧ tp + n ≤ h_ln h t) && (List.range n.toNat).all (fun i => decide (h_vl h a (sp + i) = 0) || e_stok 23 (h_kd h (h_vl h a (sp + i)))), nx, ls, r, h_cpy h a sp t tp n)] := rfl
theorem f_re0 {x : Int} : e_ret 19 0 [.inl x] = [(decide ((0 : Nat) = 0 ∨ x = 0 ∨ x = 1), some (.inl x))] := rfl
theorem f_re1 {x : Int} : e_ret 19 1 [.inl x] = [(decide ((1 : Nat) = 0 ∨ x = 0 ∨ x = 1), some (.inl x))] := rfl
theorem f_rea {b : Nat} {x : Int} : e_ret 20 b [.inr x] = [(true, some (.inr x))] := rfl
theorem f_rev {b : Nat} : e_ret 21 b [] = [(true, none)] := rfl
theorem f_t50 {a b : Nat} {c : Int} {as : List E_V} {h : E_H} : e_tgt 50 a b c as h = [(true, a)] := rfl
theorem f_t51 {a b : Nat} {c x : Int} {as : List E_V} {h : E_H} : e_tgt 51 a b c (.inr x :: as) h = [(decide (x ≠ 0), a)] := rfl
theorem f_t52 {a b : Nat} {c x : Int} {as : List E_V} {h : E_H} : e_tgt 52 a b c (.inr x :: as) h = [(decide (x ≠ 0), a)] := rfl
theorem f_t53 {a b : Nat} {c x : Int} {as : List E_V} {h : E_H} : e_tgt 53 a b c (.inr x :: as) h = [(decide (h_kd h x = c), a)] := rfl
theorem f_t54 {a b : Nat} {c x : Int} {as : List E_V} {h : E_H} : e_tgt 54 a b c (.inr x :: as) h = [(decide (h_kd h x = c), a)] := rfl
theorem f_t55 {a b : Nat} {c x : Int} {as : List E_V} {h : E_H} : e_tgt 55 a b c (.inr x :: as) h = [(decide (h_kd h x = 3), a), (decide (h_kd h x = 10), b)] := rfl
theorem f_s1 {α : Type} {K : α → Prop} {c : Bool} {x : α} : e_sel K [(c, x)] = (c = true ∧ K x) := rfl
theorem f_st {α : Type} {K : α → Prop} {x : α} : e_sel K [(true, x)] = K x := by simp [e_sel]
theorem f_s2 {α : Type} {K : α → Prop} {c : Bool} {x y : α} {p : Prop} {hp : Decidable p} : e_sel K [(@decide p hp, x), (true, y)] = ((p → K x) ∧ (¬ p → K y)) := by simp [e_sel]
theorem f_s3 {α : Type} {K : α → Prop} {c c' : Bool} {x y : α} : e_sel K [(c, x), (c', y)] = ((c = true → K x) ∧ (c = false → c' = true ∧ K y)) := rfl
theorem f_sn {α : Type} {K : α → Prop} {x : α} {y : Bool × α} {t : List (Bool × α)} {p : Prop} {hp : Decidable p} : e_sel K ((@decide p hp, x) :: y :: t) = ((p → K x) ∧ (¬ p → e_sel K (y :: t))) := by simp [e_sel]
theorem f_sd {α : Type} {K : α → Prop} {x : α} {p : Prop} {hp : Decidable p} : e_sel K [(@decide p hp, x)] = (p ∧ K x) := by simp [e_sel]
def e_gs (b : Bool) (stops : List Nat) (d mi : Nat) (Q : Option E_V → E_H → Prop) (n pc : Nat) (ls : E_L) (st : List E_V) (h : E_H) : Prop := if b = true then e_wpc d mi pc ls st h Q else e_blk stops d mi Q n pc ls st h
theorem g_go {stops : List Nat} {d mi : Nat} {Q : Option E_V → E_H → Prop} {n pc : Nat} {ls : E_L} {st : List E_V} {h : E_H} : e_go stops d mi Q n (pc, ls, st, h) = e_gs (e_in pc stops) stops d mi Q n pc ls st h := rfl
theorem g_bks {stops : List Nat} {d mi : Nat} {Q : Option E_V → E_H → Prop} {n nx : Nat} {ls : E_L} {rest : List E_V} {v : E_V} {h : E_H} : e_bk stops d mi Q n nx ls rest (some v) h = e_gs (e_in nx stops) stops d mi Q n nx ls (v :: rest) h := rfl
theorem g_bkn {stops : List Nat} {d mi : Nat} {Q : Option E_V → E_H → Prop} {n nx : Nat} {ls : E_L} {rest : List E_V} {h : E_H} : e_bk stops d mi Q n nx ls rest none h = e_gs (e_in nx stops) stops d mi Q n nx ls rest h := rfl
theorem g_gst {stops : List Nat} {d mi : Nat} {Q : Option E_V → E_H → Prop} {n pc : Nat} {ls : E_L} {st : List E_V} {h : E_H} : e_gs true stops d mi Q n pc ls st h = e_wpc d mi pc ls st h Q := rfl
theorem g_gsf {stops : List Nat} {d mi : Nat} {Q : Option E_V → E_H → Prop} {n pc : Nat} {ls : E_L} {st : List E_V} {h : E_H} : e_gs false stops d mi Q n pc ls st h = e_blk stops d mi Q n pc ls st h := rfl
