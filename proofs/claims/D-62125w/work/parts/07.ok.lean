def P_ixs : List (Nat × Nat × Nat × Nat × Nat × Nat) := [(94, 67, 93, 0, 1, 0), (104, 70, 103, 0, 1, 0), (107, 69, 106, 0, 1, 0), (110, 68, 109, 0, 1, 0), (132, 71, 131, 0, 1, 0), (148, 72, 147, 0, 1, 1), (262, 67, 260, 261, 2, 0), (266, 70, 264, 265, 2, 0), (271, 74, 270, 0, 1, 0), (302, 70, 300, 301, 2, 1), (306, 70, 305, 0, 2, 3), (310, 70, 309, 1, 2, 0), (314, 70, 313, 2, 2, 1), (317, 77, 316, 0, 0, 3), (320, 78, 319, 0, 0, 2), (327, 79, 326, 0, 0, 2), (347, 79, 346, 0, 0, 3), (353, 78, 352, 0, 0, 2), (362, 67, 360, 361, 2, 2), (366, 67, 365, 3, 2, 4), (370, 67, 369, 4, 2, 1), (374, 70, 372, 373, 2, 1), (377, 81, 376, 0, 0, 2), (380, 82, 379, 0, 0, 3), (384, 70, 382, 383, 2, 1), (390, 83, 389, 0, 1, 0), (414, 67, 413, 5, 2, 1), (418, 67, 417, 6, 2, 2), (422, 67, 421, 7, 2, 2), (426, 67, 425, 8, 2, 1), (430, 84, 429, 0, 1, 0), (451, 67, 450, 9, 2, 3), (455, 67, 454, 10, 2, 1), (465, 89, 463, 9999, 3, 1), (470, 89, 468, 11, 2, 1), (478, 71, 476, 9999, 3, 1), (482, 72, 480, 481, 2, 1), (486, 87, 484, 485, 2, 0), (490, 67, 489, 12, 2, 0), (494, 67, 493, 13, 2, 1), (498, 67, 497, 14, 2, 1), (502, 67, 501, 15, 2, 1), (507, 67, 506, 16, 2, 1), (514, 87, 513, 0, 1, 2), (517, 86, 516, 0, 1, 0), (529, 67, 528, 17, 2, 6), (534, 88, 533, 0, 1, 7), (574, 67, 573, 18, 2, 1), (578, 67, 577, 19, 2, 2), (582, 67, 581, 20, 2, 0), (591, 89, 589, 9999, 3, 2), (598, 71, 596, 9999, 3, 2), (604, 71, 603, 21, 2, 2), (613, 89, 611, 9999, 3, 0), (618, 71, 616, 9999, 3, 0), (622, 89, 621, 22, 2, 3), (626, 89, 625, 0, 1, 0), (653, 89, 651, 9999, 3, 1), (660, 71, 658, 9999, 3, 1), (664, 67, 663, 23, 2, 2), (668, 87, 666, 667, 2, 0), (672, 67, 671, 24, 2, 1), (678, 67, 677, 25, 2, 1), (682, 67, 681, 26, 2, 1), (686, 67, 685, 27, 2, 1), (694, 67, 693, 28, 2, 2), (698, 67, 697, 29, 2, 1), (702, 70, 700, 701, 2, 1), (706, 70, 705, 30, 2, 2), (711, 67, 710, 31, 2, 0), (719, 67, 717, 718, 2, 3), (723, 67, 721, 722, 2, 1), (729, 67, 727, 728, 2, 1), (733, 67, 731, 732, 2, 0), (737, 67, 735, 736, 2, 0), (743, 67, 741, 742, 2, 1), (747, 67, 745, 746, 2, 1), (752, 70, 750, 751, 2, 0), (758, 67, 756, 757, 2, 1), (762, 67, 761, 32, 2, 0), (766, 67, 765, 33, 2, 0), (770, 88, 768, 769, 2, 0), (776, 67, 775, 34, 2, 1), (780, 67, 779, 35, 2, 0), (784, 67, 782, 783, 2, 0), (788, 67, 786, 787, 2, 1), (798, 67, 796, 797, 2, 1), (802, 67, 800, 801, 2, 1), (806, 67, 804, 805, 2, 1), (810, 67, 808, 809, 2, 1), (814, 67, 812, 813, 2, 1), (823, 89, 821, 9999, 3, 1), (830, 71, 828, 9999, 3, 1), (834, 67, 832, 833, 2, 1), (838, 67, 836, 837, 2, 2), (843, 73, 842, 0, 1, 0), (962, 73, 960, 961, 2, 0), (966, 73, 965, 36, 2, 1), (970, 73, 968, 969, 2, 2), (974, 73, 973, 37, 2, 4), (978, 73, 977, 38, 2, 2), (982, 73, 981, 39, 2, 1), (986, 73, 985, 40, 2, 2), (990, 73, 989, 41, 2, 2), (994, 73, 993, 42, 2, 1), (998, 73, 997, 43, 2, 1), (1002, 73, 1001, 44, 2, 1), (1006, 73, 1005, 45, 2, 1), (1010, 73, 1009, 46, 2, 1), (1014, 73, 1013, 47, 2, 1), (1018, 73, 1017, 48, 2, 3), (1022, 73, 1021, 49, 2, 1), (1026, 73, 1025, 50, 2, 1), (1030, 73, 1029, 51, 2, 2), (1034, 73, 1033, 52, 2, 1), (1038, 73, 1037, 53, 2, 1), (1042, 73, 1041, 54, 2, 1), (1046, 73, 1045, 55, 2, 1), (1050, 73, 1049, 56, 2, 1), (1054, 73, 1053, 57, 2, 0), (1058, 73, 1057, 58, 2, 0), (1062, 73, 1061, 59, 2, 0), (1066, 73, 1064, 1065, 2, 3), (1070, 73, 1068, 1069, 2, 1), (1074, 73, 1072, 1073, 2, 1), (1078, 73, 1076, 1077, 2, 0), (1082, 73, 1080, 1081, 2, 0), (1086, 73, 1084, 1085, 2, 1), (1090, 73, 1088, 1089, 2, 1), (1094, 73, 1092, 1093, 2, 1), (1098, 73, 1097, 60, 2, 0), (1102, 73, 1101, 61, 2, 0), (1106, 73, 1105, 62, 2, 1), (1110, 73, 1109, 63, 2, 0), (1114, 73, 1112, 1113, 2, 0), (1118, 73, 1116, 1117, 2, 1), (1122, 73, 1121, 64, 2, 1), (1126, 73, 1124, 1125, 2, 1), (1130, 73, 1128, 1129, 2, 1), (1134, 73, 1132, 1133, 2, 1), (1138, 73, 1136, 1137, 2, 1), (1142, 73, 1141, 65, 2, 1), (1147, 73, 1145, 1146, 2, 1), (1151, 73, 1149, 1150, 2, 1), (1155, 73, 1153, 1154, 2, 2), (9999, 9999, 9999, 9999, 9, 0)]
def P_fxs : List (Nat × List Nat) := [(33, [461, 464, 462, 460, 459, 458]), (35, [474, 477, 475, 473, 459, 458]), (50, [587, 590, 588, 460, 586, 585]), (51, [594, 597, 595, 473, 586, 585]), (53, [609, 612, 610, 460, 608, 607]), (54, [614, 617, 615, 473, 608, 607]), (57, [649, 652, 650, 460, 648, 647]), (58, [656, 659, 657, 473, 648, 647]), (91, [819, 822, 820, 460, 818, 817]), (92, [826, 829, 827, 473, 818, 817])]
/-! ===== the printed program against the class files: what each row must answer ===== -/
def k_iw (i : Nat) (w : Jvm.Cond) : Bool := decide (lw_tbl[i]? = some w)
theorem k_iw_mem {i : Nat} {w : Jvm.Cond} (h : k_iw i w = true) : w ∈ lw_tbl := List.mem_of_getElem? (of_decide_eq_true h)
/-- the words that hold behind every step -/
def k_T : List Jvm.Cond := lw_tbl.filter goodWord
def k_is (i : Nat) (w : Jvm.Cond) : Bool := k_iw i w && goodWord w
theorem k_is_mem {i : Nat} {w : Jvm.Cond} (h : k_is i w = true) : w ∈ k_T := by
  unfold k_is at h
  rw [Bool.and_eq_true] at h
  exact List.mem_filter.mpr ⟨k_iw_mem h.1, h.2⟩
theorem k_goodIn {ws : List Jvm.Cond} (h : ∀ w ∈ ws, w ∈ k_T) : GoodIn k_T ws := fun w hw => ⟨h w hw, good_of_word (List.mem_filter.mp (h w hw)).2⟩
/-- the nest mates' links -/
def k_nst : List Jvm.Cond := [130, 269, 388, 428, 512, 641, 642].filterMap (fun i => lw_tbl[i]?)
def k_dc (mi pc : Nat) (I : Instr) (len nx : Nat) : Bool := decide (decode (P_by mi) pc = .ok (I, len)) && decide (nx = pc + len)
def k_cn (b : Nat) : Jvm.ClassFile.Cond := match b with
  | 0 => .eq
  | 1 => .ne
  | 2 => .lt
  | 3 => .ge
  | 4 => .gt
  | _ => .le
def k_ac (b : Nat) : ACond := match b with
  | 0 => .eq
  | _ => .ne
def k_bi (b : Nat) : Instr := match b with
  | 0 => .iadd
  | 1 => .isub
  | 2 => .imul
  | 3 => .idiv
  | 4 => .iand
  | 5 => .ior
  | 6 => .ishl
  | _ => .ishr
/-- a method's words: places of code, initialized, instanceMethod or static, selects; kind 0 static 1 constructor 2 virtual; how many parameters -/
def P_ixd : Nat × Nat × Nat × Nat × Nat × Nat := (9999, 9999, 9999, 9999, 9, 0)
def P_ix (mi : Nat) : Nat × Nat × Nat × Nat × Nat × Nat := P_ixs.getD mi P_ixd
def k_mt (mi : Nat) : Bool :=
  let y := P_y mi
  match P_ix mi with
  | (ic, ii, im, is, kd, n) => k_is ic (.code y (P_by mi) (P_ml mi) (P_ret mi)) && (k_is ii (.initialized y.cls) && (plainName y.cls && (decide (y.cls ≠ "java/lang/invoke/MethodHandle") && (decide (y.cls ≠ "java/lang/invoke/VarHandle") && (decide ((parseMethodDescriptor y.desc).map (fun d => d.parameters.length) = some n) && (decide (P_ml mi ≤ 8) && (match kd with
    | 0 => k_is im (.static y)
    | 1 => k_is im (.instanceMethod y) && (decide (y.name = "<init>") && decide (P_ret mi = none))
    | 2 => k_is im (.instanceMethod y) && k_is is (.selects y.cls y y)
    | _ => false)))))))
def k_kd (mi : Nat) : Nat := (P_ix mi).2.2.2.2.1
def k_np (mi : Nat) : Nat := (P_ix mi).2.2.2.2.2
def k_sf : Nat := 118
/-- a field of the table under the name by which the instruction spells it -/
def k_fd (mi a ci k : Nat) (l : List Nat) : Bool := match l with
  | [ti, 0] => k_is ti (.fieldLink (P_y mi).cls a (K_F ci k).1 (K_F ci k).2.1 (K_F ci k).2.2.1)
  | [ti, 1] => k_is ti (.fieldLink (P_y mi).cls a "java/util/ArrayList" (K_F ci k).2.1 (K_F ci k).2.2.1) && k_is k_sf (.sameField "java/util/ArrayList" (K_F ci k).1 (K_F ci k).2.1 (K_F ci k).2.2.1)
  | _ => false
def k_pf (mi ci k : Nat) : Bool := decide ((K_F ci k).2.2.2 = false) || (decide ((P_y mi).name = "<init>") && decide ((K_F ci k).1 = (P_y mi).cls))
def k_nd : String := "LogStore$Node"
def k_fc (x y : MethodName) (C : String) (l : List Nat) : Bool := match l with
  | [i1, i2, i3, i4, i5, i6] => k_is i1 (.selects C x y) && (k_iw i2 (.publicMethod y) && (k_iw i3 (.unhidden C x.name x.desc) && (k_iw i4 (.castable C x.cls) && (k_iw i5 (.declares x) && k_iw i6 (.interfaceMethod x.cls x.cls x.name x.desc)))))
  | _ => false
def k_fa (mi : Nat) : Bool := match P_ix mi, (P_fxs.lookup mi).getD [] with
  | (ic, ii, im, is, kd, n), l =>
    let y := P_y mi
    decide (mi ∈ P_fxs.map (fun q => q.1)) && (k_is ic (.code y (P_by mi) (P_ml mi) (P_ret mi)) && (k_is ii (.initialized y.cls) && (plainName y.cls && (decide ((parseMethodDescriptor y.desc).map (fun d => d.parameters.length) = some n) && (decide (P_ml mi ≤ 8) && (k_is im (.instanceMethod y) && k_fc ⟨k_nd, y.name, y.desc⟩ y y.cls l))))))
def k_ok (mi pc : Nat) (ai : E_I) : Bool := match ai with
  | (op, a, b, c, e, nx, l) => match op with
    | 0 => (match b with
      | 0 => k_dc mi pc (.iconst c) 1 nx && decide (-128 ≤ c ∧ c ≤ 127)
      | 1 => k_dc mi pc (.bipush c) 2 nx && decide (-128 ≤ c ∧ c ≤ 127)
      | 2 => k_dc mi pc (.sipush c) 3 nx && decide (-32768 ≤ c ∧ c ≤ 32767)
      | _ => k_dc mi pc (.ldc a) 2 nx && (k_is (l.headD 0) (.constant (P_y mi).cls a (Int32.ofInt c)) && decide (-2147483648 ≤ c ∧ c ≤ 2147483647)))
    | 1 => k_dc mi pc .aconst_null 1 nx
    | 2 => (match b with
      | 0 => k_dc mi pc (.iload_n (Fin.ofNat 4 a)) 1 nx && decide (a < 4)
      | _ => k_dc mi pc (.iload a) 2 nx)
    | 3 => (match b with
      | 0 => k_dc mi pc (.aload_n (Fin.ofNat 4 a)) 1 nx && decide (a < 4)
      | _ => k_dc mi pc (.aload a) 2 nx)
    | 4 => (match b with
      | 0 => k_dc mi pc (.istore_n (Fin.ofNat 4 a)) 1 nx && decide (a < 4)
      | _ => k_dc mi pc (.istore a) 2 nx)
    | 5 => (match b with
      | 0 => k_dc mi pc (.astore_n (Fin.ofNat 4 a)) 1 nx && decide (a < 4)
      | _ => k_dc mi pc (.astore a) 2 nx)
    | 6 => k_dc mi pc (.iinc a c) 3 nx && decide (-128 ≤ c ∧ c ≤ 127)
    | 7 => k_dc mi pc (k_bi b) 1 nx
    | 8 => k_dc mi pc .i2b 1 nx
    | 9 => k_dc mi pc .dup 1 nx
    | 10 => k_dc mi pc .pop 1 nx
    | 11 => k_dc mi pc .dup_x1 1 nx
    | 12 => k_dc mi pc (.ifCond (k_cn b) ((a : Int) - pc)) 3 nx
    | 13 => k_dc mi pc (.if_icmp (k_cn b) ((a : Int) - pc)) 3 nx
    | 14 => k_dc mi pc (.if_acmp (k_ac b) ((a : Int) - pc)) 3 nx
    | 15 => k_dc mi pc (.ifnull ((a : Int) - pc)) 3 nx
    | 16 => k_dc mi pc (.ifnonnull ((a : Int) - pc)) 3 nx
    | 17 => k_dc mi pc (.goto ((a : Int) - pc)) 3 nx
    | 18 => k_dc mi pc (.tableswitch ((a : Int) - pc) c (c + l.length - 1) (l.map (fun (t : Nat) => (t : Int) - pc)).toArray) (nx - pc) nx
    | 19 => k_dc mi pc .ireturn 1 nx && (match b with
      | 0 => decide (P_ret mi = some .int)
      | _ => decide (P_ret mi = some .boolean))
    | 20 => k_dc mi pc .areturn 1 nx && (match P_ret mi with | some (.object _) => true | some (.array _) => true | _ => false)
    | 21 => k_dc mi pc .return_ 1 nx && decide (P_ret mi = none)
    | 22 => k_dc mi pc (.getfield a) 3 nx && (decide (1 ≤ c ∧ c ≤ 11) && (decide (0 ≤ e ∧ e < K_N (c.toNat - 1)) && (decide (K_ty (c.toNat - 1) e.toNat ≠ 1) && k_fd mi a (c.toNat - 1) e.toNat l)))
    | 23 => k_dc mi pc (.getfield a) 3 nx && (decide (1 ≤ c ∧ c ≤ 11) && (decide (0 ≤ e ∧ e < K_N (c.toNat - 1)) && (decide (K_ty (c.toNat - 1) e.toNat = 1) && k_fd mi a (c.toNat - 1) e.toNat l)))
    | 24 => k_dc mi pc (.putfield a) 3 nx && (decide (1 ≤ c ∧ c ≤ 11) && (decide (0 ≤ e ∧ e < K_N (c.toNat - 1)) && (decide (K_ty (c.toNat - 1) e.toNat = 0) && (k_fd mi a (c.toNat - 1) e.toNat l && k_pf mi (c.toNat - 1) e.toNat))))
    | 25 => k_dc mi pc (.putfield a) 3 nx && (decide (1 ≤ c ∧ c ≤ 11) && (decide (0 ≤ e ∧ e < K_N (c.toNat - 1)) && (decide (K_ty (c.toNat - 1) e.toNat = 1) && (k_fd mi a (c.toNat - 1) e.toNat l && k_pf mi (c.toNat - 1) e.toNat))))
    | 26 => k_dc mi pc (.putfield a) 3 nx && (decide (1 ≤ c ∧ c ≤ 11) && (decide (0 ≤ e ∧ e < K_N (c.toNat - 1)) && (decide (K_ty (c.toNat - 1) e.toNat = 2) && (k_fd mi a (c.toNat - 1) e.toNat l && k_pf mi (c.toNat - 1) e.toNat))))
    | 27 => k_dc mi pc (.getstatic a) 3 nx && (decide (1 ≤ c ∧ c ≤ 11) && k_is (l.headD 0) (.fieldLink (P_y mi).cls a (K_stc c.toNat).1 (K_stc c.toNat).2.1 (K_stc c.toNat).2.2))
    | 28 => k_dc mi pc (.new a) 3 nx && (decide (1 ≤ c ∧ c ≤ 11) && (decide (e = K_N (c.toNat - 1)) && k_is (l.headD 0) (.classLink (P_y mi).cls a (K_C (c.toNat - 1)))))
    | 29 => (match b with
      | 0 => (match c with
        | 20 => k_dc mi pc (.newarray .int) 2 nx
        | 21 => k_dc mi pc (.newarray .byte) 2 nx
        | 22 => k_dc mi pc (.newarray .boolean) 2 nx
        | _ => false)
      | _ => k_dc mi pc (.anewarray a) 3 nx && (decide (23 ≤ c ∧ c ≤ 27) && (match K_at (c.toNat - 20) with
        | .object C => k_is (l.headD 0) (.classLink (P_y mi).cls a C)
        | _ => false)))
    | 30 => k_dc mi pc .iaload 1 nx
    | 31 => k_dc mi pc .iastore 1 nx
    | 32 => k_dc mi pc .baload 1 nx
    | 33 => k_dc mi pc .bastore 1 nx
    | 34 => k_dc mi pc .aaload 1 nx
    | 35 => k_dc mi pc .aastore 1 nx
    | 36 => k_dc mi pc .arraylength 1 nx
    | 37 => k_dc mi pc (.checkcast a) 3 nx && (decide (1 ≤ c ∧ c ≤ 11) && k_is (l.headD 0) (.classLink (P_y mi).cls a (K_C (c.toNat - 1))))
    | 40 => k_dc mi pc (.invokespecial a) 3 nx && k_is (l.headD 0) (.methodLink (P_y mi).cls a Jvm.Lib.objectInit)
    | 41 => k_dc mi pc (.invokestatic a) 3 nx && k_is (l.headD 0) (.methodLink (P_y mi).cls a arraycopyName)
    | 42 => k_dc mi pc (.invokevirtual a) 3 nx && k_is (l.headD 0) (.methodLink (P_y mi).cls a ⟨"java/lang/Object", "getClass", "()Ljava/lang/Class;"⟩)
    | 43 => k_dc mi pc (.ldc a) 2 nx && k_is (l.headD 0) (.classLink (P_y mi).cls a "[Ljava/lang/Object;")
    | 44 => k_dc mi pc (.invokevirtual a) 3 nx && k_is (l.headD 0) (.methodLink (P_y mi).cls a ⟨"LogStore$State", "ordinal", "()I"⟩)
    | 45 => k_dc mi pc (.invokestatic a) 3 nx && k_is (l.headD 0) (.methodLink (P_y mi).cls a Jvm.Lib.Math.max.name)
    | 46 => k_dc mi pc (.invokestatic a) 3 nx && k_is (l.headD 0) (.methodLink (P_y mi).cls a Jvm.Lib.Math.min.name)
    | 50 => (match l with
      | [i, ti] => k_dc mi pc (.invokestatic i) 3 nx && (k_is ti (.methodLink (P_y mi).cls i (P_y a)) && (decide (k_kd a = 0) && (decide (e = k_np a) && k_mt a)))
      | _ => false)
    | 51 => (match l with
      | [i, ti] => k_dc mi pc (.invokespecial i) 3 nx && (k_is ti (.methodLink (P_y mi).cls i (P_y a)) && (decide (k_kd a = 1) && (decide (e = k_np a + 1) && k_mt a)))
      | _ => false)
    | 52 => (match l with
      | [i, ti] => k_dc mi pc (.invokespecial i) 3 nx && (decide (Jvm.Cond.methodLinkNest (P_y mi).cls i (P_y a) "LogStore" ∈ k_nst) && (decide (k_kd a = 1) && (decide (e = k_np a + 1) && k_mt a)))
      | _ => false)
    | 53 => (match l with
      | [i, ti] => k_dc mi pc (.invokevirtual i) 3 nx && (k_is ti (.methodLink (P_y mi).cls i (P_y a)) && (decide (k_kd a = 2) && (decide (e = k_np a + 1) && (decide (1 ≤ c ∧ c ≤ 11) && (decide (K_C (c.toNat - 1) = (P_y a).cls) && k_mt a)))))
      | _ => false)
    | 54 => (match l with
      | [i, ti] => k_dc mi pc (.invokevirtual i) 3 nx && (decide (Jvm.Cond.methodLinkNest (P_y mi).cls i (P_y a) "LogStore" ∈ k_nst) && (decide (k_kd a = 2) && (decide (e = k_np a + 1) && (decide (1 ≤ c ∧ c ≤ 11) && (decide (K_C (c.toNat - 1) = (P_y a).cls) && k_mt a)))))
      | _ => false)
    | 55 => (match l with
      | [i, ti, cn] => k_dc mi pc (.invokeinterface i cn) 5 nx && (k_is ti (.methodLink (P_y mi).cls i ⟨k_nd, (P_y a).name, (P_y a).desc⟩) && (decide (e = k_np a + 1) && (decide (e = k_np b + 1) && (k_fa a && k_fa b))))
      | _ => false)
    | _ => false
theorem k_cut {α : Type} {p : α → Bool} {T : List α} {a n : Nat} (h1 : ((T.drop a).take n).all p = true) (h2 : (T.drop (a + n)).all p = true) : (T.drop a).all p = true := by
  have h : ((T.drop a).take n ++ (T.drop a).drop n).all p = true := by
    rw [List.all_append, h1, List.drop_drop, h2]
    rfl
  rwa [List.take_append_drop] at h
theorem k_nil {α : Type} {p : α → Bool} {T : List α} {a : Nat} (h : decide (T.length ≤ a) = true) : (T.drop a).all p = true := by
  rw [List.drop_eq_nil_of_le (of_decide_eq_true h)]
  rfl
theorem k_top {α : Type} {p : α → Bool} {T : List α} (h : (T.drop 0).all p = true) : T.all p = true := h
