set_option maxRecDepth 100000
def f_jm : List (Nat × Nat × Int × Nat) := []
def c_jm : List (Nat × gV) := [(138, 1, 4294967295)]
def k_jm_min : List gC := [(0, 1, .iload_n 0, [], none), (1, 1, .iload_n 1, [], none), (2, 3, .if_icmp .gt 7, [(0, 9)], none), (5, 1, .iload_n 0, [], none),
  (6, 3, .goto 4, [(0, 10)], none), (9, 1, .iload_n 1, [], none), (10, 1, .ireturn, [], none)]
def e_jm_min (m : Nat) : gE := (k_jm_min, f_jm, c_jm, [], [], (m, 0), 0)
theorem ok_jm_min : gchk cJ4_min 2 k_jm_min = true := by decide +kernel
def fn_jm_min (m : Nat) : gFn := gF (e_jm_min m) 2
theorem mo_jm_min (m : Nat) : gMo (.inl (fn_jm_min m)) := gF_mo (E := e_jm_min m) trivial
noncomputable def jm_min (σ : gM) (x0 x1 : Int) : Option (gM × Int) := lim (fun n => fn_jm_min 0 n [(0, x0), (0, x1)] σ)
theorem jm_min_l (σ : gM) (x0 x1 : Int) : Lm (fun n => fn_jm_min 0 n [(0, x0), (0, x1)] σ) (jm_min σ x0 x1) := .of fun n => mo_jm_min 0 n [(0, x0), (0, x1)] σ
theorem jm_min_e (σ : gM) (x0 x1 : Int) : jm_min σ x0 x1 =
  (if x1 < x0 then
  (some (σ, x1))
  else
  (some (σ, x0))) := Lm.eqn (jm_min_l ..) (.ite .cst .cst) fun n => (rfl)
def k_jm_max : List gC := [(0, 1, .iload_n 0, [], none), (1, 1, .iload_n 1, [], none), (2, 3, .if_icmp .lt 7, [(0, 9)], none), (5, 1, .iload_n 0, [], none),
  (6, 3, .goto 4, [(0, 10)], none), (9, 1, .iload_n 1, [], none), (10, 1, .ireturn, [], none)]
def e_jm_max (m : Nat) : gE := (k_jm_max, f_jm, c_jm, [], [], (m, 0), 0)
theorem ok_jm_max : gchk cJ4_max 2 k_jm_max = true := by decide +kernel
def fn_jm_max (m : Nat) : gFn := gF (e_jm_max m) 2
theorem mo_jm_max (m : Nat) : gMo (.inl (fn_jm_max m)) := gF_mo (E := e_jm_max m) trivial
noncomputable def jm_max (σ : gM) (x0 x1 : Int) : Option (gM × Int) := lim (fun n => fn_jm_max 0 n [(0, x0), (0, x1)] σ)
theorem jm_max_l (σ : gM) (x0 x1 : Int) : Lm (fun n => fn_jm_max 0 n [(0, x0), (0, x1)] σ) (jm_max σ x0 x1) := .of fun n => mo_jm_max 0 n [(0, x0), (0, x1)] σ
theorem jm_max_e (σ : gM) (x0 x1 : Int) : jm_max σ x0 x1 =
  (if x0 < x1 then
  (some (σ, x1))
  else
  (some (σ, x0))) := Lm.eqn (jm_max_l ..) (.ite .cst .cst) fun n => (rfl)
def k_jm_abs : List gC := [(0, 1, .lload_n 0, [], none), (1, 1, .lconst 0, [], none), (2, 1, .lcmp, [], none), (3, 3, .ifCond .ge 8, [(0, 11)], none),
  (6, 1, .lload_n 0, [], none), (7, 1, .lneg, [], none), (8, 3, .goto 4, [(0, 12)], none), (11, 1, .lload_n 0, [], none),
  (12, 1, .lreturn, [], none)]
def e_jm_abs (m : Nat) : gE := (k_jm_abs, f_jm, c_jm, [], [], (m, 0), 1)
theorem ok_jm_abs : gchk cJ4_abs 2 k_jm_abs = true := by decide +kernel
def fn_jm_abs (m : Nat) : gFn := gF (e_jm_abs m) 2
theorem mo_jm_abs (m : Nat) : gMo (.inl (fn_jm_abs m)) := gF_mo (E := e_jm_abs m) trivial
noncomputable def jm_abs (σ : gM) (x0 : Int) : Option (gM × Int) := lim (fun n => fn_jm_abs 0 n [(1, x0)] σ)
theorem jm_abs_l (σ : gM) (x0 : Int) : Lm (fun n => fn_jm_abs 0 n [(1, x0)] σ) (jm_abs σ x0) := .of fun n => mo_jm_abs 0 n [(1, x0)] σ
theorem jm_abs_e (σ : gM) (x0 : Int) : jm_abs σ x0 =
  (if l_cmp x0 0 < 0 then
  (some (σ, w64 (-x0)))
  else
  (some (σ, x0))) := Lm.eqn (jm_abs_l ..) (.ite .cst .cst) fun n => (rfl)
def k_jm_multiplyHigh : List gC := [(0, 1, .lload_n 0, [], none), (1, 2, .bipush 32, [], none), (3, 1, .lshr, [], none), (4, 2, .lstore 4, [], none),
  (6, 1, .lload_n 0, [], none), (7, 3, .ldc2_w 138, [], none), (10, 1, .land, [], none), (11, 2, .lstore 6, [], none),
  (13, 1, .lload_n 2, [], none), (14, 2, .bipush 32, [], none), (16, 1, .lshr, [], none), (17, 2, .lstore 8, [], none),
  (19, 1, .lload_n 2, [], none), (20, 3, .ldc2_w 138, [], none), (23, 1, .land, [], none), (24, 2, .lstore 10, [], none),
  (26, 2, .lload 6, [], none), (28, 2, .lload 10, [], none), (30, 1, .lmul, [], none), (31, 2, .lstore 12, [], none),
  (33, 2, .lload 4, [], none), (35, 2, .lload 10, [], none), (37, 1, .lmul, [], none), (38, 2, .lload 12, [], none),
  (40, 2, .bipush 32, [], none), (42, 1, .lushr, [], none), (43, 1, .ladd, [], none), (44, 2, .lstore 14, [], none),
  (46, 2, .lload 14, [], none), (48, 3, .ldc2_w 138, [], none), (51, 1, .land, [], none), (52, 2, .lstore 16, [], none),
  (54, 2, .lload 14, [], none), (56, 2, .bipush 32, [], none), (58, 1, .lshr, [], none), (59, 2, .lstore 18, [], none),
  (61, 2, .lload 16, [], none), (63, 2, .lload 6, [], none), (65, 2, .lload 8, [], none), (67, 1, .lmul, [], none),
  (68, 1, .ladd, [], none), (69, 2, .lstore 16, [], none), (71, 2, .lload 4, [], none), (73, 2, .lload 8, [], none),
  (75, 1, .lmul, [], none), (76, 2, .lload 18, [], none), (78, 1, .ladd, [], none), (79, 2, .lload 16, [], none),
  (81, 2, .bipush 32, [], none), (83, 1, .lshr, [], none), (84, 1, .ladd, [], none), (85, 1, .lreturn, [], none)]
def e_jm_multiplyHigh (m : Nat) : gE := (k_jm_multiplyHigh, f_jm, c_jm, [], [], (m, 0), 1)
theorem ok_jm_multiplyHigh : gchk cJ4_multiplyHigh 20 k_jm_multiplyHigh = true := by decide +kernel
def fn_jm_multiplyHigh (m : Nat) : gFn := gF (e_jm_multiplyHigh m) 20
theorem mo_jm_multiplyHigh (m : Nat) : gMo (.inl (fn_jm_multiplyHigh m)) := gF_mo (E := e_jm_multiplyHigh m) trivial
noncomputable def jm_multiplyHigh (σ : gM) (x0 x2 : Int) : Option (gM × Int) := lim (fun n => fn_jm_multiplyHigh 0 n [(1, x0), (1, x2)] σ)
theorem jm_multiplyHigh_l (σ : gM) (x0 x2 : Int) : Lm (fun n => fn_jm_multiplyHigh 0 n [(1, x0), (1, x2)] σ) (jm_multiplyHigh σ x0 x2) := .of fun n => mo_jm_multiplyHigh 0 n [(1, x0), (1, x2)] σ
theorem jm_multiplyHigh_e (σ : gM) (x0 x2 : Int) : jm_multiplyHigh σ x0 x2 =
  (some (σ, w64 ((w64 ((w64 ((l_shr x0 32) * (l_shr x2 32))) + (l_shr (w64 ((w64 ((l_shr x0 32) * (l_and x2 4294967295))) + (l_ushr (w64 ((l_and x0 4294967295) * (l_and x2 4294967295))) 32))) 32))) + (l_shr (w64 ((l_and (w64 ((w64 ((l_shr x0 32) * (l_and x2 4294967295))) + (l_ushr (w64 ((l_and x0 4294967295) * (l_and x2 4294967295))) 32))) 4294967295) + (w64 ((l_and x0 4294967295) * (l_shr x2 32))))) 32)))) := Lm.eqn (jm_multiplyHigh_l ..) .cst fun n => (rfl)
def f_jl : List (Nat × Nat × Int × Nat) := []
def c_jl : List (Nat × gV) := []
def k_jl_signum : List gC := [(0, 1, .lload_n 0, [], none), (1, 2, .bipush 63, [], none), (3, 1, .lshr, [], none), (4, 1, .lload_n 0, [], none),
  (5, 1, .lneg, [], none), (6, 2, .bipush 63, [], none), (8, 1, .lushr, [], none), (9, 1, .lor, [], none),
  (10, 1, .l2i, [], none), (11, 1, .ireturn, [], none)]
def e_jl_signum (m : Nat) : gE := (k_jl_signum, f_jl, c_jl, [], [], (m, 0), 0)
theorem ok_jl_signum : gchk cJ9_signum 2 k_jl_signum = true := by decide +kernel
def fn_jl_signum (m : Nat) : gFn := gF (e_jl_signum m) 2
theorem mo_jl_signum (m : Nat) : gMo (.inl (fn_jl_signum m)) := gF_mo (E := e_jl_signum m) trivial
noncomputable def jl_signum (σ : gM) (x0 : Int) : Option (gM × Int) := lim (fun n => fn_jl_signum 0 n [(1, x0)] σ)
theorem jl_signum_l (σ : gM) (x0 : Int) : Lm (fun n => fn_jl_signum 0 n [(1, x0)] σ) (jl_signum σ x0) := .of fun n => mo_jl_signum 0 n [(1, x0)] σ
theorem jl_signum_e (σ : gM) (x0 : Int) : jl_signum σ x0 =
  (some (σ, w32 (l_or (l_shr x0 63) (l_ushr (w64 (-x0)) 63)))) := Lm.eqn (jl_signum_l ..) .cst fun n => (rfl)
def k_jl_compare : List gC := [(0, 1, .lload_n 0, [], none), (1, 1, .lload_n 2, [], none), (2, 1, .lcmp, [], none), (3, 3, .ifCond .ge 7, [(0, 10)], none),
  (6, 1, .iconst (-1), [], none), (7, 3, .goto 14, [(0, 21)], none), (10, 1, .lload_n 0, [], none), (11, 1, .lload_n 2, [], none),
  (12, 1, .lcmp, [], none), (13, 3, .ifCond .ne 7, [(0, 20)], none), (16, 1, .iconst 0, [], none), (17, 3, .goto 4, [(0, 21)], none),
  (20, 1, .iconst 1, [], none), (21, 1, .ireturn, [], none)]
def e_jl_compare (m : Nat) : gE := (k_jl_compare, f_jl, c_jl, [], [], (m, 0), 0)
theorem ok_jl_compare : gchk cJ9_compare 4 k_jl_compare = true := by decide +kernel
def fn_jl_compare (m : Nat) : gFn := gF (e_jl_compare m) 4
theorem mo_jl_compare (m : Nat) : gMo (.inl (fn_jl_compare m)) := gF_mo (E := e_jl_compare m) trivial
noncomputable def jl_compare (σ : gM) (x0 x2 : Int) : Option (gM × Int) := lim (fun n => fn_jl_compare 0 n [(1, x0), (1, x2)] σ)
theorem jl_compare_l (σ : gM) (x0 x2 : Int) : Lm (fun n => fn_jl_compare 0 n [(1, x0), (1, x2)] σ) (jl_compare σ x0 x2) := .of fun n => mo_jl_compare 0 n [(1, x0), (1, x2)] σ
theorem jl_compare_e (σ : gM) (x0 x2 : Int) : jl_compare σ x0 x2 =
  (if l_cmp x0 x2 < 0 then
  (some (σ, (-1)))
  else
  (if l_cmp x0 x2 = 0 then
    (some (σ, 0))
    else
    (some (σ, 1)))) := Lm.eqn (jl_compare_l ..) (.ite .cst (.ite .cst .cst)) fun n => (rfl)
def f_pc : List (Nat × Nat × Int × Nat) := []
def c_pc : List (Nat × gV) := []
def k_pc_checkIndex : List gC := [(0, 1, .iload_n 0, [], none), (1, 3, .ifCond .lt 8, [(0, 9)], none), (4, 1, .iload_n 0, [], none), (5, 1, .iload_n 1, [], none),
  (6, 3, .if_icmp .lt 10, [(0, 16)], none), (9, 1, .aload_n 2, [], some [true, true, true]), (10, 1, .iload_n 0, [], none), (11, 1, .iload_n 1, [], none),
  (12, 3, .invokestatic 95, [], none), (15, 1, .athrow, [], none), (16, 1, .iload_n 0, [], none), (17, 1, .ireturn, [], none)]
def e_pc_checkIndex (m : Nat) : gE := (k_pc_checkIndex, f_pc, c_pc, [], [], (m, 0), 0)
theorem ok_pc_checkIndex : gchk cJ2_checkIndex 3 k_pc_checkIndex = true := by decide +kernel
def fn_pc_checkIndex (m : Nat) : gFn := gF (e_pc_checkIndex m) 3
theorem mo_pc_checkIndex (m : Nat) : gMo (.inl (fn_pc_checkIndex m)) := gF_mo (E := e_pc_checkIndex m) trivial
noncomputable def pc_checkIndex (σ : gM) (x0 x1 x2 : Int) : Option (gM × Int) := lim (fun n => fn_pc_checkIndex 0 n [(0, x0), (0, x1), (4, x2)] σ)
theorem pc_checkIndex_l (σ : gM) (x0 x1 x2 : Int) : Lm (fun n => fn_pc_checkIndex 0 n [(0, x0), (0, x1), (4, x2)] σ) (pc_checkIndex σ x0 x1 x2) := .of fun n => mo_pc_checkIndex 0 n [(0, x0), (0, x1), (4, x2)] σ
theorem mb_pc_checkIndex : gMos (e_pc_checkIndex 0).2.2.2.1 := trivial
noncomputable def pc_checkIndex_b9 (σ : gM) (x0 x1 x2 : Int) : Option (gM × Int) := lim (fun n => gB (e_pc_checkIndex 0) rF tF n 9 [(0, x0), (0, x1), (4, x2)] [] σ)
theorem pc_checkIndex_b9_l (σ : gM) (x0 x1 x2 : Int) : Lm (fun n => gB (e_pc_checkIndex 0) rF tF n 9 [(0, x0), (0, x1), (4, x2)] [] σ) (pc_checkIndex_b9 σ x0 x1 x2) := .of fun n => gB_le (gMos_spec (mb_pc_checkIndex)) n _ _ _ σ
theorem pc_checkIndex_e (σ : gM) (x0 x1 x2 : Int) : pc_checkIndex σ x0 x1 x2 =
  (if x0 < 0 then
  (pc_checkIndex_b9 σ x0 x1 x2)
  else
  (if x0 < x1 then
    (some (σ, x0))
    else
    (pc_checkIndex_b9 σ x0 x1 x2))) := Lm.eqn (pc_checkIndex_l ..) (.ite (pc_checkIndex_b9_l ..) (.ite .cst (pc_checkIndex_b9_l ..))) fun n => (rfl)
theorem pc_checkIndex_b9_e (σ : gM) (x0 x1 x2 : Int) : pc_checkIndex_b9 σ x0 x1 x2 =
  (none) := Lm.eqn (pc_checkIndex_b9_l ..) .cst fun n => (rfl)
def f_st : List (Nat × Nat × Int × Nat) := [(9, 100, 0, 0), (15, 100, 0, 1), (38, 101, 1, 0), (1053, 101, 23, 4)]
def c_st : List (Nat × gV) := []
def k_st_checkIndex : List gC := [(0, 1, .iload_n 0, [], none), (1, 1, .iload_n 1, [], none), (2, 3, .getstatic 1053, [], none), (5, 3, .invokestatic 1059, [], none),
  (8, 1, .pop, [], none), (9, 1, .return_, [], none)]
def e_st_checkIndex (m : Nat) : gE := (k_st_checkIndex, f_st, c_st, [(1059, 3, 0, 0, .inl (fn_pc_checkIndex 0))], [], (m, 0), 5)
theorem ok_st_checkIndex : gchk cJ0_checkIndex 2 k_st_checkIndex = true := by decide +kernel
def fn_st_checkIndex (m : Nat) : gFn := gF (e_st_checkIndex m) 2
theorem mo_st_checkIndex (m : Nat) : gMo (.inl (fn_st_checkIndex m)) := gF_mo (E := e_st_checkIndex m) ⟨mo_pc_checkIndex 0, trivial⟩
noncomputable def st_checkIndex (σ : gM) (x0 x1 : Int) : Option (gM × Int) := lim (fun n => fn_st_checkIndex 0 n [(0, x0), (0, x1)] σ)
theorem st_checkIndex_l (σ : gM) (x0 x1 : Int) : Lm (fun n => fn_st_checkIndex 0 n [(0, x0), (0, x1)] σ) (st_checkIndex σ x0 x1) := .of fun n => mo_st_checkIndex 0 n [(0, x0), (0, x1)] σ
theorem st_checkIndex_e (σ : gM) (x0 x1 : Int) : st_checkIndex σ x0 x1 =
  ((pc_checkIndex σ x0 x1 23).bind fun p1 =>
  some (p1.1, 0)) := Lm.eqn (st_checkIndex_l ..) (.bind (pc_checkIndex_l ..) fun p1 => .cst) fun n => (rfl)
def f_sl : List (Nat × Nat × Int × Nat) := []
def c_sl : List (Nat × gV) := []
def k_sl_charAt : List gC := [(0, 1, .iload_n 1, [], none), (1, 1, .aload_n 0, [], none), (2, 1, .arraylength, [], none), (3, 3, .invokestatic 9, [], none),
  (6, 1, .aload_n 0, [], none), (7, 1, .iload_n 1, [], none), (8, 1, .baload, [], none), (9, 3, .sipush 255, [], none),
  (12, 1, .iand, [], none), (13, 1, .i2c, [], none), (14, 1, .ireturn, [], none)]
def e_sl_charAt (m : Nat) : gE := (k_sl_charAt, f_sl, c_sl, [(9, 2, 0, 5, .inl (fn_st_checkIndex 0))], [], (m, 0), 7)
theorem ok_sl_charAt : gchk cJ1_charAt 2 k_sl_charAt = true := by decide +kernel
def fn_sl_charAt (m : Nat) : gFn := gF (e_sl_charAt m) 2
theorem mo_sl_charAt (m : Nat) : gMo (.inl (fn_sl_charAt m)) := gF_mo (E := e_sl_charAt m) ⟨mo_st_checkIndex 0, trivial⟩
noncomputable def sl_charAt (σ : gM) (x0 x1 : Int) : Option (gM × Int) := lim (fun n => fn_sl_charAt 0 n [(4, x0), (0, x1)] σ)
theorem sl_charAt_l (σ : gM) (x0 x1 : Int) : Lm (fun n => fn_sl_charAt 0 n [(4, x0), (0, x1)] σ) (sl_charAt σ x0 x1) := .of fun n => mo_sl_charAt 0 n [(4, x0), (0, x1)] σ
theorem sl_charAt_e (σ : gM) (x0 x1 : Int) : sl_charAt σ x0 x1 =
  (gtx x0 ((st_checkIndex σ x1 (gsl x0)).bind fun p1 =>
  gtx x0 (if 0 ≤ x1 ∧ x1 < gsl x0 then
  (if 0 ≤ (i_and (gsc x0 x1) 255) % 65536 ∧ (i_and (gsc x0 x1) 255) % 65536 ≤ 65535 then (some (p1.1, (i_and (gsc x0 x1) 255) % 65536)) else none)
  else none))) := Lm.eqn (sl_charAt_l ..) (.xtx (.bind (st_checkIndex_l ..) fun p1 => (.xtx (.ite .cst .cst)))) fun n => (rfl)
def k_sl_canEncode : List gC := [(0, 1, .iload_n 0, [], none), (1, 3, .ifCond .lt 14, [(0, 15)], none), (4, 1, .iload_n 0, [], none), (5, 3, .sipush 255, [], none),
  (8, 3, .if_icmp .gt 7, [(0, 15)], none), (11, 1, .iconst 1, [], none), (12, 3, .goto 4, [(0, 16)], none), (15, 1, .iconst 0, [], none),
  (16, 1, .ireturn, [], none)]
def e_sl_canEncode (m : Nat) : gE := (k_sl_canEncode, f_sl, c_sl, [], [], (m, 0), 6)
theorem ok_sl_canEncode : gchk cJ1_canEncode 1 k_sl_canEncode = true := by decide +kernel
def fn_sl_canEncode (m : Nat) : gFn := gF (e_sl_canEncode m) 1
theorem mo_sl_canEncode (m : Nat) : gMo (.inl (fn_sl_canEncode m)) := gF_mo (E := e_sl_canEncode m) trivial
noncomputable def sl_canEncode (σ : gM) (x0 : Int) : Option (gM × Int) := lim (fun n => fn_sl_canEncode 0 n [(0, x0)] σ)
theorem sl_canEncode_l (σ : gM) (x0 : Int) : Lm (fun n => fn_sl_canEncode 0 n [(0, x0)] σ) (sl_canEncode σ x0) := .of fun n => mo_sl_canEncode 0 n [(0, x0)] σ
theorem sl_canEncode_e (σ : gM) (x0 : Int) : sl_canEncode σ x0 =
  (if x0 < 0 then
  (some (σ, 0))
  else
  (if 255 < x0 then
    (some (σ, 0))
    else
    (some (σ, 1)))) := Lm.eqn (sl_canEncode_l ..) (.ite .cst (.ite .cst .cst)) fun n => (rfl)
def k_sl_indexOfChar : List gC := [(0, 1, .iload_n 1, [], none), (1, 1, .i2b, [], none), (2, 2, .istore 4, [], none), (4, 1, .iload_n 2, [], none),
  (5, 2, .istore 5, [], none), (7, 2, .iload 5, [], some [true, false, false, true, true, true]), (9, 1, .iload_n 3, [], none), (10, 3, .if_icmp .ge 21, [(0, 31)], none),
  (13, 1, .aload_n 0, [], none), (14, 2, .iload 5, [], none), (16, 1, .baload, [], none), (17, 2, .iload 4, [], none),
  (19, 3, .if_icmp .ne 6, [(0, 25)], none), (22, 2, .iload 5, [], none), (24, 1, .ireturn, [], none), (25, 3, .iinc 5 1, [], none),
  (28, 3, .goto (-21), [(0, 7)], none), (31, 1, .iconst (-1), [], none), (32, 1, .ireturn, [], none)]
def e_sl_indexOfChar (m : Nat) : gE := (k_sl_indexOfChar, f_sl, c_sl, [], [], (m, 0), 0)
theorem ok_sl_indexOfChar : gchk cJ1_indexOfChar 6 k_sl_indexOfChar = true := by decide +kernel
def fn_sl_indexOfChar (m : Nat) : gFn := gF (e_sl_indexOfChar m) 6
theorem mo_sl_indexOfChar (m : Nat) : gMo (.inl (fn_sl_indexOfChar m)) := gF_mo (E := e_sl_indexOfChar m) trivial
noncomputable def sl_indexOfChar (σ : gM) (x0 x1 x2 x3 : Int) : Option (gM × Int) := lim (fun n => fn_sl_indexOfChar 0 n [(4, x0), (0, x1), (0, x2), (0, x3)] σ)
theorem sl_indexOfChar_l (σ : gM) (x0 x1 x2 x3 : Int) : Lm (fun n => fn_sl_indexOfChar 0 n [(4, x0), (0, x1), (0, x2), (0, x3)] σ) (sl_indexOfChar σ x0 x1 x2 x3) := .of fun n => mo_sl_indexOfChar 0 n [(4, x0), (0, x1), (0, x2), (0, x3)] σ
theorem mb_sl_indexOfChar : gMos (e_sl_indexOfChar 0).2.2.2.1 := trivial
noncomputable def sl_indexOfChar_b7 (σ : gM) (x0 x3 x4 x5 : Int) : Option (gM × Int) := lim (fun n => gB (e_sl_indexOfChar 0) rF tF n 7 [(4, x0), (9, 0), (9, 0), (0, x3), (0, x4), (0, x5)] [] σ)
theorem sl_indexOfChar_b7_l (σ : gM) (x0 x3 x4 x5 : Int) : Lm (fun n => gB (e_sl_indexOfChar 0) rF tF n 7 [(4, x0), (9, 0), (9, 0), (0, x3), (0, x4), (0, x5)] [] σ) (sl_indexOfChar_b7 σ x0 x3 x4 x5) := .of fun n => gB_le (gMos_spec (mb_sl_indexOfChar)) n _ _ _ σ
theorem sl_indexOfChar_e (σ : gM) (x0 x1 x2 x3 : Int) : sl_indexOfChar σ x0 x1 x2 x3 =
  (sl_indexOfChar_b7 σ x0 x3 (w8 x1) x2) := Lm.eqn (sl_indexOfChar_l ..) (sl_indexOfChar_b7_l ..) fun n => (rfl)
theorem sl_indexOfChar_b7_e (σ : gM) (x0 x3 x4 x5 : Int) : sl_indexOfChar_b7 σ x0 x3 x4 x5 =
  (if x5 < x3 then
  (gtx x0 (if 0 ≤ x5 ∧ x5 < gsl x0 then
    (if gsc x0 x5 = x4 then
      (some (σ, x5))
      else
      (sl_indexOfChar_b7 σ x0 x3 x4 (w32 (x5 + 1))))
    else none))
  else
  (some (σ, (-1)))) := Lm.eqn (sl_indexOfChar_b7_l ..) (.ite (.xtx (.ite (.ite .cst (sl_indexOfChar_b7_l ..)) .cst)) .cst) fun n => (rfl)
def k_sl_indexOf : List gC := [(0, 1, .iload_n 1, [], none), (1, 3, .invokestatic 88, [], none), (4, 3, .ifCond .ne 5, [(0, 9)], none), (7, 1, .iconst (-1), [], none),
  (8, 1, .ireturn, [], none), (9, 1, .iload_n 2, [], none), (10, 1, .iconst 0, [], none), (11, 3, .invokestatic 92, [], none),
  (14, 1, .istore_n 2, [], none), (15, 1, .iload_n 3, [], none), (16, 1, .aload_n 0, [], none), (17, 1, .arraylength, [], none),
  (18, 3, .invokestatic 38, [], none), (21, 1, .istore_n 3, [], none), (22, 1, .iload_n 2, [], none), (23, 1, .iload_n 3, [], none),
  (24, 3, .if_icmp .lt 5, [(0, 29)], none), (27, 1, .iconst (-1), [], none), (28, 1, .ireturn, [], none), (29, 1, .aload_n 0, [], none),
  (30, 1, .iload_n 1, [], none), (31, 1, .iload_n 2, [], none), (32, 1, .iload_n 3, [], none), (33, 3, .invokestatic 95, [], none),
  (36, 1, .ireturn, [], none)]
def e_sl_indexOf (m : Nat) : gE := (k_sl_indexOf, f_sl, c_sl, [(88, 1, 0, 0, .inl (fn_sl_canEncode 0)), (92, 2, 0, 0, .inl (fn_jm_max 0)), (38, 2, 0, 0, .inl (fn_jm_min 0)), (95, 4, 0, 0, .inl (fn_sl_indexOfChar 0))], [], (m, 0), 0)
theorem ok_sl_indexOf : gchk cJ1_indexOf 4 k_sl_indexOf = true := by decide +kernel
def fn_sl_indexOf (m : Nat) : gFn := gF (e_sl_indexOf m) 4
theorem mo_sl_indexOf (m : Nat) : gMo (.inl (fn_sl_indexOf m)) := gF_mo (E := e_sl_indexOf m) ⟨mo_sl_canEncode 0, ⟨mo_jm_max 0, ⟨mo_jm_min 0, ⟨mo_sl_indexOfChar 0, trivial⟩⟩⟩⟩
noncomputable def sl_indexOf (σ : gM) (x0 x1 x2 x3 : Int) : Option (gM × Int) := lim (fun n => fn_sl_indexOf 0 n [(4, x0), (0, x1), (0, x2), (0, x3)] σ)
theorem sl_indexOf_l (σ : gM) (x0 x1 x2 x3 : Int) : Lm (fun n => fn_sl_indexOf 0 n [(4, x0), (0, x1), (0, x2), (0, x3)] σ) (sl_indexOf σ x0 x1 x2 x3) := .of fun n => mo_sl_indexOf 0 n [(4, x0), (0, x1), (0, x2), (0, x3)] σ
theorem sl_indexOf_e (σ : gM) (x0 x1 x2 x3 : Int) : sl_indexOf σ x0 x1 x2 x3 =
  ((sl_canEncode σ x1).bind fun p1 =>
  if p1.2 = 0 then
  (some (p1.1, (-1)))
  else
  ((jm_max p1.1 x2 0).bind fun p2 =>
    gtx x0 ((jm_min p2.1 x3 (gsl x0)).bind fun p3 =>
    if p2.2 < p3.2 then
    ((sl_indexOfChar p3.1 x0 x1 p2.2 p3.2).bind fun p4 =>
      some (p4.1, p4.2))
    else
    (some (p3.1, (-1)))))) := Lm.eqn (sl_indexOf_l ..) (.bind (sl_canEncode_l ..) fun p1 => (.ite .cst (.bind (jm_max_l ..) fun p2 => (.xtx (.bind (jm_min_l ..) fun p3 => (.ite (.bind (sl_indexOfChar_l ..) fun p4 => .cst) .cst)))))) fun n => (rfl)
def k_sl_indexOf_3 : List gC := [(0, 1, .aload_n 2, [], none), (1, 1, .iconst 0, [], none), (2, 1, .baload, [], none), (3, 2, .istore 5, [], none),
  (5, 1, .iload_n 1, [], none), (6, 1, .iload_n 3, [], none), (7, 1, .isub, [], none), (8, 2, .istore 6, [], none),
  (10, 2, .iload 4, [], none), (12, 2, .istore 7, [], none), (14, 2, .iload 7, [], some [true, false, true, true, false, true, true, true, false, false, false]), (16, 2, .iload 6, [], none),
  (18, 3, .if_icmp .gt 101, [(0, 119)], none), (21, 1, .aload_n 0, [], none), (22, 2, .iload 7, [], none), (24, 1, .baload, [], none),
  (25, 2, .iload 5, [], none), (27, 3, .if_icmp .eq 25, [(0, 52)], none), (30, 3, .iinc 7 1, [], some [true, false, true, true, false, true, true, true, false, false, false]), (33, 2, .iload 7, [], none),
  (35, 2, .iload 6, [], none), (37, 3, .if_icmp .gt 15, [(0, 52)], none), (40, 1, .aload_n 0, [], none), (41, 2, .iload 7, [], none),
  (43, 1, .baload, [], none), (44, 2, .iload 5, [], none), (46, 3, .if_icmp .eq 6, [(0, 52)], none), (49, 3, .goto (-19), [(0, 30)], none),
  (52, 2, .iload 7, [], some [true, false, true, true, false, true, true, true, false, false, false]), (54, 2, .iload 6, [], none), (56, 3, .if_icmp .gt 57, [(0, 113)], none), (59, 2, .iload 7, [], none),
  (61, 1, .iconst 1, [], none), (62, 1, .iadd, [], none), (63, 2, .istore 8, [], none), (65, 2, .iload 8, [], none),
  (67, 1, .iload_n 3, [], none), (68, 1, .iadd, [], none), (69, 1, .iconst 1, [], none), (70, 1, .isub, [], none),
  (71, 2, .istore 9, [], none), (73, 1, .iconst 1, [], none), (74, 2, .istore 10, [], none), (76, 2, .iload 8, [], some [true, false, true, true, false, true, true, true, true, true, true]),
  (78, 2, .iload 9, [], none), (80, 3, .if_icmp .ge 23, [(0, 103)], none), (83, 1, .aload_n 0, [], none), (84, 2, .iload 8, [], none),
  (86, 1, .baload, [], none), (87, 1, .aload_n 2, [], none), (88, 2, .iload 10, [], none), (90, 1, .baload, [], none),
  (91, 3, .if_icmp .ne 12, [(0, 103)], none), (94, 3, .iinc 8 1, [], none), (97, 3, .iinc 10 1, [], none), (100, 3, .goto (-24), [(0, 76)], none),
  (103, 2, .iload 8, [], some [true, false, true, true, false, true, true, true, true, true, false]), (105, 2, .iload 9, [], none), (107, 3, .if_icmp .ne 6, [(0, 113)], none), (110, 2, .iload 7, [], none),
  (112, 1, .ireturn, [], none), (113, 3, .iinc 7 1, [], some [true, false, true, true, false, true, true, true, false, false, false]), (116, 3, .goto (-102), [(0, 14)], none), (119, 1, .iconst (-1), [], none),
  (120, 1, .ireturn, [], none)]
def e_sl_indexOf_3 (m : Nat) : gE := (k_sl_indexOf_3, f_sl, c_sl, [], [], (m, 0), 0)
theorem ok_sl_indexOf_3 : gchk cJ1_indexOf_3 11 k_sl_indexOf_3 = true := by decide +kernel
def fn_sl_indexOf_3 (m : Nat) : gFn := gF (e_sl_indexOf_3 m) 11
theorem mo_sl_indexOf_3 (m : Nat) : gMo (.inl (fn_sl_indexOf_3 m)) := gF_mo (E := e_sl_indexOf_3 m) trivial
noncomputable def sl_indexOf_3 (σ : gM) (x0 x1 x2 x3 x4 : Int) : Option (gM × Int) := lim (fun n => fn_sl_indexOf_3 0 n [(4, x0), (0, x1), (4, x2), (0, x3), (0, x4)] σ)
theorem sl_indexOf_3_l (σ : gM) (x0 x1 x2 x3 x4 : Int) : Lm (fun n => fn_sl_indexOf_3 0 n [(4, x0), (0, x1), (4, x2), (0, x3), (0, x4)] σ) (sl_indexOf_3 σ x0 x1 x2 x3 x4) := .of fun n => mo_sl_indexOf_3 0 n [(4, x0), (0, x1), (4, x2), (0, x3), (0, x4)] σ
theorem mb_sl_indexOf_3 : gMos (e_sl_indexOf_3 0).2.2.2.1 := trivial
noncomputable def sl_indexOf_3_b14 (σ : gM) (x0 x2 x3 x5 x6 x7 : Int) : Option (gM × Int) := lim (fun n => gB (e_sl_indexOf_3 0) rF tF n 14 [(4, x0), (9, 0), (4, x2), (0, x3), (9, 0), (0, x5), (0, x6), (0, x7), (9, 0), (9, 0), (9, 0)] [] σ)
theorem sl_indexOf_3_b14_l (σ : gM) (x0 x2 x3 x5 x6 x7 : Int) : Lm (fun n => gB (e_sl_indexOf_3 0) rF tF n 14 [(4, x0), (9, 0), (4, x2), (0, x3), (9, 0), (0, x5), (0, x6), (0, x7), (9, 0), (9, 0), (9, 0)] [] σ) (sl_indexOf_3_b14 σ x0 x2 x3 x5 x6 x7) := .of fun n => gB_le (gMos_spec (mb_sl_indexOf_3)) n _ _ _ σ
noncomputable def sl_indexOf_3_b30 (σ : gM) (x0 x2 x3 x5 x6 x7 : Int) : Option (gM × Int) := lim (fun n => gB (e_sl_indexOf_3 0) rF tF n 30 [(4, x0), (9, 0), (4, x2), (0, x3), (9, 0), (0, x5), (0, x6), (0, x7), (9, 0), (9, 0), (9, 0)] [] σ)
theorem sl_indexOf_3_b30_l (σ : gM) (x0 x2 x3 x5 x6 x7 : Int) : Lm (fun n => gB (e_sl_indexOf_3 0) rF tF n 30 [(4, x0), (9, 0), (4, x2), (0, x3), (9, 0), (0, x5), (0, x6), (0, x7), (9, 0), (9, 0), (9, 0)] [] σ) (sl_indexOf_3_b30 σ x0 x2 x3 x5 x6 x7) := .of fun n => gB_le (gMos_spec (mb_sl_indexOf_3)) n _ _ _ σ
noncomputable def sl_indexOf_3_b52 (σ : gM) (x0 x2 x3 x5 x6 x7 : Int) : Option (gM × Int) := lim (fun n => gB (e_sl_indexOf_3 0) rF tF n 52 [(4, x0), (9, 0), (4, x2), (0, x3), (9, 0), (0, x5), (0, x6), (0, x7), (9, 0), (9, 0), (9, 0)] [] σ)
theorem sl_indexOf_3_b52_l (σ : gM) (x0 x2 x3 x5 x6 x7 : Int) : Lm (fun n => gB (e_sl_indexOf_3 0) rF tF n 52 [(4, x0), (9, 0), (4, x2), (0, x3), (9, 0), (0, x5), (0, x6), (0, x7), (9, 0), (9, 0), (9, 0)] [] σ) (sl_indexOf_3_b52 σ x0 x2 x3 x5 x6 x7) := .of fun n => gB_le (gMos_spec (mb_sl_indexOf_3)) n _ _ _ σ
noncomputable def sl_indexOf_3_b76 (σ : gM) (x0 x2 x3 x5 x6 x7 x8 x9 x10 : Int) : Option (gM × Int) := lim (fun n => gB (e_sl_indexOf_3 0) rF tF n 76 [(4, x0), (9, 0), (4, x2), (0, x3), (9, 0), (0, x5), (0, x6), (0, x7), (0, x8), (0, x9), (0, x10)] [] σ)
theorem sl_indexOf_3_b76_l (σ : gM) (x0 x2 x3 x5 x6 x7 x8 x9 x10 : Int) : Lm (fun n => gB (e_sl_indexOf_3 0) rF tF n 76 [(4, x0), (9, 0), (4, x2), (0, x3), (9, 0), (0, x5), (0, x6), (0, x7), (0, x8), (0, x9), (0, x10)] [] σ) (sl_indexOf_3_b76 σ x0 x2 x3 x5 x6 x7 x8 x9 x10) := .of fun n => gB_le (gMos_spec (mb_sl_indexOf_3)) n _ _ _ σ
noncomputable def sl_indexOf_3_b103 (σ : gM) (x0 x2 x3 x5 x6 x7 x8 x9 : Int) : Option (gM × Int) := lim (fun n => gB (e_sl_indexOf_3 0) rF tF n 103 [(4, x0), (9, 0), (4, x2), (0, x3), (9, 0), (0, x5), (0, x6), (0, x7), (0, x8), (0, x9), (9, 0)] [] σ)
theorem sl_indexOf_3_b103_l (σ : gM) (x0 x2 x3 x5 x6 x7 x8 x9 : Int) : Lm (fun n => gB (e_sl_indexOf_3 0) rF tF n 103 [(4, x0), (9, 0), (4, x2), (0, x3), (9, 0), (0, x5), (0, x6), (0, x7), (0, x8), (0, x9), (9, 0)] [] σ) (sl_indexOf_3_b103 σ x0 x2 x3 x5 x6 x7 x8 x9) := .of fun n => gB_le (gMos_spec (mb_sl_indexOf_3)) n _ _ _ σ
noncomputable def sl_indexOf_3_b113 (σ : gM) (x0 x2 x3 x5 x6 x7 : Int) : Option (gM × Int) := lim (fun n => gB (e_sl_indexOf_3 0) rF tF n 113 [(4, x0), (9, 0), (4, x2), (0, x3), (9, 0), (0, x5), (0, x6), (0, x7), (9, 0), (9, 0), (9, 0)] [] σ)
theorem sl_indexOf_3_b113_l (σ : gM) (x0 x2 x3 x5 x6 x7 : Int) : Lm (fun n => gB (e_sl_indexOf_3 0) rF tF n 113 [(4, x0), (9, 0), (4, x2), (0, x3), (9, 0), (0, x5), (0, x6), (0, x7), (9, 0), (9, 0), (9, 0)] [] σ) (sl_indexOf_3_b113 σ x0 x2 x3 x5 x6 x7) := .of fun n => gB_le (gMos_spec (mb_sl_indexOf_3)) n _ _ _ σ
theorem sl_indexOf_3_e (σ : gM) (x0 x1 x2 x3 x4 : Int) : sl_indexOf_3 σ x0 x1 x2 x3 x4 =
  (gtx x2 (if (0 : Int) ≤ 0 ∧ (0 : Int) < gsl x2 then
  (sl_indexOf_3_b14 σ x0 x2 x3 (gsc x2 0) (w32 (x1 - x3)) x4)
  else none)) := Lm.eqn (sl_indexOf_3_l ..) (.xtx (.ite (sl_indexOf_3_b14_l ..) .cst)) fun n => (rfl)
theorem sl_indexOf_3_b14_e (σ : gM) (x0 x2 x3 x5 x6 x7 : Int) : sl_indexOf_3_b14 σ x0 x2 x3 x5 x6 x7 =
  (if x6 < x7 then
  (some (σ, (-1)))
  else
  (gtx x0 (if 0 ≤ x7 ∧ x7 < gsl x0 then
    (if gsc x0 x7 = x5 then
      (sl_indexOf_3_b52 σ x0 x2 x3 x5 x6 x7)
      else
      (sl_indexOf_3_b30 σ x0 x2 x3 x5 x6 x7))
    else none))) := Lm.eqn (sl_indexOf_3_b14_l ..) (.ite .cst (.xtx (.ite (.ite (sl_indexOf_3_b52_l ..) (sl_indexOf_3_b30_l ..)) .cst))) fun n => (rfl)
theorem sl_indexOf_3_b30_e (σ : gM) (x0 x2 x3 x5 x6 x7 : Int) : sl_indexOf_3_b30 σ x0 x2 x3 x5 x6 x7 =
  (if x6 < w32 (x7 + 1) then
  (sl_indexOf_3_b52 σ x0 x2 x3 x5 x6 (w32 (x7 + 1)))
  else
  (gtx x0 (if 0 ≤ w32 (x7 + 1) ∧ w32 (x7 + 1) < gsl x0 then
    (if gsc x0 (w32 (x7 + 1)) = x5 then
      (sl_indexOf_3_b52 σ x0 x2 x3 x5 x6 (w32 (x7 + 1)))
      else
      (sl_indexOf_3_b30 σ x0 x2 x3 x5 x6 (w32 (x7 + 1))))
    else none))) := Lm.eqn (sl_indexOf_3_b30_l ..) (.ite (sl_indexOf_3_b52_l ..) (.xtx (.ite (.ite (sl_indexOf_3_b52_l ..) (sl_indexOf_3_b30_l ..)) .cst))) fun n => (rfl)
theorem sl_indexOf_3_b52_e (σ : gM) (x0 x2 x3 x5 x6 x7 : Int) : sl_indexOf_3_b52 σ x0 x2 x3 x5 x6 x7 =
  (if x6 < x7 then
  (sl_indexOf_3_b113 σ x0 x2 x3 x5 x6 x7)
  else
  (sl_indexOf_3_b76 σ x0 x2 x3 x5 x6 x7 (w32 (x7 + 1)) (w32 ((w32 ((w32 (x7 + 1)) + x3)) - 1)) 1)) := Lm.eqn (sl_indexOf_3_b52_l ..) (.ite (sl_indexOf_3_b113_l ..) (sl_indexOf_3_b76_l ..)) fun n => (rfl)
theorem sl_indexOf_3_b76_e (σ : gM) (x0 x2 x3 x5 x6 x7 x8 x9 x10 : Int) : sl_indexOf_3_b76 σ x0 x2 x3 x5 x6 x7 x8 x9 x10 =
  (if x8 < x9 then
  (gtx x0 (if 0 ≤ x8 ∧ x8 < gsl x0 then
    (gtx x2 (if 0 ≤ x10 ∧ x10 < gsl x2 then
      (if gsc x0 x8 = gsc x2 x10 then
        (sl_indexOf_3_b76 σ x0 x2 x3 x5 x6 x7 (w32 (x8 + 1)) x9 (w32 (x10 + 1)))
        else
        (sl_indexOf_3_b103 σ x0 x2 x3 x5 x6 x7 x8 x9))
      else none))
    else none))
  else
  (sl_indexOf_3_b103 σ x0 x2 x3 x5 x6 x7 x8 x9)) := Lm.eqn (sl_indexOf_3_b76_l ..) (.ite (.xtx (.ite (.xtx (.ite (.ite (sl_indexOf_3_b76_l ..) (sl_indexOf_3_b103_l ..)) .cst)) .cst)) (sl_indexOf_3_b103_l ..)) fun n => (rfl)
theorem sl_indexOf_3_b103_e (σ : gM) (x0 x2 x3 x5 x6 x7 x8 x9 : Int) : sl_indexOf_3_b103 σ x0 x2 x3 x5 x6 x7 x8 x9 =
  (if x8 = x9 then
  (some (σ, x7))
  else
  (sl_indexOf_3_b113 σ x0 x2 x3 x5 x6 x7)) := Lm.eqn (sl_indexOf_3_b103_l ..) (.ite .cst (sl_indexOf_3_b113_l ..)) fun n => (rfl)
theorem sl_indexOf_3_b113_e (σ : gM) (x0 x2 x3 x5 x6 x7 : Int) : sl_indexOf_3_b113 σ x0 x2 x3 x5 x6 x7 =
  (sl_indexOf_3_b14 σ x0 x2 x3 x5 x6 (w32 (x7 + 1))) := Lm.eqn (sl_indexOf_3_b113_l ..) (sl_indexOf_3_b14_l ..) fun n => (rfl)
def k_sl_indexOf_2 : List gC := [(0, 1, .aload_n 1, [], none), (1, 1, .arraylength, [], none), (2, 3, .ifCond .ne 5, [(0, 7)], none), (5, 1, .iconst 0, [], none),
  (6, 1, .ireturn, [], none), (7, 1, .aload_n 0, [], none), (8, 1, .arraylength, [], none), (9, 3, .ifCond .ne 5, [(0, 14)], none),
  (12, 1, .iconst (-1), [], none), (13, 1, .ireturn, [], none), (14, 1, .aload_n 0, [], none), (15, 1, .aload_n 0, [], none),
  (16, 1, .arraylength, [], none), (17, 1, .aload_n 1, [], none), (18, 1, .aload_n 1, [], none), (19, 1, .arraylength, [], none),
  (20, 1, .iconst 0, [], none), (21, 3, .invokestatic 99, [], none), (24, 1, .ireturn, [], none)]
def e_sl_indexOf_2 (m : Nat) : gE := (k_sl_indexOf_2, f_sl, c_sl, [(99, 5, 0, 0, .inl (fn_sl_indexOf_3 0))], [], (m, 0), 0)
theorem ok_sl_indexOf_2 : gchk cJ1_indexOf_2 2 k_sl_indexOf_2 = true := by decide +kernel
def fn_sl_indexOf_2 (m : Nat) : gFn := gF (e_sl_indexOf_2 m) 2
theorem mo_sl_indexOf_2 (m : Nat) : gMo (.inl (fn_sl_indexOf_2 m)) := gF_mo (E := e_sl_indexOf_2 m) ⟨mo_sl_indexOf_3 0, trivial⟩
noncomputable def sl_indexOf_2 (σ : gM) (x0 x1 : Int) : Option (gM × Int) := lim (fun n => fn_sl_indexOf_2 0 n [(4, x0), (4, x1)] σ)
theorem sl_indexOf_2_l (σ : gM) (x0 x1 : Int) : Lm (fun n => fn_sl_indexOf_2 0 n [(4, x0), (4, x1)] σ) (sl_indexOf_2 σ x0 x1) := .of fun n => mo_sl_indexOf_2 0 n [(4, x0), (4, x1)] σ
theorem sl_indexOf_2_e (σ : gM) (x0 x1 : Int) : sl_indexOf_2 σ x0 x1 =
  (gtx x1 (if gsl x1 = 0 then
  (some (σ, 0))
  else
  (gtx x0 (if gsl x0 = 0 then
    (some (σ, (-1)))
    else
    (gtx x0 (gtx x1 ((sl_indexOf_3 σ x0 (gsl x0) x1 (gsl x1) 0).bind fun p1 =>
      some (p1.1, p1.2)))))))) := Lm.eqn (sl_indexOf_2_l ..) (.xtx (.ite .cst (.xtx (.ite .cst (.xtx (.xtx (.bind (sl_indexOf_3_l ..) fun p1 => .cst))))))) fun n => (rfl)
def k_st_coder : List gC := [(0, 3, .getstatic 38, [], none), (3, 3, .ifCond .eq 10, [(0, 13)], none), (6, 1, .aload_n 0, [], none), (7, 3, .getfield 15, [], none),
  (10, 3, .goto 4, [(0, 14)], none), (13, 1, .iconst 1, [], none), (14, 1, .ireturn, [], none)]
def e_st_coder (m : Nat) : gE := (k_st_coder, f_st, c_st, [], [], (m, 0), 8)
theorem ok_st_coder : gchk cJ0_coder 1 k_st_coder = true := by decide +kernel
def fn_st_coder (m : Nat) : gFn := gF (e_st_coder m) 1
theorem mo_st_coder (m : Nat) : gMo (.inl (fn_st_coder m)) := gF_mo (E := e_st_coder m) trivial
noncomputable def st_coder (σ : gM) (x0 : Int) : Option (gM × Int) := lim (fun n => fn_st_coder 0 n [(3, x0)] σ)
theorem st_coder_l (σ : gM) (x0 : Int) : Lm (fun n => fn_st_coder 0 n [(3, x0)] σ) (st_coder σ x0) := .of fun n => mo_st_coder 0 n [(3, x0)] σ
theorem st_coder_e (σ : gM) (x0 : Int) : st_coder σ x0 =
  (if (1 : Int) = 0 then
  (if (-128 : Int) ≤ 1 ∧ (1 : Int) ≤ 127 then (some (σ, 1)) else none)
  else
  (gtx x0 (if (-128 : Int) ≤ 0 ∧ (0 : Int) ≤ 127 then (some (σ, 0)) else none))) := Lm.eqn (st_coder_l ..) (.ite .cst (.xtx .cst)) fun n => (rfl)
def k_st_length : List gC := [(0, 1, .aload_n 0, [], none), (1, 3, .getfield 9, [], none), (4, 1, .arraylength, [], none), (5, 1, .aload_n 0, [], none),
  (6, 3, .invokevirtual 335, [], none), (9, 1, .ishr, [], none), (10, 1, .ireturn, [], none)]
def e_st_length (m : Nat) : gE := (k_st_length, f_st, c_st, [(335, 1, 100, 0, .inl (fn_st_coder 0))], [], (m, 0), 0)
theorem ok_st_length : gchk cJ0_length 1 k_st_length = true := by decide +kernel
def fn_st_length (m : Nat) : gFn := gF (e_st_length m) 1
theorem mo_st_length (m : Nat) : gMo (.inl (fn_st_length m)) := gF_mo (E := e_st_length m) ⟨mo_st_coder 0, trivial⟩
noncomputable def st_length (σ : gM) (x0 : Int) : Option (gM × Int) := lim (fun n => fn_st_length 0 n [(3, x0)] σ)
theorem st_length_l (σ : gM) (x0 : Int) : Lm (fun n => fn_st_length 0 n [(3, x0)] σ) (st_length σ x0) := .of fun n => mo_st_length 0 n [(3, x0)] σ
theorem st_length_e (σ : gM) (x0 : Int) : st_length σ x0 =
  (gtx x0 (gtx x0 (gtx x0 ((st_coder σ x0).bind fun p1 =>
  some (p1.1, i_shr (gsl x0) p1.2))))) := Lm.eqn (st_length_l ..) (.xtx (.xtx (.xtx (.bind (st_coder_l ..) fun p1 => .cst)))) fun n => (rfl)
def k_st_isLatin1 : List gC := [(0, 3, .getstatic 38, [], none), (3, 3, .ifCond .eq 14, [(0, 17)], none), (6, 1, .aload_n 0, [], none), (7, 3, .getfield 15, [], none),
  (10, 3, .ifCond .ne 7, [(0, 17)], none), (13, 1, .iconst 1, [], none), (14, 3, .goto 4, [(0, 18)], none), (17, 1, .iconst 0, [], none),
  (18, 1, .ireturn, [], none)]
def e_st_isLatin1 (m : Nat) : gE := (k_st_isLatin1, f_st, c_st, [], [], (m, 0), 6)
theorem ok_st_isLatin1 : gchk cJ0_isLatin1 1 k_st_isLatin1 = true := by decide +kernel
def fn_st_isLatin1 (m : Nat) : gFn := gF (e_st_isLatin1 m) 1
theorem mo_st_isLatin1 (m : Nat) : gMo (.inl (fn_st_isLatin1 m)) := gF_mo (E := e_st_isLatin1 m) trivial
noncomputable def st_isLatin1 (σ : gM) (x0 : Int) : Option (gM × Int) := lim (fun n => fn_st_isLatin1 0 n [(3, x0)] σ)
theorem st_isLatin1_l (σ : gM) (x0 : Int) : Lm (fun n => fn_st_isLatin1 0 n [(3, x0)] σ) (st_isLatin1 σ x0) := .of fun n => mo_st_isLatin1 0 n [(3, x0)] σ
theorem st_isLatin1_e (σ : gM) (x0 : Int) : st_isLatin1 σ x0 =
  (if (1 : Int) = 0 then
  (some (σ, 0))
  else
  (gtx x0 (if (0 : Int) = 0 then
    (some (σ, 1))
    else
    (some (σ, 0))))) := Lm.eqn (st_isLatin1_l ..) (.ite .cst (.xtx (.ite .cst .cst))) fun n => (rfl)
def k_st_charAt : List gC := [(0, 1, .aload_n 0, [], none), (1, 3, .invokevirtual 492, [], none), (4, 3, .ifCond .eq 12, [(0, 16)], none), (7, 1, .aload_n 0, [], none),
  (8, 3, .getfield 9, [], none), (11, 1, .iload_n 1, [], none), (12, 3, .invokestatic 495, [], none), (15, 1, .ireturn, [], none),
  (16, 1, .aload_n 0, [], none), (17, 3, .getfield 9, [], none), (20, 1, .iload_n 1, [], none), (21, 3, .invokestatic 498, [], none),
  (24, 1, .ireturn, [], none)]
def e_st_charAt (m : Nat) : gE := (k_st_charAt, f_st, c_st, [(492, 1, 100, 0, .inl (fn_st_isLatin1 0)), (495, 2, 0, 0, .inl (fn_sl_charAt 0))], [], (m, 0), 7)
theorem ok_st_charAt : gchk cJ0_charAt 2 k_st_charAt = true := by decide +kernel
def fn_st_charAt (m : Nat) : gFn := gF (e_st_charAt m) 2
theorem mo_st_charAt (m : Nat) : gMo (.inl (fn_st_charAt m)) := gF_mo (E := e_st_charAt m) ⟨mo_st_isLatin1 0, ⟨mo_sl_charAt 0, trivial⟩⟩
noncomputable def st_charAt (σ : gM) (x0 x1 : Int) : Option (gM × Int) := lim (fun n => fn_st_charAt 0 n [(3, x0), (0, x1)] σ)
theorem st_charAt_l (σ : gM) (x0 x1 : Int) : Lm (fun n => fn_st_charAt 0 n [(3, x0), (0, x1)] σ) (st_charAt σ x0 x1) := .of fun n => mo_st_charAt 0 n [(3, x0), (0, x1)] σ
theorem st_charAt_e (σ : gM) (x0 x1 : Int) : st_charAt σ x0 x1 =
  (gtx x0 ((st_isLatin1 σ x0).bind fun p1 =>
  if p1.2 = 0 then
  (gtx x0 (none))
  else
  (gtx x0 ((sl_charAt p1.1 x0 x1).bind fun p2 =>
    if 0 ≤ p2.2 ∧ p2.2 ≤ 65535 then (some (p2.1, p2.2)) else none)))) := Lm.eqn (st_charAt_l ..) (.xtx (.bind (st_isLatin1_l ..) fun p1 => (.ite (.xtx .cst) (.xtx (.bind (sl_charAt_l ..) fun p2 => .cst))))) fun n => (rfl)
def k_st_indexOf : List gC := [(0, 1, .aload_n 0, [], none), (1, 3, .invokevirtual 492, [], none), (4, 3, .ifCond .eq 19, [(0, 23)], none), (7, 1, .aload_n 0, [], none),
  (8, 3, .getfield 9, [], none), (11, 1, .iload_n 1, [], none), (12, 1, .iload_n 2, [], none), (13, 1, .aload_n 0, [], none),
  (14, 3, .invokevirtual 505, [], none), (17, 3, .invokestatic 637, [], none), (20, 3, .goto 16, [(0, 36)], none), (23, 1, .aload_n 0, [], none),
  (24, 3, .getfield 9, [], none), (27, 1, .iload_n 1, [], none), (28, 1, .iload_n 2, [], none), (29, 1, .aload_n 0, [], none),
  (30, 3, .invokevirtual 505, [], none), (33, 3, .invokestatic 640, [], none), (36, 1, .ireturn, [], none)]
def e_st_indexOf (m : Nat) : gE := (k_st_indexOf, f_st, c_st, [(492, 1, 100, 0, .inl (fn_st_isLatin1 0)), (505, 1, 100, 0, .inl (fn_st_length 0)), (637, 4, 0, 0, .inl (fn_sl_indexOf 0))], [], (m, 0), 0)
theorem ok_st_indexOf : gchk cJ0_indexOf 3 k_st_indexOf = true := by decide +kernel
def fn_st_indexOf (m : Nat) : gFn := gF (e_st_indexOf m) 3
theorem mo_st_indexOf (m : Nat) : gMo (.inl (fn_st_indexOf m)) := gF_mo (E := e_st_indexOf m) ⟨mo_st_isLatin1 0, ⟨mo_st_length 0, ⟨mo_sl_indexOf 0, trivial⟩⟩⟩
noncomputable def st_indexOf (σ : gM) (x0 x1 x2 : Int) : Option (gM × Int) := lim (fun n => fn_st_indexOf 0 n [(3, x0), (0, x1), (0, x2)] σ)
theorem st_indexOf_l (σ : gM) (x0 x1 x2 : Int) : Lm (fun n => fn_st_indexOf 0 n [(3, x0), (0, x1), (0, x2)] σ) (st_indexOf σ x0 x1 x2) := .of fun n => mo_st_indexOf 0 n [(3, x0), (0, x1), (0, x2)] σ
theorem st_indexOf_e (σ : gM) (x0 x1 x2 : Int) : st_indexOf σ x0 x1 x2 =
  (gtx x0 ((st_isLatin1 σ x0).bind fun p1 =>
  if p1.2 = 0 then
  (gtx x0 (gtx x0 ((st_length p1.1 x0).bind fun p2 =>
    none)))
  else
  (gtx x0 (gtx x0 ((st_length p1.1 x0).bind fun p3 =>
    (sl_indexOf p3.1 x0 x1 x2 p3.2).bind fun p4 =>
    some (p4.1, p4.2)))))) := Lm.eqn (st_indexOf_l ..) (.xtx (.bind (st_isLatin1_l ..) fun p1 => (.ite (.xtx (.xtx (.bind (st_length_l ..) fun p2 => .cst))) (.xtx (.xtx (.bind (st_length_l ..) fun p3 => (.bind (sl_indexOf_l ..) fun p4 => .cst))))))) fun n => (rfl)
def k_st_indexOf_2 : List gC := [(0, 1, .aload_n 0, [], none), (1, 1, .iload_n 1, [], none), (2, 1, .iconst 0, [], none), (3, 3, .invokevirtual 633, [], none),
  (6, 1, .ireturn, [], none)]
def e_st_indexOf_2 (m : Nat) : gE := (k_st_indexOf_2, f_st, c_st, [(633, 3, 100, 0, .inl (fn_st_indexOf 0))], [], (m, 0), 0)
theorem ok_st_indexOf_2 : gchk cJ0_indexOf_2 2 k_st_indexOf_2 = true := by decide +kernel
def fn_st_indexOf_2 (m : Nat) : gFn := gF (e_st_indexOf_2 m) 2
theorem mo_st_indexOf_2 (m : Nat) : gMo (.inl (fn_st_indexOf_2 m)) := gF_mo (E := e_st_indexOf_2 m) ⟨mo_st_indexOf 0, trivial⟩
noncomputable def st_indexOf_2 (σ : gM) (x0 x1 : Int) : Option (gM × Int) := lim (fun n => fn_st_indexOf_2 0 n [(3, x0), (0, x1)] σ)
theorem st_indexOf_2_l (σ : gM) (x0 x1 : Int) : Lm (fun n => fn_st_indexOf_2 0 n [(3, x0), (0, x1)] σ) (st_indexOf_2 σ x0 x1) := .of fun n => mo_st_indexOf_2 0 n [(3, x0), (0, x1)] σ
theorem st_indexOf_2_e (σ : gM) (x0 x1 : Int) : st_indexOf_2 σ x0 x1 =
  (gtx x0 ((st_indexOf σ x0 x1 0).bind fun p1 =>
  some (p1.1, p1.2))) := Lm.eqn (st_indexOf_2_l ..) (.xtx (.bind (st_indexOf_l ..) fun p1 => .cst)) fun n => (rfl)
def k_st_indexOf_3 : List gC := [(0, 1, .aload_n 0, [], none), (1, 3, .invokevirtual 335, [], none), (4, 1, .istore_n 2, [], none), (5, 1, .iload_n 2, [], none),
  (6, 1, .aload_n 1, [], none), (7, 3, .invokevirtual 335, [], none), (10, 3, .if_icmp .ne 36, [(0, 46)], none), (13, 1, .aload_n 0, [], none),
  (14, 3, .invokevirtual 492, [], none), (17, 3, .ifCond .eq 17, [(0, 34)], none), (20, 1, .aload_n 0, [], none), (21, 3, .getfield 9, [], none),
  (24, 1, .aload_n 1, [], none), (25, 3, .getfield 9, [], none), (28, 3, .invokestatic 647, [], none), (31, 3, .goto 14, [(0, 45)], none),
  (34, 1, .aload_n 0, [], none), (35, 3, .getfield 9, [], none), (38, 1, .aload_n 1, [], none), (39, 3, .getfield 9, [], none),
  (42, 3, .invokestatic 649, [], none), (45, 1, .ireturn, [], none), (46, 1, .iload_n 2, [], none), (47, 3, .ifCond .ne 5, [(0, 52)], none),
  (50, 1, .iconst (-1), [], none), (51, 1, .ireturn, [], none), (52, 1, .aload_n 0, [], none), (53, 3, .getfield 9, [], none),
  (56, 1, .aload_n 1, [], none), (57, 3, .getfield 9, [], none), (60, 3, .invokestatic 650, [], none), (63, 1, .ireturn, [], none)]
def e_st_indexOf_3 (m : Nat) : gE := (k_st_indexOf_3, f_st, c_st, [(335, 1, 100, 0, .inl (fn_st_coder 0)), (492, 1, 100, 0, .inl (fn_st_isLatin1 0)), (647, 2, 0, 0, .inl (fn_sl_indexOf_2 0))], [], (m, 0), 0)
theorem ok_st_indexOf_3 : gchk cJ0_indexOf_3 3 k_st_indexOf_3 = true := by decide +kernel
def fn_st_indexOf_3 (m : Nat) : gFn := gF (e_st_indexOf_3 m) 3
theorem mo_st_indexOf_3 (m : Nat) : gMo (.inl (fn_st_indexOf_3 m)) := gF_mo (E := e_st_indexOf_3 m) ⟨mo_st_coder 0, ⟨mo_st_isLatin1 0, ⟨mo_sl_indexOf_2 0, trivial⟩⟩⟩
noncomputable def st_indexOf_3 (σ : gM) (x0 x1 : Int) : Option (gM × Int) := lim (fun n => fn_st_indexOf_3 0 n [(3, x0), (3, x1)] σ)
theorem st_indexOf_3_l (σ : gM) (x0 x1 : Int) : Lm (fun n => fn_st_indexOf_3 0 n [(3, x0), (3, x1)] σ) (st_indexOf_3 σ x0 x1) := .of fun n => mo_st_indexOf_3 0 n [(3, x0), (3, x1)] σ
theorem st_indexOf_3_e (σ : gM) (x0 x1 : Int) : st_indexOf_3 σ x0 x1 =
  (gtx x0 ((st_coder σ x0).bind fun p1 =>
  gtx x1 ((st_coder p1.1 x1).bind fun p2 =>
  if p1.2 = p2.2 then
  (gtx x0 ((st_isLatin1 p2.1 x0).bind fun p3 =>
    if p3.2 = 0 then
    (gtx x0 (gtx x1 (none)))
    else
    (gtx x0 (gtx x1 ((sl_indexOf_2 p3.1 x0 x1).bind fun p4 =>
      some (p4.1, p4.2))))))
  else
  (if p1.2 = 0 then
    (some (p2.1, (-1)))
    else
    (gtx x0 (gtx x1 (none))))))) := Lm.eqn (st_indexOf_3_l ..) (.xtx (.bind (st_coder_l ..) fun p1 => (.xtx (.bind (st_coder_l ..) fun p2 => (.ite (.xtx (.bind (st_isLatin1_l ..) fun p3 => (.ite (.xtx (.xtx .cst)) (.xtx (.xtx (.bind (sl_indexOf_2_l ..) fun p4 => .cst)))))) (.ite .cst (.xtx (.xtx .cst)))))))) fun n => (rfl)
