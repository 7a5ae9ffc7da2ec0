set_option maxRecDepth 100000
def f_wl : List (Nat × Nat × Int × Nat) := [(7, 12, 1, 2), (13, 12, 2, 2), (22, 12, 0, 0), (63, 12, 3, 1)]
def c_wl : List (Nat × gV) := [(26, 1, 1000000000), (34, 1, 10)]
def k_wl_of : List gC := [(0, 1, .aload_n 0, [], none), (1, 1, .lload_n 1, [], none), (2, 3, .invokestatic 16, [], none), (5, 3, .putfield 22, [], none),
  (8, 1, .lload_n 1, [], none), (9, 1, .lstore_n 3, [], none), (10, 1, .iconst 0, [], none), (11, 2, .istore 5, [], none),
  (13, 2, .iload 5, [], some [true, false, false, true, false, true]), (15, 1, .iconst 4, [], none), (16, 3, .if_icmp .ge 30, [(0, 46)], none), (19, 1, .aload_n 0, [], none),
  (20, 3, .getfield 7, [], none), (23, 2, .iload 5, [], none), (25, 1, .lload_n 3, [], none), (26, 3, .ldc2_w 26, [], none),
  (29, 1, .lrem, [], none), (30, 3, .invokestatic 28, [], none), (33, 1, .lastore, [], none), (34, 1, .lload_n 3, [], none),
  (35, 3, .ldc2_w 26, [], none), (38, 1, .ldiv, [], none), (39, 1, .lstore_n 3, [], none), (40, 3, .iinc 5 1, [], none),
  (43, 3, .goto (-30), [(0, 13)], none), (46, 1, .return_, [], none)]
def e_wl_of (m : Nat) : gE := (k_wl_of, f_wl, c_wl, [(16, 1, 0, 0, .inl (fn_jl_signum 0)), (28, 1, 0, 1, .inl (fn_jm_abs 0))], [], (m, 24227587787227680242996183141042265400644274563352017343858361682490010613500890323204207710303182943436953965533314456975336030601216), 5)
theorem ok_wl_of : gchk cX4_of 6 k_wl_of = true := by decide +kernel
def fn_wl_of (m : Nat) : gFn := gF (e_wl_of m) 6
theorem mo_wl_of (m : Nat) : gMo (.inl (fn_wl_of m)) := gF_mo (E := e_wl_of m) ⟨mo_jl_signum 0, ⟨mo_jm_abs 0, trivial⟩⟩
noncomputable def wl_of (σ : gM) (w x1 : Int) : Option (gM × Int) := lim (fun n => fn_wl_of 119 n [(2, w), (1, x1)] σ)
theorem wl_of_l (σ : gM) (w x1 : Int) : Lm (fun n => fn_wl_of 119 n [(2, w), (1, x1)] σ) (wl_of σ w x1) := .of fun n => mo_wl_of 119 n [(2, w), (1, x1)] σ
theorem mb_wl_of : gMos (e_wl_of 119).2.2.2.1 := ⟨mo_jl_signum 0, ⟨mo_jm_abs 0, trivial⟩⟩
noncomputable def wl_of_b13 (σ : gM) (x0 x3 x5 : Int) : Option (gM × Int) := lim (fun n => gB (e_wl_of 119) rF tF n 13 [(2, x0), (9, 0), (9, 0), (1, x3), (9, 0), (0, x5)] [] σ)
theorem wl_of_b13_l (σ : gM) (x0 x3 x5 : Int) : Lm (fun n => gB (e_wl_of 119) rF tF n 13 [(2, x0), (9, 0), (9, 0), (1, x3), (9, 0), (0, x5)] [] σ) (wl_of_b13 σ x0 x3 x5) := .of fun n => gB_le (gMos_spec (mb_wl_of)) n _ _ _ σ
theorem wl_of_e (σ : gM) (w x1 : Int) : wl_of σ w x1 =
  ((jl_signum σ x1).bind fun p1 =>
  gis 119 w 12 (gwr 24227587787227680242996183141042265400644274563352017343858361682490010613500890323204207710303182943436953965533314456975336030601216 w 0 (wl_of_b13 (gW p1.1 w 0 p1.2) w x1 0))) := Lm.eqn (wl_of_l ..) (.bind (jl_signum_l ..) fun p1 => (.xis (.xwr (wl_of_b13_l ..)))) fun n => (rfl)
theorem wl_of_b13_e (σ : gM) (x0 x3 x5 : Int) : wl_of_b13 σ x0 x3 x5 =
  (if x5 < 4 then
  (gis 119 x0 12 (if (1000000000 : Int) = 0 then none else
    ((jm_abs σ (Int.tmod x3 1000000000)).bind fun p1 =>
      gis 119 (gR x0 1) 4 (gwr 24227587787227680242996183141042265400644274563352017343858361682490010613500890323204207710303182943436953965533314456975336030601216 (gR x0 1) 0 (if 0 ≤ x5 ∧ x5 < gN (gR x0 1) then
      (if (1000000000 : Int) = 0 then none else
        (wl_of_b13 (gW p1.1 (gR x0 1) x5 p1.2) x0 (w64 (Int.tdiv x3 1000000000)) (w32 (x5 + 1))))
      else none)))))
  else
  (some (σ, 0))) := Lm.eqn (wl_of_b13_l ..) (.ite (.xis (.ite .cst (.bind (jm_abs_l ..) fun p1 => (.xis (.xwr (.ite (.ite .cst (wl_of_b13_l ..)) .cst)))))) .cst) fun n => (rfl)
def k_wl_settle : List gC := [(0, 1, .iconst 1, [], none), (1, 1, .istore_n 2, [], none), (2, 1, .iconst 0, [], none), (3, 1, .istore_n 3, [], none),
  (4, 1, .iload_n 3, [], some [true, true, true, true]), (5, 1, .iconst 4, [], none), (6, 3, .if_icmp .ge 30, [(0, 36)], none), (9, 1, .iload_n 2, [], none),
  (10, 3, .ifCond .eq 18, [(0, 28)], none), (13, 1, .aload_n 0, [], none), (14, 3, .getfield 7, [], none), (17, 1, .iload_n 3, [], none),
  (18, 1, .laload, [], none), (19, 1, .lconst 0, [], none), (20, 1, .lcmp, [], none), (21, 3, .ifCond .ne 7, [(0, 28)], none),
  (24, 1, .iconst 1, [], none), (25, 3, .goto 4, [(0, 29)], none), (28, 1, .iconst 0, [], some [true, true, false, true]), (29, 1, .istore_n 2, [], some [true, true, false, true]),
  (30, 3, .iinc 3 1, [], none), (33, 3, .goto (-29), [(0, 4)], none), (36, 1, .aload_n 0, [], none), (37, 1, .iload_n 2, [], none),
  (38, 3, .ifCond .eq 7, [(0, 45)], none), (41, 1, .iconst 0, [], none), (42, 3, .goto 4, [(0, 46)], none), (45, 1, .iload_n 1, [], none),
  (46, 3, .putfield 22, [], some [false, false, false, false]), (49, 1, .return_, [], none)]
def e_wl_settle (m : Nat) : gE := (k_wl_settle, f_wl, c_wl, [], [], (m, 24227587787227680242996183141042265400644274563352017343858361682490010613500890323204207710303182895976115492988405664938630582370304), 5)
theorem ok_wl_settle : gchk cX4_settle 4 k_wl_settle = true := by decide +kernel
def fn_wl_settle (m : Nat) : gFn := gF (e_wl_settle m) 4
theorem mo_wl_settle (m : Nat) : gMo (.inl (fn_wl_settle m)) := gF_mo (E := e_wl_settle m) trivial
noncomputable def wl_settle (σ : gM) (w x1 : Int) : Option (gM × Int) := lim (fun n => fn_wl_settle 119 n [(2, w), (0, x1)] σ)
theorem wl_settle_l (σ : gM) (w x1 : Int) : Lm (fun n => fn_wl_settle 119 n [(2, w), (0, x1)] σ) (wl_settle σ w x1) := .of fun n => mo_wl_settle 119 n [(2, w), (0, x1)] σ
theorem mb_wl_settle : gMos (e_wl_settle 119).2.2.2.1 := trivial
noncomputable def wl_settle_b4 (σ : gM) (x0 x1 x2 x3 : Int) : Option (gM × Int) := lim (fun n => gB (e_wl_settle 119) rF tF n 4 [(2, x0), (0, x1), (0, x2), (0, x3)] [] σ)
theorem wl_settle_b4_l (σ : gM) (x0 x1 x2 x3 : Int) : Lm (fun n => gB (e_wl_settle 119) rF tF n 4 [(2, x0), (0, x1), (0, x2), (0, x3)] [] σ) (wl_settle_b4 σ x0 x1 x2 x3) := .of fun n => gB_le (gMos_spec (mb_wl_settle)) n _ _ _ σ
noncomputable def wl_settle_b28 (σ : gM) (x0 x1 x3 : Int) : Option (gM × Int) := lim (fun n => gB (e_wl_settle 119) rF tF n 28 [(2, x0), (0, x1), (9, 0), (0, x3)] [] σ)
theorem wl_settle_b28_l (σ : gM) (x0 x1 x3 : Int) : Lm (fun n => gB (e_wl_settle 119) rF tF n 28 [(2, x0), (0, x1), (9, 0), (0, x3)] [] σ) (wl_settle_b28 σ x0 x1 x3) := .of fun n => gB_le (gMos_spec (mb_wl_settle)) n _ _ _ σ
noncomputable def wl_settle_b29 (σ : gM) (x0 x1 x3 y0 : Int) : Option (gM × Int) := lim (fun n => gB (e_wl_settle 119) rF tF n 29 [(2, x0), (0, x1), (9, 0), (0, x3)] [(0, y0)] σ)
theorem wl_settle_b29_l (σ : gM) (x0 x1 x3 y0 : Int) : Lm (fun n => gB (e_wl_settle 119) rF tF n 29 [(2, x0), (0, x1), (9, 0), (0, x3)] [(0, y0)] σ) (wl_settle_b29 σ x0 x1 x3 y0) := .of fun n => gB_le (gMos_spec (mb_wl_settle)) n _ _ _ σ
noncomputable def wl_settle_b46 (σ : gM) (y0 y1 : Int) : Option (gM × Int) := lim (fun n => gB (e_wl_settle 119) rF tF n 46 [(9, 0), (9, 0), (9, 0), (9, 0)] [(0, y0), (2, y1)] σ)
theorem wl_settle_b46_l (σ : gM) (y0 y1 : Int) : Lm (fun n => gB (e_wl_settle 119) rF tF n 46 [(9, 0), (9, 0), (9, 0), (9, 0)] [(0, y0), (2, y1)] σ) (wl_settle_b46 σ y0 y1) := .of fun n => gB_le (gMos_spec (mb_wl_settle)) n _ _ _ σ
theorem wl_settle_e (σ : gM) (w x1 : Int) : wl_settle σ w x1 =
  (wl_settle_b4 σ w x1 1 0) := Lm.eqn (wl_settle_l ..) (wl_settle_b4_l ..) fun n => (rfl)
theorem wl_settle_b4_e (σ : gM) (x0 x1 x2 x3 : Int) : wl_settle_b4 σ x0 x1 x2 x3 =
  (if x3 < 4 then
  (if x2 = 0 then
    (wl_settle_b28 σ x0 x1 x3)
    else
    (gis 119 x0 12 (gis 119 (gR x0 1) 4 (if 0 ≤ x3 ∧ x3 < gN (gR x0 1) then
      (if l_cmp (σ (gR x0 1) x3) 0 = 0 then
        (wl_settle_b29 σ x0 x1 x3 1)
        else
        (wl_settle_b28 σ x0 x1 x3))
      else none))))
  else
  (if x2 = 0 then
    (wl_settle_b46 σ x1 x0)
    else
    (wl_settle_b46 σ 0 x0))) := Lm.eqn (wl_settle_b4_l ..) (.ite (.ite (wl_settle_b28_l ..) (.xis (.xis (.ite (.ite (wl_settle_b29_l ..) (wl_settle_b28_l ..)) .cst)))) (.ite (wl_settle_b46_l ..) (wl_settle_b46_l ..))) fun n => (rfl)
theorem wl_settle_b28_e (σ : gM) (x0 x1 x3 : Int) : wl_settle_b28 σ x0 x1 x3 =
  (wl_settle_b29 σ x0 x1 x3 0) := Lm.eqn (wl_settle_b28_l ..) (wl_settle_b29_l ..) fun n => (rfl)
theorem wl_settle_b29_e (σ : gM) (x0 x1 x3 y0 : Int) : wl_settle_b29 σ x0 x1 x3 y0 =
  (wl_settle_b4 σ x0 x1 y0 (w32 (x3 + 1))) := Lm.eqn (wl_settle_b29_l ..) (wl_settle_b4_l ..) fun n => (rfl)
theorem wl_settle_b46_e (σ : gM) (y0 y1 : Int) : wl_settle_b46 σ y0 y1 =
  (gis 119 y1 12 (gwr 24227587787227680242996183141042265400644274563352017343858361682490010613500890323204207710303182895976115492988405664938630582370304 y1 0 (some (gW σ y1 0 y0, 0)))) := Lm.eqn (wl_settle_b46_l ..) (.xis (.xwr .cst)) fun n => (rfl)
def k_wl_more : List gC := [(0, 1, .iload_n 1, [], none), (1, 1, .i2l, [], none), (2, 1, .lstore_n 2, [], none), (3, 1, .iconst 0, [], none),
  (4, 2, .istore 4, [], none), (6, 2, .iload 4, [], some [true, false, true, false, true, false, false]), (8, 1, .iconst 4, [], none), (9, 3, .if_icmp .ge 44, [(0, 53)], none),
  (12, 3, .ldc2_w 34, [], none), (15, 1, .aload_n 0, [], none), (16, 3, .getfield 7, [], none), (19, 2, .iload 4, [], none),
  (21, 1, .laload, [], none), (22, 1, .lmul, [], none), (23, 1, .lload_n 2, [], none), (24, 1, .ladd, [], none),
  (25, 2, .lstore 5, [], none), (27, 1, .aload_n 0, [], none), (28, 3, .getfield 7, [], none), (31, 2, .iload 4, [], none),
  (33, 2, .lload 5, [], none), (35, 3, .ldc2_w 26, [], none), (38, 1, .lrem, [], none), (39, 1, .lastore, [], none),
  (40, 2, .lload 5, [], none), (42, 3, .ldc2_w 26, [], none), (45, 1, .ldiv, [], none), (46, 1, .lstore_n 2, [], none),
  (47, 3, .iinc 4 1, [], none), (50, 3, .goto (-44), [(0, 6)], none), (53, 1, .aload_n 0, [], none), (54, 1, .iconst 1, [], none),
  (55, 3, .invokevirtual 36, [], none), (58, 1, .lload_n 2, [], none), (59, 1, .lconst 0, [], none), (60, 1, .lcmp, [], none),
  (61, 3, .ifCond .ne 7, [(0, 68)], none), (64, 1, .iconst 1, [], none), (65, 3, .goto 4, [(0, 69)], none), (68, 1, .iconst 0, [], none),
  (69, 1, .ireturn, [], none)]
def e_wl_more (m : Nat) : gE := (k_wl_more, f_wl, c_wl, [(36, 2, 12, 5, .inl (fn_wl_settle m))], [], (m, 24227587787227680242996183141042265400644274563352017343858361682490010613500890323204207710303182943436953965533314456975336030601216), 6)
theorem ok_wl_more : gchk cX4_more 7 k_wl_more = true := by decide +kernel
def fn_wl_more (m : Nat) : gFn := gF (e_wl_more m) 7
theorem mo_wl_more (m : Nat) : gMo (.inl (fn_wl_more m)) := gF_mo (E := e_wl_more m) ⟨mo_wl_settle m, trivial⟩
noncomputable def wl_more (σ : gM) (w x1 : Int) : Option (gM × Int) := lim (fun n => fn_wl_more 119 n [(2, w), (0, x1)] σ)
theorem wl_more_l (σ : gM) (w x1 : Int) : Lm (fun n => fn_wl_more 119 n [(2, w), (0, x1)] σ) (wl_more σ w x1) := .of fun n => mo_wl_more 119 n [(2, w), (0, x1)] σ
theorem mb_wl_more : gMos (e_wl_more 119).2.2.2.1 := ⟨mo_wl_settle 119, trivial⟩
noncomputable def wl_more_b6 (σ : gM) (x0 x2 x4 : Int) : Option (gM × Int) := lim (fun n => gB (e_wl_more 119) rF tF n 6 [(2, x0), (9, 0), (1, x2), (9, 0), (0, x4), (9, 0), (9, 0)] [] σ)
theorem wl_more_b6_l (σ : gM) (x0 x2 x4 : Int) : Lm (fun n => gB (e_wl_more 119) rF tF n 6 [(2, x0), (9, 0), (1, x2), (9, 0), (0, x4), (9, 0), (9, 0)] [] σ) (wl_more_b6 σ x0 x2 x4) := .of fun n => gB_le (gMos_spec (mb_wl_more)) n _ _ _ σ
theorem wl_more_e (σ : gM) (w x1 : Int) : wl_more σ w x1 =
  (wl_more_b6 σ w x1 0) := Lm.eqn (wl_more_l ..) (wl_more_b6_l ..) fun n => (rfl)
theorem wl_more_b6_e (σ : gM) (x0 x2 x4 : Int) : wl_more_b6 σ x0 x2 x4 =
  (if x4 < 4 then
  (gis 119 x0 12 (gis 119 (gR x0 1) 4 (if 0 ≤ x4 ∧ x4 < gN (gR x0 1) then
    (gis 119 x0 12 (if (1000000000 : Int) = 0 then none else
      (gis 119 (gR x0 1) 4 (gwr 24227587787227680242996183141042265400644274563352017343858361682490010613500890323204207710303182943436953965533314456975336030601216 (gR x0 1) 0 (if 0 ≤ x4 ∧ x4 < gN (gR x0 1) then
        (if (1000000000 : Int) = 0 then none else
          (wl_more_b6 (gW σ (gR x0 1) x4 (Int.tmod (w64 ((w64 (10 * (σ (gR x0 1) x4))) + x2)) 1000000000)) x0 (w64 (Int.tdiv (w64 ((w64 (10 * (σ (gR x0 1) x4))) + x2)) 1000000000)) (w32 (x4 + 1))))
        else none)))))
    else none)))
  else
  (gis 119 x0 12 ((wl_settle σ x0 1).bind fun p1 =>
    if l_cmp x2 0 = 0 then
    (some (p1.1, 1))
    else
    (some (p1.1, 0))))) := Lm.eqn (wl_more_b6_l ..) (.ite (.xis (.xis (.ite (.xis (.ite .cst (.xis (.xwr (.ite (.ite .cst (wl_more_b6_l ..)) .cst))))) .cst))) (.xis (.bind (wl_settle_l ..) fun p1 => (.ite .cst .cst)))) fun n => (rfl)
def k_wl_digit : List gC := [(0, 1, .aload_n 0, [], none), (1, 3, .getfield 7, [], none), (4, 1, .iload_n 1, [], none), (5, 2, .bipush 9, [], none),
  (7, 1, .idiv, [], none), (8, 1, .laload, [], none), (9, 1, .lstore_n 2, [], none), (10, 1, .iload_n 1, [], none),
  (11, 2, .bipush 9, [], none), (13, 1, .irem, [], none), (14, 2, .istore 4, [], none), (16, 2, .iload 4, [], some [false, false, true, false, true]),
  (18, 3, .ifCond .le 15, [(0, 33)], none), (21, 1, .lload_n 2, [], none), (22, 3, .ldc2_w 34, [], none), (25, 1, .ldiv, [], none),
  (26, 1, .lstore_n 2, [], none), (27, 3, .iinc 4 (-1), [], none), (30, 3, .goto (-14), [(0, 16)], none), (33, 1, .lload_n 2, [], none),
  (34, 3, .ldc2_w 34, [], none), (37, 1, .lrem, [], none), (38, 1, .l2i, [], none), (39, 1, .ireturn, [], none)]
def e_wl_digit (m : Nat) : gE := (k_wl_digit, f_wl, c_wl, [], [], (m, 0), 0)
theorem ok_wl_digit : gchk cX4_digit 5 k_wl_digit = true := by decide +kernel
def fn_wl_digit (m : Nat) : gFn := gF (e_wl_digit m) 5
theorem mo_wl_digit (m : Nat) : gMo (.inl (fn_wl_digit m)) := gF_mo (E := e_wl_digit m) trivial
noncomputable def wl_digit (σ : gM) (w x1 : Int) : Option (gM × Int) := lim (fun n => fn_wl_digit 119 n [(2, w), (0, x1)] σ)
theorem wl_digit_l (σ : gM) (w x1 : Int) : Lm (fun n => fn_wl_digit 119 n [(2, w), (0, x1)] σ) (wl_digit σ w x1) := .of fun n => mo_wl_digit 119 n [(2, w), (0, x1)] σ
theorem mb_wl_digit : gMos (e_wl_digit 119).2.2.2.1 := trivial
noncomputable def wl_digit_b16 (σ : gM) (x2 x4 : Int) : Option (gM × Int) := lim (fun n => gB (e_wl_digit 119) rF tF n 16 [(9, 0), (9, 0), (1, x2), (9, 0), (0, x4)] [] σ)
theorem wl_digit_b16_l (σ : gM) (x2 x4 : Int) : Lm (fun n => gB (e_wl_digit 119) rF tF n 16 [(9, 0), (9, 0), (1, x2), (9, 0), (0, x4)] [] σ) (wl_digit_b16 σ x2 x4) := .of fun n => gB_le (gMos_spec (mb_wl_digit)) n _ _ _ σ
theorem wl_digit_e (σ : gM) (w x1 : Int) : wl_digit σ w x1 =
  (gis 119 w 12 (if (9 : Int) = 0 then none else
  (gis 119 (gR w 1) 4 (if 0 ≤ w32 (Int.tdiv x1 9) ∧ w32 (Int.tdiv x1 9) < gN (gR w 1) then
    (if (9 : Int) = 0 then none else
      (wl_digit_b16 σ (σ (gR w 1) (w32 (Int.tdiv x1 9))) (Int.tmod x1 9)))
    else none)))) := Lm.eqn (wl_digit_l ..) (.xis (.ite .cst (.xis (.ite (.ite .cst (wl_digit_b16_l ..)) .cst)))) fun n => (rfl)
theorem wl_digit_b16_e (σ : gM) (x2 x4 : Int) : wl_digit_b16 σ x2 x4 =
  (if 0 < x4 then
  (if (10 : Int) = 0 then none else
    (wl_digit_b16 σ (w64 (Int.tdiv x2 10)) (w32 (x4 + (-1)))))
  else
  (if (10 : Int) = 0 then none else
    (some (σ, w32 (Int.tmod x2 10))))) := Lm.eqn (wl_digit_b16_l ..) (.ite (.ite .cst (wl_digit_b16_l ..)) (.ite .cst .cst)) fun n => (rfl)
def k_wl_digits : List gC := [(0, 2, .bipush 36, [], none), (2, 1, .istore_n 1, [], none), (3, 1, .iload_n 1, [], some [true, true]), (4, 1, .iconst 1, [], none),
  (5, 3, .if_icmp .le 19, [(0, 24)], none), (8, 1, .aload_n 0, [], none), (9, 1, .iload_n 1, [], none), (10, 1, .iconst 1, [], none),
  (11, 1, .isub, [], none), (12, 3, .invokevirtual 55, [], none), (15, 3, .ifCond .ne 9, [(0, 24)], none), (18, 3, .iinc 1 (-1), [], none),
  (21, 3, .goto (-18), [(0, 3)], none), (24, 1, .iload_n 1, [], none), (25, 1, .ireturn, [], none)]
def e_wl_digits (m : Nat) : gE := (k_wl_digits, f_wl, c_wl, [(55, 2, 12, 0, .inl (fn_wl_digit m))], [], (m, 0), 0)
theorem ok_wl_digits : gchk cX4_digits 2 k_wl_digits = true := by decide +kernel
def fn_wl_digits (m : Nat) : gFn := gF (e_wl_digits m) 2
theorem mo_wl_digits (m : Nat) : gMo (.inl (fn_wl_digits m)) := gF_mo (E := e_wl_digits m) ⟨mo_wl_digit m, trivial⟩
noncomputable def wl_digits (σ : gM) (w : Int) : Option (gM × Int) := lim (fun n => fn_wl_digits 119 n [(2, w)] σ)
theorem wl_digits_l (σ : gM) (w : Int) : Lm (fun n => fn_wl_digits 119 n [(2, w)] σ) (wl_digits σ w) := .of fun n => mo_wl_digits 119 n [(2, w)] σ
theorem mb_wl_digits : gMos (e_wl_digits 119).2.2.2.1 := ⟨mo_wl_digit 119, trivial⟩
noncomputable def wl_digits_b3 (σ : gM) (x0 x1 : Int) : Option (gM × Int) := lim (fun n => gB (e_wl_digits 119) rF tF n 3 [(2, x0), (0, x1)] [] σ)
theorem wl_digits_b3_l (σ : gM) (x0 x1 : Int) : Lm (fun n => gB (e_wl_digits 119) rF tF n 3 [(2, x0), (0, x1)] [] σ) (wl_digits_b3 σ x0 x1) := .of fun n => gB_le (gMos_spec (mb_wl_digits)) n _ _ _ σ
theorem wl_digits_e (σ : gM) (w : Int) : wl_digits σ w =
  (wl_digits_b3 σ w 36) := Lm.eqn (wl_digits_l ..) (wl_digits_b3_l ..) fun n => (rfl)
theorem wl_digits_b3_e (σ : gM) (x0 x1 : Int) : wl_digits_b3 σ x0 x1 =
  (if 1 < x1 then
  (gis 119 x0 12 ((wl_digit σ x0 (w32 (x1 - 1))).bind fun p1 =>
    if p1.2 = 0 then
    (wl_digits_b3 p1.1 x0 (w32 (x1 + (-1))))
    else
    (some (p1.1, x1))))
  else
  (some (σ, x1))) := Lm.eqn (wl_digits_b3_l ..) (.ite (.xis (.bind (wl_digit_l ..) fun p1 => (.ite (wl_digits_b3_l ..) .cst))) .cst) fun n => (rfl)
def k_wl_isLong : List gC := [(0, 1, .aload_n 0, [], none), (1, 1, .lconst 0, [], none), (2, 3, .putfield 63, [], none), (5, 1, .aload_n 0, [], none),
  (6, 3, .invokevirtual 67, [], none), (9, 1, .iconst 1, [], none), (10, 1, .isub, [], none), (11, 1, .istore_n 1, [], none),
  (12, 1, .iload_n 1, [], some [true, true, false, false, false, false, false]), (13, 3, .ifCond .lt 96, [(0, 109)], none), (16, 1, .aload_n 0, [], none), (17, 3, .getfield 22, [], none),
  (20, 3, .ifCond .ge 12, [(0, 32)], none), (23, 1, .aload_n 0, [], none), (24, 1, .iload_n 1, [], none), (25, 3, .invokevirtual 55, [], none),
  (28, 1, .ineg, [], none), (29, 3, .goto 8, [(0, 37)], none), (32, 1, .aload_n 0, [], none), (33, 1, .iload_n 1, [], none),
  (34, 3, .invokevirtual 55, [], none), (37, 1, .istore_n 2, [], some [true, true, false, false, false, false, false]), (38, 1, .aload_n 0, [], none), (39, 3, .getfield 63, [], none),
  (42, 3, .ldc2_w 34, [], none), (45, 3, .invokestatic 71, [], none), (48, 1, .aload_n 0, [], none), (49, 3, .getfield 63, [], none),
  (52, 3, .ldc2_w 34, [], none), (55, 1, .lmul, [], none), (56, 2, .bipush 63, [], none), (58, 1, .lshr, [], none),
  (59, 1, .lcmp, [], none), (60, 3, .ifCond .eq 5, [(0, 65)], none), (63, 1, .iconst 0, [], none), (64, 1, .ireturn, [], none),
  (65, 1, .aload_n 0, [], none), (66, 3, .getfield 63, [], none), (69, 3, .ldc2_w 34, [], none), (72, 1, .lmul, [], none),
  (73, 1, .lstore_n 3, [], none), (74, 1, .lload_n 3, [], none), (75, 1, .iload_n 2, [], none), (76, 1, .i2l, [], none),
  (77, 1, .ladd, [], none), (78, 2, .lstore 5, [], none), (80, 1, .lload_n 3, [], none), (81, 2, .lload 5, [], none),
  (83, 1, .lxor, [], none), (84, 1, .iload_n 2, [], none), (85, 1, .i2l, [], none), (86, 2, .lload 5, [], none),
  (88, 1, .lxor, [], none), (89, 1, .land, [], none), (90, 1, .lconst 0, [], none), (91, 1, .lcmp, [], none),
  (92, 3, .ifCond .ge 5, [(0, 97)], none), (95, 1, .iconst 0, [], none), (96, 1, .ireturn, [], none), (97, 1, .aload_n 0, [], none),
  (98, 2, .lload 5, [], none), (100, 3, .putfield 63, [], none), (103, 3, .iinc 1 (-1), [], none), (106, 3, .goto (-94), [(0, 12)], none),
  (109, 1, .iconst 1, [], none), (110, 1, .ireturn, [], none)]
def e_wl_isLong (m : Nat) : gE := (k_wl_isLong, f_wl, c_wl, [(67, 1, 12, 0, .inl (fn_wl_digits m)), (55, 2, 12, 0, .inl (fn_wl_digit m)), (71, 2, 0, 1, .inl (fn_jm_multiplyHigh 0))], [], (m, 193820702297821441943969465128338123205154196506816138750866893459920084908007122585633661682425463167808923943907245319509044658962432), 6)
theorem ok_wl_isLong : gchk cX4_isLong 7 k_wl_isLong = true := by decide +kernel
def fn_wl_isLong (m : Nat) : gFn := gF (e_wl_isLong m) 7
theorem mo_wl_isLong (m : Nat) : gMo (.inl (fn_wl_isLong m)) := gF_mo (E := e_wl_isLong m) ⟨mo_wl_digits m, ⟨mo_wl_digit m, ⟨mo_jm_multiplyHigh 0, trivial⟩⟩⟩
noncomputable def wl_isLong (σ : gM) (w : Int) : Option (gM × Int) := lim (fun n => fn_wl_isLong 119 n [(2, w)] σ)
theorem wl_isLong_l (σ : gM) (w : Int) : Lm (fun n => fn_wl_isLong 119 n [(2, w)] σ) (wl_isLong σ w) := .of fun n => mo_wl_isLong 119 n [(2, w)] σ
theorem mb_wl_isLong : gMos (e_wl_isLong 119).2.2.2.1 := ⟨mo_wl_digits 119, ⟨mo_wl_digit 119, ⟨mo_jm_multiplyHigh 0, trivial⟩⟩⟩
noncomputable def wl_isLong_b12 (σ : gM) (x0 x1 : Int) : Option (gM × Int) := lim (fun n => gB (e_wl_isLong 119) rF tF n 12 [(2, x0), (0, x1), (9, 0), (9, 0), (9, 0), (9, 0), (9, 0)] [] σ)
theorem wl_isLong_b12_l (σ : gM) (x0 x1 : Int) : Lm (fun n => gB (e_wl_isLong 119) rF tF n 12 [(2, x0), (0, x1), (9, 0), (9, 0), (9, 0), (9, 0), (9, 0)] [] σ) (wl_isLong_b12 σ x0 x1) := .of fun n => gB_le (gMos_spec (mb_wl_isLong)) n _ _ _ σ
noncomputable def wl_isLong_b37 (σ : gM) (x0 x1 y0 : Int) : Option (gM × Int) := lim (fun n => gB (e_wl_isLong 119) rF tF n 37 [(2, x0), (0, x1), (9, 0), (9, 0), (9, 0), (9, 0), (9, 0)] [(0, y0)] σ)
theorem wl_isLong_b37_l (σ : gM) (x0 x1 y0 : Int) : Lm (fun n => gB (e_wl_isLong 119) rF tF n 37 [(2, x0), (0, x1), (9, 0), (9, 0), (9, 0), (9, 0), (9, 0)] [(0, y0)] σ) (wl_isLong_b37 σ x0 x1 y0) := .of fun n => gB_le (gMos_spec (mb_wl_isLong)) n _ _ _ σ
theorem wl_isLong_e (σ : gM) (w : Int) : wl_isLong σ w =
  (gis 119 w 12 (gwr 193820702297821441943969465128338123205154196506816138750866893459920084908007122585633661682425463167808923943907245319509044658962432 w 3 (gis 119 w 12 ((wl_digits (gW σ w 3 0) w).bind fun p1 =>
  wl_isLong_b12 p1.1 w (w32 (p1.2 - 1)))))) := Lm.eqn (wl_isLong_l ..) (.xis (.xwr (.xis (.bind (wl_digits_l ..) fun p1 => (wl_isLong_b12_l ..))))) fun n => (rfl)
theorem wl_isLong_b12_e (σ : gM) (x0 x1 : Int) : wl_isLong_b12 σ x0 x1 =
  (if x1 < 0 then
  (some (σ, 1))
  else
  (gis 119 x0 12 (if σ x0 0 < 0 then
    (gis 119 x0 12 ((wl_digit σ x0 x1).bind fun p2 =>
      wl_isLong_b37 p2.1 x0 x1 (w32 (-p2.2))))
    else
    (gis 119 x0 12 ((wl_digit σ x0 x1).bind fun p1 =>
      wl_isLong_b37 p1.1 x0 x1 p1.2))))) := Lm.eqn (wl_isLong_b12_l ..) (.ite .cst (.xis (.ite (.xis (.bind (wl_digit_l ..) fun p2 => (wl_isLong_b37_l ..))) (.xis (.bind (wl_digit_l ..) fun p1 => (wl_isLong_b37_l ..)))))) fun n => (rfl)
theorem wl_isLong_b37_e (σ : gM) (x0 x1 y0 : Int) : wl_isLong_b37 σ x0 x1 y0 =
  (gis 119 x0 12 ((jm_multiplyHigh σ (σ x0 3) 10).bind fun p1 =>
  gis 119 x0 12 (if l_cmp p1.2 (l_shr (w64 ((p1.1 x0 3) * 10)) 63) = 0 then
  (gis 119 x0 12 (if l_cmp (l_and (l_xor (w64 ((p1.1 x0 3) * 10)) (w64 ((w64 ((p1.1 x0 3) * 10)) + y0))) (l_xor y0 (w64 ((w64 ((p1.1 x0 3) * 10)) + y0)))) 0 < 0 then
    (some (p1.1, 0))
    else
    (gis 119 x0 12 (gwr 193820702297821441943969465128338123205154196506816138750866893459920084908007122585633661682425463167808923943907245319509044658962432 x0 3 (wl_isLong_b12 (gW p1.1 x0 3 (w64 ((w64 ((p1.1 x0 3) * 10)) + y0))) x0 (w32 (x1 + (-1))))))))
  else
  (some (p1.1, 0))))) := Lm.eqn (wl_isLong_b37_l ..) (.xis (.bind (jm_multiplyHigh_l ..) fun p1 => (.xis (.ite (.xis (.ite .cst (.xis (.xwr (wl_isLong_b12_l ..))))) .cst)))) fun n => (rfl)
def k_wl_size : List gC := [(0, 1, .iconst 3, [], none), (1, 1, .istore_n 2, [], none), (2, 1, .iload_n 2, [], some [true, true, true]), (3, 3, .ifCond .lt 47, [(0, 50)], none),
  (6, 1, .aload_n 0, [], none), (7, 3, .getfield 7, [], none), (10, 1, .iload_n 2, [], none), (11, 1, .laload, [], none),
  (12, 1, .aload_n 1, [], none), (13, 3, .getfield 7, [], none), (16, 1, .iload_n 2, [], none), (17, 1, .laload, [], none),
  (18, 1, .lcmp, [], none), (19, 3, .ifCond .eq 25, [(0, 44)], none), (22, 1, .aload_n 0, [], none), (23, 3, .getfield 7, [], none),
  (26, 1, .iload_n 2, [], none), (27, 1, .laload, [], none), (28, 1, .aload_n 1, [], none), (29, 3, .getfield 7, [], none),
  (32, 1, .iload_n 2, [], none), (33, 1, .laload, [], none), (34, 1, .lcmp, [], none), (35, 3, .ifCond .ge 7, [(0, 42)], none),
  (38, 1, .iconst (-1), [], none), (39, 3, .goto 4, [(0, 43)], none), (42, 1, .iconst 1, [], none), (43, 1, .ireturn, [], none),
  (44, 3, .iinc 2 (-1), [], none), (47, 3, .goto (-45), [(0, 2)], none), (50, 1, .iconst 0, [], none), (51, 1, .ireturn, [], none)]
def e_wl_size (m : Nat) : gE := (k_wl_size, f_wl, c_wl, [], [], (m, 0), 0)
theorem ok_wl_size : gchk cX4_size 3 k_wl_size = true := by decide +kernel
def fn_wl_size (m : Nat) : gFn := gF (e_wl_size m) 3
theorem mo_wl_size (m : Nat) : gMo (.inl (fn_wl_size m)) := gF_mo (E := e_wl_size m) trivial
noncomputable def wl_size (σ : gM) (x0 x1 : Int) : Option (gM × Int) := lim (fun n => fn_wl_size 119 n [(2, x0), (2, x1)] σ)
theorem wl_size_l (σ : gM) (x0 x1 : Int) : Lm (fun n => fn_wl_size 119 n [(2, x0), (2, x1)] σ) (wl_size σ x0 x1) := .of fun n => mo_wl_size 119 n [(2, x0), (2, x1)] σ
theorem mb_wl_size : gMos (e_wl_size 119).2.2.2.1 := trivial
noncomputable def wl_size_b2 (σ : gM) (x0 x1 x2 : Int) : Option (gM × Int) := lim (fun n => gB (e_wl_size 119) rF tF n 2 [(2, x0), (2, x1), (0, x2)] [] σ)
theorem wl_size_b2_l (σ : gM) (x0 x1 x2 : Int) : Lm (fun n => gB (e_wl_size 119) rF tF n 2 [(2, x0), (2, x1), (0, x2)] [] σ) (wl_size_b2 σ x0 x1 x2) := .of fun n => gB_le (gMos_spec (mb_wl_size)) n _ _ _ σ
theorem wl_size_e (σ : gM) (x0 x1 : Int) : wl_size σ x0 x1 =
  (wl_size_b2 σ x0 x1 3) := Lm.eqn (wl_size_l ..) (wl_size_b2_l ..) fun n => (rfl)
theorem wl_size_b2_e (σ : gM) (x0 x1 x2 : Int) : wl_size_b2 σ x0 x1 x2 =
  (if x2 < 0 then
  (some (σ, 0))
  else
  (gis 119 x0 12 (gis 119 (gR x0 1) 4 (if 0 ≤ x2 ∧ x2 < gN (gR x0 1) then
    (gis 119 x1 12 (gis 119 (gR x1 1) 4 (if 0 ≤ x2 ∧ x2 < gN (gR x1 1) then
      (if l_cmp (σ (gR x0 1) x2) (σ (gR x1 1) x2) = 0 then
        (wl_size_b2 σ x0 x1 (w32 (x2 + (-1))))
        else
        (gis 119 x0 12 (gis 119 (gR x0 1) 4 (if 0 ≤ x2 ∧ x2 < gN (gR x0 1) then
          (gis 119 x1 12 (gis 119 (gR x1 1) 4 (if 0 ≤ x2 ∧ x2 < gN (gR x1 1) then
            (if l_cmp (σ (gR x0 1) x2) (σ (gR x1 1) x2) < 0 then
              (some (σ, (-1)))
              else
              (some (σ, 1)))
            else none)))
          else none))))
      else none)))
    else none)))) := Lm.eqn (wl_size_b2_l ..) (.ite .cst (.xis (.xis (.ite (.xis (.xis (.ite (.ite (wl_size_b2_l ..) (.xis (.xis (.ite (.xis (.xis (.ite (.ite .cst .cst) .cst))) .cst)))) .cst))) .cst)))) fun n => (rfl)
def k_wl_compare : List gC := [(0, 1, .aload_n 0, [], none), (1, 3, .getfield 22, [], none), (4, 1, .aload_n 1, [], none), (5, 3, .getfield 22, [], none),
  (8, 3, .if_icmp .eq 20, [(0, 28)], none), (11, 1, .aload_n 0, [], none), (12, 3, .getfield 22, [], none), (15, 1, .aload_n 1, [], none),
  (16, 3, .getfield 22, [], none), (19, 3, .if_icmp .ge 7, [(0, 26)], none), (22, 1, .iconst (-1), [], none), (23, 3, .goto 4, [(0, 27)], none),
  (26, 1, .iconst 1, [], none), (27, 1, .ireturn, [], none), (28, 1, .aload_n 0, [], none), (29, 3, .getfield 22, [], none),
  (32, 3, .ifCond .ge 11, [(0, 43)], none), (35, 1, .aload_n 1, [], none), (36, 1, .aload_n 0, [], none), (37, 3, .invokestatic 40, [], none),
  (40, 3, .goto 8, [(0, 48)], none), (43, 1, .aload_n 0, [], none), (44, 1, .aload_n 1, [], none), (45, 3, .invokestatic 40, [], none),
  (48, 1, .ireturn, [], none)]
def e_wl_compare (m : Nat) : gE := (k_wl_compare, f_wl, c_wl, [(40, 2, 0, 0, .inl (fn_wl_size m))], [], (m, 0), 0)
theorem ok_wl_compare : gchk cX4_compare 2 k_wl_compare = true := by decide +kernel
def fn_wl_compare (m : Nat) : gFn := gF (e_wl_compare m) 2
theorem mo_wl_compare (m : Nat) : gMo (.inl (fn_wl_compare m)) := gF_mo (E := e_wl_compare m) ⟨mo_wl_size m, trivial⟩
noncomputable def wl_compare (σ : gM) (x0 x1 : Int) : Option (gM × Int) := lim (fun n => fn_wl_compare 119 n [(2, x0), (2, x1)] σ)
theorem wl_compare_l (σ : gM) (x0 x1 : Int) : Lm (fun n => fn_wl_compare 119 n [(2, x0), (2, x1)] σ) (wl_compare σ x0 x1) := .of fun n => mo_wl_compare 119 n [(2, x0), (2, x1)] σ
theorem wl_compare_e (σ : gM) (x0 x1 : Int) : wl_compare σ x0 x1 =
  (gis 119 x0 12 (gis 119 x1 12 (if σ x0 0 = σ x1 0 then
  (gis 119 x0 12 (if σ x0 0 < 0 then
    ((wl_size σ x1 x0).bind fun p2 =>
      some (p2.1, p2.2))
    else
    ((wl_size σ x0 x1).bind fun p1 =>
      some (p1.1, p1.2))))
  else
  (gis 119 x0 12 (gis 119 x1 12 (if σ x0 0 < σ x1 0 then
    (some (σ, (-1)))
    else
    (some (σ, 1)))))))) := Lm.eqn (wl_compare_l ..) (.xis (.xis (.ite (.xis (.ite (.bind (wl_size_l ..) fun p2 => .cst) (.bind (wl_size_l ..) fun p1 => .cst))) (.xis (.xis (.ite .cst .cst)))))) fun n => (rfl)
def k_wl_of_2 : List gC := [(0, 1, .aload_n 0, [], none), (1, 1, .aload_n 1, [], none), (2, 3, .getfield 22, [], none), (5, 3, .putfield 22, [], none),
  (8, 1, .iconst 0, [], none), (9, 1, .istore_n 2, [], none), (10, 1, .iload_n 2, [], some [true, true, true]), (11, 1, .iconst 4, [], none),
  (12, 3, .if_icmp .ge 21, [(0, 33)], none), (15, 1, .aload_n 0, [], none), (16, 3, .getfield 7, [], none), (19, 1, .iload_n 2, [], none),
  (20, 1, .aload_n 1, [], none), (21, 3, .getfield 7, [], none), (24, 1, .iload_n 2, [], none), (25, 1, .laload, [], none),
  (26, 1, .lastore, [], none), (27, 3, .iinc 2 1, [], none), (30, 3, .goto (-20), [(0, 10)], none), (33, 1, .return_, [], none)]
def e_wl_of_2 (m : Nat) : gE := (k_wl_of_2, f_wl, c_wl, [], [], (m, 24227587787227680242996183141042265400644274563352017343858361682490010613500890323204207710303182943436953965533314456975336030601216), 5)
theorem ok_wl_of_2 : gchk cX4_of_2 3 k_wl_of_2 = true := by decide +kernel
def fn_wl_of_2 (m : Nat) : gFn := gF (e_wl_of_2 m) 3
theorem mo_wl_of_2 (m : Nat) : gMo (.inl (fn_wl_of_2 m)) := gF_mo (E := e_wl_of_2 m) trivial
noncomputable def wl_of_2 (σ : gM) (w x1 : Int) : Option (gM × Int) := lim (fun n => fn_wl_of_2 119 n [(2, w), (2, x1)] σ)
theorem wl_of_2_l (σ : gM) (w x1 : Int) : Lm (fun n => fn_wl_of_2 119 n [(2, w), (2, x1)] σ) (wl_of_2 σ w x1) := .of fun n => mo_wl_of_2 119 n [(2, w), (2, x1)] σ
theorem mb_wl_of_2 : gMos (e_wl_of_2 119).2.2.2.1 := trivial
noncomputable def wl_of_2_b10 (σ : gM) (x0 x1 x2 : Int) : Option (gM × Int) := lim (fun n => gB (e_wl_of_2 119) rF tF n 10 [(2, x0), (2, x1), (0, x2)] [] σ)
theorem wl_of_2_b10_l (σ : gM) (x0 x1 x2 : Int) : Lm (fun n => gB (e_wl_of_2 119) rF tF n 10 [(2, x0), (2, x1), (0, x2)] [] σ) (wl_of_2_b10 σ x0 x1 x2) := .of fun n => gB_le (gMos_spec (mb_wl_of_2)) n _ _ _ σ
theorem wl_of_2_e (σ : gM) (w x1 : Int) : wl_of_2 σ w x1 =
  (gis 119 x1 12 (gis 119 w 12 (gwr 24227587787227680242996183141042265400644274563352017343858361682490010613500890323204207710303182943436953965533314456975336030601216 w 0 (wl_of_2_b10 (gW σ w 0 (σ x1 0)) w x1 0)))) := Lm.eqn (wl_of_2_l ..) (.xis (.xis (.xwr (wl_of_2_b10_l ..)))) fun n => (rfl)
theorem wl_of_2_b10_e (σ : gM) (x0 x1 x2 : Int) : wl_of_2_b10 σ x0 x1 x2 =
  (if x2 < 4 then
  (gis 119 x0 12 (gis 119 x1 12 (gis 119 (gR x1 1) 4 (if 0 ≤ x2 ∧ x2 < gN (gR x1 1) then
    (gis 119 (gR x0 1) 4 (gwr 24227587787227680242996183141042265400644274563352017343858361682490010613500890323204207710303182943436953965533314456975336030601216 (gR x0 1) 0 (if 0 ≤ x2 ∧ x2 < gN (gR x0 1) then
      (wl_of_2_b10 (gW σ (gR x0 1) x2 (σ (gR x1 1) x2)) x0 x1 (w32 (x2 + 1)))
      else none)))
    else none))))
  else
  (some (σ, 0))) := Lm.eqn (wl_of_2_b10_l ..) (.ite (.xis (.xis (.xis (.ite (.xis (.xwr (.ite (wl_of_2_b10_l ..) .cst))) .cst)))) .cst) fun n => (rfl)
def k_wl_less : List gC := [(0, 1, .lconst 0, [], none), (1, 1, .lstore_n 3, [], none), (2, 1, .iconst 0, [], none), (3, 2, .istore 5, [], none),
  (5, 2, .iload 5, [], some [true, true, true, true, false, true, false, false]), (7, 1, .iconst 4, [], none), (8, 3, .if_icmp .ge 66, [(0, 74)], none), (11, 1, .aload_n 1, [], none),
  (12, 3, .getfield 7, [], none), (15, 2, .iload 5, [], none), (17, 1, .laload, [], none), (18, 1, .aload_n 2, [], none),
  (19, 3, .getfield 7, [], none), (22, 2, .iload 5, [], none), (24, 1, .laload, [], none), (25, 1, .lsub, [], none),
  (26, 1, .lload_n 3, [], none), (27, 1, .lsub, [], none), (28, 2, .lstore 6, [], none), (30, 2, .lload 6, [], none),
  (32, 1, .lconst 0, [], none), (33, 1, .lcmp, [], none), (34, 3, .ifCond .ge 7, [(0, 41)], none), (37, 1, .lconst 1, [], none),
  (38, 3, .goto 4, [(0, 42)], none), (41, 1, .lconst 0, [], none), (42, 1, .lstore_n 3, [], some [true, true, true, false, false, true, true, false]), (43, 1, .aload_n 0, [], none),
  (44, 3, .getfield 7, [], none), (47, 2, .iload 5, [], none), (49, 2, .lload 6, [], none), (51, 1, .lconst 0, [], none),
  (52, 1, .lcmp, [], none), (53, 3, .ifCond .ge 12, [(0, 65)], none), (56, 2, .lload 6, [], none), (58, 3, .ldc2_w 26, [], none),
  (61, 1, .ladd, [], none), (62, 3, .goto 5, [(0, 67)], none), (65, 2, .lload 6, [], none), (67, 1, .lastore, [], some [true, true, true, true, false, true, false, false]),
  (68, 3, .iinc 5 1, [], none), (71, 3, .goto (-66), [(0, 5)], none), (74, 1, .return_, [], none)]
def e_wl_less (m : Nat) : gE := (k_wl_less, f_wl, c_wl, [], [], (m, 47460838472544908792036705448230912), 5)
theorem ok_wl_less : gchk cX4_less 8 k_wl_less = true := by decide +kernel
def fn_wl_less (m : Nat) : gFn := gF (e_wl_less m) 8
theorem mo_wl_less (m : Nat) : gMo (.inl (fn_wl_less m)) := gF_mo (E := e_wl_less m) trivial
noncomputable def wl_less (σ : gM) (w x1 x2 : Int) : Option (gM × Int) := lim (fun n => fn_wl_less 119 n [(2, w), (2, x1), (2, x2)] σ)
theorem wl_less_l (σ : gM) (w x1 x2 : Int) : Lm (fun n => fn_wl_less 119 n [(2, w), (2, x1), (2, x2)] σ) (wl_less σ w x1 x2) := .of fun n => mo_wl_less 119 n [(2, w), (2, x1), (2, x2)] σ
theorem mb_wl_less : gMos (e_wl_less 119).2.2.2.1 := trivial
noncomputable def wl_less_b5 (σ : gM) (x0 x1 x2 x3 x5 : Int) : Option (gM × Int) := lim (fun n => gB (e_wl_less 119) rF tF n 5 [(2, x0), (2, x1), (2, x2), (1, x3), (9, 0), (0, x5), (9, 0), (9, 0)] [] σ)
theorem wl_less_b5_l (σ : gM) (x0 x1 x2 x3 x5 : Int) : Lm (fun n => gB (e_wl_less 119) rF tF n 5 [(2, x0), (2, x1), (2, x2), (1, x3), (9, 0), (0, x5), (9, 0), (9, 0)] [] σ) (wl_less_b5 σ x0 x1 x2 x3 x5) := .of fun n => gB_le (gMos_spec (mb_wl_less)) n _ _ _ σ
noncomputable def wl_less_b42 (σ : gM) (x0 x1 x2 x5 x6 y0 : Int) : Option (gM × Int) := lim (fun n => gB (e_wl_less 119) rF tF n 42 [(2, x0), (2, x1), (2, x2), (9, 0), (9, 0), (0, x5), (1, x6), (9, 0)] [(1, y0)] σ)
theorem wl_less_b42_l (σ : gM) (x0 x1 x2 x5 x6 y0 : Int) : Lm (fun n => gB (e_wl_less 119) rF tF n 42 [(2, x0), (2, x1), (2, x2), (9, 0), (9, 0), (0, x5), (1, x6), (9, 0)] [(1, y0)] σ) (wl_less_b42 σ x0 x1 x2 x5 x6 y0) := .of fun n => gB_le (gMos_spec (mb_wl_less)) n _ _ _ σ
noncomputable def wl_less_b67 (σ : gM) (x0 x1 x2 x3 x5 y0 y1 y2 : Int) : Option (gM × Int) := lim (fun n => gB (e_wl_less 119) rF tF n 67 [(2, x0), (2, x1), (2, x2), (1, x3), (9, 0), (0, x5), (9, 0), (9, 0)] [(1, y0), (0, y1), (2, y2)] σ)
theorem wl_less_b67_l (σ : gM) (x0 x1 x2 x3 x5 y0 y1 y2 : Int) : Lm (fun n => gB (e_wl_less 119) rF tF n 67 [(2, x0), (2, x1), (2, x2), (1, x3), (9, 0), (0, x5), (9, 0), (9, 0)] [(1, y0), (0, y1), (2, y2)] σ) (wl_less_b67 σ x0 x1 x2 x3 x5 y0 y1 y2) := .of fun n => gB_le (gMos_spec (mb_wl_less)) n _ _ _ σ
theorem wl_less_e (σ : gM) (w x1 x2 : Int) : wl_less σ w x1 x2 =
  (wl_less_b5 σ w x1 x2 0 0) := Lm.eqn (wl_less_l ..) (wl_less_b5_l ..) fun n => (rfl)
theorem wl_less_b5_e (σ : gM) (x0 x1 x2 x3 x5 : Int) : wl_less_b5 σ x0 x1 x2 x3 x5 =
  (if x5 < 4 then
  (gis 119 x1 12 (gis 119 (gR x1 1) 4 (if 0 ≤ x5 ∧ x5 < gN (gR x1 1) then
    (gis 119 x2 12 (gis 119 (gR x2 1) 4 (if 0 ≤ x5 ∧ x5 < gN (gR x2 1) then
      (if l_cmp (w64 ((w64 ((σ (gR x1 1) x5) - (σ (gR x2 1) x5))) - x3)) 0 < 0 then
        (wl_less_b42 σ x0 x1 x2 x5 (w64 ((w64 ((σ (gR x1 1) x5) - (σ (gR x2 1) x5))) - x3)) 1)
        else
        (wl_less_b42 σ x0 x1 x2 x5 (w64 ((w64 ((σ (gR x1 1) x5) - (σ (gR x2 1) x5))) - x3)) 0))
      else none)))
    else none)))
  else
  (some (σ, 0))) := Lm.eqn (wl_less_b5_l ..) (.ite (.xis (.xis (.ite (.xis (.xis (.ite (.ite (wl_less_b42_l ..) (wl_less_b42_l ..)) .cst))) .cst))) .cst) fun n => (rfl)
theorem wl_less_b42_e (σ : gM) (x0 x1 x2 x5 x6 y0 : Int) : wl_less_b42 σ x0 x1 x2 x5 x6 y0 =
  (gis 119 x0 12 (if l_cmp x6 0 < 0 then
  (wl_less_b67 σ x0 x1 x2 y0 x5 (w64 (x6 + 1000000000)) x5 (gR x0 1))
  else
  (wl_less_b67 σ x0 x1 x2 y0 x5 x6 x5 (gR x0 1)))) := Lm.eqn (wl_less_b42_l ..) (.xis (.ite (wl_less_b67_l ..) (wl_less_b67_l ..))) fun n => (rfl)
theorem wl_less_b67_e (σ : gM) (x0 x1 x2 x3 x5 y0 y1 y2 : Int) : wl_less_b67 σ x0 x1 x2 x3 x5 y0 y1 y2 =
  (gis 119 y2 4 (gwr 47460838472544908792036705448230912 y2 0 (if 0 ≤ y1 ∧ y1 < gN y2 then
  (wl_less_b5 (gW σ y2 y1 y0) x0 x1 x2 x3 (w32 (x5 + 1)))
  else none))) := Lm.eqn (wl_less_b67_l ..) (.xis (.xwr (.ite (wl_less_b5_l ..) .cst))) fun n => (rfl)
def k_wl_sum : List gC := [(0, 1, .iload_n 3, [], none), (1, 3, .ifCond .eq 11, [(0, 12)], none), (4, 1, .aload_n 2, [], none), (5, 3, .getfield 22, [], none),
  (8, 1, .ineg, [], none), (9, 3, .goto 7, [(0, 16)], none), (12, 1, .aload_n 2, [], none), (13, 3, .getfield 22, [], none),
  (16, 2, .istore 4, [], some [true, true, true, false, false, false, false, false, false, false]), (18, 2, .iload 4, [], none), (20, 3, .ifCond .ne 10, [(0, 30)], none), (23, 1, .aload_n 0, [], none),
  (24, 1, .aload_n 1, [], none), (25, 3, .invokevirtual 44, [], none), (28, 1, .iconst 1, [], none), (29, 1, .ireturn, [], none),
  (30, 1, .aload_n 1, [], none), (31, 3, .getfield 22, [], none), (34, 3, .ifCond .ne 16, [(0, 50)], none), (37, 1, .aload_n 0, [], none),
  (38, 1, .aload_n 2, [], none), (39, 3, .invokevirtual 44, [], none), (42, 1, .aload_n 0, [], none), (43, 2, .iload 4, [], none),
  (45, 3, .putfield 22, [], none), (48, 1, .iconst 1, [], none), (49, 1, .ireturn, [], none), (50, 1, .aload_n 1, [], none),
  (51, 3, .getfield 22, [], none), (54, 2, .iload 4, [], none), (56, 3, .if_icmp .ne 83, [(0, 139)], none), (59, 1, .lconst 0, [], none),
  (60, 2, .lstore 5, [], none), (62, 1, .iconst 0, [], none), (63, 2, .istore 7, [], none), (65, 2, .iload 7, [], some [true, true, true, false, false, true, false, true, false, false]),
  (67, 1, .iconst 4, [], none), (68, 3, .if_icmp .ge 50, [(0, 118)], none), (71, 1, .aload_n 1, [], none), (72, 3, .getfield 7, [], none),
  (75, 2, .iload 7, [], none), (77, 1, .laload, [], none), (78, 1, .aload_n 2, [], none), (79, 3, .getfield 7, [], none),
  (82, 2, .iload 7, [], none), (84, 1, .laload, [], none), (85, 1, .ladd, [], none), (86, 2, .lload 5, [], none),
  (88, 1, .ladd, [], none), (89, 2, .lstore 8, [], none), (91, 1, .aload_n 0, [], none), (92, 3, .getfield 7, [], none),
  (95, 2, .iload 7, [], none), (97, 2, .lload 8, [], none), (99, 3, .ldc2_w 26, [], none), (102, 1, .lrem, [], none),
  (103, 1, .lastore, [], none), (104, 2, .lload 8, [], none), (106, 3, .ldc2_w 26, [], none), (109, 1, .ldiv, [], none),
  (110, 2, .lstore 5, [], none), (112, 3, .iinc 7 1, [], none), (115, 3, .goto (-50), [(0, 65)], none), (118, 1, .aload_n 0, [], none),
  (119, 1, .aload_n 1, [], none), (120, 3, .getfield 22, [], none), (123, 3, .invokevirtual 36, [], none), (126, 2, .lload 5, [], none),
  (128, 1, .lconst 0, [], none), (129, 1, .lcmp, [], none), (130, 3, .ifCond .ne 7, [(0, 137)], none), (133, 1, .iconst 1, [], none),
  (134, 3, .goto 4, [(0, 138)], none), (137, 1, .iconst 0, [], none), (138, 1, .ireturn, [], none), (139, 1, .aload_n 1, [], none),
  (140, 1, .aload_n 2, [], none), (141, 3, .invokestatic 40, [], none), (144, 3, .ifCond .ge 7, [(0, 151)], none), (147, 1, .iconst 1, [], none),
  (148, 3, .goto 4, [(0, 152)], none), (151, 1, .iconst 0, [], none), (152, 2, .istore 5, [], some [true, true, true, false, true, false, false, false, false, false]), (154, 1, .aload_n 0, [], none),
  (155, 2, .iload 5, [], none), (157, 3, .ifCond .eq 7, [(0, 164)], none), (160, 1, .aload_n 2, [], none), (161, 3, .goto 4, [(0, 165)], none),
  (164, 1, .aload_n 1, [], none), (165, 2, .iload 5, [], some [true, true, true, false, true, true, false, false, false, false]), (167, 3, .ifCond .eq 7, [(0, 174)], none), (170, 1, .aload_n 1, [], none),
  (171, 3, .goto 4, [(0, 175)], none), (174, 1, .aload_n 2, [], none), (175, 3, .invokevirtual 48, [], some [true, true, false, false, true, true, false, false, false, false]), (178, 1, .aload_n 0, [], none),
  (179, 2, .iload 5, [], none), (181, 3, .ifCond .eq 8, [(0, 189)], none), (184, 2, .iload 4, [], none), (186, 3, .goto 7, [(0, 193)], none),
  (189, 1, .aload_n 1, [], none), (190, 3, .getfield 22, [], none), (193, 3, .invokevirtual 36, [], some [false, false, false, false, false, false, false, false, false, false]), (196, 1, .iconst 1, [], none),
  (197, 1, .ireturn, [], none)]
def e_wl_sum (m : Nat) : gE := (k_wl_sum, f_wl, c_wl, [(44, 2, 12, 5, .inl (fn_wl_of_2 m)), (36, 2, 12, 5, .inl (fn_wl_settle m)), (40, 2, 0, 0, .inl (fn_wl_size m)), (48, 3, 12, 5, .inl (fn_wl_less m))], [], (m, 24227587787227680242996183141042265400644274563352017343858361682490010613500890323204207710303182943436953965533314456975336030601216), 6)
theorem ok_wl_sum : gchk cX4_sum 10 k_wl_sum = true := by decide +kernel
def fn_wl_sum (m : Nat) : gFn := gF (e_wl_sum m) 10
theorem mo_wl_sum (m : Nat) : gMo (.inl (fn_wl_sum m)) := gF_mo (E := e_wl_sum m) ⟨mo_wl_of_2 m, ⟨mo_wl_settle m, ⟨mo_wl_size m, ⟨mo_wl_less m, trivial⟩⟩⟩⟩
noncomputable def wl_sum (σ : gM) (w x1 x2 x3 : Int) : Option (gM × Int) := lim (fun n => fn_wl_sum 119 n [(2, w), (2, x1), (2, x2), (0, x3)] σ)
theorem wl_sum_l (σ : gM) (w x1 x2 x3 : Int) : Lm (fun n => fn_wl_sum 119 n [(2, w), (2, x1), (2, x2), (0, x3)] σ) (wl_sum σ w x1 x2 x3) := .of fun n => mo_wl_sum 119 n [(2, w), (2, x1), (2, x2), (0, x3)] σ
theorem mb_wl_sum : gMos (e_wl_sum 119).2.2.2.1 := ⟨mo_wl_of_2 119, ⟨mo_wl_settle 119, ⟨mo_wl_size 119, ⟨mo_wl_less 119, trivial⟩⟩⟩⟩
noncomputable def wl_sum_b16 (σ : gM) (x0 x1 x2 y0 : Int) : Option (gM × Int) := lim (fun n => gB (e_wl_sum 119) rF tF n 16 [(2, x0), (2, x1), (2, x2), (9, 0), (9, 0), (9, 0), (9, 0), (9, 0), (9, 0), (9, 0)] [(0, y0)] σ)
theorem wl_sum_b16_l (σ : gM) (x0 x1 x2 y0 : Int) : Lm (fun n => gB (e_wl_sum 119) rF tF n 16 [(2, x0), (2, x1), (2, x2), (9, 0), (9, 0), (9, 0), (9, 0), (9, 0), (9, 0), (9, 0)] [(0, y0)] σ) (wl_sum_b16 σ x0 x1 x2 y0) := .of fun n => gB_le (gMos_spec (mb_wl_sum)) n _ _ _ σ
noncomputable def wl_sum_b65 (σ : gM) (x0 x1 x2 x5 x7 : Int) : Option (gM × Int) := lim (fun n => gB (e_wl_sum 119) rF tF n 65 [(2, x0), (2, x1), (2, x2), (9, 0), (9, 0), (1, x5), (9, 0), (0, x7), (9, 0), (9, 0)] [] σ)
theorem wl_sum_b65_l (σ : gM) (x0 x1 x2 x5 x7 : Int) : Lm (fun n => gB (e_wl_sum 119) rF tF n 65 [(2, x0), (2, x1), (2, x2), (9, 0), (9, 0), (1, x5), (9, 0), (0, x7), (9, 0), (9, 0)] [] σ) (wl_sum_b65 σ x0 x1 x2 x5 x7) := .of fun n => gB_le (gMos_spec (mb_wl_sum)) n _ _ _ σ
noncomputable def wl_sum_b152 (σ : gM) (x0 x1 x2 x4 y0 : Int) : Option (gM × Int) := lim (fun n => gB (e_wl_sum 119) rF tF n 152 [(2, x0), (2, x1), (2, x2), (9, 0), (0, x4), (9, 0), (9, 0), (9, 0), (9, 0), (9, 0)] [(0, y0)] σ)
theorem wl_sum_b152_l (σ : gM) (x0 x1 x2 x4 y0 : Int) : Lm (fun n => gB (e_wl_sum 119) rF tF n 152 [(2, x0), (2, x1), (2, x2), (9, 0), (0, x4), (9, 0), (9, 0), (9, 0), (9, 0), (9, 0)] [(0, y0)] σ) (wl_sum_b152 σ x0 x1 x2 x4 y0) := .of fun n => gB_le (gMos_spec (mb_wl_sum)) n _ _ _ σ
noncomputable def wl_sum_b165 (σ : gM) (x0 x1 x2 x4 x5 y0 y1 : Int) : Option (gM × Int) := lim (fun n => gB (e_wl_sum 119) rF tF n 165 [(2, x0), (2, x1), (2, x2), (9, 0), (0, x4), (0, x5), (9, 0), (9, 0), (9, 0), (9, 0)] [(2, y0), (2, y1)] σ)
theorem wl_sum_b165_l (σ : gM) (x0 x1 x2 x4 x5 y0 y1 : Int) : Lm (fun n => gB (e_wl_sum 119) rF tF n 165 [(2, x0), (2, x1), (2, x2), (9, 0), (0, x4), (0, x5), (9, 0), (9, 0), (9, 0), (9, 0)] [(2, y0), (2, y1)] σ) (wl_sum_b165 σ x0 x1 x2 x4 x5 y0 y1) := .of fun n => gB_le (gMos_spec (mb_wl_sum)) n _ _ _ σ
noncomputable def wl_sum_b175 (σ : gM) (x0 x1 x4 x5 y0 y1 y2 : Int) : Option (gM × Int) := lim (fun n => gB (e_wl_sum 119) rF tF n 175 [(2, x0), (2, x1), (9, 0), (9, 0), (0, x4), (0, x5), (9, 0), (9, 0), (9, 0), (9, 0)] [(2, y0), (2, y1), (2, y2)] σ)
theorem wl_sum_b175_l (σ : gM) (x0 x1 x4 x5 y0 y1 y2 : Int) : Lm (fun n => gB (e_wl_sum 119) rF tF n 175 [(2, x0), (2, x1), (9, 0), (9, 0), (0, x4), (0, x5), (9, 0), (9, 0), (9, 0), (9, 0)] [(2, y0), (2, y1), (2, y2)] σ) (wl_sum_b175 σ x0 x1 x4 x5 y0 y1 y2) := .of fun n => gB_le (gMos_spec (mb_wl_sum)) n _ _ _ σ
noncomputable def wl_sum_b193 (σ : gM) (y0 y1 : Int) : Option (gM × Int) := lim (fun n => gB (e_wl_sum 119) rF tF n 193 [(9, 0), (9, 0), (9, 0), (9, 0), (9, 0), (9, 0), (9, 0), (9, 0), (9, 0), (9, 0)] [(0, y0), (2, y1)] σ)
theorem wl_sum_b193_l (σ : gM) (y0 y1 : Int) : Lm (fun n => gB (e_wl_sum 119) rF tF n 193 [(9, 0), (9, 0), (9, 0), (9, 0), (9, 0), (9, 0), (9, 0), (9, 0), (9, 0), (9, 0)] [(0, y0), (2, y1)] σ) (wl_sum_b193 σ y0 y1) := .of fun n => gB_le (gMos_spec (mb_wl_sum)) n _ _ _ σ
theorem wl_sum_e (σ : gM) (w x1 x2 x3 : Int) : wl_sum σ w x1 x2 x3 =
  (if x3 = 0 then
  (gis 119 x2 12 (wl_sum_b16 σ w x1 x2 (σ x2 0)))
  else
  (gis 119 x2 12 (wl_sum_b16 σ w x1 x2 (w32 (-(σ x2 0)))))) := Lm.eqn (wl_sum_l ..) (.ite (.xis (wl_sum_b16_l ..)) (.xis (wl_sum_b16_l ..))) fun n => (rfl)
theorem wl_sum_b16_e (σ : gM) (x0 x1 x2 y0 : Int) : wl_sum_b16 σ x0 x1 x2 y0 =
  (if y0 = 0 then
  (gis 119 x0 12 ((wl_of_2 σ x0 x1).bind fun p3 =>
    some (p3.1, 1)))
  else
  (gis 119 x1 12 (if σ x1 0 = 0 then
    (gis 119 x0 12 ((wl_of_2 σ x0 x2).bind fun p2 =>
      gis 119 x0 12 (gwr 24227587787227680242996183141042265400644274563352017343858361682490010613500890323204207710303182943436953965533314456975336030601216 x0 0 (some (gW p2.1 x0 0 y0, 1)))))
    else
    (gis 119 x1 12 (if σ x1 0 = y0 then
      (wl_sum_b65 σ x0 x1 x2 0 0)
      else
      ((wl_size σ x1 x2).bind fun p1 =>
        if p1.2 < 0 then
        (wl_sum_b152 p1.1 x0 x1 x2 y0 1)
        else
        (wl_sum_b152 p1.1 x0 x1 x2 y0 0))))))) := Lm.eqn (wl_sum_b16_l ..) (.ite (.xis (.bind (wl_of_2_l ..) fun p3 => .cst)) (.xis (.ite (.xis (.bind (wl_of_2_l ..) fun p2 => (.xis (.xwr .cst)))) (.xis (.ite (wl_sum_b65_l ..) (.bind (wl_size_l ..) fun p1 => (.ite (wl_sum_b152_l ..) (wl_sum_b152_l ..)))))))) fun n => (rfl)
theorem wl_sum_b65_e (σ : gM) (x0 x1 x2 x5 x7 : Int) : wl_sum_b65 σ x0 x1 x2 x5 x7 =
  (if x7 < 4 then
  (gis 119 x1 12 (gis 119 (gR x1 1) 4 (if 0 ≤ x7 ∧ x7 < gN (gR x1 1) then
    (gis 119 x2 12 (gis 119 (gR x2 1) 4 (if 0 ≤ x7 ∧ x7 < gN (gR x2 1) then
      (gis 119 x0 12 (if (1000000000 : Int) = 0 then none else
        (gis 119 (gR x0 1) 4 (gwr 24227587787227680242996183141042265400644274563352017343858361682490010613500890323204207710303182943436953965533314456975336030601216 (gR x0 1) 0 (if 0 ≤ x7 ∧ x7 < gN (gR x0 1) then
          (if (1000000000 : Int) = 0 then none else
            (wl_sum_b65 (gW σ (gR x0 1) x7 (Int.tmod (w64 ((w64 ((σ (gR x1 1) x7) + (σ (gR x2 1) x7))) + x5)) 1000000000)) x0 x1 x2 (w64 (Int.tdiv (w64 ((w64 ((σ (gR x1 1) x7) + (σ (gR x2 1) x7))) + x5)) 1000000000)) (w32 (x7 + 1))))
          else none)))))
      else none)))
    else none)))
  else
  (gis 119 x1 12 (gis 119 x0 12 ((wl_settle σ x0 (σ x1 0)).bind fun p1 =>
    if l_cmp x5 0 = 0 then
    (some (p1.1, 1))
    else
    (some (p1.1, 0)))))) := Lm.eqn (wl_sum_b65_l ..) (.ite (.xis (.xis (.ite (.xis (.xis (.ite (.xis (.ite .cst (.xis (.xwr (.ite (.ite .cst (wl_sum_b65_l ..)) .cst))))) .cst))) .cst))) (.xis (.xis (.bind (wl_settle_l ..) fun p1 => (.ite .cst .cst))))) fun n => (rfl)
theorem wl_sum_b152_e (σ : gM) (x0 x1 x2 x4 y0 : Int) : wl_sum_b152 σ x0 x1 x2 x4 y0 =
  (if y0 = 0 then
  (wl_sum_b165 σ x0 x1 x2 x4 y0 x1 x0)
  else
  (wl_sum_b165 σ x0 x1 x2 x4 y0 x2 x0)) := Lm.eqn (wl_sum_b152_l ..) (.ite (wl_sum_b165_l ..) (wl_sum_b165_l ..)) fun n => (rfl)
theorem wl_sum_b165_e (σ : gM) (x0 x1 x2 x4 x5 y0 y1 : Int) : wl_sum_b165 σ x0 x1 x2 x4 x5 y0 y1 =
  (if x5 = 0 then
  (wl_sum_b175 σ x0 x1 x4 x5 x2 y0 y1)
  else
  (wl_sum_b175 σ x0 x1 x4 x5 x1 y0 y1)) := Lm.eqn (wl_sum_b165_l ..) (.ite (wl_sum_b175_l ..) (wl_sum_b175_l ..)) fun n => (rfl)
theorem wl_sum_b175_e (σ : gM) (x0 x1 x4 x5 y0 y1 y2 : Int) : wl_sum_b175 σ x0 x1 x4 x5 y0 y1 y2 =
  (gis 119 y2 12 ((wl_less σ y2 y1 y0).bind fun p1 =>
  if x5 = 0 then
  (gis 119 x1 12 (wl_sum_b193 p1.1 (p1.1 x1 0) x0))
  else
  (wl_sum_b193 p1.1 x4 x0))) := Lm.eqn (wl_sum_b175_l ..) (.xis (.bind (wl_less_l ..) fun p1 => (.ite (.xis (wl_sum_b193_l ..)) (wl_sum_b193_l ..)))) fun n => (rfl)
theorem wl_sum_b193_e (σ : gM) (y0 y1 : Int) : wl_sum_b193 σ y0 y1 =
  (gis 119 y1 12 ((wl_settle σ y1 y0).bind fun p1 =>
  some (p1.1, 1))) := Lm.eqn (wl_sum_b193_l ..) (.xis (.bind (wl_settle_l ..) fun p1 => .cst)) fun n => (rfl)
def k_wl_product : List gC := [(0, 1, .iconst 0, [], none), (1, 1, .istore_n 3, [], none), (2, 1, .iload_n 3, [], some [true, true, true, true, false, false, false, false, false]), (3, 2, .bipush 8, [], none),
  (5, 3, .if_icmp .ge 16, [(0, 21)], none), (8, 1, .aload_n 0, [], none), (9, 3, .getfield 13, [], none), (12, 1, .iload_n 3, [], none),
  (13, 1, .lconst 0, [], none), (14, 1, .lastore, [], none), (15, 3, .iinc 3 1, [], none), (18, 3, .goto (-16), [(0, 2)], none),
  (21, 1, .iconst 0, [], none), (22, 1, .istore_n 3, [], none), (23, 1, .iload_n 3, [], some [true, true, true, true, false, false, false, false, false]), (24, 1, .iconst 4, [], none),
  (25, 3, .if_icmp .ge 89, [(0, 114)], none), (28, 1, .lconst 0, [], none), (29, 2, .lstore 4, [], none), (31, 1, .iconst 0, [], none),
  (32, 2, .istore 6, [], none), (34, 2, .iload 6, [], some [true, true, true, true, true, false, true, false, false]), (36, 1, .iconst 4, [], none), (37, 3, .if_icmp .ge 61, [(0, 98)], none),
  (40, 1, .aload_n 0, [], none), (41, 3, .getfield 13, [], none), (44, 1, .iload_n 3, [], none), (45, 2, .iload 6, [], none),
  (47, 1, .iadd, [], none), (48, 1, .laload, [], none), (49, 1, .aload_n 1, [], none), (50, 3, .getfield 7, [], none),
  (53, 1, .iload_n 3, [], none), (54, 1, .laload, [], none), (55, 1, .aload_n 2, [], none), (56, 3, .getfield 7, [], none),
  (59, 2, .iload 6, [], none), (61, 1, .laload, [], none), (62, 1, .lmul, [], none), (63, 1, .ladd, [], none),
  (64, 2, .lload 4, [], none), (66, 1, .ladd, [], none), (67, 2, .lstore 7, [], none), (69, 1, .aload_n 0, [], none),
  (70, 3, .getfield 13, [], none), (73, 1, .iload_n 3, [], none), (74, 2, .iload 6, [], none), (76, 1, .iadd, [], none),
  (77, 2, .lload 7, [], none), (79, 3, .ldc2_w 26, [], none), (82, 1, .lrem, [], none), (83, 1, .lastore, [], none),
  (84, 2, .lload 7, [], none), (86, 3, .ldc2_w 26, [], none), (89, 1, .ldiv, [], none), (90, 2, .lstore 4, [], none),
  (92, 3, .iinc 6 1, [], none), (95, 3, .goto (-61), [(0, 34)], none), (98, 1, .aload_n 0, [], none), (99, 3, .getfield 13, [], none),
  (102, 1, .iload_n 3, [], none), (103, 1, .iconst 4, [], none), (104, 1, .iadd, [], none), (105, 2, .lload 4, [], none),
  (107, 1, .lastore, [], none), (108, 3, .iinc 3 1, [], none), (111, 3, .goto (-88), [(0, 23)], none), (114, 1, .aload_n 1, [], none),
  (115, 3, .getfield 22, [], none), (118, 1, .aload_n 2, [], none), (119, 3, .getfield 22, [], none), (122, 1, .imul, [], none),
  (123, 1, .istore_n 3, [], none), (124, 1, .iconst 0, [], none), (125, 2, .istore 4, [], none), (127, 2, .iload 4, [], some [true, false, false, true, true, false, false, false, false]),
  (129, 1, .iconst 4, [], none), (130, 3, .if_icmp .ge 23, [(0, 153)], none), (133, 1, .aload_n 0, [], none), (134, 3, .getfield 7, [], none),
  (137, 2, .iload 4, [], none), (139, 1, .aload_n 0, [], none), (140, 3, .getfield 13, [], none), (143, 2, .iload 4, [], none),
  (145, 1, .laload, [], none), (146, 1, .lastore, [], none), (147, 3, .iinc 4 1, [], none), (150, 3, .goto (-23), [(0, 127)], none),
  (153, 1, .aload_n 0, [], none), (154, 1, .iload_n 3, [], none), (155, 3, .invokevirtual 36, [], none), (158, 1, .aload_n 0, [], none),
  (159, 3, .getfield 13, [], none), (162, 1, .iconst 4, [], none), (163, 1, .laload, [], none), (164, 1, .aload_n 0, [], none),
  (165, 3, .getfield 13, [], none), (168, 1, .iconst 5, [], none), (169, 1, .laload, [], none), (170, 1, .lor, [], none),
  (171, 1, .aload_n 0, [], none), (172, 3, .getfield 13, [], none), (175, 2, .bipush 6, [], none), (177, 1, .laload, [], none),
  (178, 1, .lor, [], none), (179, 1, .aload_n 0, [], none), (180, 3, .getfield 13, [], none), (183, 2, .bipush 7, [], none),
  (185, 1, .laload, [], none), (186, 1, .lor, [], none), (187, 1, .lconst 0, [], none), (188, 1, .lcmp, [], none),
  (189, 3, .ifCond .ne 7, [(0, 196)], none), (192, 1, .iconst 1, [], none), (193, 3, .goto 4, [(0, 197)], none), (196, 1, .iconst 0, [], none),
  (197, 1, .ireturn, [], none)]
def e_wl_product (m : Nat) : gE := (k_wl_product, f_wl, c_wl, [(36, 2, 12, 5, .inl (fn_wl_settle m))], [], (m, 24227587787227680242996183141042265400644274563352017343858361682490010613500890323204207710303183038358630910623132041048746927063040), 6)
theorem ok_wl_product : gchk cX4_product 9 k_wl_product = true := by decide +kernel
def fn_wl_product (m : Nat) : gFn := gF (e_wl_product m) 9
theorem mo_wl_product (m : Nat) : gMo (.inl (fn_wl_product m)) := gF_mo (E := e_wl_product m) ⟨mo_wl_settle m, trivial⟩
noncomputable def wl_product (σ : gM) (w x1 x2 : Int) : Option (gM × Int) := lim (fun n => fn_wl_product 119 n [(2, w), (2, x1), (2, x2)] σ)
theorem wl_product_l (σ : gM) (w x1 x2 : Int) : Lm (fun n => fn_wl_product 119 n [(2, w), (2, x1), (2, x2)] σ) (wl_product σ w x1 x2) := .of fun n => mo_wl_product 119 n [(2, w), (2, x1), (2, x2)] σ
theorem mb_wl_product : gMos (e_wl_product 119).2.2.2.1 := ⟨mo_wl_settle 119, trivial⟩
noncomputable def wl_product_b2 (σ : gM) (x0 x1 x2 x3 : Int) : Option (gM × Int) := lim (fun n => gB (e_wl_product 119) rF tF n 2 [(2, x0), (2, x1), (2, x2), (0, x3), (9, 0), (9, 0), (9, 0), (9, 0), (9, 0)] [] σ)
theorem wl_product_b2_l (σ : gM) (x0 x1 x2 x3 : Int) : Lm (fun n => gB (e_wl_product 119) rF tF n 2 [(2, x0), (2, x1), (2, x2), (0, x3), (9, 0), (9, 0), (9, 0), (9, 0), (9, 0)] [] σ) (wl_product_b2 σ x0 x1 x2 x3) := .of fun n => gB_le (gMos_spec (mb_wl_product)) n _ _ _ σ
noncomputable def wl_product_b23 (σ : gM) (x0 x1 x2 x3 : Int) : Option (gM × Int) := lim (fun n => gB (e_wl_product 119) rF tF n 23 [(2, x0), (2, x1), (2, x2), (0, x3), (9, 0), (9, 0), (9, 0), (9, 0), (9, 0)] [] σ)
theorem wl_product_b23_l (σ : gM) (x0 x1 x2 x3 : Int) : Lm (fun n => gB (e_wl_product 119) rF tF n 23 [(2, x0), (2, x1), (2, x2), (0, x3), (9, 0), (9, 0), (9, 0), (9, 0), (9, 0)] [] σ) (wl_product_b23 σ x0 x1 x2 x3) := .of fun n => gB_le (gMos_spec (mb_wl_product)) n _ _ _ σ
noncomputable def wl_product_b34 (σ : gM) (x0 x1 x2 x3 x4 x6 : Int) : Option (gM × Int) := lim (fun n => gB (e_wl_product 119) rF tF n 34 [(2, x0), (2, x1), (2, x2), (0, x3), (1, x4), (9, 0), (0, x6), (9, 0), (9, 0)] [] σ)
theorem wl_product_b34_l (σ : gM) (x0 x1 x2 x3 x4 x6 : Int) : Lm (fun n => gB (e_wl_product 119) rF tF n 34 [(2, x0), (2, x1), (2, x2), (0, x3), (1, x4), (9, 0), (0, x6), (9, 0), (9, 0)] [] σ) (wl_product_b34 σ x0 x1 x2 x3 x4 x6) := .of fun n => gB_le (gMos_spec (mb_wl_product)) n _ _ _ σ
noncomputable def wl_product_b127 (σ : gM) (x0 x3 x4 : Int) : Option (gM × Int) := lim (fun n => gB (e_wl_product 119) rF tF n 127 [(2, x0), (9, 0), (9, 0), (0, x3), (0, x4), (9, 0), (9, 0), (9, 0), (9, 0)] [] σ)
theorem wl_product_b127_l (σ : gM) (x0 x3 x4 : Int) : Lm (fun n => gB (e_wl_product 119) rF tF n 127 [(2, x0), (9, 0), (9, 0), (0, x3), (0, x4), (9, 0), (9, 0), (9, 0), (9, 0)] [] σ) (wl_product_b127 σ x0 x3 x4) := .of fun n => gB_le (gMos_spec (mb_wl_product)) n _ _ _ σ
theorem wl_product_e (σ : gM) (w x1 x2 : Int) : wl_product σ w x1 x2 =
  (wl_product_b2 σ w x1 x2 0) := Lm.eqn (wl_product_l ..) (wl_product_b2_l ..) fun n => (rfl)
theorem wl_product_b2_e (σ : gM) (x0 x1 x2 x3 : Int) : wl_product_b2 σ x0 x1 x2 x3 =
  (if x3 < 8 then
  (gis 119 x0 12 (gis 119 (gR x0 2) 4 (gwr 24227587787227680242996183141042265400644274563352017343858361682490010613500890323204207710303183038358630910623132041048746927063040 (gR x0 2) 0 (if 0 ≤ x3 ∧ x3 < gN (gR x0 2) then
    (wl_product_b2 (gW σ (gR x0 2) x3 0) x0 x1 x2 (w32 (x3 + 1)))
    else none))))
  else
  (wl_product_b23 σ x0 x1 x2 0)) := Lm.eqn (wl_product_b2_l ..) (.ite (.xis (.xis (.xwr (.ite (wl_product_b2_l ..) .cst)))) (wl_product_b23_l ..)) fun n => (rfl)
theorem wl_product_b23_e (σ : gM) (x0 x1 x2 x3 : Int) : wl_product_b23 σ x0 x1 x2 x3 =
  (if x3 < 4 then
  (wl_product_b34 σ x0 x1 x2 x3 0 0)
  else
  (gis 119 x1 12 (gis 119 x2 12 (wl_product_b127 σ x0 (w32 ((σ x1 0) * (σ x2 0))) 0)))) := Lm.eqn (wl_product_b23_l ..) (.ite (wl_product_b34_l ..) (.xis (.xis (wl_product_b127_l ..)))) fun n => (rfl)
theorem wl_product_b34_e (σ : gM) (x0 x1 x2 x3 x4 x6 : Int) : wl_product_b34 σ x0 x1 x2 x3 x4 x6 =
  (if x6 < 4 then
  (gis 119 x0 12 (gis 119 (gR x0 2) 4 (if 0 ≤ w32 (x3 + x6) ∧ w32 (x3 + x6) < gN (gR x0 2) then
    (gis 119 x1 12 (gis 119 (gR x1 1) 4 (if 0 ≤ x3 ∧ x3 < gN (gR x1 1) then
      (gis 119 x2 12 (gis 119 (gR x2 1) 4 (if 0 ≤ x6 ∧ x6 < gN (gR x2 1) then
        (gis 119 x0 12 (if (1000000000 : Int) = 0 then none else
          (gis 119 (gR x0 2) 4 (gwr 24227587787227680242996183141042265400644274563352017343858361682490010613500890323204207710303183038358630910623132041048746927063040 (gR x0 2) 0 (if 0 ≤ w32 (x3 + x6) ∧ w32 (x3 + x6) < gN (gR x0 2) then
            (if (1000000000 : Int) = 0 then none else
              (wl_product_b34 (gW σ (gR x0 2) (w32 (x3 + x6)) (Int.tmod (w64 ((w64 ((σ (gR x0 2) (w32 (x3 + x6))) + (w64 ((σ (gR x1 1) x3) * (σ (gR x2 1) x6))))) + x4)) 1000000000)) x0 x1 x2 x3 (w64 (Int.tdiv (w64 ((w64 ((σ (gR x0 2) (w32 (x3 + x6))) + (w64 ((σ (gR x1 1) x3) * (σ (gR x2 1) x6))))) + x4)) 1000000000)) (w32 (x6 + 1))))
            else none)))))
        else none)))
      else none)))
    else none)))
  else
  (gis 119 x0 12 (gis 119 (gR x0 2) 4 (gwr 24227587787227680242996183141042265400644274563352017343858361682490010613500890323204207710303183038358630910623132041048746927063040 (gR x0 2) 0 (if 0 ≤ w32 (x3 + 4) ∧ w32 (x3 + 4) < gN (gR x0 2) then
    (wl_product_b23 (gW σ (gR x0 2) (w32 (x3 + 4)) x4) x0 x1 x2 (w32 (x3 + 1)))
    else none))))) := Lm.eqn (wl_product_b34_l ..) (.ite (.xis (.xis (.ite (.xis (.xis (.ite (.xis (.xis (.ite (.xis (.ite .cst (.xis (.xwr (.ite (.ite .cst (wl_product_b34_l ..)) .cst))))) .cst))) .cst))) .cst))) (.xis (.xis (.xwr (.ite (wl_product_b23_l ..) .cst))))) fun n => (rfl)
theorem wl_product_b127_e (σ : gM) (x0 x3 x4 : Int) : wl_product_b127 σ x0 x3 x4 =
  (if x4 < 4 then
  (gis 119 x0 12 (gis 119 x0 12 (gis 119 (gR x0 2) 4 (if 0 ≤ x4 ∧ x4 < gN (gR x0 2) then
    (gis 119 (gR x0 1) 4 (gwr 24227587787227680242996183141042265400644274563352017343858361682490010613500890323204207710303183038358630910623132041048746927063040 (gR x0 1) 0 (if 0 ≤ x4 ∧ x4 < gN (gR x0 1) then
      (wl_product_b127 (gW σ (gR x0 1) x4 (σ (gR x0 2) x4)) x0 x3 (w32 (x4 + 1)))
      else none)))
    else none))))
  else
  (gis 119 x0 12 ((wl_settle σ x0 x3).bind fun p1 =>
    gis 119 x0 12 (gis 119 (gR x0 2) 4 (if (0 : Int) ≤ 4 ∧ (4 : Int) < gN (gR x0 2) then
    (gis 119 x0 12 (gis 119 (gR x0 2) 4 (if (0 : Int) ≤ 5 ∧ (5 : Int) < gN (gR x0 2) then
      (gis 119 x0 12 (gis 119 (gR x0 2) 4 (if (0 : Int) ≤ 6 ∧ (6 : Int) < gN (gR x0 2) then
        (gis 119 x0 12 (gis 119 (gR x0 2) 4 (if (0 : Int) ≤ 7 ∧ (7 : Int) < gN (gR x0 2) then
          (if l_cmp (l_or (l_or (l_or (p1.1 (gR x0 2) 4) (p1.1 (gR x0 2) 5)) (p1.1 (gR x0 2) 6)) (p1.1 (gR x0 2) 7)) 0 = 0 then
            (some (p1.1, 1))
            else
            (some (p1.1, 0)))
          else none)))
        else none)))
      else none)))
    else none))))) := Lm.eqn (wl_product_b127_l ..) (.ite (.xis (.xis (.xis (.ite (.xis (.xwr (.ite (wl_product_b127_l ..) .cst))) .cst)))) (.xis (.bind (wl_settle_l ..) fun p1 => (.xis (.xis (.ite (.xis (.xis (.ite (.xis (.xis (.ite (.xis (.xis (.ite (.ite .cst .cst) .cst))) .cst))) .cst))) .cst)))))) fun n => (rfl)
def k_wl_quotient : List gC := [(0, 1, .aload_n 3, [], none), (1, 1, .lconst 0, [], none), (2, 3, .invokevirtual 52, [], none), (5, 1, .aload_n 0, [], none),
  (6, 1, .lconst 0, [], none), (7, 3, .invokevirtual 52, [], none), (10, 2, .bipush 35, [], none), (12, 2, .istore 4, [], none),
  (14, 2, .iload 4, [], some [true, true, true, true, true, false]), (16, 3, .ifCond .lt 55, [(0, 71)], none), (19, 1, .aload_n 3, [], none), (20, 1, .aload_n 1, [], none),
  (21, 2, .iload 4, [], none), (23, 3, .invokevirtual 55, [], none), (26, 3, .invokevirtual 59, [], none), (29, 1, .pop, [], none),
  (30, 1, .iconst 0, [], none), (31, 2, .istore 5, [], none), (33, 1, .aload_n 3, [], some [true, true, true, true, true, true]), (34, 1, .aload_n 2, [], none),
  (35, 3, .invokestatic 40, [], none), (38, 3, .ifCond .lt 15, [(0, 53)], none), (41, 1, .aload_n 3, [], none), (42, 1, .aload_n 3, [], none),
  (43, 1, .aload_n 2, [], none), (44, 3, .invokevirtual 48, [], none), (47, 3, .iinc 5 1, [], none), (50, 3, .goto (-17), [(0, 33)], none),
  (53, 1, .aload_n 3, [], none), (54, 1, .iconst 1, [], none), (55, 3, .invokevirtual 36, [], none), (58, 1, .aload_n 0, [], none),
  (59, 2, .iload 5, [], none), (61, 3, .invokevirtual 59, [], none), (64, 1, .pop, [], none), (65, 3, .iinc 4 (-1), [], none),
  (68, 3, .goto (-54), [(0, 14)], none), (71, 1, .aload_n 0, [], none), (72, 1, .aload_n 1, [], none), (73, 3, .getfield 22, [], none),
  (76, 1, .aload_n 2, [], none), (77, 3, .getfield 22, [], none), (80, 1, .imul, [], none), (81, 3, .invokevirtual 36, [], none),
  (84, 1, .return_, [], none)]
def e_wl_quotient (m : Nat) : gE := (k_wl_quotient, f_wl, c_wl, [(52, 2, 12, 5, .inl (fn_wl_of m)), (55, 2, 12, 0, .inl (fn_wl_digit m)), (59, 2, 12, 0, .inl (fn_wl_more m)), (40, 2, 0, 0, .inl (fn_wl_size m)), (48, 3, 12, 5, .inl (fn_wl_less m)), (36, 2, 12, 5, .inl (fn_wl_settle m))], [], (m, 24227587787227680242996183141042265400644274563352017343858361682490010613500890323204207710303182943436953965533314456975336030601216), 5)
theorem ok_wl_quotient : gchk cX4_quotient 6 k_wl_quotient = true := by decide +kernel
def fn_wl_quotient (m : Nat) : gFn := gF (e_wl_quotient m) 6
theorem mo_wl_quotient (m : Nat) : gMo (.inl (fn_wl_quotient m)) := gF_mo (E := e_wl_quotient m) ⟨mo_wl_of m, ⟨mo_wl_digit m, ⟨mo_wl_more m, ⟨mo_wl_size m, ⟨mo_wl_less m, ⟨mo_wl_settle m, trivial⟩⟩⟩⟩⟩⟩
noncomputable def wl_quotient (σ : gM) (w x1 x2 x3 : Int) : Option (gM × Int) := lim (fun n => fn_wl_quotient 119 n [(2, w), (2, x1), (2, x2), (2, x3)] σ)
theorem wl_quotient_l (σ : gM) (w x1 x2 x3 : Int) : Lm (fun n => fn_wl_quotient 119 n [(2, w), (2, x1), (2, x2), (2, x3)] σ) (wl_quotient σ w x1 x2 x3) := .of fun n => mo_wl_quotient 119 n [(2, w), (2, x1), (2, x2), (2, x3)] σ
theorem mb_wl_quotient : gMos (e_wl_quotient 119).2.2.2.1 := ⟨mo_wl_of 119, ⟨mo_wl_digit 119, ⟨mo_wl_more 119, ⟨mo_wl_size 119, ⟨mo_wl_less 119, ⟨mo_wl_settle 119, trivial⟩⟩⟩⟩⟩⟩
noncomputable def wl_quotient_b14 (σ : gM) (x0 x1 x2 x3 x4 : Int) : Option (gM × Int) := lim (fun n => gB (e_wl_quotient 119) rF tF n 14 [(2, x0), (2, x1), (2, x2), (2, x3), (0, x4), (9, 0)] [] σ)
theorem wl_quotient_b14_l (σ : gM) (x0 x1 x2 x3 x4 : Int) : Lm (fun n => gB (e_wl_quotient 119) rF tF n 14 [(2, x0), (2, x1), (2, x2), (2, x3), (0, x4), (9, 0)] [] σ) (wl_quotient_b14 σ x0 x1 x2 x3 x4) := .of fun n => gB_le (gMos_spec (mb_wl_quotient)) n _ _ _ σ
noncomputable def wl_quotient_b33 (σ : gM) (x0 x1 x2 x3 x4 x5 : Int) : Option (gM × Int) := lim (fun n => gB (e_wl_quotient 119) rF tF n 33 [(2, x0), (2, x1), (2, x2), (2, x3), (0, x4), (0, x5)] [] σ)
theorem wl_quotient_b33_l (σ : gM) (x0 x1 x2 x3 x4 x5 : Int) : Lm (fun n => gB (e_wl_quotient 119) rF tF n 33 [(2, x0), (2, x1), (2, x2), (2, x3), (0, x4), (0, x5)] [] σ) (wl_quotient_b33 σ x0 x1 x2 x3 x4 x5) := .of fun n => gB_le (gMos_spec (mb_wl_quotient)) n _ _ _ σ
theorem wl_quotient_e (σ : gM) (w x1 x2 x3 : Int) : wl_quotient σ w x1 x2 x3 =
  (gis 119 x3 12 ((wl_of σ x3 0).bind fun p1 =>
  gis 119 w 12 ((wl_of p1.1 w 0).bind fun p2 =>
  wl_quotient_b14 p2.1 w x1 x2 x3 35))) := Lm.eqn (wl_quotient_l ..) (.xis (.bind (wl_of_l ..) fun p1 => (.xis (.bind (wl_of_l ..) fun p2 => (wl_quotient_b14_l ..))))) fun n => (rfl)
theorem wl_quotient_b14_e (σ : gM) (x0 x1 x2 x3 x4 : Int) : wl_quotient_b14 σ x0 x1 x2 x3 x4 =
  (if x4 < 0 then
  (gis 119 x1 12 (gis 119 x2 12 (gis 119 x0 12 ((wl_settle σ x0 (w32 ((σ x1 0) * (σ x2 0)))).bind fun p1 =>
    some (p1.1, 0)))))
  else
  (gis 119 x1 12 ((wl_digit σ x1 x4).bind fun p2 =>
    gis 119 x3 12 ((wl_more p2.1 x3 p2.2).bind fun p3 =>
    wl_quotient_b33 p3.1 x0 x1 x2 x3 x4 0)))) := Lm.eqn (wl_quotient_b14_l ..) (.ite (.xis (.xis (.xis (.bind (wl_settle_l ..) fun p1 => .cst)))) (.xis (.bind (wl_digit_l ..) fun p2 => (.xis (.bind (wl_more_l ..) fun p3 => (wl_quotient_b33_l ..)))))) fun n => (rfl)
theorem wl_quotient_b33_e (σ : gM) (x0 x1 x2 x3 x4 x5 : Int) : wl_quotient_b33 σ x0 x1 x2 x3 x4 x5 =
  ((wl_size σ x3 x2).bind fun p1 =>
  if p1.2 < 0 then
  (gis 119 x3 12 ((wl_settle p1.1 x3 1).bind fun p2 =>
    gis 119 x0 12 ((wl_more p2.1 x0 x5).bind fun p3 =>
    wl_quotient_b14 p3.1 x0 x1 x2 x3 (w32 (x4 + (-1))))))
  else
  (gis 119 x3 12 ((wl_less p1.1 x3 x3 x2).bind fun p4 =>
    wl_quotient_b33 p4.1 x0 x1 x2 x3 x4 (w32 (x5 + 1))))) := Lm.eqn (wl_quotient_b33_l ..) (.bind (wl_size_l ..) fun p1 => (.ite (.xis (.bind (wl_settle_l ..) fun p2 => (.xis (.bind (wl_more_l ..) fun p3 => (wl_quotient_b14_l ..))))) (.xis (.bind (wl_less_l ..) fun p4 => (wl_quotient_b33_l ..))))) fun n => (rfl)
