set_option maxRecDepth 100000
def f_ps : List (Nat × Nat × Int × Nat) := [(12, 15, 0, 2), (18, 15, 1, 2), (22, 15, 2, 2), (25, 15, 3, 2), (28, 15, 4, 2), (31, 15, 5, 2), (34, 15, 6, 2), (37, 15, 7, 2), (40, 15, 8, 2), (43, 15, 9, 2), (47, 15, 11, 2), (50, 15, 12, 2), (53, 15, 13, 2), (56, 15, 14, 2), (59, 15, 15, 2), (62, 15, 16, 2), (65, 15, 17, 2), (68, 15, 18, 2), (71, 15, 10, 0), (75, 15, 19, 0), (89, 16, 4, 0), (91, 16, 8, 0), (104, 16, 5, 0), (114, 15, 21, 0), (125, 15, 20, 0), (137, 16, 6, 0), (144, 15, 22, 0)]
def c_ps : List (Nat × gV) := [(132, 3, 9), (178, 3, 15), (183, 3, 16), (185, 3, 17), (187, 3, 18), (192, 3, 19), (194, 3, 20), (229, 3, 11), (231, 3, 12), (233, 3, 5)]
def k_ps_good : List gC := [(0, 1, .aload_n 0, [], none), (1, 3, .getfield 12, [], none), (4, 3, .getfield 91, [], none), (7, 3, .ifCond .ne 7, [(0, 14)], none),
  (10, 1, .iconst 1, [], none), (11, 3, .goto 4, [(0, 15)], none), (14, 1, .iconst 0, [], none), (15, 1, .ireturn, [], none)]
def e_ps_good (m : Nat) : gE := (k_ps_good, f_ps, c_ps, [], [], (m, 0), 6)
theorem ok_ps_good : gchk cX7_good 1 k_ps_good = true := by decide +kernel
def fn_ps_good (m : Nat) : gFn := gF (e_ps_good m) 1
theorem mo_ps_good (m : Nat) : gMo (.inl (fn_ps_good m)) := gF_mo (E := e_ps_good m) trivial
noncomputable def ps_good (σ : gM) : Option (gM × Int) := lim (fun n => fn_ps_good 119 n [(2, 68)] σ)
theorem ps_good_l (σ : gM) : Lm (fun n => fn_ps_good 119 n [(2, 68)] σ) (ps_good σ) := .of fun n => mo_ps_good 119 n [(2, 68)] σ
theorem ps_good_e (σ : gM) : ps_good σ =
  (if σ 69 8 = 0 then
  (some (σ, 1))
  else
  (some (σ, 0))) := Lm.eqn (ps_good_l ..) (.ite .cst .cst) fun n => (rfl)
def k_ps_isSame : List gC := [(0, 1, .iload_n 2, [], none), (1, 2, .iload 4, [], none), (3, 3, .if_icmp .eq 5, [(0, 8)], none), (6, 1, .iconst 0, [], none),
  (7, 1, .ireturn, [], none), (8, 1, .iconst 0, [], none), (9, 2, .istore 5, [], none), (11, 2, .iload 5, [], some [true, true, true, true, false, true]),
  (13, 1, .iload_n 2, [], none), (14, 3, .if_icmp .ge 36, [(0, 50)], none), (17, 1, .aload_n 0, [], none), (18, 3, .getfield 12, [], none),
  (21, 1, .iload_n 1, [], none), (22, 2, .iload 5, [], none), (24, 1, .iadd, [], none), (25, 3, .invokevirtual 121, [], none),
  (28, 1, .aload_n 0, [], none), (29, 3, .getfield 12, [], none), (32, 1, .iload_n 3, [], none), (33, 2, .iload 5, [], none),
  (35, 1, .iadd, [], none), (36, 3, .invokevirtual 121, [], none), (39, 3, .if_icmp .eq 5, [(0, 44)], none), (42, 1, .iconst 0, [], none),
  (43, 1, .ireturn, [], none), (44, 3, .iinc 5 1, [], none), (47, 3, .goto (-36), [(0, 11)], none), (50, 1, .iconst 1, [], none),
  (51, 1, .ireturn, [], none)]
def e_ps_isSame (m : Nat) : gE := (k_ps_isSame, f_ps, c_ps, [(121, 2, 16, 0, .inl (fn_tk_byteAt m))], [], (m, 0), 6)
theorem ok_ps_isSame : gchk cX7_isSame 6 k_ps_isSame = true := by decide +kernel
def fn_ps_isSame (m : Nat) : gFn := gF (e_ps_isSame m) 6
theorem mo_ps_isSame (m : Nat) : gMo (.inl (fn_ps_isSame m)) := gF_mo (E := e_ps_isSame m) ⟨mo_tk_byteAt m, trivial⟩
noncomputable def ps_isSame (σ : gM) (x1 x2 x3 x4 : Int) : Option (gM × Int) := lim (fun n => fn_ps_isSame 119 n [(2, 68), (0, x1), (0, x2), (0, x3), (0, x4)] σ)
theorem ps_isSame_l (σ : gM) (x1 x2 x3 x4 : Int) : Lm (fun n => fn_ps_isSame 119 n [(2, 68), (0, x1), (0, x2), (0, x3), (0, x4)] σ) (ps_isSame σ x1 x2 x3 x4) := .of fun n => mo_ps_isSame 119 n [(2, 68), (0, x1), (0, x2), (0, x3), (0, x4)] σ
theorem mb_ps_isSame : gMos (e_ps_isSame 119).2.2.2.1 := ⟨mo_tk_byteAt 119, trivial⟩
noncomputable def ps_isSame_b11 (σ : gM) (x1 x2 x3 x5 : Int) : Option (gM × Int) := lim (fun n => gB (e_ps_isSame 119) rF tF n 11 [(2, 68), (0, x1), (0, x2), (0, x3), (9, 0), (0, x5)] [] σ)
theorem ps_isSame_b11_l (σ : gM) (x1 x2 x3 x5 : Int) : Lm (fun n => gB (e_ps_isSame 119) rF tF n 11 [(2, 68), (0, x1), (0, x2), (0, x3), (9, 0), (0, x5)] [] σ) (ps_isSame_b11 σ x1 x2 x3 x5) := .of fun n => gB_le (gMos_spec (mb_ps_isSame)) n _ _ _ σ
theorem ps_isSame_e (σ : gM) (x1 x2 x3 x4 : Int) : ps_isSame σ x1 x2 x3 x4 =
  (if x2 = x4 then
  (ps_isSame_b11 σ x1 x2 x3 0)
  else
  (some (σ, 0))) := Lm.eqn (ps_isSame_l ..) (.ite (ps_isSame_b11_l ..) .cst) fun n => (rfl)
theorem ps_isSame_b11_e (σ : gM) (x1 x2 x3 x5 : Int) : ps_isSame_b11 σ x1 x2 x3 x5 =
  (if x5 < x2 then
  ((tk_byteAt σ (w32 (x1 + x5))).bind fun p1 =>
    (tk_byteAt p1.1 (w32 (x3 + x5))).bind fun p2 =>
    if p1.2 = p2.2 then
    (ps_isSame_b11 p2.1 x1 x2 x3 (w32 (x5 + 1)))
    else
    (some (p2.1, 0)))
  else
  (some (σ, 1))) := Lm.eqn (ps_isSame_b11_l ..) (.ite (.bind (tk_byteAt_l ..) fun p1 => (.bind (tk_byteAt_l ..) fun p2 => (.ite (ps_isSame_b11_l ..) .cst))) .cst) fun n => (rfl)
def k_ps_open : List gC := [(0, 1, .aload_n 0, [], none), (1, 3, .invokevirtual 82, [], none), (4, 3, .ifCond .ne 4, [(0, 8)], none), (7, 1, .return_, [], none),
  (8, 1, .aload_n 0, [], none), (9, 3, .getfield 114, [], none), (12, 2, .bipush 20, [], none), (14, 3, .if_icmp .ne 19, [(0, 33)], none),
  (17, 1, .aload_n 0, [], none), (18, 3, .getfield 12, [], none), (21, 1, .iconst 3, [], none), (22, 1, .aload_n 0, [], none),
  (23, 3, .getfield 12, [], none), (26, 3, .getfield 104, [], none), (29, 3, .invokevirtual 107, [], none), (32, 1, .pop, [], none),
  (33, 1, .aload_n 0, [], some [true]), (34, 1, .dup, [], none), (35, 3, .getfield 114, [], none), (38, 1, .iconst 1, [], none),
  (39, 1, .iadd, [], none), (40, 3, .putfield 114, [], none), (43, 1, .aload_n 0, [], none), (44, 3, .invokevirtual 82, [], none),
  (47, 3, .ifCond .eq 10, [(0, 57)], none), (50, 1, .aload_n 0, [], none), (51, 3, .getfield 12, [], none), (54, 3, .invokevirtual 98, [], none),
  (57, 1, .return_, [], none)]
def e_ps_open (m : Nat) : gE := (k_ps_open, f_ps, c_ps, [(82, 1, 15, 0, .inl (fn_ps_good m)), (107, 3, 16, 0, .inl (fn_tk_fails m)), (98, 1, 16, 5, .inl (fn_tk_read m))], [], (m, 19551898826702094482167272705942845473345842301567631922022682212922223999162129044848509805433005624985222507397120), 5)
theorem ok_ps_open : gchk cX7_open 1 k_ps_open = true := by decide +kernel
def fn_ps_open (m : Nat) : gFn := gF (e_ps_open m) 1
theorem mo_ps_open (m : Nat) : gMo (.inl (fn_ps_open m)) := gF_mo (E := e_ps_open m) ⟨mo_ps_good m, ⟨mo_tk_fails m, ⟨mo_tk_read m, trivial⟩⟩⟩
noncomputable def ps_open (σ : gM) : Option (gM × Int) := lim (fun n => fn_ps_open 119 n [(2, 68)] σ)
theorem ps_open_l (σ : gM) : Lm (fun n => fn_ps_open 119 n [(2, 68)] σ) (ps_open σ) := .of fun n => mo_ps_open 119 n [(2, 68)] σ
theorem mb_ps_open : gMos (e_ps_open 119).2.2.2.1 := ⟨mo_ps_good 119, ⟨mo_tk_fails 119, ⟨mo_tk_read 119, trivial⟩⟩⟩
noncomputable def ps_open_b33 (σ : gM) : Option (gM × Int) := lim (fun n => gB (e_ps_open 119) rF tF n 33 [(2, 68)] [] σ)
theorem ps_open_b33_l (σ : gM) : Lm (fun n => gB (e_ps_open 119) rF tF n 33 [(2, 68)] [] σ) (ps_open_b33 σ) := .of fun n => gB_le (gMos_spec (mb_ps_open)) n _ _ _ σ
theorem ps_open_e (σ : gM) : ps_open σ =
  ((ps_good σ).bind fun p1 =>
  if p1.2 = 0 then
  (some (p1.1, 0))
  else
  (if p1.1 68 21 = 20 then
    ((tk_fails p1.1 3 (p1.1 69 5)).bind fun p2 =>
      ps_open_b33 p2.1)
    else
    (ps_open_b33 p1.1))) := Lm.eqn (ps_open_l ..) (.bind (ps_good_l ..) fun p1 => (.ite .cst (.ite (.bind (tk_fails_l ..) fun p2 => (ps_open_b33_l ..)) (ps_open_b33_l ..)))) fun n => (rfl)
theorem ps_open_b33_e (σ : gM) : ps_open_b33 σ =
  ((ps_good (gW σ 68 21 (w32 ((σ 68 21) + 1)))).bind fun p1 =>
  if p1.2 = 0 then
  (some (p1.1, 0))
  else
  ((tk_read p1.1).bind fun p2 =>
    some (p2.1, 0))) := Lm.eqn (ps_open_b33_l ..) (.bind (ps_good_l ..) fun p1 => (.ite .cst (.bind (tk_read_l ..) fun p2 => .cst))) fun n => (rfl)
def k_ps_opens : List gC := [(0, 1, .aload_n 0, [], none), (1, 3, .invokevirtual 82, [], none), (4, 3, .ifCond .eq 30, [(0, 34)], none), (7, 1, .aload_n 0, [], none),
  (8, 3, .getfield 12, [], none), (11, 1, .iload_n 1, [], none), (12, 3, .invokevirtual 94, [], none), (15, 3, .ifCond .ne 19, [(0, 34)], none),
  (18, 1, .aload_n 0, [], none), (19, 3, .getfield 12, [], none), (22, 1, .iconst 2, [], none), (23, 1, .aload_n 0, [], none),
  (24, 3, .getfield 12, [], none), (27, 3, .getfield 104, [], none), (30, 3, .invokevirtual 107, [], none), (33, 1, .pop, [], none),
  (34, 1, .aload_n 0, [], some [true, false]), (35, 3, .invokevirtual 111, [], none), (38, 1, .return_, [], none)]
def e_ps_opens (m : Nat) : gE := (k_ps_opens, f_ps, c_ps, [(82, 1, 15, 0, .inl (fn_ps_good m)), (94, 2, 16, 0, .inl (fn_tk_is m)), (107, 3, 16, 0, .inl (fn_tk_fails m)), (111, 1, 15, 5, .inl (fn_ps_open m))], [], (m, 19551898826702094482167272705942845473345842301567631922022682212922223999162129044848509805433005624985222507397120), 5)
theorem ok_ps_opens : gchk cX7_opens 2 k_ps_opens = true := by decide +kernel
def fn_ps_opens (m : Nat) : gFn := gF (e_ps_opens m) 2
theorem mo_ps_opens (m : Nat) : gMo (.inl (fn_ps_opens m)) := gF_mo (E := e_ps_opens m) ⟨mo_ps_good m, ⟨mo_tk_is m, ⟨mo_tk_fails m, ⟨mo_ps_open m, trivial⟩⟩⟩⟩
noncomputable def ps_opens (σ : gM) (x1 : Int) : Option (gM × Int) := lim (fun n => fn_ps_opens 119 n [(2, 68), (0, x1)] σ)
theorem ps_opens_l (σ : gM) (x1 : Int) : Lm (fun n => fn_ps_opens 119 n [(2, 68), (0, x1)] σ) (ps_opens σ x1) := .of fun n => mo_ps_opens 119 n [(2, 68), (0, x1)] σ
theorem mb_ps_opens : gMos (e_ps_opens 119).2.2.2.1 := ⟨mo_ps_good 119, ⟨mo_tk_is 119, ⟨mo_tk_fails 119, ⟨mo_ps_open 119, trivial⟩⟩⟩⟩
noncomputable def ps_opens_b34 (σ : gM) : Option (gM × Int) := lim (fun n => gB (e_ps_opens 119) rF tF n 34 [(2, 68), (9, 0)] [] σ)
theorem ps_opens_b34_l (σ : gM) : Lm (fun n => gB (e_ps_opens 119) rF tF n 34 [(2, 68), (9, 0)] [] σ) (ps_opens_b34 σ) := .of fun n => gB_le (gMos_spec (mb_ps_opens)) n _ _ _ σ
theorem ps_opens_e (σ : gM) (x1 : Int) : ps_opens σ x1 =
  ((ps_good σ).bind fun p1 =>
  if p1.2 = 0 then
  (ps_opens_b34 p1.1)
  else
  ((tk_is p1.1 x1).bind fun p2 =>
    if p2.2 = 0 then
    ((tk_fails p2.1 2 (p2.1 69 5)).bind fun p3 =>
      ps_opens_b34 p3.1)
    else
    (ps_opens_b34 p2.1))) := Lm.eqn (ps_opens_l ..) (.bind (ps_good_l ..) fun p1 => (.ite (ps_opens_b34_l ..) (.bind (tk_is_l ..) fun p2 => (.ite (.bind (tk_fails_l ..) fun p3 => (ps_opens_b34_l ..)) (ps_opens_b34_l ..))))) fun n => (rfl)
theorem ps_opens_b34_e (σ : gM) : ps_opens_b34 σ =
  ((ps_open σ).bind fun p1 =>
  some (p1.1, 0)) := Lm.eqn (ps_opens_b34_l ..) (.bind (ps_open_l ..) fun p1 => .cst) fun n => (rfl)
def k_ps_local : List gC := [(0, 1, .iconst 0, [], none), (1, 2, .istore 4, [], none), (3, 2, .iload 4, [], some [true, true, true, true, true]), (5, 1, .aload_n 0, [], none),
  (6, 3, .getfield 62, [], none), (9, 1, .iload_n 1, [], none), (10, 1, .iaload, [], none), (11, 3, .if_icmp .ge 45, [(0, 56)], none),
  (14, 1, .aload_n 0, [], none), (15, 1, .aload_n 0, [], none), (16, 3, .getfield 65, [], none), (19, 2, .bipush 12, [], none),
  (21, 1, .iload_n 1, [], none), (22, 1, .imul, [], none), (23, 2, .iload 4, [], none), (25, 1, .iadd, [], none),
  (26, 1, .iaload, [], none), (27, 1, .aload_n 0, [], none), (28, 3, .getfield 68, [], none), (31, 2, .bipush 12, [], none),
  (33, 1, .iload_n 1, [], none), (34, 1, .imul, [], none), (35, 2, .iload 4, [], none), (37, 1, .iadd, [], none),
  (38, 1, .iaload, [], none), (39, 1, .iload_n 2, [], none), (40, 1, .iload_n 3, [], none), (41, 3, .invokevirtual 140, [], none),
  (44, 3, .ifCond .eq 6, [(0, 50)], none), (47, 2, .iload 4, [], none), (49, 1, .ireturn, [], none), (50, 3, .iinc 4 1, [], none),
  (53, 3, .goto (-50), [(0, 3)], none), (56, 1, .iconst (-1), [], none), (57, 1, .ireturn, [], none)]
def e_ps_local (m : Nat) : gE := (k_ps_local, f_ps, c_ps, [(140, 5, 15, 0, .inl (fn_ps_isSame m))], [], (m, 0), 0)
theorem ok_ps_local : gchk cX7_local 5 k_ps_local = true := by decide +kernel
def fn_ps_local (m : Nat) : gFn := gF (e_ps_local m) 5
theorem mo_ps_local (m : Nat) : gMo (.inl (fn_ps_local m)) := gF_mo (E := e_ps_local m) ⟨mo_ps_isSame m, trivial⟩
noncomputable def ps_local (σ : gM) (x1 x2 x3 : Int) : Option (gM × Int) := lim (fun n => fn_ps_local 119 n [(2, 68), (0, x1), (0, x2), (0, x3)] σ)
theorem ps_local_l (σ : gM) (x1 x2 x3 : Int) : Lm (fun n => fn_ps_local 119 n [(2, 68), (0, x1), (0, x2), (0, x3)] σ) (ps_local σ x1 x2 x3) := .of fun n => mo_ps_local 119 n [(2, 68), (0, x1), (0, x2), (0, x3)] σ
theorem mb_ps_local : gMos (e_ps_local 119).2.2.2.1 := ⟨mo_ps_isSame 119, trivial⟩
noncomputable def ps_local_b3 (σ : gM) (x1 x2 x3 x4 : Int) : Option (gM × Int) := lim (fun n => gB (e_ps_local 119) rF tF n 3 [(2, 68), (0, x1), (0, x2), (0, x3), (0, x4)] [] σ)
theorem ps_local_b3_l (σ : gM) (x1 x2 x3 x4 : Int) : Lm (fun n => gB (e_ps_local 119) rF tF n 3 [(2, 68), (0, x1), (0, x2), (0, x3), (0, x4)] [] σ) (ps_local_b3 σ x1 x2 x3 x4) := .of fun n => gB_le (gMos_spec (mb_ps_local)) n _ _ _ σ
theorem ps_local_e (σ : gM) (x1 x2 x3 : Int) : ps_local σ x1 x2 x3 =
  (ps_local_b3 σ x1 x2 x3 0) := Lm.eqn (ps_local_l ..) (ps_local_b3_l ..) fun n => (rfl)
theorem ps_local_b3_e (σ : gM) (x1 x2 x3 x4 : Int) : ps_local_b3 σ x1 x2 x3 x4 =
  (if 0 ≤ x1 ∧ x1 < 50 then
  (if x4 < σ 84 x1 then
    (if 0 ≤ w32 ((w32 (12 * x1)) + x4) ∧ w32 ((w32 (12 * x1)) + x4) < 600 then
      (if 0 ≤ w32 ((w32 (12 * x1)) + x4) ∧ w32 ((w32 (12 * x1)) + x4) < 600 then
        ((ps_isSame σ (σ 85 (w32 ((w32 (12 * x1)) + x4))) (σ 86 (w32 ((w32 (12 * x1)) + x4))) x2 x3).bind fun p1 =>
          if p1.2 = 0 then
          (ps_local_b3 p1.1 x1 x2 x3 (w32 (x4 + 1)))
          else
          (some (p1.1, x4)))
        else none)
      else none)
    else
    (some (σ, (-1))))
  else none) := Lm.eqn (ps_local_b3_l ..) (.ite (.ite (.ite (.ite (.bind (ps_isSame_l ..) fun p1 => (.ite (ps_local_b3_l ..) .cst)) .cst) .cst) .cst) .cst) fun n => (rfl)
def k_ps_blank : List gC := [(0, 1, .aload_n 0, [], none), (1, 1, .dup, [], none), (2, 3, .getfield 71, [], none), (5, 1, .iconst 1, [], none),
  (6, 1, .iadd, [], none), (7, 3, .putfield 71, [], none), (10, 1, .aload_n 0, [], none), (11, 3, .getfield 18, [], none),
  (14, 1, .iload_n 1, [], none), (15, 1, .iload_n 2, [], none), (16, 1, .iastore, [], none), (17, 1, .aload_n 0, [], none),
  (18, 3, .getfield 22, [], none), (21, 1, .iload_n 1, [], none), (22, 1, .aload_n 0, [], none), (23, 3, .getfield 12, [], none),
  (26, 3, .getfield 104, [], none), (29, 1, .iastore, [], none), (30, 1, .aload_n 0, [], none), (31, 3, .getfield 25, [], none),
  (34, 1, .iload_n 1, [], none), (35, 1, .iconst (-1), [], none), (36, 1, .iastore, [], none), (37, 1, .aload_n 0, [], none),
  (38, 3, .getfield 28, [], none), (41, 1, .iload_n 1, [], none), (42, 1, .iconst (-1), [], none), (43, 1, .iastore, [], none),
  (44, 1, .aload_n 0, [], none), (45, 3, .getfield 31, [], none), (48, 1, .iload_n 1, [], none), (49, 1, .iconst (-1), [], none),
  (50, 1, .iastore, [], none), (51, 1, .aload_n 0, [], none), (52, 3, .getfield 34, [], none), (55, 1, .iload_n 1, [], none),
  (56, 1, .iconst (-1), [], none), (57, 1, .iastore, [], none), (58, 1, .aload_n 0, [], none), (59, 3, .getfield 37, [], none),
  (62, 1, .iload_n 1, [], none), (63, 1, .iconst (-1), [], none), (64, 1, .iastore, [], none), (65, 1, .aload_n 0, [], none),
  (66, 3, .getfield 40, [], none), (69, 1, .iload_n 1, [], none), (70, 1, .iconst 0, [], none), (71, 1, .iastore, [], none),
  (72, 1, .aload_n 0, [], none), (73, 3, .getfield 43, [], none), (76, 1, .iload_n 1, [], none), (77, 1, .iconst 0, [], none),
  (78, 1, .bastore, [], none), (79, 1, .iload_n 1, [], none), (80, 1, .ireturn, [], none)]
def e_ps_blank (m : Nat) : gE := (k_ps_blank, f_ps, c_ps, [], [], (m, 2348542582773833227889480596789337027375682548908319870707290971532209025114608443464302280702955300207984640), 0)
theorem ok_ps_blank : gchk cX7_blank 3 k_ps_blank = true := by decide +kernel
def fn_ps_blank (m : Nat) : gFn := gF (e_ps_blank m) 3
theorem mo_ps_blank (m : Nat) : gMo (.inl (fn_ps_blank m)) := gF_mo (E := e_ps_blank m) trivial
noncomputable def ps_blank (σ : gM) (x1 x2 : Int) : Option (gM × Int) := lim (fun n => fn_ps_blank 119 n [(2, 68), (0, x1), (0, x2)] σ)
theorem ps_blank_l (σ : gM) (x1 x2 : Int) : Lm (fun n => fn_ps_blank 119 n [(2, 68), (0, x1), (0, x2)] σ) (ps_blank σ x1 x2) := .of fun n => mo_ps_blank 119 n [(2, 68), (0, x1), (0, x2)] σ
theorem ps_blank_e (σ : gM) (x1 x2 : Int) : ps_blank σ x1 x2 =
  (if 0 ≤ x1 ∧ x1 < 4200 then
  (if 0 ≤ x1 ∧ x1 < 4200 then
    (if 0 ≤ x1 ∧ x1 < 4200 then
      (if 0 ≤ x1 ∧ x1 < 4200 then
        (if 0 ≤ x1 ∧ x1 < 4200 then
          (if 0 ≤ x1 ∧ x1 < 4200 then
            (if 0 ≤ x1 ∧ x1 < 4200 then
              (if 0 ≤ x1 ∧ x1 < 4200 then
                (if 0 ≤ x1 ∧ x1 < 4200 then
                  (some (gW (gW (gW (gW (gW (gW (gW (gW (gW (gW σ 68 10 (w32 ((σ 68 10) + 1))) 70 x1 x2) 71 x1 (σ 69 5)) 72 x1 (-1)) 73 x1 (-1)) 74 x1 (-1)) 75 x1 (-1)) 76 x1 (-1)) 77 x1 0) 78 x1 0, x1))
                  else none)
                else none)
              else none)
            else none)
          else none)
        else none)
      else none)
    else none)
  else none) := Lm.eqn (ps_blank_l ..) (.ite (.ite (.ite (.ite (.ite (.ite (.ite (.ite (.ite .cst .cst) .cst) .cst) .cst) .cst) .cst) .cst) .cst) .cst) fun n => (rfl)
def k_ps_node : List gC := [(0, 1, .aload_n 0, [], none), (1, 3, .getfield 71, [], none), (4, 1, .istore_n 2, [], none), (5, 1, .aload_n 0, [], none),
  (6, 3, .getfield 125, [], none), (9, 3, .sipush 300, [], none), (12, 3, .if_icmp .ne 19, [(0, 31)], none), (15, 1, .aload_n 0, [], none),
  (16, 3, .getfield 12, [], none), (19, 1, .iconst 4, [], none), (20, 1, .aload_n 0, [], none), (21, 3, .getfield 12, [], none),
  (24, 3, .getfield 104, [], none), (27, 3, .invokevirtual 107, [], none), (30, 1, .pop, [], none), (31, 1, .aload_n 0, [], some [true, true, true]),
  (32, 1, .dup, [], none), (33, 3, .getfield 125, [], none), (36, 1, .iconst 1, [], none), (37, 1, .iadd, [], none),
  (38, 3, .putfield 125, [], none), (41, 1, .aload_n 0, [], none), (42, 1, .iload_n 2, [], none), (43, 1, .iload_n 1, [], none),
  (44, 3, .invokevirtual 128, [], none), (47, 1, .ireturn, [], none)]
def e_ps_node (m : Nat) : gE := (k_ps_node, f_ps, c_ps, [(107, 3, 16, 0, .inl (fn_tk_fails m)), (128, 3, 15, 0, .inl (fn_ps_blank m))], [], (m, 14778159579795272883663226755165564247357962301037173528348084999837966178562196452934900137658470071409690405765120), 0)
theorem ok_ps_node : gchk cX7_node 3 k_ps_node = true := by decide +kernel
def fn_ps_node (m : Nat) : gFn := gF (e_ps_node m) 3
theorem mo_ps_node (m : Nat) : gMo (.inl (fn_ps_node m)) := gF_mo (E := e_ps_node m) ⟨mo_tk_fails m, ⟨mo_ps_blank m, trivial⟩⟩
noncomputable def ps_node (σ : gM) (x1 : Int) : Option (gM × Int) := lim (fun n => fn_ps_node 119 n [(2, 68), (0, x1)] σ)
theorem ps_node_l (σ : gM) (x1 : Int) : Lm (fun n => fn_ps_node 119 n [(2, 68), (0, x1)] σ) (ps_node σ x1) := .of fun n => mo_ps_node 119 n [(2, 68), (0, x1)] σ
theorem mb_ps_node : gMos (e_ps_node 119).2.2.2.1 := ⟨mo_tk_fails 119, ⟨mo_ps_blank 119, trivial⟩⟩
noncomputable def ps_node_b31 (σ : gM) (x1 x2 : Int) : Option (gM × Int) := lim (fun n => gB (e_ps_node 119) rF tF n 31 [(2, 68), (0, x1), (0, x2)] [] σ)
theorem ps_node_b31_l (σ : gM) (x1 x2 : Int) : Lm (fun n => gB (e_ps_node 119) rF tF n 31 [(2, 68), (0, x1), (0, x2)] [] σ) (ps_node_b31 σ x1 x2) := .of fun n => gB_le (gMos_spec (mb_ps_node)) n _ _ _ σ
theorem ps_node_e (σ : gM) (x1 : Int) : ps_node σ x1 =
  (if σ 68 20 = 300 then
  ((tk_fails σ 4 (σ 69 5)).bind fun p1 =>
    ps_node_b31 p1.1 x1 (σ 68 10))
  else
  (ps_node_b31 σ x1 (σ 68 10))) := Lm.eqn (ps_node_l ..) (.ite (.bind (tk_fails_l ..) fun p1 => (ps_node_b31_l ..)) (ps_node_b31_l ..)) fun n => (rfl)
theorem ps_node_b31_e (σ : gM) (x1 x2 : Int) : ps_node_b31 σ x1 x2 =
  ((ps_blank (gW σ 68 20 (w32 ((σ 68 20) + 1))) x2 x1).bind fun p1 =>
  some (p1.1, p1.2)) := Lm.eqn (ps_node_b31_l ..) (.bind (ps_blank_l ..) fun p1 => .cst) fun n => (rfl)
def k_ps_adds : List gC := [(0, 1, .aload_n 0, [], none), (1, 3, .getfield 65, [], none), (4, 2, .bipush 12, [], none), (6, 1, .iload_n 1, [], none),
  (7, 1, .imul, [], none), (8, 1, .aload_n 0, [], none), (9, 3, .getfield 62, [], none), (12, 1, .iload_n 1, [], none),
  (13, 1, .iaload, [], none), (14, 1, .iadd, [], none), (15, 1, .iload_n 2, [], none), (16, 1, .iastore, [], none),
  (17, 1, .aload_n 0, [], none), (18, 3, .getfield 68, [], none), (21, 2, .bipush 12, [], none), (23, 1, .iload_n 1, [], none),
  (24, 1, .imul, [], none), (25, 1, .aload_n 0, [], none), (26, 3, .getfield 62, [], none), (29, 1, .iload_n 1, [], none),
  (30, 1, .iaload, [], none), (31, 1, .iadd, [], none), (32, 1, .iload_n 3, [], none), (33, 1, .iastore, [], none),
  (34, 1, .aload_n 0, [], none), (35, 3, .getfield 62, [], none), (38, 1, .iload_n 1, [], none), (39, 1, .dup2, [], none),
  (40, 1, .iaload, [], none), (41, 1, .iconst 1, [], none), (42, 1, .iadd, [], none), (43, 1, .iastore, [], none),
  (44, 1, .return_, [], none)]
def e_ps_adds (m : Nat) : gE := (k_ps_adds, f_ps, c_ps, [], [], (m, 135399691796838467567091712), 5)
theorem ok_ps_adds : gchk cX7_adds 4 k_ps_adds = true := by decide +kernel
def fn_ps_adds (m : Nat) : gFn := gF (e_ps_adds m) 4
theorem mo_ps_adds (m : Nat) : gMo (.inl (fn_ps_adds m)) := gF_mo (E := e_ps_adds m) trivial
noncomputable def ps_adds (σ : gM) (x1 x2 x3 : Int) : Option (gM × Int) := lim (fun n => fn_ps_adds 119 n [(2, 68), (0, x1), (0, x2), (0, x3)] σ)
theorem ps_adds_l (σ : gM) (x1 x2 x3 : Int) : Lm (fun n => fn_ps_adds 119 n [(2, 68), (0, x1), (0, x2), (0, x3)] σ) (ps_adds σ x1 x2 x3) := .of fun n => mo_ps_adds 119 n [(2, 68), (0, x1), (0, x2), (0, x3)] σ
theorem ps_adds_e (σ : gM) (x1 x2 x3 : Int) : ps_adds σ x1 x2 x3 =
  (if 0 ≤ x1 ∧ x1 < 50 then
  (if 0 ≤ w32 ((w32 (12 * x1)) + (σ 84 x1)) ∧ w32 ((w32 (12 * x1)) + (σ 84 x1)) < 600 then
    (if 0 ≤ x1 ∧ x1 < 50 then
      (if 0 ≤ w32 ((w32 (12 * x1)) + (σ 84 x1)) ∧ w32 ((w32 (12 * x1)) + (σ 84 x1)) < 600 then
        (if 0 ≤ x1 ∧ x1 < 50 then
          (if 0 ≤ x1 ∧ x1 < 50 then
            (some (gW (gW (gW σ 85 (w32 ((w32 (12 * x1)) + (σ 84 x1))) x2) 86 (w32 ((w32 (12 * x1)) + (σ 84 x1))) x3) 84 x1 (w32 ((σ 84 x1) + 1)), 0))
            else none)
          else none)
        else none)
      else none)
    else none)
  else none) := Lm.eqn (ps_adds_l ..) (.ite (.ite (.ite (.ite (.ite (.ite .cst .cst) .cst) .cst) .cst) .cst) .cst) fun n => (rfl)
def k_ps_param : List gC := [(0, 1, .aload_n 0, [], none), (1, 3, .invokevirtual 82, [], none), (4, 3, .ifCond .eq 30, [(0, 34)], none), (7, 1, .aload_n 0, [], none),
  (8, 3, .getfield 12, [], none), (11, 3, .getfield 89, [], none), (14, 1, .iconst 1, [], none), (15, 3, .if_icmp .eq 19, [(0, 34)], none),
  (18, 1, .aload_n 0, [], none), (19, 3, .getfield 12, [], none), (22, 1, .iconst 2, [], none), (23, 1, .aload_n 0, [], none),
  (24, 3, .getfield 12, [], none), (27, 3, .getfield 104, [], none), (30, 3, .invokevirtual 107, [], none), (33, 1, .pop, [], none),
  (34, 1, .aload_n 0, [], some [true, true, false]), (35, 3, .invokevirtual 82, [], none), (38, 3, .ifCond .ne 4, [(0, 42)], none), (41, 1, .return_, [], none),
  (42, 1, .aload_n 0, [], none), (43, 3, .getfield 59, [], none), (46, 1, .iload_n 1, [], none), (47, 1, .iaload, [], none),
  (48, 2, .bipush 6, [], none), (50, 3, .if_icmp .ne 19, [(0, 69)], none), (53, 1, .aload_n 0, [], none), (54, 3, .getfield 12, [], none),
  (57, 1, .iconst 4, [], none), (58, 1, .aload_n 0, [], none), (59, 3, .getfield 12, [], none), (62, 3, .getfield 104, [], none),
  (65, 3, .invokevirtual 107, [], none), (68, 1, .pop, [], none), (69, 1, .aload_n 0, [], some [true, true, false]), (70, 1, .iload_n 1, [], none),
  (71, 1, .aload_n 0, [], none), (72, 3, .getfield 12, [], none), (75, 3, .getfield 104, [], none), (78, 1, .aload_n 0, [], none),
  (79, 3, .getfield 12, [], none), (82, 3, .getfield 137, [], none), (85, 3, .invokevirtual 164, [], none), (88, 3, .ifCond .lt 20, [(0, 108)], none),
  (91, 1, .aload_n 0, [], none), (92, 3, .getfield 12, [], none), (95, 2, .bipush 6, [], none), (97, 1, .aload_n 0, [], none),
  (98, 3, .getfield 12, [], none), (101, 3, .getfield 104, [], none), (104, 3, .invokevirtual 107, [], none), (107, 1, .pop, [], none),
  (108, 1, .aload_n 0, [], some [true, true, false]), (109, 3, .invokevirtual 82, [], none), (112, 3, .ifCond .ne 4, [(0, 116)], none), (115, 1, .return_, [], none),
  (116, 1, .aload_n 0, [], none), (117, 1, .iconst 0, [], none), (118, 3, .invokevirtual 168, [], none), (121, 1, .istore_n 2, [], none),
  (122, 1, .aload_n 0, [], none), (123, 3, .getfield 37, [], none), (126, 1, .iload_n 2, [], none), (127, 1, .aload_n 0, [], none),
  (128, 3, .getfield 59, [], none), (131, 1, .iload_n 1, [], none), (132, 1, .iaload, [], none), (133, 1, .iastore, [], none),
  (134, 1, .aload_n 0, [], none), (135, 1, .iload_n 1, [], none), (136, 1, .aload_n 0, [], none), (137, 3, .getfield 12, [], none),
  (140, 3, .getfield 104, [], none), (143, 1, .aload_n 0, [], none), (144, 3, .getfield 12, [], none), (147, 3, .getfield 137, [], none),
  (150, 3, .invokevirtual 171, [], none), (153, 1, .aload_n 0, [], none), (154, 3, .getfield 59, [], none), (157, 1, .iload_n 1, [], none),
  (158, 1, .dup2, [], none), (159, 1, .iaload, [], none), (160, 1, .iconst 1, [], none), (161, 1, .iadd, [], none),
  (162, 1, .iastore, [], none), (163, 1, .aload_n 0, [], none), (164, 3, .getfield 12, [], none), (167, 3, .invokevirtual 98, [], none),
  (170, 1, .return_, [], none)]
def e_ps_param (m : Nat) : gE := (k_ps_param, f_ps, c_ps, [(82, 1, 15, 0, .inl (fn_ps_good m)), (107, 3, 16, 0, .inl (fn_tk_fails m)), (164, 4, 15, 0, .inl (fn_ps_local m)), (168, 2, 15, 0, .inl (fn_ps_node m)), (171, 4, 15, 5, .inl (fn_ps_adds m)), (98, 1, 16, 5, .inl (fn_tk_read m))], [], (m, 19549496267639916850775141767292329981566836978320098710794948654258346549329436800410846587032038678544118978707456), 5)
theorem ok_ps_param : gchk cX7_param 3 k_ps_param = true := by decide +kernel
def fn_ps_param (m : Nat) : gFn := gF (e_ps_param m) 3
theorem mo_ps_param (m : Nat) : gMo (.inl (fn_ps_param m)) := gF_mo (E := e_ps_param m) ⟨mo_ps_good m, ⟨mo_tk_fails m, ⟨mo_ps_local m, ⟨mo_ps_node m, ⟨mo_ps_adds m, ⟨mo_tk_read m, trivial⟩⟩⟩⟩⟩⟩
noncomputable def ps_param (σ : gM) (x1 : Int) : Option (gM × Int) := lim (fun n => fn_ps_param 119 n [(2, 68), (0, x1)] σ)
theorem ps_param_l (σ : gM) (x1 : Int) : Lm (fun n => fn_ps_param 119 n [(2, 68), (0, x1)] σ) (ps_param σ x1) := .of fun n => mo_ps_param 119 n [(2, 68), (0, x1)] σ
theorem mb_ps_param : gMos (e_ps_param 119).2.2.2.1 := ⟨mo_ps_good 119, ⟨mo_tk_fails 119, ⟨mo_ps_local 119, ⟨mo_ps_node 119, ⟨mo_ps_adds 119, ⟨mo_tk_read 119, trivial⟩⟩⟩⟩⟩⟩
noncomputable def ps_param_b34 (σ : gM) (x1 : Int) : Option (gM × Int) := lim (fun n => gB (e_ps_param 119) rF tF n 34 [(2, 68), (0, x1), (9, 0)] [] σ)
theorem ps_param_b34_l (σ : gM) (x1 : Int) : Lm (fun n => gB (e_ps_param 119) rF tF n 34 [(2, 68), (0, x1), (9, 0)] [] σ) (ps_param_b34 σ x1) := .of fun n => gB_le (gMos_spec (mb_ps_param)) n _ _ _ σ
noncomputable def ps_param_b69 (σ : gM) (x1 : Int) : Option (gM × Int) := lim (fun n => gB (e_ps_param 119) rF tF n 69 [(2, 68), (0, x1), (9, 0)] [] σ)
theorem ps_param_b69_l (σ : gM) (x1 : Int) : Lm (fun n => gB (e_ps_param 119) rF tF n 69 [(2, 68), (0, x1), (9, 0)] [] σ) (ps_param_b69 σ x1) := .of fun n => gB_le (gMos_spec (mb_ps_param)) n _ _ _ σ
noncomputable def ps_param_b108 (σ : gM) (x1 : Int) : Option (gM × Int) := lim (fun n => gB (e_ps_param 119) rF tF n 108 [(2, 68), (0, x1), (9, 0)] [] σ)
theorem ps_param_b108_l (σ : gM) (x1 : Int) : Lm (fun n => gB (e_ps_param 119) rF tF n 108 [(2, 68), (0, x1), (9, 0)] [] σ) (ps_param_b108 σ x1) := .of fun n => gB_le (gMos_spec (mb_ps_param)) n _ _ _ σ
theorem ps_param_e (σ : gM) (x1 : Int) : ps_param σ x1 =
  ((ps_good σ).bind fun p1 =>
  if p1.2 = 0 then
  (ps_param_b34 p1.1 x1)
  else
  (if p1.1 69 4 = 1 then
    (ps_param_b34 p1.1 x1)
    else
    ((tk_fails p1.1 2 (p1.1 69 5)).bind fun p2 =>
      ps_param_b34 p2.1 x1))) := Lm.eqn (ps_param_l ..) (.bind (ps_good_l ..) fun p1 => (.ite (ps_param_b34_l ..) (.ite (ps_param_b34_l ..) (.bind (tk_fails_l ..) fun p2 => (ps_param_b34_l ..))))) fun n => (rfl)
theorem ps_param_b34_e (σ : gM) (x1 : Int) : ps_param_b34 σ x1 =
  ((ps_good σ).bind fun p1 =>
  if p1.2 = 0 then
  (some (p1.1, 0))
  else
  (if 0 ≤ x1 ∧ x1 < 50 then
    (if p1.1 83 x1 = 6 then
      ((tk_fails p1.1 4 (p1.1 69 5)).bind fun p2 =>
        ps_param_b69 p2.1 x1)
      else
      (ps_param_b69 p1.1 x1))
    else none)) := Lm.eqn (ps_param_b34_l ..) (.bind (ps_good_l ..) fun p1 => (.ite .cst (.ite (.ite (.bind (tk_fails_l ..) fun p2 => (ps_param_b69_l ..)) (ps_param_b69_l ..)) .cst))) fun n => (rfl)
theorem ps_param_b69_e (σ : gM) (x1 : Int) : ps_param_b69 σ x1 =
  ((ps_local σ x1 (σ 69 5) (σ 69 6)).bind fun p1 =>
  if p1.2 < 0 then
  (ps_param_b108 p1.1 x1)
  else
  ((tk_fails p1.1 6 (p1.1 69 5)).bind fun p2 =>
    ps_param_b108 p2.1 x1)) := Lm.eqn (ps_param_b69_l ..) (.bind (ps_local_l ..) fun p1 => (.ite (ps_param_b108_l ..) (.bind (tk_fails_l ..) fun p2 => (ps_param_b108_l ..)))) fun n => (rfl)
theorem ps_param_b108_e (σ : gM) (x1 : Int) : ps_param_b108 σ x1 =
  ((ps_good σ).bind fun p1 =>
  if p1.2 = 0 then
  (some (p1.1, 0))
  else
  ((ps_node p1.1 0).bind fun p2 =>
    if 0 ≤ x1 ∧ x1 < 50 then
    (if 0 ≤ p2.2 ∧ p2.2 < 4200 then
      ((ps_adds (gW p2.1 76 p2.2 (p2.1 83 x1)) x1 (p2.1 69 5) (p2.1 69 6)).bind fun p3 =>
        if 0 ≤ x1 ∧ x1 < 50 then
        (if 0 ≤ x1 ∧ x1 < 50 then
          ((tk_read (gW p3.1 83 x1 (w32 ((p3.1 83 x1) + 1)))).bind fun p4 =>
            some (p4.1, 0))
          else none)
        else none)
      else none)
    else none)) := Lm.eqn (ps_param_b108_l ..) (.bind (ps_good_l ..) fun p1 => (.ite .cst (.bind (ps_node_l ..) fun p2 => (.ite (.ite (.bind (ps_adds_l ..) fun p3 => (.ite (.ite (.bind (tk_read_l ..) fun p4 => .cst) .cst) .cst)) .cst) .cst)))) fun n => (rfl)
def k_ps_takes : List gC := [(0, 1, .aload_n 0, [], none), (1, 3, .getfield 12, [], none), (4, 1, .iload_n 1, [], none), (5, 3, .invokevirtual 94, [], none),
  (8, 3, .ifCond .ne 5, [(0, 13)], none), (11, 1, .iconst 0, [], none), (12, 1, .ireturn, [], none), (13, 1, .aload_n 0, [], none),
  (14, 3, .getfield 12, [], none), (17, 3, .invokevirtual 98, [], none), (20, 1, .iconst 1, [], none), (21, 1, .ireturn, [], none)]
def e_ps_takes (m : Nat) : gE := (k_ps_takes, f_ps, c_ps, [(94, 2, 16, 0, .inl (fn_tk_is m)), (98, 1, 16, 5, .inl (fn_tk_read m))], [], (m, 19547089011492573671716555049680620911113776903707467682927473681012526035078694326756296149884313618681413104566272), 6)
theorem ok_ps_takes : gchk cX7_takes 2 k_ps_takes = true := by decide +kernel
def fn_ps_takes (m : Nat) : gFn := gF (e_ps_takes m) 2
theorem mo_ps_takes (m : Nat) : gMo (.inl (fn_ps_takes m)) := gF_mo (E := e_ps_takes m) ⟨mo_tk_is m, ⟨mo_tk_read m, trivial⟩⟩
noncomputable def ps_takes (σ : gM) (x1 : Int) : Option (gM × Int) := lim (fun n => fn_ps_takes 119 n [(2, 68), (0, x1)] σ)
theorem ps_takes_l (σ : gM) (x1 : Int) : Lm (fun n => fn_ps_takes 119 n [(2, 68), (0, x1)] σ) (ps_takes σ x1) := .of fun n => mo_ps_takes 119 n [(2, 68), (0, x1)] σ
theorem ps_takes_e (σ : gM) (x1 : Int) : ps_takes σ x1 =
  ((tk_is σ x1).bind fun p1 =>
  if p1.2 = 0 then
  (some (p1.1, 0))
  else
  ((tk_read p1.1).bind fun p2 =>
    some (p2.1, 1))) := Lm.eqn (ps_takes_l ..) (.bind (tk_is_l ..) fun p1 => (.ite .cst (.bind (tk_read_l ..) fun p2 => .cst))) fun n => (rfl)
def k_ps_must : List gC := [(0, 1, .aload_n 0, [], none), (1, 3, .invokevirtual 82, [], none), (4, 3, .ifCond .eq 27, [(0, 31)], none), (7, 1, .aload_n 0, [], none),
  (8, 1, .iload_n 1, [], none), (9, 3, .invokevirtual 101, [], none), (12, 3, .ifCond .ne 19, [(0, 31)], none), (15, 1, .aload_n 0, [], none),
  (16, 3, .getfield 12, [], none), (19, 1, .iconst 2, [], none), (20, 1, .aload_n 0, [], none), (21, 3, .getfield 12, [], none),
  (24, 3, .getfield 104, [], none), (27, 3, .invokevirtual 107, [], none), (30, 1, .pop, [], none), (31, 1, .return_, [], none)]
def e_ps_must (m : Nat) : gE := (k_ps_must, f_ps, c_ps, [(82, 1, 15, 0, .inl (fn_ps_good m)), (101, 2, 15, 0, .inl (fn_ps_takes m)), (107, 3, 16, 0, .inl (fn_tk_fails m))], [], (m, 19547089011492573671716555049680620911113776903707467682927473681012526035078694326756296149884313618681413104566272), 5)
theorem ok_ps_must : gchk cX7_must 2 k_ps_must = true := by decide +kernel
def fn_ps_must (m : Nat) : gFn := gF (e_ps_must m) 2
theorem mo_ps_must (m : Nat) : gMo (.inl (fn_ps_must m)) := gF_mo (E := e_ps_must m) ⟨mo_ps_good m, ⟨mo_ps_takes m, ⟨mo_tk_fails m, trivial⟩⟩⟩
noncomputable def ps_must (σ : gM) (x1 : Int) : Option (gM × Int) := lim (fun n => fn_ps_must 119 n [(2, 68), (0, x1)] σ)
theorem ps_must_l (σ : gM) (x1 : Int) : Lm (fun n => fn_ps_must 119 n [(2, 68), (0, x1)] σ) (ps_must σ x1) := .of fun n => mo_ps_must 119 n [(2, 68), (0, x1)] σ
theorem ps_must_e (σ : gM) (x1 : Int) : ps_must σ x1 =
  ((ps_good σ).bind fun p1 =>
  if p1.2 = 0 then
  (some (p1.1, 0))
  else
  ((ps_takes p1.1 x1).bind fun p2 =>
    if p2.2 = 0 then
    ((tk_fails p2.1 2 (p2.1 69 5)).bind fun p3 =>
      some (p3.1, 0))
    else
    (some (p2.1, 0)))) := Lm.eqn (ps_must_l ..) (.bind (ps_good_l ..) fun p1 => (.ite .cst (.bind (ps_takes_l ..) fun p2 => (.ite (.bind (tk_fails_l ..) fun p3 => .cst) .cst)))) fun n => (rfl)
def k_ps_closes : List gC := [(0, 1, .aload_n 0, [], none), (1, 1, .dup, [], none), (2, 3, .getfield 114, [], none), (5, 1, .iconst 1, [], none),
  (6, 1, .isub, [], none), (7, 3, .putfield 114, [], none), (10, 1, .aload_n 0, [], none), (11, 1, .iload_n 1, [], none),
  (12, 3, .invokevirtual 117, [], none), (15, 1, .return_, [], none)]
def e_ps_closes (m : Nat) : gE := (k_ps_closes, f_ps, c_ps, [(117, 2, 15, 5, .inl (fn_ps_must m))], [], (m, 19551898826702094482167272705942845473345842301567631922022682212922223999162129044848509805433005624985222507397120), 5)
theorem ok_ps_closes : gchk cX7_closes 2 k_ps_closes = true := by decide +kernel
def fn_ps_closes (m : Nat) : gFn := gF (e_ps_closes m) 2
theorem mo_ps_closes (m : Nat) : gMo (.inl (fn_ps_closes m)) := gF_mo (E := e_ps_closes m) ⟨mo_ps_must m, trivial⟩
noncomputable def ps_closes (σ : gM) (x1 : Int) : Option (gM × Int) := lim (fun n => fn_ps_closes 119 n [(2, 68), (0, x1)] σ)
theorem ps_closes_l (σ : gM) (x1 : Int) : Lm (fun n => fn_ps_closes 119 n [(2, 68), (0, x1)] σ) (ps_closes σ x1) := .of fun n => mo_ps_closes 119 n [(2, 68), (0, x1)] σ
theorem ps_closes_e (σ : gM) (x1 : Int) : ps_closes σ x1 =
  ((ps_must (gW σ 68 21 (w32 ((σ 68 21) - 1))) x1).bind fun p1 =>
  some (p1.1, 0)) := Lm.eqn (ps_closes_l ..) (.bind (ps_must_l ..) fun p1 => .cst) fun n => (rfl)
def k_ps_begins : List gC := [(0, 1, .aload_n 0, [], none), (1, 3, .getfield 12, [], none), (4, 3, .getfield 89, [], none), (7, 1, .iconst 1, [], none),
  (8, 3, .if_icmp .eq 85, [(0, 93)], none), (11, 1, .aload_n 0, [], none), (12, 3, .getfield 12, [], none), (15, 3, .getfield 89, [], none),
  (18, 1, .iconst 2, [], none), (19, 3, .if_icmp .eq 74, [(0, 93)], none), (22, 1, .aload_n 0, [], none), (23, 3, .getfield 12, [], none),
  (26, 3, .getfield 89, [], none), (29, 1, .iconst 3, [], none), (30, 3, .if_icmp .eq 63, [(0, 93)], none), (33, 1, .aload_n 0, [], none),
  (34, 3, .getfield 12, [], none), (37, 2, .bipush 40, [], none), (39, 3, .invokevirtual 94, [], none), (42, 3, .ifCond .ne 51, [(0, 93)], none),
  (45, 1, .aload_n 0, [], none), (46, 3, .getfield 12, [], none), (49, 2, .bipush 33, [], none), (51, 3, .invokevirtual 94, [], none),
  (54, 3, .ifCond .ne 39, [(0, 93)], none), (57, 1, .aload_n 0, [], none), (58, 3, .getfield 12, [], none), (61, 2, .ldc 229, [], none),
  (63, 3, .invokevirtual 133, [], none), (66, 3, .ifCond .ne 27, [(0, 93)], none), (69, 1, .aload_n 0, [], none), (70, 3, .getfield 12, [], none),
  (73, 2, .ldc 231, [], none), (75, 3, .invokevirtual 133, [], none), (78, 3, .ifCond .ne 15, [(0, 93)], none), (81, 1, .aload_n 0, [], none),
  (82, 3, .getfield 12, [], none), (85, 2, .ldc 233, [], none), (87, 3, .invokevirtual 133, [], none), (90, 3, .ifCond .eq 7, [(0, 97)], none),
  (93, 1, .iconst 1, [], some [false]), (94, 3, .goto 4, [(0, 98)], none), (97, 1, .iconst 0, [], none), (98, 1, .ireturn, [], none)]
def e_ps_begins (m : Nat) : gE := (k_ps_begins, f_ps, c_ps, [(94, 2, 16, 0, .inl (fn_tk_is m)), (133, 2, 16, 0, .inl (fn_tk_isWord_2 m))], [], (m, 0), 6)
theorem ok_ps_begins : gchk cX7_begins 1 k_ps_begins = true := by decide +kernel
def fn_ps_begins (m : Nat) : gFn := gF (e_ps_begins m) 1
theorem mo_ps_begins (m : Nat) : gMo (.inl (fn_ps_begins m)) := gF_mo (E := e_ps_begins m) ⟨mo_tk_is m, ⟨mo_tk_isWord_2 m, trivial⟩⟩
noncomputable def ps_begins (σ : gM) : Option (gM × Int) := lim (fun n => fn_ps_begins 119 n [(2, 68)] σ)
theorem ps_begins_l (σ : gM) : Lm (fun n => fn_ps_begins 119 n [(2, 68)] σ) (ps_begins σ) := .of fun n => mo_ps_begins 119 n [(2, 68)] σ
theorem mb_ps_begins : gMos (e_ps_begins 119).2.2.2.1 := ⟨mo_tk_is 119, ⟨mo_tk_isWord_2 119, trivial⟩⟩
noncomputable def ps_begins_b93 (σ : gM) : Option (gM × Int) := lim (fun n => gB (e_ps_begins 119) rF tF n 93 [(9, 0)] [] σ)
theorem ps_begins_b93_l (σ : gM) : Lm (fun n => gB (e_ps_begins 119) rF tF n 93 [(9, 0)] [] σ) (ps_begins_b93 σ) := .of fun n => gB_le (gMos_spec (mb_ps_begins)) n _ _ _ σ
theorem ps_begins_e (σ : gM) : ps_begins σ =
  (if σ 69 4 = 1 then
  (ps_begins_b93 σ)
  else
  (if σ 69 4 = 2 then
    (ps_begins_b93 σ)
    else
    (if σ 69 4 = 3 then
      (ps_begins_b93 σ)
      else
      ((tk_is σ 40).bind fun p1 =>
        if p1.2 = 0 then
        ((tk_is p1.1 33).bind fun p2 =>
          if p2.2 = 0 then
          ((tk_isWord_2 p2.1 11).bind fun p3 =>
            if p3.2 = 0 then
            ((tk_isWord_2 p3.1 12).bind fun p4 =>
              if p4.2 = 0 then
              ((tk_isWord_2 p4.1 5).bind fun p5 =>
                if p5.2 = 0 then
                (some (p5.1, 0))
                else
                (ps_begins_b93 p5.1))
              else
              (ps_begins_b93 p4.1))
            else
            (ps_begins_b93 p3.1))
          else
          (ps_begins_b93 p2.1))
        else
        (ps_begins_b93 p1.1))))) := Lm.eqn (ps_begins_l ..) (.ite (ps_begins_b93_l ..) (.ite (ps_begins_b93_l ..) (.ite (ps_begins_b93_l ..) (.bind (tk_is_l ..) fun p1 => (.ite (.bind (tk_is_l ..) fun p2 => (.ite (.bind (tk_isWord_2_l ..) fun p3 => (.ite (.bind (tk_isWord_2_l ..) fun p4 => (.ite (.bind (tk_isWord_2_l ..) fun p5 => (.ite .cst (ps_begins_b93_l ..))) (ps_begins_b93_l ..))) (ps_begins_b93_l ..))) (ps_begins_b93_l ..))) (ps_begins_b93_l ..)))))) fun n => (rfl)
theorem ps_begins_b93_e (σ : gM) : ps_begins_b93 σ =
  (some (σ, 1)) := Lm.eqn (ps_begins_b93_l ..) .cst fun n => (rfl)
def k_ps_two : List gC := [(0, 1, .aload_n 0, [], none), (1, 1, .iload_n 1, [], none), (2, 3, .invokevirtual 168, [], none), (5, 1, .istore_n 3, [], none),
  (6, 1, .aload_n 0, [], none), (7, 3, .getfield 25, [], none), (10, 1, .iload_n 3, [], none), (11, 1, .iload_n 2, [], none),
  (12, 1, .iastore, [], none), (13, 1, .aload_n 0, [], none), (14, 3, .invokevirtual 82, [], none), (17, 3, .ifCond .eq 10, [(0, 27)], none),
  (20, 1, .aload_n 0, [], none), (21, 3, .getfield 12, [], none), (24, 3, .invokevirtual 98, [], none), (27, 1, .iload_n 3, [], none),
  (28, 1, .ireturn, [], none)]
def e_ps_two (m : Nat) : gE := (k_ps_two, f_ps, c_ps, [(168, 2, 15, 0, .inl (fn_ps_node m)), (82, 1, 15, 0, .inl (fn_ps_good m)), (98, 1, 16, 5, .inl (fn_tk_read m))], [], (m, 19549496267639916850775141767292329981566836978320098710794948654258346549329436800410846441960940324788618013966336), 0)
theorem ok_ps_two : gchk cX7_two 4 k_ps_two = true := by decide +kernel
def fn_ps_two (m : Nat) : gFn := gF (e_ps_two m) 4
theorem mo_ps_two (m : Nat) : gMo (.inl (fn_ps_two m)) := gF_mo (E := e_ps_two m) ⟨mo_ps_node m, ⟨mo_ps_good m, ⟨mo_tk_read m, trivial⟩⟩⟩
noncomputable def ps_two (σ : gM) (x1 x2 : Int) : Option (gM × Int) := lim (fun n => fn_ps_two 119 n [(2, 68), (0, x1), (0, x2)] σ)
theorem ps_two_l (σ : gM) (x1 x2 : Int) : Lm (fun n => fn_ps_two 119 n [(2, 68), (0, x1), (0, x2)] σ) (ps_two σ x1 x2) := .of fun n => mo_ps_two 119 n [(2, 68), (0, x1), (0, x2)] σ
theorem ps_two_e (σ : gM) (x1 x2 : Int) : ps_two σ x1 x2 =
  ((ps_node σ x1).bind fun p1 =>
  if 0 ≤ p1.2 ∧ p1.2 < 4200 then
  ((ps_good (gW p1.1 72 p1.2 x2)).bind fun p2 =>
    if p2.2 = 0 then
    (some (p2.1, p1.2))
    else
    ((tk_read p2.1).bind fun p3 =>
      some (p3.1, p1.2)))
  else none) := Lm.eqn (ps_two_l ..) (.bind (ps_node_l ..) fun p1 => (.ite (.bind (ps_good_l ..) fun p2 => (.ite .cst (.bind (tk_read_l ..) fun p3 => .cst))) .cst)) fun n => (rfl)
def k_ps_sets : List gC := [(0, 1, .aload_n 0, [], none), (1, 3, .getfield 75, [], none), (4, 1, .iconst 1, [], none), (5, 1, .isub, [], none),
  (6, 1, .istore_n 2, [], none), (7, 1, .aload_n 0, [], none), (8, 1, .iload_n 2, [], none), (9, 1, .aload_n 0, [], none),
  (10, 3, .getfield 37, [], none), (13, 1, .iload_n 1, [], none), (14, 1, .iaload, [], none), (15, 1, .aload_n 0, [], none),
  (16, 3, .getfield 40, [], none), (19, 1, .iload_n 1, [], none), (20, 1, .iaload, [], none), (21, 3, .invokevirtual 164, [], none),
  (24, 1, .istore_n 3, [], none), (25, 1, .iload_n 3, [], none), (26, 3, .ifCond .ge 30, [(0, 56)], none), (29, 1, .aload_n 0, [], none),
  (30, 3, .getfield 62, [], none), (33, 1, .iload_n 2, [], none), (34, 1, .iaload, [], none), (35, 2, .bipush 12, [], none),
  (37, 3, .if_icmp .ne 19, [(0, 56)], none), (40, 1, .aload_n 0, [], none), (41, 3, .getfield 12, [], none), (44, 1, .iconst 4, [], none),
  (45, 1, .aload_n 0, [], none), (46, 3, .getfield 22, [], none), (49, 1, .iload_n 1, [], none), (50, 1, .iaload, [], none),
  (51, 3, .invokevirtual 107, [], none), (54, 1, .pop, [], none), (55, 1, .return_, [], none), (56, 1, .iload_n 3, [], some [true, true, true, true]),
  (57, 3, .ifCond .ge 20, [(0, 77)], none), (60, 1, .aload_n 0, [], none), (61, 1, .iload_n 2, [], none), (62, 1, .aload_n 0, [], none),
  (63, 3, .getfield 37, [], none), (66, 1, .iload_n 1, [], none), (67, 1, .iaload, [], none), (68, 1, .aload_n 0, [], none),
  (69, 3, .getfield 40, [], none), (72, 1, .iload_n 1, [], none), (73, 1, .iaload, [], none), (74, 3, .invokevirtual 171, [], none),
  (77, 1, .aload_n 0, [], some [true, true, true, true]), (78, 3, .getfield 18, [], none), (81, 1, .iload_n 1, [], none), (82, 2, .bipush 6, [], none),
  (84, 1, .iastore, [], none), (85, 1, .aload_n 0, [], none), (86, 3, .getfield 37, [], none), (89, 1, .iload_n 1, [], none),
  (90, 1, .iload_n 3, [], none), (91, 3, .ifCond .ge 14, [(0, 105)], none), (94, 1, .aload_n 0, [], none), (95, 3, .getfield 62, [], none),
  (98, 1, .iload_n 2, [], none), (99, 1, .iaload, [], none), (100, 1, .iconst 1, [], none), (101, 1, .isub, [], none),
  (102, 3, .goto 4, [(0, 106)], none), (105, 1, .iload_n 3, [], none), (106, 1, .iastore, [], some [false, false, false, false]), (107, 1, .return_, [], none)]
def e_ps_sets (m : Nat) : gE := (k_ps_sets, f_ps, c_ps, [(164, 4, 15, 0, .inl (fn_ps_local m)), (107, 3, 16, 0, .inl (fn_tk_fails m)), (171, 4, 15, 5, .inl (fn_ps_adds m))], [], (m, 14775752323647929704604640037553855176904902226424542500480610026592145664311453979280349981058273617487584798179328), 5)
theorem ok_ps_sets : gchk cX7_sets 4 k_ps_sets = true := by decide +kernel
def fn_ps_sets (m : Nat) : gFn := gF (e_ps_sets m) 4
theorem mo_ps_sets (m : Nat) : gMo (.inl (fn_ps_sets m)) := gF_mo (E := e_ps_sets m) ⟨mo_ps_local m, ⟨mo_tk_fails m, ⟨mo_ps_adds m, trivial⟩⟩⟩
noncomputable def ps_sets (σ : gM) (x1 : Int) : Option (gM × Int) := lim (fun n => fn_ps_sets 119 n [(2, 68), (0, x1)] σ)
theorem ps_sets_l (σ : gM) (x1 : Int) : Lm (fun n => fn_ps_sets 119 n [(2, 68), (0, x1)] σ) (ps_sets σ x1) := .of fun n => mo_ps_sets 119 n [(2, 68), (0, x1)] σ
theorem mb_ps_sets : gMos (e_ps_sets 119).2.2.2.1 := ⟨mo_ps_local 119, ⟨mo_tk_fails 119, ⟨mo_ps_adds 119, trivial⟩⟩⟩
noncomputable def ps_sets_b56 (σ : gM) (x1 x2 x3 : Int) : Option (gM × Int) := lim (fun n => gB (e_ps_sets 119) rF tF n 56 [(2, 68), (0, x1), (0, x2), (0, x3)] [] σ)
theorem ps_sets_b56_l (σ : gM) (x1 x2 x3 : Int) : Lm (fun n => gB (e_ps_sets 119) rF tF n 56 [(2, 68), (0, x1), (0, x2), (0, x3)] [] σ) (ps_sets_b56 σ x1 x2 x3) := .of fun n => gB_le (gMos_spec (mb_ps_sets)) n _ _ _ σ
noncomputable def ps_sets_b77 (σ : gM) (x1 x2 x3 : Int) : Option (gM × Int) := lim (fun n => gB (e_ps_sets 119) rF tF n 77 [(2, 68), (0, x1), (0, x2), (0, x3)] [] σ)
theorem ps_sets_b77_l (σ : gM) (x1 x2 x3 : Int) : Lm (fun n => gB (e_ps_sets 119) rF tF n 77 [(2, 68), (0, x1), (0, x2), (0, x3)] [] σ) (ps_sets_b77 σ x1 x2 x3) := .of fun n => gB_le (gMos_spec (mb_ps_sets)) n _ _ _ σ
noncomputable def ps_sets_b106 (σ : gM) (y0 y1 : Int) : Option (gM × Int) := lim (fun n => gB (e_ps_sets 119) rF tF n 106 [(9, 0), (9, 0), (9, 0), (9, 0)] [(0, y0), (0, y1), (2, 76)] σ)
theorem ps_sets_b106_l (σ : gM) (y0 y1 : Int) : Lm (fun n => gB (e_ps_sets 119) rF tF n 106 [(9, 0), (9, 0), (9, 0), (9, 0)] [(0, y0), (0, y1), (2, 76)] σ) (ps_sets_b106 σ y0 y1) := .of fun n => gB_le (gMos_spec (mb_ps_sets)) n _ _ _ σ
theorem ps_sets_e (σ : gM) (x1 : Int) : ps_sets σ x1 =
  (if 0 ≤ x1 ∧ x1 < 4200 then
  (if 0 ≤ x1 ∧ x1 < 4200 then
    ((ps_local σ (w32 ((σ 68 19) - 1)) (σ 76 x1) (σ 77 x1)).bind fun p1 =>
      if p1.2 < 0 then
      (if 0 ≤ w32 ((σ 68 19) - 1) ∧ w32 ((σ 68 19) - 1) < 50 then
        (if p1.1 84 (w32 ((σ 68 19) - 1)) = 12 then
          (if 0 ≤ x1 ∧ x1 < 4200 then
            ((tk_fails p1.1 4 (p1.1 71 x1)).bind fun p2 =>
              some (p2.1, 0))
            else none)
          else
          (ps_sets_b56 p1.1 x1 (w32 ((σ 68 19) - 1)) p1.2))
        else none)
      else
      (ps_sets_b56 p1.1 x1 (w32 ((σ 68 19) - 1)) p1.2))
    else none)
  else none) := Lm.eqn (ps_sets_l ..) (.ite (.ite (.bind (ps_local_l ..) fun p1 => (.ite (.ite (.ite (.ite (.bind (tk_fails_l ..) fun p2 => .cst) .cst) (ps_sets_b56_l ..)) .cst) (ps_sets_b56_l ..))) .cst) .cst) fun n => (rfl)
theorem ps_sets_b56_e (σ : gM) (x1 x2 x3 : Int) : ps_sets_b56 σ x1 x2 x3 =
  (if x3 < 0 then
  (if 0 ≤ x1 ∧ x1 < 4200 then
    (if 0 ≤ x1 ∧ x1 < 4200 then
      ((ps_adds σ x2 (σ 76 x1) (σ 77 x1)).bind fun p1 =>
        ps_sets_b77 p1.1 x1 x2 x3)
      else none)
    else none)
  else
  (ps_sets_b77 σ x1 x2 x3)) := Lm.eqn (ps_sets_b56_l ..) (.ite (.ite (.ite (.bind (ps_adds_l ..) fun p1 => (ps_sets_b77_l ..)) .cst) .cst) (ps_sets_b77_l ..)) fun n => (rfl)
theorem ps_sets_b77_e (σ : gM) (x1 x2 x3 : Int) : ps_sets_b77 σ x1 x2 x3 =
  (if 0 ≤ x1 ∧ x1 < 4200 then
  (if x3 < 0 then
    (if 0 ≤ x2 ∧ x2 < 50 then
      (ps_sets_b106 (gW σ 70 x1 6) (w32 ((σ 84 x2) - 1)) x1)
      else none)
    else
    (ps_sets_b106 (gW σ 70 x1 6) x3 x1))
  else none) := Lm.eqn (ps_sets_b77_l ..) (.ite (.ite (.ite (ps_sets_b106_l ..) .cst) (ps_sets_b106_l ..)) .cst) fun n => (rfl)
theorem ps_sets_b106_e (σ : gM) (y0 y1 : Int) : ps_sets_b106 σ y0 y1 =
  (if 0 ≤ y1 ∧ y1 < 4200 then
  (some (gW σ 76 y1 y0, 0))
  else none) := Lm.eqn (ps_sets_b106_l ..) (.ite .cst .cst) fun n => (rfl)
def k_ps_call : List gC := [(0, 1, .aload_n 0, [], none), (1, 3, .getfield 114, [], none), (4, 2, .bipush 20, [], none), (6, 3, .if_icmp .ne 19, [(0, 25)], none),
  (9, 1, .aload_n 0, [], none), (10, 3, .getfield 12, [], none), (13, 1, .iconst 3, [], none), (14, 1, .aload_n 0, [], none),
  (15, 3, .getfield 12, [], none), (18, 3, .getfield 104, [], none), (21, 3, .invokevirtual 107, [], none), (24, 1, .pop, [], none),
  (25, 1, .aload_n 0, [], some [true, true, false, false, false, false, false]), (26, 2, .bipush 23, [], none), (28, 3, .invokevirtual 168, [], none), (31, 1, .istore_n 2, [], none),
  (32, 1, .aload_n 0, [], none), (33, 3, .getfield 25, [], none), (36, 1, .iload_n 2, [], none), (37, 1, .iload_n 1, [], none),
  (38, 1, .iastore, [], none), (39, 1, .aload_n 0, [], none), (40, 3, .invokevirtual 111, [], none), (43, 1, .iconst 0, [], none),
  (44, 1, .istore_n 3, [], none), (45, 1, .iconst (-1), [], none), (46, 2, .istore 4, [], none), (48, 1, .aload_n 0, [], none),
  (49, 3, .invokevirtual 82, [], none), (52, 3, .ifCond .eq 19, [(0, 71)], none), (55, 1, .aload_n 0, [], none), (56, 3, .getfield 12, [], none),
  (59, 2, .bipush 41, [], none), (61, 3, .invokevirtual 94, [], none), (64, 3, .ifCond .ne 7, [(0, 71)], none), (67, 1, .iconst 1, [], none),
  (68, 3, .goto 4, [(0, 72)], none), (71, 1, .iconst 0, [], some [true, false, true, true, true, false, false]), (72, 2, .istore 5, [], some [true, false, true, true, true, false, false]), (74, 2, .iload 5, [], some [true, false, true, true, true, true, false]),
  (76, 3, .ifCond .eq 157, [(0, 233)], none), (79, 1, .iload_n 3, [], none), (80, 2, .bipush 12, [], none), (82, 3, .if_icmp .ne 61, [(0, 143)], none),
  (85, 1, .aload_n 0, [], none), (86, 3, .invokevirtual 82, [], none), (89, 3, .ifCond .eq 54, [(0, 143)], none), (92, 1, .aload_n 0, [], none),
  (93, 3, .getfield 12, [], none), (96, 1, .aload_n 0, [], none), (97, 3, .invokevirtual 238, [], none), (100, 3, .ifCond .ne 7, [(0, 107)], none),
  (103, 1, .iconst 2, [], none), (104, 3, .goto 28, [(0, 132)], none), (107, 1, .aload_n 0, [], none), (108, 3, .getfield 114, [], none),
  (111, 2, .bipush 20, [], none), (113, 3, .if_icmp .ne 18, [(0, 131)], none), (116, 1, .aload_n 0, [], none), (117, 3, .getfield 12, [], none),
  (120, 3, .getfield 89, [], none), (123, 1, .iconst 4, [], none), (124, 3, .if_icmp .ne 7, [(0, 131)], none), (127, 1, .iconst 3, [], none),
  (128, 3, .goto 4, [(0, 132)], none), (131, 1, .iconst 4, [], some [true, false, true, true, true, false, false]), (132, 1, .aload_n 0, [], some [true, false, true, true, true, false, false]), (133, 3, .getfield 12, [], none),
  (136, 3, .getfield 104, [], none), (139, 3, .invokevirtual 107, [], none), (142, 1, .pop, [], none), (143, 1, .aload_n 0, [], some [true, false, true, true, true, false, false]),
  (144, 3, .invokevirtual 82, [], none), (147, 3, .ifCond .eq 10, [(0, 157)], none), (150, 1, .aload_n 0, [], none), (151, 3, .invokevirtual 189, [], none),
  (154, 3, .goto 4, [(0, 158)], none), (157, 1, .iconst (-1), [], none), (158, 2, .istore 6, [], some [true, false, true, true, true, false, false]), (160, 2, .iload 4, [], none),
  (162, 3, .ifCond .ge 14, [(0, 176)], none), (165, 1, .aload_n 0, [], none), (166, 3, .getfield 28, [], none), (169, 1, .iload_n 2, [], none),
  (170, 2, .iload 6, [], none), (172, 1, .iastore, [], none), (173, 3, .goto 12, [(0, 185)], none), (176, 1, .aload_n 0, [], none),
  (177, 3, .getfield 34, [], none), (180, 2, .iload 4, [], none), (182, 2, .iload 6, [], none), (184, 1, .iastore, [], none),
  (185, 2, .iload 6, [], some [true, false, true, true, false, false, true]), (187, 2, .istore 4, [], none), (189, 3, .iinc 3 1, [], none), (192, 1, .aload_n 0, [], none),
  (193, 3, .invokevirtual 82, [], none), (196, 3, .ifCond .eq 19, [(0, 215)], none), (199, 1, .aload_n 0, [], none), (200, 3, .getfield 12, [], none),
  (203, 2, .bipush 44, [], none), (205, 3, .invokevirtual 94, [], none), (208, 3, .ifCond .eq 7, [(0, 215)], none), (211, 1, .iconst 1, [], none),
  (212, 3, .goto 4, [(0, 216)], none), (215, 1, .iconst 0, [], some [true, false, true, true, true, false, false]), (216, 2, .istore 5, [], some [true, false, true, true, true, false, false]), (218, 2, .iload 5, [], none),
  (220, 3, .ifCond .eq 10, [(0, 230)], none), (223, 1, .aload_n 0, [], none), (224, 3, .getfield 12, [], none), (227, 3, .invokevirtual 98, [], none),
  (230, 3, .goto (-156), [(0, 74)], some [true, false, true, true, true, true, false]), (233, 1, .aload_n 0, [], none), (234, 2, .bipush 41, [], none), (236, 3, .invokevirtual 153, [], none),
  (239, 1, .aload_n 0, [], none), (240, 3, .getfield 37, [], none), (243, 1, .iload_n 2, [], none), (244, 1, .iload_n 3, [], none),
  (245, 1, .iastore, [], none), (246, 1, .iload_n 2, [], none), (247, 1, .ireturn, [], none)]
def e_ps_call (m : Nat) (r : Nat → gFn) : gE := (k_ps_call, f_ps, c_ps, [(107, 3, 16, 0, .inl (fn_tk_fails m)), (168, 2, 15, 0, .inl (fn_ps_node m)), (111, 1, 15, 5, .inl (fn_ps_open m)), (82, 1, 15, 0, .inl (fn_ps_good m)), (94, 2, 16, 0, .inl (fn_tk_is m)), (238, 1, 15, 0, .inl (fn_ps_begins m)), (189, 1, 15, 0, .inl (r 4)), (98, 1, 16, 5, .inl (fn_tk_read m)), (153, 2, 15, 5, .inl (fn_ps_closes m))], [], (m, 19554306082849437661225859423554554543798902376180262949890157186168044513412871518503060232909324127930894983888896), 0)
theorem ok_ps_call : gchk cX7_call 7 k_ps_call = true := by decide +kernel
def k_ps_behind : List gC := [(0, 1, .aload_n 0, [], none), (1, 3, .getfield 12, [], none), (4, 2, .bipush 40, [], none), (6, 3, .invokevirtual 94, [], none),
  (9, 3, .ifCond .eq 9, [(0, 18)], none), (12, 1, .aload_n 0, [], none), (13, 1, .iload_n 1, [], none), (14, 3, .invokevirtual 235, [], none),
  (17, 1, .ireturn, [], none), (18, 1, .aload_n 0, [], none), (19, 3, .getfield 12, [], none), (22, 2, .bipush 46, [], none),
  (24, 3, .invokevirtual 94, [], none), (27, 1, .istore_n 2, [], none), (28, 1, .iload_n 2, [], none), (29, 3, .ifCond .ne 28, [(0, 57)], none),
  (32, 1, .aload_n 0, [], none), (33, 3, .getfield 114, [], none), (36, 2, .bipush 20, [], none), (38, 3, .if_icmp .ne 19, [(0, 57)], none),
  (41, 1, .aload_n 0, [], none), (42, 3, .getfield 12, [], none), (45, 1, .iconst 3, [], none), (46, 1, .aload_n 0, [], none),
  (47, 3, .getfield 12, [], none), (50, 3, .getfield 104, [], none), (53, 3, .invokevirtual 107, [], none), (56, 1, .pop, [], none),
  (57, 1, .aload_n 0, [], some [true, true, true, false]), (58, 2, .bipush 21, [], none), (60, 3, .invokevirtual 168, [], none), (63, 1, .istore_n 3, [], none),
  (64, 1, .aload_n 0, [], none), (65, 3, .getfield 25, [], none), (68, 1, .iload_n 3, [], none), (69, 1, .iload_n 1, [], none),
  (70, 1, .iastore, [], none), (71, 1, .iload_n 2, [], none), (72, 3, .ifCond .eq 94, [(0, 166)], none), (75, 1, .aload_n 0, [], none),
  (76, 3, .invokevirtual 82, [], none), (79, 3, .ifCond .eq 10, [(0, 89)], none), (82, 1, .aload_n 0, [], none), (83, 3, .getfield 12, [], none),
  (86, 3, .invokevirtual 98, [], none), (89, 1, .aload_n 0, [], some [true, false, false, true]), (90, 3, .invokevirtual 82, [], none), (93, 3, .ifCond .eq 30, [(0, 123)], none),
  (96, 1, .aload_n 0, [], none), (97, 3, .getfield 12, [], none), (100, 3, .getfield 89, [], none), (103, 1, .iconst 1, [], none),
  (104, 3, .if_icmp .eq 19, [(0, 123)], none), (107, 1, .aload_n 0, [], none), (108, 3, .getfield 12, [], none), (111, 1, .iconst 2, [], none),
  (112, 1, .aload_n 0, [], none), (113, 3, .getfield 12, [], none), (116, 3, .getfield 104, [], none), (119, 3, .invokevirtual 107, [], none),
  (122, 1, .pop, [], none), (123, 1, .aload_n 0, [], some [true, false, false, true]), (124, 3, .getfield 37, [], none), (127, 1, .iload_n 3, [], none),
  (128, 1, .aload_n 0, [], none), (129, 3, .getfield 12, [], none), (132, 3, .getfield 104, [], none), (135, 1, .iastore, [], none),
  (136, 1, .aload_n 0, [], none), (137, 3, .getfield 40, [], none), (140, 1, .iload_n 3, [], none), (141, 1, .aload_n 0, [], none),
  (142, 3, .getfield 12, [], none), (145, 3, .getfield 137, [], none), (148, 1, .iastore, [], none), (149, 1, .aload_n 0, [], none),
  (150, 3, .invokevirtual 82, [], none), (153, 3, .ifCond .eq 33, [(0, 186)], none), (156, 1, .aload_n 0, [], none), (157, 3, .getfield 12, [], none),
  (160, 3, .invokevirtual 98, [], none), (163, 3, .goto 23, [(0, 186)], none), (166, 1, .aload_n 0, [], none), (167, 3, .invokevirtual 111, [], none),
  (170, 1, .aload_n 0, [], none), (171, 3, .getfield 28, [], none), (174, 1, .iload_n 3, [], none), (175, 1, .aload_n 0, [], none),
  (176, 3, .invokevirtual 189, [], none), (179, 1, .iastore, [], none), (180, 1, .aload_n 0, [], none), (181, 2, .bipush 93, [], none),
  (183, 3, .invokevirtual 153, [], none), (186, 1, .aload_n 0, [], some [true, false, false, true]), (187, 3, .getfield 43, [], none), (190, 1, .iload_n 3, [], none),
  (191, 1, .iconst 1, [], none), (192, 1, .bastore, [], none), (193, 1, .iload_n 3, [], none), (194, 1, .ireturn, [], none)]
def e_ps_behind (m : Nat) (r : Nat → gFn) : gE := (k_ps_behind, f_ps, c_ps, [(94, 2, 16, 0, .inl (fn_tk_is m)), (235, 2, 15, 0, .inl (r 3)), (107, 3, 16, 0, .inl (fn_tk_fails m)), (168, 2, 15, 0, .inl (fn_ps_node m)), (82, 1, 15, 0, .inl (fn_ps_good m)), (98, 1, 16, 5, .inl (fn_tk_read m)), (111, 1, 15, 5, .inl (fn_ps_open m)), (189, 1, 15, 0, .inl (r 4)), (153, 2, 15, 5, .inl (fn_ps_closes m))], [], (m, 19554306082849437661225859423554554543798902376180262949890157186168044513412871518503060232909324127930894983888896), 0)
theorem ok_ps_behind : gchk cX7_behind 4 k_ps_behind = true := by decide +kernel
def k_ps_atom : List gC := [(0, 1, .aload_n 0, [], none), (1, 3, .invokevirtual 82, [], none), (4, 3, .ifCond .ne 13, [(0, 17)], none), (7, 1, .aload_n 0, [], none),
  (8, 1, .aload_n 0, [], none), (9, 3, .getfield 71, [], none), (12, 1, .iconst 4, [], none), (13, 3, .invokevirtual 128, [], none),
  (16, 1, .ireturn, [], none), (17, 1, .aload_n 0, [], none), (18, 3, .getfield 12, [], none), (21, 3, .getfield 89, [], none),
  (24, 1, .iconst 1, [], none), (25, 3, .if_icmp .ne 19, [(0, 44)], none), (28, 1, .aload_n 0, [], none), (29, 1, .iconst 5, [], none),
  (30, 3, .invokevirtual 168, [], none), (33, 1, .istore_n 1, [], none), (34, 1, .aload_n 0, [], none), (35, 3, .getfield 43, [], none),
  (38, 1, .iload_n 1, [], none), (39, 1, .iconst 1, [], none), (40, 1, .bastore, [], none), (41, 3, .goto 123, [(0, 164)], none),
  (44, 1, .aload_n 0, [], none), (45, 3, .getfield 12, [], none), (48, 3, .getfield 89, [], none), (51, 1, .iconst 2, [], none),
  (52, 3, .if_icmp .ne 12, [(0, 64)], none), (55, 1, .aload_n 0, [], none), (56, 1, .iconst 1, [], none), (57, 3, .invokevirtual 168, [], none),
  (60, 1, .istore_n 1, [], none), (61, 3, .goto 103, [(0, 164)], none), (64, 1, .aload_n 0, [], none), (65, 3, .getfield 12, [], none),
  (68, 3, .getfield 89, [], none), (71, 1, .iconst 3, [], none), (72, 3, .if_icmp .ne 12, [(0, 84)], none), (75, 1, .aload_n 0, [], none),
  (76, 1, .iconst 2, [], none), (77, 3, .invokevirtual 168, [], none), (80, 1, .istore_n 1, [], none), (81, 3, .goto 83, [(0, 164)], none),
  (84, 1, .aload_n 0, [], none), (85, 3, .getfield 12, [], none), (88, 2, .ldc 229, [], none), (90, 3, .invokevirtual 133, [], none),
  (93, 3, .ifCond .ne 15, [(0, 108)], none), (96, 1, .aload_n 0, [], none), (97, 3, .getfield 12, [], none), (100, 2, .ldc 231, [], none),
  (102, 3, .invokevirtual 133, [], none), (105, 3, .ifCond .eq 12, [(0, 117)], none), (108, 1, .aload_n 0, [], some [true, false]), (109, 1, .iconst 3, [], none),
  (110, 3, .invokevirtual 168, [], none), (113, 1, .istore_n 1, [], none), (114, 3, .goto 50, [(0, 164)], none), (117, 1, .aload_n 0, [], none),
  (118, 3, .getfield 12, [], none), (121, 2, .ldc 233, [], none), (123, 3, .invokevirtual 133, [], none), (126, 3, .ifCond .eq 12, [(0, 138)], none),
  (129, 1, .aload_n 0, [], none), (130, 1, .iconst 4, [], none), (131, 3, .invokevirtual 168, [], none), (134, 1, .istore_n 1, [], none),
  (135, 3, .goto 29, [(0, 164)], none), (138, 1, .aload_n 0, [], none), (139, 2, .bipush 40, [], none), (141, 3, .invokevirtual 147, [], none),
  (144, 1, .aload_n 0, [], none), (145, 3, .invokevirtual 189, [], none), (148, 1, .istore_n 1, [], none), (149, 1, .aload_n 0, [], none),
  (150, 3, .getfield 43, [], none), (153, 1, .iload_n 1, [], none), (154, 1, .iconst 0, [], none), (155, 1, .bastore, [], none),
  (156, 1, .aload_n 0, [], none), (157, 2, .bipush 41, [], none), (159, 3, .invokevirtual 153, [], none), (162, 1, .iload_n 1, [], none),
  (163, 1, .ireturn, [], none), (164, 1, .aload_n 0, [], some [true, true]), (165, 3, .getfield 37, [], none), (168, 1, .iload_n 1, [], none),
  (169, 1, .aload_n 0, [], none), (170, 3, .getfield 12, [], none), (173, 3, .getfield 104, [], none), (176, 1, .iastore, [], none),
  (177, 1, .aload_n 0, [], none), (178, 3, .getfield 40, [], none), (181, 1, .iload_n 1, [], none), (182, 1, .aload_n 0, [], none),
  (183, 3, .getfield 12, [], none), (186, 3, .getfield 137, [], none), (189, 1, .iastore, [], none), (190, 1, .aload_n 0, [], none),
  (191, 3, .invokevirtual 82, [], none), (194, 3, .ifCond .eq 10, [(0, 204)], none), (197, 1, .aload_n 0, [], none), (198, 3, .getfield 12, [], none),
  (201, 3, .invokevirtual 98, [], none), (204, 1, .iload_n 1, [], none), (205, 1, .ireturn, [], none)]
def e_ps_atom (m : Nat) (r : Nat → gFn) : gE := (k_ps_atom, f_ps, c_ps, [(82, 1, 15, 0, .inl (fn_ps_good m)), (128, 3, 15, 0, .inl (fn_ps_blank m)), (168, 2, 15, 0, .inl (fn_ps_node m)), (133, 2, 16, 0, .inl (fn_tk_isWord_2 m)), (147, 2, 15, 5, .inl (fn_ps_opens m)), (189, 1, 15, 0, .inl (r 4)), (153, 2, 15, 5, .inl (fn_ps_closes m)), (98, 1, 16, 5, .inl (fn_tk_read m))], [], (m, 19554306082849437661225859423554554543798902376180262949890157186168044513412871518503060232909324127930894983888896), 0)
theorem ok_ps_atom : gchk cX7_atom 2 k_ps_atom = true := by decide +kernel
def k_ps_unary : List gC := [(0, 1, .aload_n 0, [], none), (1, 3, .getfield 12, [], none), (4, 2, .bipush 33, [], none), (6, 3, .invokevirtual 94, [], none),
  (9, 3, .ifCond .eq 61, [(0, 70)], none), (12, 1, .aload_n 0, [], none), (13, 3, .getfield 114, [], none), (16, 2, .bipush 20, [], none),
  (18, 3, .if_icmp .ne 19, [(0, 37)], none), (21, 1, .aload_n 0, [], none), (22, 3, .getfield 12, [], none), (25, 1, .iconst 3, [], none),
  (26, 1, .aload_n 0, [], none), (27, 3, .getfield 12, [], none), (30, 3, .getfield 104, [], none), (33, 3, .invokevirtual 107, [], none),
  (36, 1, .pop, [], none), (37, 1, .aload_n 0, [], some [true, false]), (38, 2, .bipush 20, [], none), (40, 3, .invokevirtual 168, [], none),
  (43, 1, .istore_n 1, [], none), (44, 1, .aload_n 0, [], none), (45, 3, .invokevirtual 111, [], none), (48, 1, .aload_n 0, [], none),
  (49, 3, .getfield 25, [], none), (52, 1, .iload_n 1, [], none), (53, 1, .aload_n 0, [], none), (54, 3, .invokevirtual 220, [], none),
  (57, 1, .iastore, [], none), (58, 1, .aload_n 0, [], none), (59, 1, .dup, [], none), (60, 3, .getfield 114, [], none),
  (63, 1, .iconst 1, [], none), (64, 1, .isub, [], none), (65, 3, .putfield 114, [], none), (68, 1, .iload_n 1, [], none),
  (69, 1, .ireturn, [], none), (70, 1, .aload_n 0, [], none), (71, 3, .invokevirtual 223, [], none), (74, 1, .istore_n 1, [], none),
  (75, 1, .aload_n 0, [], some [true, true]), (76, 3, .invokevirtual 82, [], none), (79, 3, .ifCond .eq 48, [(0, 127)], none), (82, 1, .aload_n 0, [], none),
  (83, 3, .getfield 12, [], none), (86, 2, .bipush 40, [], none), (88, 3, .invokevirtual 94, [], none), (91, 3, .ifCond .ne 27, [(0, 118)], none),
  (94, 1, .aload_n 0, [], none), (95, 3, .getfield 12, [], none), (98, 2, .bipush 46, [], none), (100, 3, .invokevirtual 94, [], none),
  (103, 3, .ifCond .ne 15, [(0, 118)], none), (106, 1, .aload_n 0, [], none), (107, 3, .getfield 12, [], none), (110, 2, .bipush 91, [], none),
  (112, 3, .invokevirtual 94, [], none), (115, 3, .ifCond .eq 12, [(0, 127)], none), (118, 1, .aload_n 0, [], some [true, true]), (119, 1, .iload_n 1, [], none),
  (120, 3, .invokevirtual 226, [], none), (123, 1, .istore_n 1, [], none), (124, 3, .goto (-49), [(0, 75)], none), (127, 1, .iload_n 1, [], none),
  (128, 1, .ireturn, [], none)]
def e_ps_unary (m : Nat) (r : Nat → gFn) : gE := (k_ps_unary, f_ps, c_ps, [(94, 2, 16, 0, .inl (fn_tk_is m)), (107, 3, 16, 0, .inl (fn_tk_fails m)), (168, 2, 15, 0, .inl (fn_ps_node m)), (111, 1, 15, 5, .inl (fn_ps_open m)), (220, 1, 15, 0, .inl (r 10)), (223, 1, 15, 0, .inl (r 1)), (82, 1, 15, 0, .inl (fn_ps_good m)), (226, 2, 15, 0, .inl (r 2))], [], (m, 19554306082849437661225859423554554543798902376180262949890157186168044513412871518503060232909324127930894983888896), 0)
theorem ok_ps_unary : gchk cX7_unary 2 k_ps_unary = true := by decide +kernel
def k_ps_product : List gC := [(0, 1, .aload_n 0, [], none), (1, 3, .invokevirtual 220, [], none), (4, 1, .istore_n 1, [], none), (5, 1, .aload_n 0, [], some [true, true]),
  (6, 3, .invokevirtual 82, [], none), (9, 3, .ifCond .eq 65, [(0, 74)], none), (12, 1, .aload_n 0, [], none), (13, 3, .getfield 12, [], none),
  (16, 2, .bipush 42, [], none), (18, 3, .invokevirtual 94, [], none), (21, 3, .ifCond .ne 15, [(0, 36)], none), (24, 1, .aload_n 0, [], none),
  (25, 3, .getfield 12, [], none), (28, 2, .bipush 47, [], none), (30, 3, .invokevirtual 94, [], none), (33, 3, .ifCond .eq 41, [(0, 74)], none),
  (36, 1, .aload_n 0, [], some [true, true]), (37, 1, .aload_n 0, [], none), (38, 3, .getfield 12, [], none), (41, 2, .bipush 42, [], none),
  (43, 3, .invokevirtual 94, [], none), (46, 3, .ifCond .eq 8, [(0, 54)], none), (49, 2, .bipush 10, [], none), (51, 3, .goto 5, [(0, 56)], none),
  (54, 2, .bipush 11, [], none), (56, 1, .iload_n 1, [], some [true, true]), (57, 3, .invokevirtual 205, [], none), (60, 1, .istore_n 1, [], none),
  (61, 1, .aload_n 0, [], none), (62, 3, .getfield 28, [], none), (65, 1, .iload_n 1, [], none), (66, 1, .aload_n 0, [], none),
  (67, 3, .invokevirtual 220, [], none), (70, 1, .iastore, [], none), (71, 3, .goto (-66), [(0, 5)], none), (74, 1, .iload_n 1, [], none),
  (75, 1, .ireturn, [], none)]
def e_ps_product (m : Nat) (r : Nat → gFn) : gE := (k_ps_product, f_ps, c_ps, [(220, 1, 15, 0, .inl (r 10)), (82, 1, 15, 0, .inl (fn_ps_good m)), (94, 2, 16, 0, .inl (fn_tk_is m)), (205, 3, 15, 0, .inl (fn_ps_two m))], [], (m, 19554306082849437661225859423554554543798902376180262949890157186168044513412871518503060232909324127930894983888896), 0)
theorem ok_ps_product : gchk cX7_product 2 k_ps_product = true := by decide +kernel
def k_ps_sum : List gC := [(0, 1, .aload_n 0, [], none), (1, 3, .invokevirtual 217, [], none), (4, 1, .istore_n 1, [], none), (5, 1, .aload_n 0, [], some [true, true]),
  (6, 3, .invokevirtual 82, [], none), (9, 3, .ifCond .eq 65, [(0, 74)], none), (12, 1, .aload_n 0, [], none), (13, 3, .getfield 12, [], none),
  (16, 2, .bipush 43, [], none), (18, 3, .invokevirtual 94, [], none), (21, 3, .ifCond .ne 15, [(0, 36)], none), (24, 1, .aload_n 0, [], none),
  (25, 3, .getfield 12, [], none), (28, 2, .bipush 45, [], none), (30, 3, .invokevirtual 94, [], none), (33, 3, .ifCond .eq 41, [(0, 74)], none),
  (36, 1, .aload_n 0, [], some [true, true]), (37, 1, .aload_n 0, [], none), (38, 3, .getfield 12, [], none), (41, 2, .bipush 43, [], none),
  (43, 3, .invokevirtual 94, [], none), (46, 3, .ifCond .eq 8, [(0, 54)], none), (49, 2, .bipush 8, [], none), (51, 3, .goto 5, [(0, 56)], none),
  (54, 2, .bipush 9, [], none), (56, 1, .iload_n 1, [], some [true, true]), (57, 3, .invokevirtual 205, [], none), (60, 1, .istore_n 1, [], none),
  (61, 1, .aload_n 0, [], none), (62, 3, .getfield 28, [], none), (65, 1, .iload_n 1, [], none), (66, 1, .aload_n 0, [], none),
  (67, 3, .invokevirtual 217, [], none), (70, 1, .iastore, [], none), (71, 3, .goto (-66), [(0, 5)], none), (74, 1, .iload_n 1, [], none),
  (75, 1, .ireturn, [], none)]
def e_ps_sum (m : Nat) (r : Nat → gFn) : gE := (k_ps_sum, f_ps, c_ps, [(217, 1, 15, 0, .inl (r 8)), (82, 1, 15, 0, .inl (fn_ps_good m)), (94, 2, 16, 0, .inl (fn_tk_is m)), (205, 3, 15, 0, .inl (fn_ps_two m))], [], (m, 19554306082849437661225859423554554543798902376180262949890157186168044513412871518503060232909324127930894983888896), 0)
theorem ok_ps_sum : gchk cX7_sum 2 k_ps_sum = true := by decide +kernel
def k_ps_less : List gC := [(0, 1, .aload_n 0, [], none), (1, 3, .invokevirtual 214, [], none), (4, 1, .istore_n 1, [], none), (5, 1, .aload_n 0, [], none),
  (6, 3, .invokevirtual 82, [], none), (9, 3, .ifCond .ne 5, [(0, 14)], none), (12, 1, .iload_n 1, [], none), (13, 1, .ireturn, [], none),
  (14, 1, .aload_n 0, [], none), (15, 3, .getfield 12, [], none), (18, 2, .bipush 60, [], none), (20, 3, .invokevirtual 94, [], none),
  (23, 3, .ifCond .eq 8, [(0, 31)], none), (26, 2, .bipush 12, [], none), (28, 3, .goto 57, [(0, 85)], none), (31, 1, .aload_n 0, [], none),
  (32, 3, .getfield 12, [], none), (35, 3, .sipush 15421, [], none), (38, 3, .invokevirtual 94, [], none), (41, 3, .ifCond .eq 8, [(0, 49)], none),
  (44, 2, .bipush 13, [], none), (46, 3, .goto 39, [(0, 85)], none), (49, 1, .aload_n 0, [], none), (50, 3, .getfield 12, [], none),
  (53, 2, .bipush 62, [], none), (55, 3, .invokevirtual 94, [], none), (58, 3, .ifCond .eq 8, [(0, 66)], none), (61, 2, .bipush 14, [], none),
  (63, 3, .goto 22, [(0, 85)], none), (66, 1, .aload_n 0, [], none), (67, 3, .getfield 12, [], none), (70, 3, .sipush 15933, [], none),
  (73, 3, .invokevirtual 94, [], none), (76, 3, .ifCond .eq 8, [(0, 84)], none), (79, 2, .bipush 15, [], none), (81, 3, .goto 4, [(0, 85)], none),
  (84, 1, .iconst (-1), [], none), (85, 1, .istore_n 2, [], some [true, true, false]), (86, 1, .iload_n 2, [], none), (87, 3, .ifCond .ge 5, [(0, 92)], none),
  (90, 1, .iload_n 1, [], none), (91, 1, .ireturn, [], none), (92, 1, .aload_n 0, [], none), (93, 1, .iload_n 2, [], none),
  (94, 1, .iload_n 1, [], none), (95, 3, .invokevirtual 205, [], none), (98, 1, .istore_n 1, [], none), (99, 1, .aload_n 0, [], none),
  (100, 3, .getfield 28, [], none), (103, 1, .iload_n 1, [], none), (104, 1, .aload_n 0, [], none), (105, 3, .invokevirtual 214, [], none),
  (108, 1, .iastore, [], none), (109, 1, .iload_n 1, [], none), (110, 1, .ireturn, [], none)]
def e_ps_less (m : Nat) (r : Nat → gFn) : gE := (k_ps_less, f_ps, c_ps, [(214, 1, 15, 0, .inl (r 9)), (82, 1, 15, 0, .inl (fn_ps_good m)), (94, 2, 16, 0, .inl (fn_tk_is m)), (205, 3, 15, 0, .inl (fn_ps_two m))], [], (m, 19554306082849437661225859423554554543798902376180262949890157186168044513412871518503060232909324127930894983888896), 0)
theorem ok_ps_less : gchk cX7_less 3 k_ps_less = true := by decide +kernel
def k_ps_equal : List gC := [(0, 1, .aload_n 0, [], none), (1, 3, .invokevirtual 211, [], none), (4, 1, .istore_n 1, [], none), (5, 1, .aload_n 0, [], none),
  (6, 3, .getfield 12, [], none), (9, 3, .sipush 15677, [], none), (12, 3, .invokevirtual 94, [], none), (15, 1, .istore_n 2, [], none),
  (16, 1, .aload_n 0, [], none), (17, 3, .invokevirtual 82, [], none), (20, 3, .ifCond .eq 20, [(0, 40)], none), (23, 1, .iload_n 2, [], none),
  (24, 3, .ifCond .ne 18, [(0, 42)], none), (27, 1, .aload_n 0, [], none), (28, 3, .getfield 12, [], none), (31, 3, .sipush 8509, [], none),
  (34, 3, .invokevirtual 94, [], none), (37, 3, .ifCond .ne 5, [(0, 42)], none), (40, 1, .iload_n 1, [], none), (41, 1, .ireturn, [], none),
  (42, 1, .aload_n 0, [], some [true, true, true]), (43, 1, .iload_n 2, [], none), (44, 3, .ifCond .eq 8, [(0, 52)], none), (47, 2, .bipush 16, [], none),
  (49, 3, .goto 5, [(0, 54)], none), (52, 2, .bipush 17, [], none), (54, 1, .iload_n 1, [], some [true, true, false]), (55, 3, .invokevirtual 205, [], none),
  (58, 1, .istore_n 1, [], none), (59, 1, .aload_n 0, [], none), (60, 3, .getfield 28, [], none), (63, 1, .iload_n 1, [], none),
  (64, 1, .aload_n 0, [], none), (65, 3, .invokevirtual 211, [], none), (68, 1, .iastore, [], none), (69, 1, .iload_n 1, [], none),
  (70, 1, .ireturn, [], none)]
def e_ps_equal (m : Nat) (r : Nat → gFn) : gE := (k_ps_equal, f_ps, c_ps, [(211, 1, 15, 0, .inl (r 6)), (94, 2, 16, 0, .inl (fn_tk_is m)), (82, 1, 15, 0, .inl (fn_ps_good m)), (205, 3, 15, 0, .inl (fn_ps_two m))], [], (m, 19554306082849437661225859423554554543798902376180262949890157186168044513412871518503060232909324127930894983888896), 0)
theorem ok_ps_equal : gchk cX7_equal 3 k_ps_equal = true := by decide +kernel
def k_ps_and : List gC := [(0, 1, .aload_n 0, [], none), (1, 3, .invokevirtual 208, [], none), (4, 1, .istore_n 1, [], none), (5, 1, .aload_n 0, [], some [true, true]),
  (6, 3, .invokevirtual 82, [], none), (9, 3, .ifCond .eq 37, [(0, 46)], none), (12, 1, .aload_n 0, [], none), (13, 3, .getfield 12, [], none),
  (16, 3, .sipush 9766, [], none), (19, 3, .invokevirtual 94, [], none), (22, 3, .ifCond .eq 24, [(0, 46)], none), (25, 1, .aload_n 0, [], none),
  (26, 2, .bipush 18, [], none), (28, 1, .iload_n 1, [], none), (29, 3, .invokevirtual 205, [], none), (32, 1, .istore_n 1, [], none),
  (33, 1, .aload_n 0, [], none), (34, 3, .getfield 28, [], none), (37, 1, .iload_n 1, [], none), (38, 1, .aload_n 0, [], none),
  (39, 3, .invokevirtual 208, [], none), (42, 1, .iastore, [], none), (43, 3, .goto (-38), [(0, 5)], none), (46, 1, .iload_n 1, [], none),
  (47, 1, .ireturn, [], none)]
def e_ps_and (m : Nat) (r : Nat → gFn) : gE := (k_ps_and, f_ps, c_ps, [(208, 1, 15, 0, .inl (r 5)), (82, 1, 15, 0, .inl (fn_ps_good m)), (94, 2, 16, 0, .inl (fn_tk_is m)), (205, 3, 15, 0, .inl (fn_ps_two m))], [], (m, 19554306082849437661225859423554554543798902376180262949890157186168044513412871518503060232909324127930894983888896), 0)
theorem ok_ps_and : gchk cX7_and 2 k_ps_and = true := by decide +kernel
def k_ps_or : List gC := [(0, 1, .aload_n 0, [], none), (1, 3, .invokevirtual 202, [], none), (4, 1, .istore_n 1, [], none), (5, 1, .aload_n 0, [], some [true, true]),
  (6, 3, .invokevirtual 82, [], none), (9, 3, .ifCond .eq 37, [(0, 46)], none), (12, 1, .aload_n 0, [], none), (13, 3, .getfield 12, [], none),
  (16, 3, .sipush 31868, [], none), (19, 3, .invokevirtual 94, [], none), (22, 3, .ifCond .eq 24, [(0, 46)], none), (25, 1, .aload_n 0, [], none),
  (26, 2, .bipush 19, [], none), (28, 1, .iload_n 1, [], none), (29, 3, .invokevirtual 205, [], none), (32, 1, .istore_n 1, [], none),
  (33, 1, .aload_n 0, [], none), (34, 3, .getfield 28, [], none), (37, 1, .iload_n 1, [], none), (38, 1, .aload_n 0, [], none),
  (39, 3, .invokevirtual 202, [], none), (42, 1, .iastore, [], none), (43, 3, .goto (-38), [(0, 5)], none), (46, 1, .iload_n 1, [], none),
  (47, 1, .ireturn, [], none)]
def e_ps_or (m : Nat) (r : Nat → gFn) : gE := (k_ps_or, f_ps, c_ps, [(202, 1, 15, 0, .inl (r 0)), (82, 1, 15, 0, .inl (fn_ps_good m)), (94, 2, 16, 0, .inl (fn_tk_is m)), (205, 3, 15, 0, .inl (fn_ps_two m))], [], (m, 19554306082849437661225859423554554543798902376180262949890157186168044513412871518503060232909324127930894983888896), 0)
theorem ok_ps_or : gchk cX7_or 2 k_ps_or = true := by decide +kernel
def k_ps_e : List gC := [(0, 1, .aload_n 0, [], none), (1, 3, .invokevirtual 196, [], none), (4, 1, .istore_n 1, [], none), (5, 1, .aload_n 0, [], none),
  (6, 3, .invokevirtual 82, [], none), (9, 3, .ifCond .eq 15, [(0, 24)], none), (12, 1, .aload_n 0, [], none), (13, 3, .getfield 12, [], none),
  (16, 2, .bipush 61, [], none), (18, 3, .invokevirtual 94, [], none), (21, 3, .ifCond .ne 5, [(0, 26)], none), (24, 1, .iload_n 1, [], none),
  (25, 1, .ireturn, [], none), (26, 1, .aload_n 0, [], none), (27, 3, .getfield 43, [], none), (30, 1, .iload_n 1, [], none),
  (31, 1, .baload, [], none), (32, 3, .ifCond .ne 22, [(0, 54)], none), (35, 1, .aload_n 0, [], none), (36, 3, .getfield 12, [], none),
  (39, 1, .iconst 2, [], none), (40, 1, .aload_n 0, [], none), (41, 3, .getfield 12, [], none), (44, 3, .getfield 104, [], none),
  (47, 3, .invokevirtual 107, [], none), (50, 1, .pop, [], none), (51, 3, .goto 57, [(0, 108)], none), (54, 1, .aload_n 0, [], none),
  (55, 3, .getfield 114, [], none), (58, 2, .bipush 20, [], none), (60, 3, .if_icmp .ne 22, [(0, 82)], none), (63, 1, .aload_n 0, [], none),
  (64, 3, .getfield 12, [], none), (67, 1, .iconst 3, [], none), (68, 1, .aload_n 0, [], none), (69, 3, .getfield 12, [], none),
  (72, 3, .getfield 104, [], none), (75, 3, .invokevirtual 107, [], none), (78, 1, .pop, [], none), (79, 3, .goto 29, [(0, 108)], none),
  (82, 1, .aload_n 0, [], none), (83, 3, .getfield 18, [], none), (86, 1, .iload_n 1, [], none), (87, 1, .iaload, [], none),
  (88, 1, .iconst 5, [], none), (89, 3, .if_icmp .ne 11, [(0, 100)], none), (92, 1, .aload_n 0, [], none), (93, 1, .iload_n 1, [], none),
  (94, 3, .invokevirtual 199, [], none), (97, 3, .goto 11, [(0, 108)], none), (100, 1, .aload_n 0, [], none), (101, 3, .getfield 18, [], none),
  (104, 1, .iload_n 1, [], none), (105, 2, .bipush 22, [], none), (107, 1, .iastore, [], none), (108, 1, .aload_n 0, [], some [true, true]),
  (109, 3, .invokevirtual 111, [], none), (112, 1, .aload_n 0, [], none), (113, 3, .getfield 31, [], none), (116, 1, .iload_n 1, [], none),
  (117, 1, .aload_n 0, [], none), (118, 3, .invokevirtual 189, [], none), (121, 1, .iastore, [], none), (122, 1, .aload_n 0, [], none),
  (123, 1, .dup, [], none), (124, 3, .getfield 114, [], none), (127, 1, .iconst 1, [], none), (128, 1, .isub, [], none),
  (129, 3, .putfield 114, [], none), (132, 1, .iload_n 1, [], none), (133, 1, .ireturn, [], none)]
def e_ps_e (m : Nat) (r : Nat → gFn) : gE := (k_ps_e, f_ps, c_ps, [(196, 1, 15, 0, .inl (r 7)), (82, 1, 15, 0, .inl (fn_ps_good m)), (94, 2, 16, 0, .inl (fn_tk_is m)), (107, 3, 16, 0, .inl (fn_tk_fails m)), (199, 2, 15, 5, .inl (fn_ps_sets m)), (111, 1, 15, 5, .inl (fn_ps_open m)), (189, 1, 15, 0, .inl (r 4))], [], (m, 19554306082849437661225859423554554543798902376180262949890157186168044513412871518503060232909324127930894983888896), 0)
theorem ok_ps_e : gchk cX7_e 2 k_ps_e = true := by decide +kernel
def rec_ps_and (m : Nat) : Nat → Nat → gFn
  | 0, _ => fun _ _ _ => none
  | d + 1, k => match k with
    | 0 => gF (e_ps_and m (rec_ps_and m d)) 2
    | 1 => gF (e_ps_atom m (rec_ps_and m d)) 2
    | 2 => gF (e_ps_behind m (rec_ps_and m d)) 4
    | 3 => gF (e_ps_call m (rec_ps_and m d)) 7
    | 4 => gF (e_ps_e m (rec_ps_and m d)) 2
    | 5 => gF (e_ps_equal m (rec_ps_and m d)) 3
    | 6 => gF (e_ps_less m (rec_ps_and m d)) 3
    | 7 => gF (e_ps_or m (rec_ps_and m d)) 2
    | 8 => gF (e_ps_product m (rec_ps_and m d)) 2
    | 9 => gF (e_ps_sum m (rec_ps_and m d)) 2
    | _ => gF (e_ps_unary m (rec_ps_and m d)) 2
theorem mo_rec_ps_and (m : Nat) : ∀ (d k : Nat), gMo (.inl (rec_ps_and m d k))
  | 0, _ => gMo_none
  | d + 1, 0 => gF_mo (E := e_ps_and m (rec_ps_and m d)) ⟨mo_rec_ps_and m d 5, ⟨mo_ps_good m, ⟨mo_tk_is m, ⟨mo_ps_two m, trivial⟩⟩⟩⟩
  | d + 1, 1 => gF_mo (E := e_ps_atom m (rec_ps_and m d)) ⟨mo_ps_good m, ⟨mo_ps_blank m, ⟨mo_ps_node m, ⟨mo_tk_isWord_2 m, ⟨mo_ps_opens m, ⟨mo_rec_ps_and m d 4, ⟨mo_ps_closes m, ⟨mo_tk_read m, trivial⟩⟩⟩⟩⟩⟩⟩⟩
  | d + 1, 2 => gF_mo (E := e_ps_behind m (rec_ps_and m d)) ⟨mo_tk_is m, ⟨mo_rec_ps_and m d 3, ⟨mo_tk_fails m, ⟨mo_ps_node m, ⟨mo_ps_good m, ⟨mo_tk_read m, ⟨mo_ps_open m, ⟨mo_rec_ps_and m d 4, ⟨mo_ps_closes m, trivial⟩⟩⟩⟩⟩⟩⟩⟩⟩
  | d + 1, 3 => gF_mo (E := e_ps_call m (rec_ps_and m d)) ⟨mo_tk_fails m, ⟨mo_ps_node m, ⟨mo_ps_open m, ⟨mo_ps_good m, ⟨mo_tk_is m, ⟨mo_ps_begins m, ⟨mo_rec_ps_and m d 4, ⟨mo_tk_read m, ⟨mo_ps_closes m, trivial⟩⟩⟩⟩⟩⟩⟩⟩⟩
  | d + 1, 4 => gF_mo (E := e_ps_e m (rec_ps_and m d)) ⟨mo_rec_ps_and m d 7, ⟨mo_ps_good m, ⟨mo_tk_is m, ⟨mo_tk_fails m, ⟨mo_ps_sets m, ⟨mo_ps_open m, ⟨mo_rec_ps_and m d 4, trivial⟩⟩⟩⟩⟩⟩⟩
  | d + 1, 5 => gF_mo (E := e_ps_equal m (rec_ps_and m d)) ⟨mo_rec_ps_and m d 6, ⟨mo_tk_is m, ⟨mo_ps_good m, ⟨mo_ps_two m, trivial⟩⟩⟩⟩
  | d + 1, 6 => gF_mo (E := e_ps_less m (rec_ps_and m d)) ⟨mo_rec_ps_and m d 9, ⟨mo_ps_good m, ⟨mo_tk_is m, ⟨mo_ps_two m, trivial⟩⟩⟩⟩
  | d + 1, 7 => gF_mo (E := e_ps_or m (rec_ps_and m d)) ⟨mo_rec_ps_and m d 0, ⟨mo_ps_good m, ⟨mo_tk_is m, ⟨mo_ps_two m, trivial⟩⟩⟩⟩
  | d + 1, 8 => gF_mo (E := e_ps_product m (rec_ps_and m d)) ⟨mo_rec_ps_and m d 10, ⟨mo_ps_good m, ⟨mo_tk_is m, ⟨mo_ps_two m, trivial⟩⟩⟩⟩
  | d + 1, 9 => gF_mo (E := e_ps_sum m (rec_ps_and m d)) ⟨mo_rec_ps_and m d 8, ⟨mo_ps_good m, ⟨mo_tk_is m, ⟨mo_ps_two m, trivial⟩⟩⟩⟩
  | d + 1, _ + 10 => gF_mo (E := e_ps_unary m (rec_ps_and m d)) ⟨mo_tk_is m, ⟨mo_tk_fails m, ⟨mo_ps_node m, ⟨mo_ps_open m, ⟨mo_rec_ps_and m d 10, ⟨mo_rec_ps_and m d 1, ⟨mo_ps_good m, ⟨mo_rec_ps_and m d 2, trivial⟩⟩⟩⟩⟩⟩⟩⟩
noncomputable def ps_call (d : Nat) (σ : gM) (x1 : Int) : Option (gM × Int) := lim (fun n => rec_ps_and 119 d 3 n [(2, 68), (0, x1)] σ)
theorem ps_call_l (d : Nat) (σ : gM) (x1 : Int) : Lm (fun n => rec_ps_and 119 d 3 n [(2, 68), (0, x1)] σ) (ps_call d σ x1) := .of fun n => mo_rec_ps_and 119 d 3 n [(2, 68), (0, x1)] σ
theorem mb_ps_call (d : Nat) : gMos (e_ps_call 119 (rec_ps_and 119 d)).2.2.2.1 := ⟨mo_tk_fails 119, ⟨mo_ps_node 119, ⟨mo_ps_open 119, ⟨mo_ps_good 119, ⟨mo_tk_is 119, ⟨mo_ps_begins 119, ⟨mo_rec_ps_and 119 d 4, ⟨mo_tk_read 119, ⟨mo_ps_closes 119, trivial⟩⟩⟩⟩⟩⟩⟩⟩⟩
noncomputable def ps_call_b25 (d : Nat) (σ : gM) (x1 : Int) : Option (gM × Int) := lim (fun n => gB (e_ps_call 119 (rec_ps_and 119 d)) rF tF n 25 [(2, 68), (0, x1), (9, 0), (9, 0), (9, 0), (9, 0), (9, 0)] [] σ)
theorem ps_call_b25_l (d : Nat) (σ : gM) (x1 : Int) : Lm (fun n => gB (e_ps_call 119 (rec_ps_and 119 d)) rF tF n 25 [(2, 68), (0, x1), (9, 0), (9, 0), (9, 0), (9, 0), (9, 0)] [] σ) (ps_call_b25 d σ x1) := .of fun n => gB_le (gMos_spec (mb_ps_call d)) n _ _ _ σ
noncomputable def ps_call_b71 (d : Nat) (σ : gM) (x2 x3 x4 : Int) : Option (gM × Int) := lim (fun n => gB (e_ps_call 119 (rec_ps_and 119 d)) rF tF n 71 [(2, 68), (9, 0), (0, x2), (0, x3), (0, x4), (9, 0), (9, 0)] [] σ)
theorem ps_call_b71_l (d : Nat) (σ : gM) (x2 x3 x4 : Int) : Lm (fun n => gB (e_ps_call 119 (rec_ps_and 119 d)) rF tF n 71 [(2, 68), (9, 0), (0, x2), (0, x3), (0, x4), (9, 0), (9, 0)] [] σ) (ps_call_b71 d σ x2 x3 x4) := .of fun n => gB_le (gMos_spec (mb_ps_call d)) n _ _ _ σ
noncomputable def ps_call_b72 (d : Nat) (σ : gM) (x2 x3 x4 y0 : Int) : Option (gM × Int) := lim (fun n => gB (e_ps_call 119 (rec_ps_and 119 d)) rF tF n 72 [(2, 68), (9, 0), (0, x2), (0, x3), (0, x4), (9, 0), (9, 0)] [(0, y0)] σ)
theorem ps_call_b72_l (d : Nat) (σ : gM) (x2 x3 x4 y0 : Int) : Lm (fun n => gB (e_ps_call 119 (rec_ps_and 119 d)) rF tF n 72 [(2, 68), (9, 0), (0, x2), (0, x3), (0, x4), (9, 0), (9, 0)] [(0, y0)] σ) (ps_call_b72 d σ x2 x3 x4 y0) := .of fun n => gB_le (gMos_spec (mb_ps_call d)) n _ _ _ σ
noncomputable def ps_call_b74 (d : Nat) (σ : gM) (x2 x3 x4 x5 : Int) : Option (gM × Int) := lim (fun n => gB (e_ps_call 119 (rec_ps_and 119 d)) rF tF n 74 [(2, 68), (9, 0), (0, x2), (0, x3), (0, x4), (0, x5), (9, 0)] [] σ)
theorem ps_call_b74_l (d : Nat) (σ : gM) (x2 x3 x4 x5 : Int) : Lm (fun n => gB (e_ps_call 119 (rec_ps_and 119 d)) rF tF n 74 [(2, 68), (9, 0), (0, x2), (0, x3), (0, x4), (0, x5), (9, 0)] [] σ) (ps_call_b74 d σ x2 x3 x4 x5) := .of fun n => gB_le (gMos_spec (mb_ps_call d)) n _ _ _ σ
noncomputable def ps_call_b131 (d : Nat) (σ : gM) (x2 x3 x4 : Int) : Option (gM × Int) := lim (fun n => gB (e_ps_call 119 (rec_ps_and 119 d)) rF tF n 131 [(2, 68), (9, 0), (0, x2), (0, x3), (0, x4), (9, 0), (9, 0)] [(2, 69)] σ)
theorem ps_call_b131_l (d : Nat) (σ : gM) (x2 x3 x4 : Int) : Lm (fun n => gB (e_ps_call 119 (rec_ps_and 119 d)) rF tF n 131 [(2, 68), (9, 0), (0, x2), (0, x3), (0, x4), (9, 0), (9, 0)] [(2, 69)] σ) (ps_call_b131 d σ x2 x3 x4) := .of fun n => gB_le (gMos_spec (mb_ps_call d)) n _ _ _ σ
noncomputable def ps_call_b132 (d : Nat) (σ : gM) (x2 x3 x4 y0 : Int) : Option (gM × Int) := lim (fun n => gB (e_ps_call 119 (rec_ps_and 119 d)) rF tF n 132 [(2, 68), (9, 0), (0, x2), (0, x3), (0, x4), (9, 0), (9, 0)] [(0, y0), (2, 69)] σ)
theorem ps_call_b132_l (d : Nat) (σ : gM) (x2 x3 x4 y0 : Int) : Lm (fun n => gB (e_ps_call 119 (rec_ps_and 119 d)) rF tF n 132 [(2, 68), (9, 0), (0, x2), (0, x3), (0, x4), (9, 0), (9, 0)] [(0, y0), (2, 69)] σ) (ps_call_b132 d σ x2 x3 x4 y0) := .of fun n => gB_le (gMos_spec (mb_ps_call d)) n _ _ _ σ
noncomputable def ps_call_b143 (d : Nat) (σ : gM) (x2 x3 x4 : Int) : Option (gM × Int) := lim (fun n => gB (e_ps_call 119 (rec_ps_and 119 d)) rF tF n 143 [(2, 68), (9, 0), (0, x2), (0, x3), (0, x4), (9, 0), (9, 0)] [] σ)
theorem ps_call_b143_l (d : Nat) (σ : gM) (x2 x3 x4 : Int) : Lm (fun n => gB (e_ps_call 119 (rec_ps_and 119 d)) rF tF n 143 [(2, 68), (9, 0), (0, x2), (0, x3), (0, x4), (9, 0), (9, 0)] [] σ) (ps_call_b143 d σ x2 x3 x4) := .of fun n => gB_le (gMos_spec (mb_ps_call d)) n _ _ _ σ
noncomputable def ps_call_b158 (d : Nat) (σ : gM) (x2 x3 x4 y0 : Int) : Option (gM × Int) := lim (fun n => gB (e_ps_call 119 (rec_ps_and 119 d)) rF tF n 158 [(2, 68), (9, 0), (0, x2), (0, x3), (0, x4), (9, 0), (9, 0)] [(0, y0)] σ)
theorem ps_call_b158_l (d : Nat) (σ : gM) (x2 x3 x4 y0 : Int) : Lm (fun n => gB (e_ps_call 119 (rec_ps_and 119 d)) rF tF n 158 [(2, 68), (9, 0), (0, x2), (0, x3), (0, x4), (9, 0), (9, 0)] [(0, y0)] σ) (ps_call_b158 d σ x2 x3 x4 y0) := .of fun n => gB_le (gMos_spec (mb_ps_call d)) n _ _ _ σ
noncomputable def ps_call_b185 (d : Nat) (σ : gM) (x2 x3 x6 : Int) : Option (gM × Int) := lim (fun n => gB (e_ps_call 119 (rec_ps_and 119 d)) rF tF n 185 [(2, 68), (9, 0), (0, x2), (0, x3), (9, 0), (9, 0), (0, x6)] [] σ)
theorem ps_call_b185_l (d : Nat) (σ : gM) (x2 x3 x6 : Int) : Lm (fun n => gB (e_ps_call 119 (rec_ps_and 119 d)) rF tF n 185 [(2, 68), (9, 0), (0, x2), (0, x3), (9, 0), (9, 0), (0, x6)] [] σ) (ps_call_b185 d σ x2 x3 x6) := .of fun n => gB_le (gMos_spec (mb_ps_call d)) n _ _ _ σ
noncomputable def ps_call_b215 (d : Nat) (σ : gM) (x2 x3 x4 : Int) : Option (gM × Int) := lim (fun n => gB (e_ps_call 119 (rec_ps_and 119 d)) rF tF n 215 [(2, 68), (9, 0), (0, x2), (0, x3), (0, x4), (9, 0), (9, 0)] [] σ)
theorem ps_call_b215_l (d : Nat) (σ : gM) (x2 x3 x4 : Int) : Lm (fun n => gB (e_ps_call 119 (rec_ps_and 119 d)) rF tF n 215 [(2, 68), (9, 0), (0, x2), (0, x3), (0, x4), (9, 0), (9, 0)] [] σ) (ps_call_b215 d σ x2 x3 x4) := .of fun n => gB_le (gMos_spec (mb_ps_call d)) n _ _ _ σ
noncomputable def ps_call_b216 (d : Nat) (σ : gM) (x2 x3 x4 y0 : Int) : Option (gM × Int) := lim (fun n => gB (e_ps_call 119 (rec_ps_and 119 d)) rF tF n 216 [(2, 68), (9, 0), (0, x2), (0, x3), (0, x4), (9, 0), (9, 0)] [(0, y0)] σ)
theorem ps_call_b216_l (d : Nat) (σ : gM) (x2 x3 x4 y0 : Int) : Lm (fun n => gB (e_ps_call 119 (rec_ps_and 119 d)) rF tF n 216 [(2, 68), (9, 0), (0, x2), (0, x3), (0, x4), (9, 0), (9, 0)] [(0, y0)] σ) (ps_call_b216 d σ x2 x3 x4 y0) := .of fun n => gB_le (gMos_spec (mb_ps_call d)) n _ _ _ σ
noncomputable def ps_call_b230 (d : Nat) (σ : gM) (x2 x3 x4 x5 : Int) : Option (gM × Int) := lim (fun n => gB (e_ps_call 119 (rec_ps_and 119 d)) rF tF n 230 [(2, 68), (9, 0), (0, x2), (0, x3), (0, x4), (0, x5), (9, 0)] [] σ)
theorem ps_call_b230_l (d : Nat) (σ : gM) (x2 x3 x4 x5 : Int) : Lm (fun n => gB (e_ps_call 119 (rec_ps_and 119 d)) rF tF n 230 [(2, 68), (9, 0), (0, x2), (0, x3), (0, x4), (0, x5), (9, 0)] [] σ) (ps_call_b230 d σ x2 x3 x4 x5) := .of fun n => gB_le (gMos_spec (mb_ps_call d)) n _ _ _ σ
noncomputable def ps_behind (d : Nat) (σ : gM) (x1 : Int) : Option (gM × Int) := lim (fun n => rec_ps_and 119 d 2 n [(2, 68), (0, x1)] σ)
theorem ps_behind_l (d : Nat) (σ : gM) (x1 : Int) : Lm (fun n => rec_ps_and 119 d 2 n [(2, 68), (0, x1)] σ) (ps_behind d σ x1) := .of fun n => mo_rec_ps_and 119 d 2 n [(2, 68), (0, x1)] σ
theorem mb_ps_behind (d : Nat) : gMos (e_ps_behind 119 (rec_ps_and 119 d)).2.2.2.1 := ⟨mo_tk_is 119, ⟨mo_rec_ps_and 119 d 3, ⟨mo_tk_fails 119, ⟨mo_ps_node 119, ⟨mo_ps_good 119, ⟨mo_tk_read 119, ⟨mo_ps_open 119, ⟨mo_rec_ps_and 119 d 4, ⟨mo_ps_closes 119, trivial⟩⟩⟩⟩⟩⟩⟩⟩⟩
noncomputable def ps_behind_b57 (d : Nat) (σ : gM) (x1 x2 : Int) : Option (gM × Int) := lim (fun n => gB (e_ps_behind 119 (rec_ps_and 119 d)) rF tF n 57 [(2, 68), (0, x1), (0, x2), (9, 0)] [] σ)
theorem ps_behind_b57_l (d : Nat) (σ : gM) (x1 x2 : Int) : Lm (fun n => gB (e_ps_behind 119 (rec_ps_and 119 d)) rF tF n 57 [(2, 68), (0, x1), (0, x2), (9, 0)] [] σ) (ps_behind_b57 d σ x1 x2) := .of fun n => gB_le (gMos_spec (mb_ps_behind d)) n _ _ _ σ
noncomputable def ps_behind_b89 (d : Nat) (σ : gM) (x3 : Int) : Option (gM × Int) := lim (fun n => gB (e_ps_behind 119 (rec_ps_and 119 d)) rF tF n 89 [(2, 68), (9, 0), (9, 0), (0, x3)] [] σ)
theorem ps_behind_b89_l (d : Nat) (σ : gM) (x3 : Int) : Lm (fun n => gB (e_ps_behind 119 (rec_ps_and 119 d)) rF tF n 89 [(2, 68), (9, 0), (9, 0), (0, x3)] [] σ) (ps_behind_b89 d σ x3) := .of fun n => gB_le (gMos_spec (mb_ps_behind d)) n _ _ _ σ
noncomputable def ps_behind_b123 (d : Nat) (σ : gM) (x3 : Int) : Option (gM × Int) := lim (fun n => gB (e_ps_behind 119 (rec_ps_and 119 d)) rF tF n 123 [(2, 68), (9, 0), (9, 0), (0, x3)] [] σ)
theorem ps_behind_b123_l (d : Nat) (σ : gM) (x3 : Int) : Lm (fun n => gB (e_ps_behind 119 (rec_ps_and 119 d)) rF tF n 123 [(2, 68), (9, 0), (9, 0), (0, x3)] [] σ) (ps_behind_b123 d σ x3) := .of fun n => gB_le (gMos_spec (mb_ps_behind d)) n _ _ _ σ
noncomputable def ps_behind_b186 (d : Nat) (σ : gM) (x3 : Int) : Option (gM × Int) := lim (fun n => gB (e_ps_behind 119 (rec_ps_and 119 d)) rF tF n 186 [(2, 68), (9, 0), (9, 0), (0, x3)] [] σ)
theorem ps_behind_b186_l (d : Nat) (σ : gM) (x3 : Int) : Lm (fun n => gB (e_ps_behind 119 (rec_ps_and 119 d)) rF tF n 186 [(2, 68), (9, 0), (9, 0), (0, x3)] [] σ) (ps_behind_b186 d σ x3) := .of fun n => gB_le (gMos_spec (mb_ps_behind d)) n _ _ _ σ
noncomputable def ps_atom (d : Nat) (σ : gM) : Option (gM × Int) := lim (fun n => rec_ps_and 119 d 1 n [(2, 68)] σ)
theorem ps_atom_l (d : Nat) (σ : gM) : Lm (fun n => rec_ps_and 119 d 1 n [(2, 68)] σ) (ps_atom d σ) := .of fun n => mo_rec_ps_and 119 d 1 n [(2, 68)] σ
theorem mb_ps_atom (d : Nat) : gMos (e_ps_atom 119 (rec_ps_and 119 d)).2.2.2.1 := ⟨mo_ps_good 119, ⟨mo_ps_blank 119, ⟨mo_ps_node 119, ⟨mo_tk_isWord_2 119, ⟨mo_ps_opens 119, ⟨mo_rec_ps_and 119 d 4, ⟨mo_ps_closes 119, ⟨mo_tk_read 119, trivial⟩⟩⟩⟩⟩⟩⟩⟩
noncomputable def ps_atom_b108 (d : Nat) (σ : gM) : Option (gM × Int) := lim (fun n => gB (e_ps_atom 119 (rec_ps_and 119 d)) rF tF n 108 [(2, 68), (9, 0)] [] σ)
theorem ps_atom_b108_l (d : Nat) (σ : gM) : Lm (fun n => gB (e_ps_atom 119 (rec_ps_and 119 d)) rF tF n 108 [(2, 68), (9, 0)] [] σ) (ps_atom_b108 d σ) := .of fun n => gB_le (gMos_spec (mb_ps_atom d)) n _ _ _ σ
noncomputable def ps_atom_b164 (d : Nat) (σ : gM) (x1 : Int) : Option (gM × Int) := lim (fun n => gB (e_ps_atom 119 (rec_ps_and 119 d)) rF tF n 164 [(2, 68), (0, x1)] [] σ)
theorem ps_atom_b164_l (d : Nat) (σ : gM) (x1 : Int) : Lm (fun n => gB (e_ps_atom 119 (rec_ps_and 119 d)) rF tF n 164 [(2, 68), (0, x1)] [] σ) (ps_atom_b164 d σ x1) := .of fun n => gB_le (gMos_spec (mb_ps_atom d)) n _ _ _ σ
noncomputable def ps_unary (d : Nat) (σ : gM) : Option (gM × Int) := lim (fun n => rec_ps_and 119 d 10 n [(2, 68)] σ)
theorem ps_unary_l (d : Nat) (σ : gM) : Lm (fun n => rec_ps_and 119 d 10 n [(2, 68)] σ) (ps_unary d σ) := .of fun n => mo_rec_ps_and 119 d 10 n [(2, 68)] σ
theorem mb_ps_unary (d : Nat) : gMos (e_ps_unary 119 (rec_ps_and 119 d)).2.2.2.1 := ⟨mo_tk_is 119, ⟨mo_tk_fails 119, ⟨mo_ps_node 119, ⟨mo_ps_open 119, ⟨mo_rec_ps_and 119 d 10, ⟨mo_rec_ps_and 119 d 1, ⟨mo_ps_good 119, ⟨mo_rec_ps_and 119 d 2, trivial⟩⟩⟩⟩⟩⟩⟩⟩
noncomputable def ps_unary_b37 (d : Nat) (σ : gM) : Option (gM × Int) := lim (fun n => gB (e_ps_unary 119 (rec_ps_and 119 d)) rF tF n 37 [(2, 68), (9, 0)] [] σ)
theorem ps_unary_b37_l (d : Nat) (σ : gM) : Lm (fun n => gB (e_ps_unary 119 (rec_ps_and 119 d)) rF tF n 37 [(2, 68), (9, 0)] [] σ) (ps_unary_b37 d σ) := .of fun n => gB_le (gMos_spec (mb_ps_unary d)) n _ _ _ σ
noncomputable def ps_unary_b75 (d : Nat) (σ : gM) (x1 : Int) : Option (gM × Int) := lim (fun n => gB (e_ps_unary 119 (rec_ps_and 119 d)) rF tF n 75 [(2, 68), (0, x1)] [] σ)
theorem ps_unary_b75_l (d : Nat) (σ : gM) (x1 : Int) : Lm (fun n => gB (e_ps_unary 119 (rec_ps_and 119 d)) rF tF n 75 [(2, 68), (0, x1)] [] σ) (ps_unary_b75 d σ x1) := .of fun n => gB_le (gMos_spec (mb_ps_unary d)) n _ _ _ σ
noncomputable def ps_unary_b118 (d : Nat) (σ : gM) (x1 : Int) : Option (gM × Int) := lim (fun n => gB (e_ps_unary 119 (rec_ps_and 119 d)) rF tF n 118 [(2, 68), (0, x1)] [] σ)
theorem ps_unary_b118_l (d : Nat) (σ : gM) (x1 : Int) : Lm (fun n => gB (e_ps_unary 119 (rec_ps_and 119 d)) rF tF n 118 [(2, 68), (0, x1)] [] σ) (ps_unary_b118 d σ x1) := .of fun n => gB_le (gMos_spec (mb_ps_unary d)) n _ _ _ σ
noncomputable def ps_product (d : Nat) (σ : gM) : Option (gM × Int) := lim (fun n => rec_ps_and 119 d 8 n [(2, 68)] σ)
theorem ps_product_l (d : Nat) (σ : gM) : Lm (fun n => rec_ps_and 119 d 8 n [(2, 68)] σ) (ps_product d σ) := .of fun n => mo_rec_ps_and 119 d 8 n [(2, 68)] σ
theorem mb_ps_product (d : Nat) : gMos (e_ps_product 119 (rec_ps_and 119 d)).2.2.2.1 := ⟨mo_rec_ps_and 119 d 10, ⟨mo_ps_good 119, ⟨mo_tk_is 119, ⟨mo_ps_two 119, trivial⟩⟩⟩⟩
noncomputable def ps_product_b5 (d : Nat) (σ : gM) (x1 : Int) : Option (gM × Int) := lim (fun n => gB (e_ps_product 119 (rec_ps_and 119 d)) rF tF n 5 [(2, 68), (0, x1)] [] σ)
theorem ps_product_b5_l (d : Nat) (σ : gM) (x1 : Int) : Lm (fun n => gB (e_ps_product 119 (rec_ps_and 119 d)) rF tF n 5 [(2, 68), (0, x1)] [] σ) (ps_product_b5 d σ x1) := .of fun n => gB_le (gMos_spec (mb_ps_product d)) n _ _ _ σ
noncomputable def ps_product_b36 (d : Nat) (σ : gM) (x1 : Int) : Option (gM × Int) := lim (fun n => gB (e_ps_product 119 (rec_ps_and 119 d)) rF tF n 36 [(2, 68), (0, x1)] [] σ)
theorem ps_product_b36_l (d : Nat) (σ : gM) (x1 : Int) : Lm (fun n => gB (e_ps_product 119 (rec_ps_and 119 d)) rF tF n 36 [(2, 68), (0, x1)] [] σ) (ps_product_b36 d σ x1) := .of fun n => gB_le (gMos_spec (mb_ps_product d)) n _ _ _ σ
noncomputable def ps_product_b56 (d : Nat) (σ : gM) (x1 y0 : Int) : Option (gM × Int) := lim (fun n => gB (e_ps_product 119 (rec_ps_and 119 d)) rF tF n 56 [(2, 68), (0, x1)] [(0, y0), (2, 68)] σ)
theorem ps_product_b56_l (d : Nat) (σ : gM) (x1 y0 : Int) : Lm (fun n => gB (e_ps_product 119 (rec_ps_and 119 d)) rF tF n 56 [(2, 68), (0, x1)] [(0, y0), (2, 68)] σ) (ps_product_b56 d σ x1 y0) := .of fun n => gB_le (gMos_spec (mb_ps_product d)) n _ _ _ σ
noncomputable def ps_sum (d : Nat) (σ : gM) : Option (gM × Int) := lim (fun n => rec_ps_and 119 d 9 n [(2, 68)] σ)
theorem ps_sum_l (d : Nat) (σ : gM) : Lm (fun n => rec_ps_and 119 d 9 n [(2, 68)] σ) (ps_sum d σ) := .of fun n => mo_rec_ps_and 119 d 9 n [(2, 68)] σ
theorem mb_ps_sum (d : Nat) : gMos (e_ps_sum 119 (rec_ps_and 119 d)).2.2.2.1 := ⟨mo_rec_ps_and 119 d 8, ⟨mo_ps_good 119, ⟨mo_tk_is 119, ⟨mo_ps_two 119, trivial⟩⟩⟩⟩
noncomputable def ps_sum_b5 (d : Nat) (σ : gM) (x1 : Int) : Option (gM × Int) := lim (fun n => gB (e_ps_sum 119 (rec_ps_and 119 d)) rF tF n 5 [(2, 68), (0, x1)] [] σ)
theorem ps_sum_b5_l (d : Nat) (σ : gM) (x1 : Int) : Lm (fun n => gB (e_ps_sum 119 (rec_ps_and 119 d)) rF tF n 5 [(2, 68), (0, x1)] [] σ) (ps_sum_b5 d σ x1) := .of fun n => gB_le (gMos_spec (mb_ps_sum d)) n _ _ _ σ
noncomputable def ps_sum_b36 (d : Nat) (σ : gM) (x1 : Int) : Option (gM × Int) := lim (fun n => gB (e_ps_sum 119 (rec_ps_and 119 d)) rF tF n 36 [(2, 68), (0, x1)] [] σ)
theorem ps_sum_b36_l (d : Nat) (σ : gM) (x1 : Int) : Lm (fun n => gB (e_ps_sum 119 (rec_ps_and 119 d)) rF tF n 36 [(2, 68), (0, x1)] [] σ) (ps_sum_b36 d σ x1) := .of fun n => gB_le (gMos_spec (mb_ps_sum d)) n _ _ _ σ
noncomputable def ps_sum_b56 (d : Nat) (σ : gM) (x1 y0 : Int) : Option (gM × Int) := lim (fun n => gB (e_ps_sum 119 (rec_ps_and 119 d)) rF tF n 56 [(2, 68), (0, x1)] [(0, y0), (2, 68)] σ)
theorem ps_sum_b56_l (d : Nat) (σ : gM) (x1 y0 : Int) : Lm (fun n => gB (e_ps_sum 119 (rec_ps_and 119 d)) rF tF n 56 [(2, 68), (0, x1)] [(0, y0), (2, 68)] σ) (ps_sum_b56 d σ x1 y0) := .of fun n => gB_le (gMos_spec (mb_ps_sum d)) n _ _ _ σ
noncomputable def ps_less (d : Nat) (σ : gM) : Option (gM × Int) := lim (fun n => rec_ps_and 119 d 6 n [(2, 68)] σ)
theorem ps_less_l (d : Nat) (σ : gM) : Lm (fun n => rec_ps_and 119 d 6 n [(2, 68)] σ) (ps_less d σ) := .of fun n => mo_rec_ps_and 119 d 6 n [(2, 68)] σ
theorem mb_ps_less (d : Nat) : gMos (e_ps_less 119 (rec_ps_and 119 d)).2.2.2.1 := ⟨mo_rec_ps_and 119 d 9, ⟨mo_ps_good 119, ⟨mo_tk_is 119, ⟨mo_ps_two 119, trivial⟩⟩⟩⟩
noncomputable def ps_less_b85 (d : Nat) (σ : gM) (x1 y0 : Int) : Option (gM × Int) := lim (fun n => gB (e_ps_less 119 (rec_ps_and 119 d)) rF tF n 85 [(2, 68), (0, x1), (9, 0)] [(0, y0)] σ)
theorem ps_less_b85_l (d : Nat) (σ : gM) (x1 y0 : Int) : Lm (fun n => gB (e_ps_less 119 (rec_ps_and 119 d)) rF tF n 85 [(2, 68), (0, x1), (9, 0)] [(0, y0)] σ) (ps_less_b85 d σ x1 y0) := .of fun n => gB_le (gMos_spec (mb_ps_less d)) n _ _ _ σ
noncomputable def ps_equal (d : Nat) (σ : gM) : Option (gM × Int) := lim (fun n => rec_ps_and 119 d 5 n [(2, 68)] σ)
theorem ps_equal_l (d : Nat) (σ : gM) : Lm (fun n => rec_ps_and 119 d 5 n [(2, 68)] σ) (ps_equal d σ) := .of fun n => mo_rec_ps_and 119 d 5 n [(2, 68)] σ
theorem mb_ps_equal (d : Nat) : gMos (e_ps_equal 119 (rec_ps_and 119 d)).2.2.2.1 := ⟨mo_rec_ps_and 119 d 6, ⟨mo_tk_is 119, ⟨mo_ps_good 119, ⟨mo_ps_two 119, trivial⟩⟩⟩⟩
noncomputable def ps_equal_b42 (d : Nat) (σ : gM) (x1 x2 : Int) : Option (gM × Int) := lim (fun n => gB (e_ps_equal 119 (rec_ps_and 119 d)) rF tF n 42 [(2, 68), (0, x1), (0, x2)] [] σ)
theorem ps_equal_b42_l (d : Nat) (σ : gM) (x1 x2 : Int) : Lm (fun n => gB (e_ps_equal 119 (rec_ps_and 119 d)) rF tF n 42 [(2, 68), (0, x1), (0, x2)] [] σ) (ps_equal_b42 d σ x1 x2) := .of fun n => gB_le (gMos_spec (mb_ps_equal d)) n _ _ _ σ
noncomputable def ps_equal_b54 (d : Nat) (σ : gM) (x1 y0 : Int) : Option (gM × Int) := lim (fun n => gB (e_ps_equal 119 (rec_ps_and 119 d)) rF tF n 54 [(2, 68), (0, x1), (9, 0)] [(0, y0), (2, 68)] σ)
theorem ps_equal_b54_l (d : Nat) (σ : gM) (x1 y0 : Int) : Lm (fun n => gB (e_ps_equal 119 (rec_ps_and 119 d)) rF tF n 54 [(2, 68), (0, x1), (9, 0)] [(0, y0), (2, 68)] σ) (ps_equal_b54 d σ x1 y0) := .of fun n => gB_le (gMos_spec (mb_ps_equal d)) n _ _ _ σ
noncomputable def ps_and (d : Nat) (σ : gM) : Option (gM × Int) := lim (fun n => rec_ps_and 119 d 0 n [(2, 68)] σ)
theorem ps_and_l (d : Nat) (σ : gM) : Lm (fun n => rec_ps_and 119 d 0 n [(2, 68)] σ) (ps_and d σ) := .of fun n => mo_rec_ps_and 119 d 0 n [(2, 68)] σ
theorem mb_ps_and (d : Nat) : gMos (e_ps_and 119 (rec_ps_and 119 d)).2.2.2.1 := ⟨mo_rec_ps_and 119 d 5, ⟨mo_ps_good 119, ⟨mo_tk_is 119, ⟨mo_ps_two 119, trivial⟩⟩⟩⟩
noncomputable def ps_and_b5 (d : Nat) (σ : gM) (x1 : Int) : Option (gM × Int) := lim (fun n => gB (e_ps_and 119 (rec_ps_and 119 d)) rF tF n 5 [(2, 68), (0, x1)] [] σ)
theorem ps_and_b5_l (d : Nat) (σ : gM) (x1 : Int) : Lm (fun n => gB (e_ps_and 119 (rec_ps_and 119 d)) rF tF n 5 [(2, 68), (0, x1)] [] σ) (ps_and_b5 d σ x1) := .of fun n => gB_le (gMos_spec (mb_ps_and d)) n _ _ _ σ
noncomputable def ps_or (d : Nat) (σ : gM) : Option (gM × Int) := lim (fun n => rec_ps_and 119 d 7 n [(2, 68)] σ)
theorem ps_or_l (d : Nat) (σ : gM) : Lm (fun n => rec_ps_and 119 d 7 n [(2, 68)] σ) (ps_or d σ) := .of fun n => mo_rec_ps_and 119 d 7 n [(2, 68)] σ
theorem mb_ps_or (d : Nat) : gMos (e_ps_or 119 (rec_ps_and 119 d)).2.2.2.1 := ⟨mo_rec_ps_and 119 d 0, ⟨mo_ps_good 119, ⟨mo_tk_is 119, ⟨mo_ps_two 119, trivial⟩⟩⟩⟩
noncomputable def ps_or_b5 (d : Nat) (σ : gM) (x1 : Int) : Option (gM × Int) := lim (fun n => gB (e_ps_or 119 (rec_ps_and 119 d)) rF tF n 5 [(2, 68), (0, x1)] [] σ)
theorem ps_or_b5_l (d : Nat) (σ : gM) (x1 : Int) : Lm (fun n => gB (e_ps_or 119 (rec_ps_and 119 d)) rF tF n 5 [(2, 68), (0, x1)] [] σ) (ps_or_b5 d σ x1) := .of fun n => gB_le (gMos_spec (mb_ps_or d)) n _ _ _ σ
noncomputable def ps_e (d : Nat) (σ : gM) : Option (gM × Int) := lim (fun n => rec_ps_and 119 d 4 n [(2, 68)] σ)
theorem ps_e_l (d : Nat) (σ : gM) : Lm (fun n => rec_ps_and 119 d 4 n [(2, 68)] σ) (ps_e d σ) := .of fun n => mo_rec_ps_and 119 d 4 n [(2, 68)] σ
theorem mb_ps_e (d : Nat) : gMos (e_ps_e 119 (rec_ps_and 119 d)).2.2.2.1 := ⟨mo_rec_ps_and 119 d 7, ⟨mo_ps_good 119, ⟨mo_tk_is 119, ⟨mo_tk_fails 119, ⟨mo_ps_sets 119, ⟨mo_ps_open 119, ⟨mo_rec_ps_and 119 d 4, trivial⟩⟩⟩⟩⟩⟩⟩
noncomputable def ps_e_b108 (d : Nat) (σ : gM) (x1 : Int) : Option (gM × Int) := lim (fun n => gB (e_ps_e 119 (rec_ps_and 119 d)) rF tF n 108 [(2, 68), (0, x1)] [] σ)
theorem ps_e_b108_l (d : Nat) (σ : gM) (x1 : Int) : Lm (fun n => gB (e_ps_e 119 (rec_ps_and 119 d)) rF tF n 108 [(2, 68), (0, x1)] [] σ) (ps_e_b108 d σ x1) := .of fun n => gB_le (gMos_spec (mb_ps_e d)) n _ _ _ σ
theorem ps_call_e (d : Nat) (σ : gM) (x1 : Int) : ps_call (d + 1) σ x1 =
  (if σ 68 21 = 20 then
  ((tk_fails σ 3 (σ 69 5)).bind fun p1 =>
    ps_call_b25 d p1.1 x1)
  else
  (ps_call_b25 d σ x1)) := Lm.eqn (ps_call_l ..) (.ite (.bind (tk_fails_l ..) fun p1 => (ps_call_b25_l ..)) (ps_call_b25_l ..)) fun n => (rfl)
theorem ps_call_b25_e (d : Nat) (σ : gM) (x1 : Int) : ps_call_b25 d σ x1 =
  ((ps_node σ 23).bind fun p1 =>
  if 0 ≤ p1.2 ∧ p1.2 < 4200 then
  ((ps_open (gW p1.1 72 p1.2 x1)).bind fun p2 =>
    (ps_good p2.1).bind fun p3 =>
    if p3.2 = 0 then
    (ps_call_b71 d p3.1 p1.2 0 (-1))
    else
    ((tk_is p3.1 41).bind fun p4 =>
      if p4.2 = 0 then
      (ps_call_b72 d p4.1 p1.2 0 (-1) 1)
      else
      (ps_call_b71 d p4.1 p1.2 0 (-1))))
  else none) := Lm.eqn (ps_call_b25_l ..) (.bind (ps_node_l ..) fun p1 => (.ite (.bind (ps_open_l ..) fun p2 => (.bind (ps_good_l ..) fun p3 => (.ite (ps_call_b71_l ..) (.bind (tk_is_l ..) fun p4 => (.ite (ps_call_b72_l ..) (ps_call_b71_l ..)))))) .cst)) fun n => (rfl)
theorem ps_call_b71_e (d : Nat) (σ : gM) (x2 x3 x4 : Int) : ps_call_b71 d σ x2 x3 x4 =
  (ps_call_b72 d σ x2 x3 x4 0) := Lm.eqn (ps_call_b71_l ..) (ps_call_b72_l ..) fun n => (rfl)
theorem ps_call_b72_e (d : Nat) (σ : gM) (x2 x3 x4 y0 : Int) : ps_call_b72 d σ x2 x3 x4 y0 =
  (ps_call_b74 d σ x2 x3 x4 y0) := Lm.eqn (ps_call_b72_l ..) (ps_call_b74_l ..) fun n => (rfl)
theorem ps_call_b74_e (d : Nat) (σ : gM) (x2 x3 x4 x5 : Int) : ps_call_b74 d σ x2 x3 x4 x5 =
  (if x5 = 0 then
  ((ps_closes σ 41).bind fun p1 =>
    if 0 ≤ x2 ∧ x2 < 4200 then
    (some (gW p1.1 76 x2 x3, x2))
    else none)
  else
  (if x3 = 12 then
    ((ps_good σ).bind fun p2 =>
      if p2.2 = 0 then
      (ps_call_b143 d p2.1 x2 x3 x4)
      else
      ((ps_begins p2.1).bind fun p3 =>
        if p3.2 = 0 then
        (ps_call_b132 d p3.1 x2 x3 x4 2)
        else
        (if p3.1 68 21 = 20 then
          (if p3.1 69 4 = 4 then
            (ps_call_b132 d p3.1 x2 x3 x4 3)
            else
            (ps_call_b131 d p3.1 x2 x3 x4))
          else
          (ps_call_b131 d p3.1 x2 x3 x4))))
    else
    (ps_call_b143 d σ x2 x3 x4))) := Lm.eqn (ps_call_b74_l ..) (.ite (.bind (ps_closes_l ..) fun p1 => (.ite .cst .cst)) (.ite (.bind (ps_good_l ..) fun p2 => (.ite (ps_call_b143_l ..) (.bind (ps_begins_l ..) fun p3 => (.ite (ps_call_b132_l ..) (.ite (.ite (ps_call_b132_l ..) (ps_call_b131_l ..)) (ps_call_b131_l ..)))))) (ps_call_b143_l ..))) fun n => (rfl)
theorem ps_call_b131_e (d : Nat) (σ : gM) (x2 x3 x4 : Int) : ps_call_b131 d σ x2 x3 x4 =
  (ps_call_b132 d σ x2 x3 x4 4) := Lm.eqn (ps_call_b131_l ..) (ps_call_b132_l ..) fun n => (rfl)
theorem ps_call_b132_e (d : Nat) (σ : gM) (x2 x3 x4 y0 : Int) : ps_call_b132 d σ x2 x3 x4 y0 =
  ((tk_fails σ y0 (σ 69 5)).bind fun p1 =>
  ps_call_b143 d p1.1 x2 x3 x4) := Lm.eqn (ps_call_b132_l ..) (.bind (tk_fails_l ..) fun p1 => (ps_call_b143_l ..)) fun n => (rfl)
theorem ps_call_b143_e (d : Nat) (σ : gM) (x2 x3 x4 : Int) : ps_call_b143 d σ x2 x3 x4 =
  ((ps_good σ).bind fun p1 =>
  if p1.2 = 0 then
  (ps_call_b158 d p1.1 x2 x3 x4 (-1))
  else
  ((ps_e d p1.1).bind fun p2 =>
    ps_call_b158 d p2.1 x2 x3 x4 p2.2)) := Lm.eqn (ps_call_b143_l ..) (.bind (ps_good_l ..) fun p1 => (.ite (ps_call_b158_l ..) (.bind (ps_e_l ..) fun p2 => (ps_call_b158_l ..)))) fun n => (rfl)
theorem ps_call_b158_e (d : Nat) (σ : gM) (x2 x3 x4 y0 : Int) : ps_call_b158 d σ x2 x3 x4 y0 =
  (if x4 < 0 then
  (if 0 ≤ x2 ∧ x2 < 4200 then
    (ps_call_b185 d (gW σ 73 x2 y0) x2 x3 y0)
    else none)
  else
  (if 0 ≤ x4 ∧ x4 < 4200 then
    (ps_call_b185 d (gW σ 75 x4 y0) x2 x3 y0)
    else none)) := Lm.eqn (ps_call_b158_l ..) (.ite (.ite (ps_call_b185_l ..) .cst) (.ite (ps_call_b185_l ..) .cst)) fun n => (rfl)
theorem ps_call_b185_e (d : Nat) (σ : gM) (x2 x3 x6 : Int) : ps_call_b185 d σ x2 x3 x6 =
  ((ps_good σ).bind fun p1 =>
  if p1.2 = 0 then
  (ps_call_b215 d p1.1 x2 (w32 (x3 + 1)) x6)
  else
  ((tk_is p1.1 44).bind fun p2 =>
    if p2.2 = 0 then
    (ps_call_b215 d p2.1 x2 (w32 (x3 + 1)) x6)
    else
    (ps_call_b216 d p2.1 x2 (w32 (x3 + 1)) x6 1))) := Lm.eqn (ps_call_b185_l ..) (.bind (ps_good_l ..) fun p1 => (.ite (ps_call_b215_l ..) (.bind (tk_is_l ..) fun p2 => (.ite (ps_call_b215_l ..) (ps_call_b216_l ..))))) fun n => (rfl)
theorem ps_call_b215_e (d : Nat) (σ : gM) (x2 x3 x4 : Int) : ps_call_b215 d σ x2 x3 x4 =
  (ps_call_b216 d σ x2 x3 x4 0) := Lm.eqn (ps_call_b215_l ..) (ps_call_b216_l ..) fun n => (rfl)
theorem ps_call_b216_e (d : Nat) (σ : gM) (x2 x3 x4 y0 : Int) : ps_call_b216 d σ x2 x3 x4 y0 =
  (if y0 = 0 then
  (ps_call_b230 d σ x2 x3 x4 y0)
  else
  ((tk_read σ).bind fun p1 =>
    ps_call_b230 d p1.1 x2 x3 x4 y0)) := Lm.eqn (ps_call_b216_l ..) (.ite (ps_call_b230_l ..) (.bind (tk_read_l ..) fun p1 => (ps_call_b230_l ..))) fun n => (rfl)
theorem ps_call_b230_e (d : Nat) (σ : gM) (x2 x3 x4 x5 : Int) : ps_call_b230 d σ x2 x3 x4 x5 =
  (ps_call_b74 d σ x2 x3 x4 x5) := Lm.eqn (ps_call_b230_l ..) (ps_call_b74_l ..) fun n => (rfl)
theorem ps_behind_e (d : Nat) (σ : gM) (x1 : Int) : ps_behind (d + 1) σ x1 =
  ((tk_is σ 40).bind fun p1 =>
  if p1.2 = 0 then
  ((tk_is p1.1 46).bind fun p2 =>
    if p2.2 = 0 then
    (if p2.1 68 21 = 20 then
      ((tk_fails p2.1 3 (p2.1 69 5)).bind fun p3 =>
        ps_behind_b57 d p3.1 x1 p2.2)
      else
      (ps_behind_b57 d p2.1 x1 p2.2))
    else
    (ps_behind_b57 d p2.1 x1 p2.2))
  else
  ((ps_call d p1.1 x1).bind fun p4 =>
    some (p4.1, p4.2))) := Lm.eqn (ps_behind_l ..) (.bind (tk_is_l ..) fun p1 => (.ite (.bind (tk_is_l ..) fun p2 => (.ite (.ite (.bind (tk_fails_l ..) fun p3 => (ps_behind_b57_l ..)) (ps_behind_b57_l ..)) (ps_behind_b57_l ..))) (.bind (ps_call_l ..) fun p4 => .cst))) fun n => (rfl)
theorem ps_behind_b57_e (d : Nat) (σ : gM) (x1 x2 : Int) : ps_behind_b57 d σ x1 x2 =
  ((ps_node σ 21).bind fun p1 =>
  if 0 ≤ p1.2 ∧ p1.2 < 4200 then
  (if x2 = 0 then
    ((ps_open (gW p1.1 72 p1.2 x1)).bind fun p2 =>
      (ps_e d p2.1).bind fun p3 =>
      if 0 ≤ p1.2 ∧ p1.2 < 4200 then
      ((ps_closes (gW p3.1 73 p1.2 p3.2) 93).bind fun p4 =>
        ps_behind_b186 d p4.1 p1.2)
      else none)
    else
    ((ps_good (gW p1.1 72 p1.2 x1)).bind fun p5 =>
      if p5.2 = 0 then
      (ps_behind_b89 d p5.1 p1.2)
      else
      ((tk_read p5.1).bind fun p6 =>
        ps_behind_b89 d p6.1 p1.2)))
  else none) := Lm.eqn (ps_behind_b57_l ..) (.bind (ps_node_l ..) fun p1 => (.ite (.ite (.bind (ps_open_l ..) fun p2 => (.bind (ps_e_l ..) fun p3 => (.ite (.bind (ps_closes_l ..) fun p4 => (ps_behind_b186_l ..)) .cst))) (.bind (ps_good_l ..) fun p5 => (.ite (ps_behind_b89_l ..) (.bind (tk_read_l ..) fun p6 => (ps_behind_b89_l ..))))) .cst)) fun n => (rfl)
theorem ps_behind_b89_e (d : Nat) (σ : gM) (x3 : Int) : ps_behind_b89 d σ x3 =
  ((ps_good σ).bind fun p1 =>
  if p1.2 = 0 then
  (ps_behind_b123 d p1.1 x3)
  else
  (if p1.1 69 4 = 1 then
    (ps_behind_b123 d p1.1 x3)
    else
    ((tk_fails p1.1 2 (p1.1 69 5)).bind fun p2 =>
      ps_behind_b123 d p2.1 x3))) := Lm.eqn (ps_behind_b89_l ..) (.bind (ps_good_l ..) fun p1 => (.ite (ps_behind_b123_l ..) (.ite (ps_behind_b123_l ..) (.bind (tk_fails_l ..) fun p2 => (ps_behind_b123_l ..))))) fun n => (rfl)
theorem ps_behind_b123_e (d : Nat) (σ : gM) (x3 : Int) : ps_behind_b123 d σ x3 =
  (if 0 ≤ x3 ∧ x3 < 4200 then
  (if 0 ≤ x3 ∧ x3 < 4200 then
    ((ps_good (gW (gW σ 76 x3 (σ 69 5)) 77 x3 (σ 69 6))).bind fun p1 =>
      if p1.2 = 0 then
      (ps_behind_b186 d p1.1 x3)
      else
      ((tk_read p1.1).bind fun p2 =>
        ps_behind_b186 d p2.1 x3))
    else none)
  else none) := Lm.eqn (ps_behind_b123_l ..) (.ite (.ite (.bind (ps_good_l ..) fun p1 => (.ite (ps_behind_b186_l ..) (.bind (tk_read_l ..) fun p2 => (ps_behind_b186_l ..)))) .cst) .cst) fun n => (rfl)
theorem ps_behind_b186_e (d : Nat) (σ : gM) (x3 : Int) : ps_behind_b186 d σ x3 =
  (if 0 ≤ x3 ∧ x3 < 4200 then
  (some (gW σ 78 x3 1, x3))
  else none) := Lm.eqn (ps_behind_b186_l ..) (.ite .cst .cst) fun n => (rfl)
theorem ps_atom_e (d : Nat) (σ : gM) : ps_atom (d + 1) σ =
  ((ps_good σ).bind fun p1 =>
  if p1.2 = 0 then
  ((ps_blank p1.1 (p1.1 68 10) 4).bind fun p12 =>
    some (p12.1, p12.2))
  else
  (if p1.1 69 4 = 1 then
    ((ps_node p1.1 5).bind fun p11 =>
      if 0 ≤ p11.2 ∧ p11.2 < 4200 then
      (ps_atom_b164 d (gW p11.1 78 p11.2 1) p11.2)
      else none)
    else
    (if p1.1 69 4 = 2 then
      ((ps_node p1.1 1).bind fun p10 =>
        ps_atom_b164 d p10.1 p10.2)
      else
      (if p1.1 69 4 = 3 then
        ((ps_node p1.1 2).bind fun p9 =>
          ps_atom_b164 d p9.1 p9.2)
        else
        ((tk_isWord_2 p1.1 11).bind fun p2 =>
          if p2.2 = 0 then
          ((tk_isWord_2 p2.1 12).bind fun p3 =>
            if p3.2 = 0 then
            ((tk_isWord_2 p3.1 5).bind fun p4 =>
              if p4.2 = 0 then
              ((ps_opens p4.1 40).bind fun p5 =>
                (ps_e d p5.1).bind fun p6 =>
                if 0 ≤ p6.2 ∧ p6.2 < 4200 then
                ((ps_closes (gW p6.1 78 p6.2 0) 41).bind fun p7 =>
                  some (p7.1, p6.2))
                else none)
              else
              ((ps_node p4.1 4).bind fun p8 =>
                ps_atom_b164 d p8.1 p8.2))
            else
            (ps_atom_b108 d p3.1))
          else
          (ps_atom_b108 d p2.1)))))) := Lm.eqn (ps_atom_l ..) (.bind (ps_good_l ..) fun p1 => (.ite (.bind (ps_blank_l ..) fun p12 => .cst) (.ite (.bind (ps_node_l ..) fun p11 => (.ite (ps_atom_b164_l ..) .cst)) (.ite (.bind (ps_node_l ..) fun p10 => (ps_atom_b164_l ..)) (.ite (.bind (ps_node_l ..) fun p9 => (ps_atom_b164_l ..)) (.bind (tk_isWord_2_l ..) fun p2 => (.ite (.bind (tk_isWord_2_l ..) fun p3 => (.ite (.bind (tk_isWord_2_l ..) fun p4 => (.ite (.bind (ps_opens_l ..) fun p5 => (.bind (ps_e_l ..) fun p6 => (.ite (.bind (ps_closes_l ..) fun p7 => .cst) .cst))) (.bind (ps_node_l ..) fun p8 => (ps_atom_b164_l ..)))) (ps_atom_b108_l ..))) (ps_atom_b108_l ..)))))))) fun n => (rfl)
theorem ps_atom_b108_e (d : Nat) (σ : gM) : ps_atom_b108 d σ =
  ((ps_node σ 3).bind fun p1 =>
  ps_atom_b164 d p1.1 p1.2) := Lm.eqn (ps_atom_b108_l ..) (.bind (ps_node_l ..) fun p1 => (ps_atom_b164_l ..)) fun n => (rfl)
theorem ps_atom_b164_e (d : Nat) (σ : gM) (x1 : Int) : ps_atom_b164 d σ x1 =
  (if 0 ≤ x1 ∧ x1 < 4200 then
  (if 0 ≤ x1 ∧ x1 < 4200 then
    ((ps_good (gW (gW σ 76 x1 (σ 69 5)) 77 x1 (σ 69 6))).bind fun p1 =>
      if p1.2 = 0 then
      (some (p1.1, x1))
      else
      ((tk_read p1.1).bind fun p2 =>
        some (p2.1, x1)))
    else none)
  else none) := Lm.eqn (ps_atom_b164_l ..) (.ite (.ite (.bind (ps_good_l ..) fun p1 => (.ite .cst (.bind (tk_read_l ..) fun p2 => .cst))) .cst) .cst) fun n => (rfl)
theorem ps_unary_e (d : Nat) (σ : gM) : ps_unary (d + 1) σ =
  ((tk_is σ 33).bind fun p1 =>
  if p1.2 = 0 then
  ((ps_atom d p1.1).bind fun p2 =>
    ps_unary_b75 d p2.1 p2.2)
  else
  (if p1.1 68 21 = 20 then
    ((tk_fails p1.1 3 (p1.1 69 5)).bind fun p3 =>
      ps_unary_b37 d p3.1)
    else
    (ps_unary_b37 d p1.1))) := Lm.eqn (ps_unary_l ..) (.bind (tk_is_l ..) fun p1 => (.ite (.bind (ps_atom_l ..) fun p2 => (ps_unary_b75_l ..)) (.ite (.bind (tk_fails_l ..) fun p3 => (ps_unary_b37_l ..)) (ps_unary_b37_l ..)))) fun n => (rfl)
theorem ps_unary_b37_e (d : Nat) (σ : gM) : ps_unary_b37 d σ =
  ((ps_node σ 20).bind fun p1 =>
  (ps_open p1.1).bind fun p2 =>
  (ps_unary d p2.1).bind fun p3 =>
  if 0 ≤ p1.2 ∧ p1.2 < 4200 then
  (some (gW (gW p3.1 72 p1.2 p3.2) 68 21 (w32 ((p3.1 68 21) - 1)), p1.2))
  else none) := Lm.eqn (ps_unary_b37_l ..) (.bind (ps_node_l ..) fun p1 => (.bind (ps_open_l ..) fun p2 => (.bind (ps_unary_l ..) fun p3 => (.ite .cst .cst)))) fun n => (rfl)
theorem ps_unary_b75_e (d : Nat) (σ : gM) (x1 : Int) : ps_unary_b75 d σ x1 =
  ((ps_good σ).bind fun p1 =>
  if p1.2 = 0 then
  (some (p1.1, x1))
  else
  ((tk_is p1.1 40).bind fun p2 =>
    if p2.2 = 0 then
    ((tk_is p2.1 46).bind fun p3 =>
      if p3.2 = 0 then
      ((tk_is p3.1 91).bind fun p4 =>
        if p4.2 = 0 then
        (some (p4.1, x1))
        else
        (ps_unary_b118 d p4.1 x1))
      else
      (ps_unary_b118 d p3.1 x1))
    else
    (ps_unary_b118 d p2.1 x1))) := Lm.eqn (ps_unary_b75_l ..) (.bind (ps_good_l ..) fun p1 => (.ite .cst (.bind (tk_is_l ..) fun p2 => (.ite (.bind (tk_is_l ..) fun p3 => (.ite (.bind (tk_is_l ..) fun p4 => (.ite .cst (ps_unary_b118_l ..))) (ps_unary_b118_l ..))) (ps_unary_b118_l ..))))) fun n => (rfl)
theorem ps_unary_b118_e (d : Nat) (σ : gM) (x1 : Int) : ps_unary_b118 d σ x1 =
  ((ps_behind d σ x1).bind fun p1 =>
  ps_unary_b75 d p1.1 p1.2) := Lm.eqn (ps_unary_b118_l ..) (.bind (ps_behind_l ..) fun p1 => (ps_unary_b75_l ..)) fun n => (rfl)
theorem ps_product_e (d : Nat) (σ : gM) : ps_product (d + 1) σ =
  ((ps_unary d σ).bind fun p1 =>
  ps_product_b5 d p1.1 p1.2) := Lm.eqn (ps_product_l ..) (.bind (ps_unary_l ..) fun p1 => (ps_product_b5_l ..)) fun n => (rfl)
theorem ps_product_b5_e (d : Nat) (σ : gM) (x1 : Int) : ps_product_b5 d σ x1 =
  ((ps_good σ).bind fun p1 =>
  if p1.2 = 0 then
  (some (p1.1, x1))
  else
  ((tk_is p1.1 42).bind fun p2 =>
    if p2.2 = 0 then
    ((tk_is p2.1 47).bind fun p3 =>
      if p3.2 = 0 then
      (some (p3.1, x1))
      else
      (ps_product_b36 d p3.1 x1))
    else
    (ps_product_b36 d p2.1 x1))) := Lm.eqn (ps_product_b5_l ..) (.bind (ps_good_l ..) fun p1 => (.ite .cst (.bind (tk_is_l ..) fun p2 => (.ite (.bind (tk_is_l ..) fun p3 => (.ite .cst (ps_product_b36_l ..))) (ps_product_b36_l ..))))) fun n => (rfl)
theorem ps_product_b36_e (d : Nat) (σ : gM) (x1 : Int) : ps_product_b36 d σ x1 =
  ((tk_is σ 42).bind fun p1 =>
  if p1.2 = 0 then
  (ps_product_b56 d p1.1 x1 11)
  else
  (ps_product_b56 d p1.1 x1 10)) := Lm.eqn (ps_product_b36_l ..) (.bind (tk_is_l ..) fun p1 => (.ite (ps_product_b56_l ..) (ps_product_b56_l ..))) fun n => (rfl)
theorem ps_product_b56_e (d : Nat) (σ : gM) (x1 y0 : Int) : ps_product_b56 d σ x1 y0 =
  ((ps_two σ y0 x1).bind fun p1 =>
  (ps_unary d p1.1).bind fun p2 =>
  if 0 ≤ p1.2 ∧ p1.2 < 4200 then
  (ps_product_b5 d (gW p2.1 73 p1.2 p2.2) p1.2)
  else none) := Lm.eqn (ps_product_b56_l ..) (.bind (ps_two_l ..) fun p1 => (.bind (ps_unary_l ..) fun p2 => (.ite (ps_product_b5_l ..) .cst))) fun n => (rfl)
theorem ps_sum_e (d : Nat) (σ : gM) : ps_sum (d + 1) σ =
  ((ps_product d σ).bind fun p1 =>
  ps_sum_b5 d p1.1 p1.2) := Lm.eqn (ps_sum_l ..) (.bind (ps_product_l ..) fun p1 => (ps_sum_b5_l ..)) fun n => (rfl)
theorem ps_sum_b5_e (d : Nat) (σ : gM) (x1 : Int) : ps_sum_b5 d σ x1 =
  ((ps_good σ).bind fun p1 =>
  if p1.2 = 0 then
  (some (p1.1, x1))
  else
  ((tk_is p1.1 43).bind fun p2 =>
    if p2.2 = 0 then
    ((tk_is p2.1 45).bind fun p3 =>
      if p3.2 = 0 then
      (some (p3.1, x1))
      else
      (ps_sum_b36 d p3.1 x1))
    else
    (ps_sum_b36 d p2.1 x1))) := Lm.eqn (ps_sum_b5_l ..) (.bind (ps_good_l ..) fun p1 => (.ite .cst (.bind (tk_is_l ..) fun p2 => (.ite (.bind (tk_is_l ..) fun p3 => (.ite .cst (ps_sum_b36_l ..))) (ps_sum_b36_l ..))))) fun n => (rfl)
theorem ps_sum_b36_e (d : Nat) (σ : gM) (x1 : Int) : ps_sum_b36 d σ x1 =
  ((tk_is σ 43).bind fun p1 =>
  if p1.2 = 0 then
  (ps_sum_b56 d p1.1 x1 9)
  else
  (ps_sum_b56 d p1.1 x1 8)) := Lm.eqn (ps_sum_b36_l ..) (.bind (tk_is_l ..) fun p1 => (.ite (ps_sum_b56_l ..) (ps_sum_b56_l ..))) fun n => (rfl)
theorem ps_sum_b56_e (d : Nat) (σ : gM) (x1 y0 : Int) : ps_sum_b56 d σ x1 y0 =
  ((ps_two σ y0 x1).bind fun p1 =>
  (ps_product d p1.1).bind fun p2 =>
  if 0 ≤ p1.2 ∧ p1.2 < 4200 then
  (ps_sum_b5 d (gW p2.1 73 p1.2 p2.2) p1.2)
  else none) := Lm.eqn (ps_sum_b56_l ..) (.bind (ps_two_l ..) fun p1 => (.bind (ps_product_l ..) fun p2 => (.ite (ps_sum_b5_l ..) .cst))) fun n => (rfl)
theorem ps_less_e (d : Nat) (σ : gM) : ps_less (d + 1) σ =
  ((ps_sum d σ).bind fun p1 =>
  (ps_good p1.1).bind fun p2 =>
  if p2.2 = 0 then
  (some (p2.1, p1.2))
  else
  ((tk_is p2.1 60).bind fun p3 =>
    if p3.2 = 0 then
    ((tk_is p3.1 15421).bind fun p4 =>
      if p4.2 = 0 then
      ((tk_is p4.1 62).bind fun p5 =>
        if p5.2 = 0 then
        ((tk_is p5.1 15933).bind fun p6 =>
          if p6.2 = 0 then
          (ps_less_b85 d p6.1 p1.2 (-1))
          else
          (ps_less_b85 d p6.1 p1.2 15))
        else
        (ps_less_b85 d p5.1 p1.2 14))
      else
      (ps_less_b85 d p4.1 p1.2 13))
    else
    (ps_less_b85 d p3.1 p1.2 12))) := Lm.eqn (ps_less_l ..) (.bind (ps_sum_l ..) fun p1 => (.bind (ps_good_l ..) fun p2 => (.ite .cst (.bind (tk_is_l ..) fun p3 => (.ite (.bind (tk_is_l ..) fun p4 => (.ite (.bind (tk_is_l ..) fun p5 => (.ite (.bind (tk_is_l ..) fun p6 => (.ite (ps_less_b85_l ..) (ps_less_b85_l ..))) (ps_less_b85_l ..))) (ps_less_b85_l ..))) (ps_less_b85_l ..)))))) fun n => (rfl)
theorem ps_less_b85_e (d : Nat) (σ : gM) (x1 y0 : Int) : ps_less_b85 d σ x1 y0 =
  (if y0 < 0 then
  (some (σ, x1))
  else
  ((ps_two σ y0 x1).bind fun p1 =>
    (ps_sum d p1.1).bind fun p2 =>
    if 0 ≤ p1.2 ∧ p1.2 < 4200 then
    (some (gW p2.1 73 p1.2 p2.2, p1.2))
    else none)) := Lm.eqn (ps_less_b85_l ..) (.ite .cst (.bind (ps_two_l ..) fun p1 => (.bind (ps_sum_l ..) fun p2 => (.ite .cst .cst)))) fun n => (rfl)
theorem ps_equal_e (d : Nat) (σ : gM) : ps_equal (d + 1) σ =
  ((ps_less d σ).bind fun p1 =>
  (tk_is p1.1 15677).bind fun p2 =>
  (ps_good p2.1).bind fun p3 =>
  if p3.2 = 0 then
  (some (p3.1, p1.2))
  else
  (if p2.2 = 0 then
    ((tk_is p3.1 8509).bind fun p4 =>
      if p4.2 = 0 then
      (some (p4.1, p1.2))
      else
      (ps_equal_b42 d p4.1 p1.2 p2.2))
    else
    (ps_equal_b42 d p3.1 p1.2 p2.2))) := Lm.eqn (ps_equal_l ..) (.bind (ps_less_l ..) fun p1 => (.bind (tk_is_l ..) fun p2 => (.bind (ps_good_l ..) fun p3 => (.ite .cst (.ite (.bind (tk_is_l ..) fun p4 => (.ite .cst (ps_equal_b42_l ..))) (ps_equal_b42_l ..)))))) fun n => (rfl)
theorem ps_equal_b42_e (d : Nat) (σ : gM) (x1 x2 : Int) : ps_equal_b42 d σ x1 x2 =
  (if x2 = 0 then
  (ps_equal_b54 d σ x1 17)
  else
  (ps_equal_b54 d σ x1 16)) := Lm.eqn (ps_equal_b42_l ..) (.ite (ps_equal_b54_l ..) (ps_equal_b54_l ..)) fun n => (rfl)
theorem ps_equal_b54_e (d : Nat) (σ : gM) (x1 y0 : Int) : ps_equal_b54 d σ x1 y0 =
  ((ps_two σ y0 x1).bind fun p1 =>
  (ps_less d p1.1).bind fun p2 =>
  if 0 ≤ p1.2 ∧ p1.2 < 4200 then
  (some (gW p2.1 73 p1.2 p2.2, p1.2))
  else none) := Lm.eqn (ps_equal_b54_l ..) (.bind (ps_two_l ..) fun p1 => (.bind (ps_less_l ..) fun p2 => (.ite .cst .cst))) fun n => (rfl)
theorem ps_and_e (d : Nat) (σ : gM) : ps_and (d + 1) σ =
  ((ps_equal d σ).bind fun p1 =>
  ps_and_b5 d p1.1 p1.2) := Lm.eqn (ps_and_l ..) (.bind (ps_equal_l ..) fun p1 => (ps_and_b5_l ..)) fun n => (rfl)
theorem ps_and_b5_e (d : Nat) (σ : gM) (x1 : Int) : ps_and_b5 d σ x1 =
  ((ps_good σ).bind fun p1 =>
  if p1.2 = 0 then
  (some (p1.1, x1))
  else
  ((tk_is p1.1 9766).bind fun p2 =>
    if p2.2 = 0 then
    (some (p2.1, x1))
    else
    ((ps_two p2.1 18 x1).bind fun p3 =>
      (ps_equal d p3.1).bind fun p4 =>
      if 0 ≤ p3.2 ∧ p3.2 < 4200 then
      (ps_and_b5 d (gW p4.1 73 p3.2 p4.2) p3.2)
      else none))) := Lm.eqn (ps_and_b5_l ..) (.bind (ps_good_l ..) fun p1 => (.ite .cst (.bind (tk_is_l ..) fun p2 => (.ite .cst (.bind (ps_two_l ..) fun p3 => (.bind (ps_equal_l ..) fun p4 => (.ite (ps_and_b5_l ..) .cst))))))) fun n => (rfl)
theorem ps_or_e (d : Nat) (σ : gM) : ps_or (d + 1) σ =
  ((ps_and d σ).bind fun p1 =>
  ps_or_b5 d p1.1 p1.2) := Lm.eqn (ps_or_l ..) (.bind (ps_and_l ..) fun p1 => (ps_or_b5_l ..)) fun n => (rfl)
theorem ps_or_b5_e (d : Nat) (σ : gM) (x1 : Int) : ps_or_b5 d σ x1 =
  ((ps_good σ).bind fun p1 =>
  if p1.2 = 0 then
  (some (p1.1, x1))
  else
  ((tk_is p1.1 31868).bind fun p2 =>
    if p2.2 = 0 then
    (some (p2.1, x1))
    else
    ((ps_two p2.1 19 x1).bind fun p3 =>
      (ps_and d p3.1).bind fun p4 =>
      if 0 ≤ p3.2 ∧ p3.2 < 4200 then
      (ps_or_b5 d (gW p4.1 73 p3.2 p4.2) p3.2)
      else none))) := Lm.eqn (ps_or_b5_l ..) (.bind (ps_good_l ..) fun p1 => (.ite .cst (.bind (tk_is_l ..) fun p2 => (.ite .cst (.bind (ps_two_l ..) fun p3 => (.bind (ps_and_l ..) fun p4 => (.ite (ps_or_b5_l ..) .cst))))))) fun n => (rfl)
theorem ps_e_e (d : Nat) (σ : gM) : ps_e (d + 1) σ =
  ((ps_or d σ).bind fun p1 =>
  (ps_good p1.1).bind fun p2 =>
  if p2.2 = 0 then
  (some (p2.1, p1.2))
  else
  ((tk_is p2.1 61).bind fun p3 =>
    if p3.2 = 0 then
    (some (p3.1, p1.2))
    else
    (if 0 ≤ p1.2 ∧ p1.2 < 4200 then
      (if p3.1 78 p1.2 = 0 then
        ((tk_fails p3.1 2 (p3.1 69 5)).bind fun p6 =>
          ps_e_b108 d p6.1 p1.2)
        else
        (if p3.1 68 21 = 20 then
          ((tk_fails p3.1 3 (p3.1 69 5)).bind fun p5 =>
            ps_e_b108 d p5.1 p1.2)
          else
          (if 0 ≤ p1.2 ∧ p1.2 < 4200 then
            (if p3.1 70 p1.2 = 5 then
              ((ps_sets p3.1 p1.2).bind fun p4 =>
                ps_e_b108 d p4.1 p1.2)
              else
              (if 0 ≤ p1.2 ∧ p1.2 < 4200 then
                (ps_e_b108 d (gW p3.1 70 p1.2 22) p1.2)
                else none))
            else none)))
      else none))) := Lm.eqn (ps_e_l ..) (.bind (ps_or_l ..) fun p1 => (.bind (ps_good_l ..) fun p2 => (.ite .cst (.bind (tk_is_l ..) fun p3 => (.ite .cst (.ite (.ite (.bind (tk_fails_l ..) fun p6 => (ps_e_b108_l ..)) (.ite (.bind (tk_fails_l ..) fun p5 => (ps_e_b108_l ..)) (.ite (.ite (.bind (ps_sets_l ..) fun p4 => (ps_e_b108_l ..)) (.ite (ps_e_b108_l ..) .cst)) .cst))) .cst)))))) fun n => (rfl)
theorem ps_e_b108_e (d : Nat) (σ : gM) (x1 : Int) : ps_e_b108 d σ x1 =
  ((ps_open σ).bind fun p1 =>
  (ps_e d p1.1).bind fun p2 =>
  if 0 ≤ x1 ∧ x1 < 4200 then
  (some (gW (gW p2.1 74 x1 p2.2) 68 21 (w32 ((p2.1 68 21) - 1)), x1))
  else none) := Lm.eqn (ps_e_b108_l ..) (.bind (ps_open_l ..) fun p1 => (.bind (ps_e_l ..) fun p2 => (.ite .cst .cst))) fun n => (rfl)
def k_ps_condition : List gC := [(0, 1, .aload_n 0, [], none), (1, 3, .invokevirtual 82, [], none), (4, 3, .ifCond .eq 10, [(0, 14)], none), (7, 1, .aload_n 0, [], none),
  (8, 3, .getfield 12, [], none), (11, 3, .invokevirtual 98, [], none), (14, 1, .aload_n 0, [], some [true, true]), (15, 2, .bipush 40, [], none),
  (17, 3, .invokevirtual 147, [], none), (20, 1, .aload_n 0, [], none), (21, 3, .getfield 25, [], none), (24, 1, .iload_n 1, [], none),
  (25, 1, .aload_n 0, [], none), (26, 3, .invokevirtual 189, [], none), (29, 1, .iastore, [], none), (30, 1, .aload_n 0, [], none),
  (31, 2, .bipush 41, [], none), (33, 3, .invokevirtual 153, [], none), (36, 1, .return_, [], none)]
def e_ps_condition (m : Nat) : gE := (k_ps_condition, f_ps, c_ps, [(82, 1, 15, 0, .inl (fn_ps_good m)), (98, 1, 16, 5, .inl (fn_tk_read m)), (147, 2, 15, 5, .inl (fn_ps_opens m)), (189, 1, 15, 0, .inl (rec_ps_and m 300 4)), (153, 2, 15, 5, .inl (fn_ps_closes m))], [], (m, 19554306082849437661225859423554554543798902376180262949890157186168044513412871518503060232909324127930894983888896), 5)
theorem ok_ps_condition : gchk cX7_condition 2 k_ps_condition = true := by decide +kernel
def fn_ps_condition (m : Nat) : gFn := gF (e_ps_condition m) 2
theorem mo_ps_condition (m : Nat) : gMo (.inl (fn_ps_condition m)) := gF_mo (E := e_ps_condition m) ⟨mo_ps_good m, ⟨mo_tk_read m, ⟨mo_ps_opens m, ⟨mo_rec_ps_and m 300 4, ⟨mo_ps_closes m, trivial⟩⟩⟩⟩⟩
noncomputable def ps_condition (σ : gM) (x1 : Int) : Option (gM × Int) := lim (fun n => fn_ps_condition 119 n [(2, 68), (0, x1)] σ)
theorem ps_condition_l (σ : gM) (x1 : Int) : Lm (fun n => fn_ps_condition 119 n [(2, 68), (0, x1)] σ) (ps_condition σ x1) := .of fun n => mo_ps_condition 119 n [(2, 68), (0, x1)] σ
theorem mb_ps_condition : gMos (e_ps_condition 119).2.2.2.1 := ⟨mo_ps_good 119, ⟨mo_tk_read 119, ⟨mo_ps_opens 119, ⟨mo_rec_ps_and 119 300 4, ⟨mo_ps_closes 119, trivial⟩⟩⟩⟩⟩
noncomputable def ps_condition_b14 (σ : gM) (x1 : Int) : Option (gM × Int) := lim (fun n => gB (e_ps_condition 119) rF tF n 14 [(2, 68), (0, x1)] [] σ)
theorem ps_condition_b14_l (σ : gM) (x1 : Int) : Lm (fun n => gB (e_ps_condition 119) rF tF n 14 [(2, 68), (0, x1)] [] σ) (ps_condition_b14 σ x1) := .of fun n => gB_le (gMos_spec (mb_ps_condition)) n _ _ _ σ
theorem ps_condition_e (σ : gM) (x1 : Int) : ps_condition σ x1 =
  ((ps_good σ).bind fun p1 =>
  if p1.2 = 0 then
  (ps_condition_b14 p1.1 x1)
  else
  ((tk_read p1.1).bind fun p2 =>
    ps_condition_b14 p2.1 x1)) := Lm.eqn (ps_condition_l ..) (.bind (ps_good_l ..) fun p1 => (.ite (ps_condition_b14_l ..) (.bind (tk_read_l ..) fun p2 => (ps_condition_b14_l ..)))) fun n => (rfl)
theorem ps_condition_b14_e (σ : gM) (x1 : Int) : ps_condition_b14 σ x1 =
  ((ps_opens σ 40).bind fun p1 =>
  (ps_e 300 p1.1).bind fun p2 =>
  if 0 ≤ x1 ∧ x1 < 4200 then
  ((ps_closes (gW p2.1 72 x1 p2.2) 41).bind fun p3 =>
    some (p3.1, 0))
  else none) := Lm.eqn (ps_condition_b14_l ..) (.bind (ps_opens_l ..) fun p1 => (.bind (ps_e_l ..) fun p2 => (.ite (.bind (ps_closes_l ..) fun p3 => .cst) .cst))) fun n => (rfl)
def k_ps_statement : List gC := [(0, 1, .aload_n 0, [], none), (1, 3, .getfield 12, [], none), (4, 2, .ldc 178, [], none), (6, 3, .invokevirtual 133, [], none),
  (9, 3, .ifCond .eq 64, [(0, 73)], none), (12, 1, .aload_n 0, [], none), (13, 2, .bipush 24, [], none), (15, 3, .invokevirtual 168, [], none),
  (18, 1, .istore_n 1, [], none), (19, 1, .aload_n 0, [], none), (20, 1, .iload_n 1, [], none), (21, 3, .invokevirtual 180, [], none),
  (24, 1, .aload_n 0, [], none), (25, 3, .getfield 28, [], none), (28, 1, .iload_n 1, [], none), (29, 1, .aload_n 0, [], none),
  (30, 3, .invokevirtual 156, [], none), (33, 1, .iastore, [], none), (34, 1, .aload_n 0, [], none), (35, 3, .invokevirtual 82, [], none),
  (38, 3, .ifCond .eq 284, [(0, 322)], none), (41, 1, .aload_n 0, [], none), (42, 3, .getfield 12, [], none), (45, 2, .ldc 183, [], none),
  (47, 3, .invokevirtual 133, [], none), (50, 3, .ifCond .eq 272, [(0, 322)], none), (53, 1, .aload_n 0, [], none), (54, 3, .getfield 12, [], none),
  (57, 3, .invokevirtual 98, [], none), (60, 1, .aload_n 0, [], none), (61, 3, .getfield 31, [], none), (64, 1, .iload_n 1, [], none),
  (65, 1, .aload_n 0, [], none), (66, 3, .invokevirtual 156, [], none), (69, 1, .iastore, [], none), (70, 3, .goto 252, [(0, 322)], none),
  (73, 1, .aload_n 0, [], none), (74, 3, .getfield 12, [], none), (77, 2, .ldc 185, [], none), (79, 3, .invokevirtual 133, [], none),
  (82, 3, .ifCond .eq 48, [(0, 130)], none), (85, 1, .aload_n 0, [], none), (86, 2, .bipush 25, [], none), (88, 3, .invokevirtual 168, [], none),
  (91, 1, .istore_n 1, [], none), (92, 1, .aload_n 0, [], none), (93, 1, .iload_n 1, [], none), (94, 3, .invokevirtual 180, [], none),
  (97, 1, .aload_n 0, [], none), (98, 1, .dup, [], none), (99, 3, .getfield 144, [], none), (102, 1, .iconst 1, [], none),
  (103, 1, .iadd, [], none), (104, 3, .putfield 144, [], none), (107, 1, .aload_n 0, [], none), (108, 3, .getfield 28, [], none),
  (111, 1, .iload_n 1, [], none), (112, 1, .aload_n 0, [], none), (113, 3, .invokevirtual 156, [], none), (116, 1, .iastore, [], none),
  (117, 1, .aload_n 0, [], none), (118, 1, .dup, [], none), (119, 3, .getfield 144, [], none), (122, 1, .iconst 1, [], none),
  (123, 1, .isub, [], none), (124, 3, .putfield 144, [], none), (127, 3, .goto 195, [(0, 322)], none), (130, 1, .aload_n 0, [], none),
  (131, 3, .getfield 12, [], none), (134, 2, .ldc 187, [], none), (136, 3, .invokevirtual 133, [], none), (139, 3, .ifCond .eq 62, [(0, 201)], none),
  (142, 1, .aload_n 0, [], none), (143, 2, .bipush 26, [], none), (145, 3, .invokevirtual 168, [], none), (148, 1, .istore_n 1, [], none),
  (149, 1, .aload_n 0, [], none), (150, 3, .invokevirtual 82, [], none), (153, 3, .ifCond .eq 10, [(0, 163)], none), (156, 1, .aload_n 0, [], none),
  (157, 3, .getfield 12, [], none), (160, 3, .invokevirtual 98, [], none), (163, 1, .aload_n 0, [], some [true, true]), (164, 3, .invokevirtual 82, [], none),
  (167, 3, .ifCond .eq 25, [(0, 192)], none), (170, 1, .aload_n 0, [], none), (171, 3, .getfield 12, [], none), (174, 2, .bipush 59, [], none),
  (176, 3, .invokevirtual 94, [], none), (179, 3, .ifCond .ne 13, [(0, 192)], none), (182, 1, .aload_n 0, [], none), (183, 3, .getfield 25, [], none),
  (186, 1, .iload_n 1, [], none), (187, 1, .aload_n 0, [], none), (188, 3, .invokevirtual 189, [], none), (191, 1, .iastore, [], none),
  (192, 1, .aload_n 0, [], some [true, true]), (193, 2, .bipush 59, [], none), (195, 3, .invokevirtual 117, [], none), (198, 3, .goto 124, [(0, 322)], none),
  (201, 1, .aload_n 0, [], none), (202, 3, .getfield 12, [], none), (205, 2, .ldc 192, [], none), (207, 3, .invokevirtual 133, [], none),
  (210, 3, .ifCond .ne 15, [(0, 225)], none), (213, 1, .aload_n 0, [], none), (214, 3, .getfield 12, [], none), (217, 2, .ldc 194, [], none),
  (219, 3, .invokevirtual 133, [], none), (222, 3, .ifCond .eq 73, [(0, 295)], none), (225, 1, .aload_n 0, [], some [true, false]), (226, 1, .aload_n 0, [], none),
  (227, 3, .getfield 12, [], none), (230, 2, .ldc 192, [], none), (232, 3, .invokevirtual 133, [], none), (235, 3, .ifCond .eq 8, [(0, 243)], none),
  (238, 2, .bipush 27, [], none), (240, 3, .goto 5, [(0, 245)], none), (243, 2, .bipush 28, [], none), (245, 3, .invokevirtual 168, [], some [true, false]),
  (248, 1, .istore_n 1, [], none), (249, 1, .aload_n 0, [], none), (250, 3, .getfield 144, [], none), (253, 3, .ifCond .ne 19, [(0, 272)], none),
  (256, 1, .aload_n 0, [], none), (257, 3, .getfield 12, [], none), (260, 1, .iconst 5, [], none), (261, 1, .aload_n 0, [], none),
  (262, 3, .getfield 12, [], none), (265, 3, .getfield 104, [], none), (268, 3, .invokevirtual 107, [], none), (271, 1, .pop, [], none),
  (272, 1, .aload_n 0, [], some [true, true]), (273, 3, .invokevirtual 82, [], none), (276, 3, .ifCond .eq 10, [(0, 286)], none), (279, 1, .aload_n 0, [], none),
  (280, 3, .getfield 12, [], none), (283, 3, .invokevirtual 98, [], none), (286, 1, .aload_n 0, [], some [true, true]), (287, 2, .bipush 59, [], none),
  (289, 3, .invokevirtual 117, [], none), (292, 3, .goto 30, [(0, 322)], none), (295, 1, .aload_n 0, [], none), (296, 1, .aload_n 0, [], none),
  (297, 3, .getfield 71, [], none), (300, 2, .bipush 30, [], none), (302, 3, .invokevirtual 128, [], none), (305, 1, .istore_n 1, [], none),
  (306, 1, .aload_n 0, [], none), (307, 3, .getfield 25, [], none), (310, 1, .iload_n 1, [], none), (311, 1, .aload_n 0, [], none),
  (312, 3, .invokevirtual 189, [], none), (315, 1, .iastore, [], none), (316, 1, .aload_n 0, [], none), (317, 2, .bipush 59, [], none),
  (319, 3, .invokevirtual 117, [], none), (322, 1, .iload_n 1, [], none), (323, 1, .ireturn, [], none)]
def e_ps_statement (m : Nat) (r : Nat → gFn) : gE := (k_ps_statement, f_ps, c_ps, [(133, 2, 16, 0, .inl (fn_tk_isWord_2 m)), (168, 2, 15, 0, .inl (fn_ps_node m)), (180, 2, 15, 5, .inl (fn_ps_condition m)), (156, 1, 15, 0, .inl (r 0)), (82, 1, 15, 0, .inl (fn_ps_good m)), (98, 1, 16, 5, .inl (fn_tk_read m)), (94, 2, 16, 0, .inl (fn_tk_is m)), (189, 1, 15, 0, .inl (rec_ps_and m 300 4)), (117, 2, 15, 5, .inl (fn_ps_must m)), (107, 3, 16, 0, .inl (fn_tk_fails m)), (128, 3, 15, 0, .inl (fn_ps_blank m))], [], (m, 19563925713268479282127294736079003668263033171900591428080574249987440441579740954687487544006708140538513789550592), 0)
theorem ok_ps_statement : gchk cX7_statement 2 k_ps_statement = true := by decide +kernel
def k_ps_block : List gC := [(0, 1, .aload_n 0, [], none), (1, 2, .bipush 123, [], none), (3, 3, .invokevirtual 147, [], none), (6, 1, .iconst (-1), [], none),
  (7, 1, .istore_n 1, [], none), (8, 1, .iconst (-1), [], none), (9, 1, .istore_n 2, [], none), (10, 1, .aload_n 0, [], some [true, true, true, false]),
  (11, 3, .invokevirtual 82, [], none), (14, 3, .ifCond .eq 41, [(0, 55)], none), (17, 1, .aload_n 0, [], none), (18, 3, .getfield 12, [], none),
  (21, 2, .bipush 125, [], none), (23, 3, .invokevirtual 94, [], none), (26, 3, .ifCond .ne 29, [(0, 55)], none), (29, 1, .aload_n 0, [], none),
  (30, 3, .invokevirtual 175, [], none), (33, 1, .istore_n 3, [], none), (34, 1, .iload_n 2, [], none), (35, 3, .ifCond .ge 8, [(0, 43)], none),
  (38, 1, .iload_n 3, [], none), (39, 1, .istore_n 1, [], none), (40, 3, .goto 10, [(0, 50)], none), (43, 1, .aload_n 0, [], none),
  (44, 3, .getfield 34, [], none), (47, 1, .iload_n 2, [], none), (48, 1, .iload_n 3, [], none), (49, 1, .iastore, [], none),
  (50, 1, .iload_n 3, [], some [true, true, false, true]), (51, 1, .istore_n 2, [], none), (52, 3, .goto (-42), [(0, 10)], none), (55, 1, .aload_n 0, [], some [true, true, false, false]),
  (56, 2, .bipush 125, [], none), (58, 3, .invokevirtual 153, [], none), (61, 1, .iload_n 1, [], none), (62, 1, .ireturn, [], none)]
def e_ps_block (m : Nat) (r : Nat → gFn) : gE := (k_ps_block, f_ps, c_ps, [(147, 2, 15, 5, .inl (fn_ps_opens m)), (82, 1, 15, 0, .inl (fn_ps_good m)), (94, 2, 16, 0, .inl (fn_tk_is m)), (175, 1, 15, 0, .inl (r 1)), (153, 2, 15, 5, .inl (fn_ps_closes m))], [], (m, 19563925713268479282127294736079003668263033171900591428080574249987440441579740954687487544006708140538513789550592), 0)
theorem ok_ps_block : gchk cX7_block 4 k_ps_block = true := by decide +kernel
def rec_ps_block (m : Nat) : Nat → Nat → gFn
  | 0, _ => fun _ _ _ => none
  | d + 1, k => match k with
    | 0 => gF (e_ps_block m (rec_ps_block m d)) 4
    | _ => gF (e_ps_statement m (rec_ps_block m d)) 2
theorem mo_rec_ps_block (m : Nat) : ∀ (d k : Nat), gMo (.inl (rec_ps_block m d k))
  | 0, _ => gMo_none
  | d + 1, 0 => gF_mo (E := e_ps_block m (rec_ps_block m d)) ⟨mo_ps_opens m, ⟨mo_ps_good m, ⟨mo_tk_is m, ⟨mo_rec_ps_block m d 1, ⟨mo_ps_closes m, trivial⟩⟩⟩⟩⟩
  | d + 1, _ + 1 => gF_mo (E := e_ps_statement m (rec_ps_block m d)) ⟨mo_tk_isWord_2 m, ⟨mo_ps_node m, ⟨mo_ps_condition m, ⟨mo_rec_ps_block m d 0, ⟨mo_ps_good m, ⟨mo_tk_read m, ⟨mo_tk_is m, ⟨mo_rec_ps_and m 300 4, ⟨mo_ps_must m, ⟨mo_tk_fails m, ⟨mo_ps_blank m, trivial⟩⟩⟩⟩⟩⟩⟩⟩⟩⟩⟩
noncomputable def ps_statement (d : Nat) (σ : gM) : Option (gM × Int) := lim (fun n => rec_ps_block 119 d 1 n [(2, 68)] σ)
theorem ps_statement_l (d : Nat) (σ : gM) : Lm (fun n => rec_ps_block 119 d 1 n [(2, 68)] σ) (ps_statement d σ) := .of fun n => mo_rec_ps_block 119 d 1 n [(2, 68)] σ
theorem mb_ps_statement (d : Nat) : gMos (e_ps_statement 119 (rec_ps_block 119 d)).2.2.2.1 := ⟨mo_tk_isWord_2 119, ⟨mo_ps_node 119, ⟨mo_ps_condition 119, ⟨mo_rec_ps_block 119 d 0, ⟨mo_ps_good 119, ⟨mo_tk_read 119, ⟨mo_tk_is 119, ⟨mo_rec_ps_and 119 300 4, ⟨mo_ps_must 119, ⟨mo_tk_fails 119, ⟨mo_ps_blank 119, trivial⟩⟩⟩⟩⟩⟩⟩⟩⟩⟩⟩
noncomputable def ps_statement_b163 (d : Nat) (σ : gM) (x1 : Int) : Option (gM × Int) := lim (fun n => gB (e_ps_statement 119 (rec_ps_block 119 d)) rF tF n 163 [(2, 68), (0, x1)] [] σ)
theorem ps_statement_b163_l (d : Nat) (σ : gM) (x1 : Int) : Lm (fun n => gB (e_ps_statement 119 (rec_ps_block 119 d)) rF tF n 163 [(2, 68), (0, x1)] [] σ) (ps_statement_b163 d σ x1) := .of fun n => gB_le (gMos_spec (mb_ps_statement d)) n _ _ _ σ
noncomputable def ps_statement_b192 (d : Nat) (σ : gM) (x1 : Int) : Option (gM × Int) := lim (fun n => gB (e_ps_statement 119 (rec_ps_block 119 d)) rF tF n 192 [(2, 68), (0, x1)] [] σ)
theorem ps_statement_b192_l (d : Nat) (σ : gM) (x1 : Int) : Lm (fun n => gB (e_ps_statement 119 (rec_ps_block 119 d)) rF tF n 192 [(2, 68), (0, x1)] [] σ) (ps_statement_b192 d σ x1) := .of fun n => gB_le (gMos_spec (mb_ps_statement d)) n _ _ _ σ
noncomputable def ps_statement_b225 (d : Nat) (σ : gM) : Option (gM × Int) := lim (fun n => gB (e_ps_statement 119 (rec_ps_block 119 d)) rF tF n 225 [(2, 68), (9, 0)] [] σ)
theorem ps_statement_b225_l (d : Nat) (σ : gM) : Lm (fun n => gB (e_ps_statement 119 (rec_ps_block 119 d)) rF tF n 225 [(2, 68), (9, 0)] [] σ) (ps_statement_b225 d σ) := .of fun n => gB_le (gMos_spec (mb_ps_statement d)) n _ _ _ σ
noncomputable def ps_statement_b245 (d : Nat) (σ : gM) (y0 : Int) : Option (gM × Int) := lim (fun n => gB (e_ps_statement 119 (rec_ps_block 119 d)) rF tF n 245 [(2, 68), (9, 0)] [(0, y0), (2, 68)] σ)
theorem ps_statement_b245_l (d : Nat) (σ : gM) (y0 : Int) : Lm (fun n => gB (e_ps_statement 119 (rec_ps_block 119 d)) rF tF n 245 [(2, 68), (9, 0)] [(0, y0), (2, 68)] σ) (ps_statement_b245 d σ y0) := .of fun n => gB_le (gMos_spec (mb_ps_statement d)) n _ _ _ σ
noncomputable def ps_statement_b272 (d : Nat) (σ : gM) (x1 : Int) : Option (gM × Int) := lim (fun n => gB (e_ps_statement 119 (rec_ps_block 119 d)) rF tF n 272 [(2, 68), (0, x1)] [] σ)
theorem ps_statement_b272_l (d : Nat) (σ : gM) (x1 : Int) : Lm (fun n => gB (e_ps_statement 119 (rec_ps_block 119 d)) rF tF n 272 [(2, 68), (0, x1)] [] σ) (ps_statement_b272 d σ x1) := .of fun n => gB_le (gMos_spec (mb_ps_statement d)) n _ _ _ σ
noncomputable def ps_statement_b286 (d : Nat) (σ : gM) (x1 : Int) : Option (gM × Int) := lim (fun n => gB (e_ps_statement 119 (rec_ps_block 119 d)) rF tF n 286 [(2, 68), (0, x1)] [] σ)
theorem ps_statement_b286_l (d : Nat) (σ : gM) (x1 : Int) : Lm (fun n => gB (e_ps_statement 119 (rec_ps_block 119 d)) rF tF n 286 [(2, 68), (0, x1)] [] σ) (ps_statement_b286 d σ x1) := .of fun n => gB_le (gMos_spec (mb_ps_statement d)) n _ _ _ σ
noncomputable def ps_block (d : Nat) (σ : gM) : Option (gM × Int) := lim (fun n => rec_ps_block 119 d 0 n [(2, 68)] σ)
theorem ps_block_l (d : Nat) (σ : gM) : Lm (fun n => rec_ps_block 119 d 0 n [(2, 68)] σ) (ps_block d σ) := .of fun n => mo_rec_ps_block 119 d 0 n [(2, 68)] σ
theorem mb_ps_block (d : Nat) : gMos (e_ps_block 119 (rec_ps_block 119 d)).2.2.2.1 := ⟨mo_ps_opens 119, ⟨mo_ps_good 119, ⟨mo_tk_is 119, ⟨mo_rec_ps_block 119 d 1, ⟨mo_ps_closes 119, trivial⟩⟩⟩⟩⟩
noncomputable def ps_block_b10 (d : Nat) (σ : gM) (x1 x2 : Int) : Option (gM × Int) := lim (fun n => gB (e_ps_block 119 (rec_ps_block 119 d)) rF tF n 10 [(2, 68), (0, x1), (0, x2), (9, 0)] [] σ)
theorem ps_block_b10_l (d : Nat) (σ : gM) (x1 x2 : Int) : Lm (fun n => gB (e_ps_block 119 (rec_ps_block 119 d)) rF tF n 10 [(2, 68), (0, x1), (0, x2), (9, 0)] [] σ) (ps_block_b10 d σ x1 x2) := .of fun n => gB_le (gMos_spec (mb_ps_block d)) n _ _ _ σ
noncomputable def ps_block_b50 (d : Nat) (σ : gM) (x1 x3 : Int) : Option (gM × Int) := lim (fun n => gB (e_ps_block 119 (rec_ps_block 119 d)) rF tF n 50 [(2, 68), (0, x1), (9, 0), (0, x3)] [] σ)
theorem ps_block_b50_l (d : Nat) (σ : gM) (x1 x3 : Int) : Lm (fun n => gB (e_ps_block 119 (rec_ps_block 119 d)) rF tF n 50 [(2, 68), (0, x1), (9, 0), (0, x3)] [] σ) (ps_block_b50 d σ x1 x3) := .of fun n => gB_le (gMos_spec (mb_ps_block d)) n _ _ _ σ
noncomputable def ps_block_b55 (d : Nat) (σ : gM) (x1 : Int) : Option (gM × Int) := lim (fun n => gB (e_ps_block 119 (rec_ps_block 119 d)) rF tF n 55 [(2, 68), (0, x1), (9, 0), (9, 0)] [] σ)
theorem ps_block_b55_l (d : Nat) (σ : gM) (x1 : Int) : Lm (fun n => gB (e_ps_block 119 (rec_ps_block 119 d)) rF tF n 55 [(2, 68), (0, x1), (9, 0), (9, 0)] [] σ) (ps_block_b55 d σ x1) := .of fun n => gB_le (gMos_spec (mb_ps_block d)) n _ _ _ σ
theorem ps_statement_e (d : Nat) (σ : gM) : ps_statement (d + 1) σ =
  ((tk_isWord_2 σ 15).bind fun p1 =>
  if p1.2 = 0 then
  ((tk_isWord_2 p1.1 17).bind fun p2 =>
    if p2.2 = 0 then
    ((tk_isWord_2 p2.1 18).bind fun p3 =>
      if p3.2 = 0 then
      ((tk_isWord_2 p3.1 19).bind fun p4 =>
        if p4.2 = 0 then
        ((tk_isWord_2 p4.1 20).bind fun p5 =>
          if p5.2 = 0 then
          ((ps_blank p5.1 (p5.1 68 10) 30).bind fun p6 =>
            (ps_e 300 p6.1).bind fun p7 =>
            if 0 ≤ p6.2 ∧ p6.2 < 4200 then
            ((ps_must (gW p7.1 72 p6.2 p7.2) 59).bind fun p8 =>
              some (p8.1, p6.2))
            else none)
          else
          (ps_statement_b225 d p5.1))
        else
        (ps_statement_b225 d p4.1))
      else
      ((ps_node p3.1 26).bind fun p9 =>
        (ps_good p9.1).bind fun p10 =>
        if p10.2 = 0 then
        (ps_statement_b163 d p10.1 p9.2)
        else
        ((tk_read p10.1).bind fun p11 =>
          ps_statement_b163 d p11.1 p9.2)))
    else
    ((ps_node p2.1 25).bind fun p12 =>
      (ps_condition p12.1 p12.2).bind fun p13 =>
      (ps_block d (gW p13.1 68 22 (w32 ((p13.1 68 22) + 1)))).bind fun p14 =>
      if 0 ≤ p12.2 ∧ p12.2 < 4200 then
      (some (gW (gW p14.1 73 p12.2 p14.2) 68 22 (w32 ((p14.1 68 22) - 1)), p12.2))
      else none))
  else
  ((ps_node p1.1 24).bind fun p15 =>
    (ps_condition p15.1 p15.2).bind fun p16 =>
    (ps_block d p16.1).bind fun p17 =>
    if 0 ≤ p15.2 ∧ p15.2 < 4200 then
    ((ps_good (gW p17.1 73 p15.2 p17.2)).bind fun p18 =>
      if p18.2 = 0 then
      (some (p18.1, p15.2))
      else
      ((tk_isWord_2 p18.1 16).bind fun p19 =>
        if p19.2 = 0 then
        (some (p19.1, p15.2))
        else
        ((tk_read p19.1).bind fun p20 =>
          (ps_block d p20.1).bind fun p21 =>
          if 0 ≤ p15.2 ∧ p15.2 < 4200 then
          (some (gW p21.1 74 p15.2 p21.2, p15.2))
          else none)))
    else none)) := Lm.eqn (ps_statement_l ..) (.bind (tk_isWord_2_l ..) fun p1 => (.ite (.bind (tk_isWord_2_l ..) fun p2 => (.ite (.bind (tk_isWord_2_l ..) fun p3 => (.ite (.bind (tk_isWord_2_l ..) fun p4 => (.ite (.bind (tk_isWord_2_l ..) fun p5 => (.ite (.bind (ps_blank_l ..) fun p6 => (.bind (ps_e_l ..) fun p7 => (.ite (.bind (ps_must_l ..) fun p8 => .cst) .cst))) (ps_statement_b225_l ..))) (ps_statement_b225_l ..))) (.bind (ps_node_l ..) fun p9 => (.bind (ps_good_l ..) fun p10 => (.ite (ps_statement_b163_l ..) (.bind (tk_read_l ..) fun p11 => (ps_statement_b163_l ..))))))) (.bind (ps_node_l ..) fun p12 => (.bind (ps_condition_l ..) fun p13 => (.bind (ps_block_l ..) fun p14 => (.ite .cst .cst)))))) (.bind (ps_node_l ..) fun p15 => (.bind (ps_condition_l ..) fun p16 => (.bind (ps_block_l ..) fun p17 => (.ite (.bind (ps_good_l ..) fun p18 => (.ite .cst (.bind (tk_isWord_2_l ..) fun p19 => (.ite .cst (.bind (tk_read_l ..) fun p20 => (.bind (ps_block_l ..) fun p21 => (.ite .cst .cst))))))) .cst)))))) fun n => (rfl)
theorem ps_statement_b163_e (d : Nat) (σ : gM) (x1 : Int) : ps_statement_b163 d σ x1 =
  ((ps_good σ).bind fun p1 =>
  if p1.2 = 0 then
  (ps_statement_b192 d p1.1 x1)
  else
  ((tk_is p1.1 59).bind fun p2 =>
    if p2.2 = 0 then
    ((ps_e 300 p2.1).bind fun p3 =>
      if 0 ≤ x1 ∧ x1 < 4200 then
      (ps_statement_b192 d (gW p3.1 72 x1 p3.2) x1)
      else none)
    else
    (ps_statement_b192 d p2.1 x1))) := Lm.eqn (ps_statement_b163_l ..) (.bind (ps_good_l ..) fun p1 => (.ite (ps_statement_b192_l ..) (.bind (tk_is_l ..) fun p2 => (.ite (.bind (ps_e_l ..) fun p3 => (.ite (ps_statement_b192_l ..) .cst)) (ps_statement_b192_l ..))))) fun n => (rfl)
theorem ps_statement_b192_e (d : Nat) (σ : gM) (x1 : Int) : ps_statement_b192 d σ x1 =
  ((ps_must σ 59).bind fun p1 =>
  some (p1.1, x1)) := Lm.eqn (ps_statement_b192_l ..) (.bind (ps_must_l ..) fun p1 => .cst) fun n => (rfl)
theorem ps_statement_b225_e (d : Nat) (σ : gM) : ps_statement_b225 d σ =
  ((tk_isWord_2 σ 19).bind fun p1 =>
  if p1.2 = 0 then
  (ps_statement_b245 d p1.1 28)
  else
  (ps_statement_b245 d p1.1 27)) := Lm.eqn (ps_statement_b225_l ..) (.bind (tk_isWord_2_l ..) fun p1 => (.ite (ps_statement_b245_l ..) (ps_statement_b245_l ..))) fun n => (rfl)
theorem ps_statement_b245_e (d : Nat) (σ : gM) (y0 : Int) : ps_statement_b245 d σ y0 =
  ((ps_node σ y0).bind fun p1 =>
  if p1.1 68 22 = 0 then
  ((tk_fails p1.1 5 (p1.1 69 5)).bind fun p2 =>
    ps_statement_b272 d p2.1 p1.2)
  else
  (ps_statement_b272 d p1.1 p1.2)) := Lm.eqn (ps_statement_b245_l ..) (.bind (ps_node_l ..) fun p1 => (.ite (.bind (tk_fails_l ..) fun p2 => (ps_statement_b272_l ..)) (ps_statement_b272_l ..))) fun n => (rfl)
theorem ps_statement_b272_e (d : Nat) (σ : gM) (x1 : Int) : ps_statement_b272 d σ x1 =
  ((ps_good σ).bind fun p1 =>
  if p1.2 = 0 then
  (ps_statement_b286 d p1.1 x1)
  else
  ((tk_read p1.1).bind fun p2 =>
    ps_statement_b286 d p2.1 x1)) := Lm.eqn (ps_statement_b272_l ..) (.bind (ps_good_l ..) fun p1 => (.ite (ps_statement_b286_l ..) (.bind (tk_read_l ..) fun p2 => (ps_statement_b286_l ..)))) fun n => (rfl)
theorem ps_statement_b286_e (d : Nat) (σ : gM) (x1 : Int) : ps_statement_b286 d σ x1 =
  ((ps_must σ 59).bind fun p1 =>
  some (p1.1, x1)) := Lm.eqn (ps_statement_b286_l ..) (.bind (ps_must_l ..) fun p1 => .cst) fun n => (rfl)
theorem ps_block_e (d : Nat) (σ : gM) : ps_block (d + 1) σ =
  ((ps_opens σ 123).bind fun p1 =>
  ps_block_b10 d p1.1 (-1) (-1)) := Lm.eqn (ps_block_l ..) (.bind (ps_opens_l ..) fun p1 => (ps_block_b10_l ..)) fun n => (rfl)
theorem ps_block_b10_e (d : Nat) (σ : gM) (x1 x2 : Int) : ps_block_b10 d σ x1 x2 =
  ((ps_good σ).bind fun p1 =>
  if p1.2 = 0 then
  (ps_block_b55 d p1.1 x1)
  else
  ((tk_is p1.1 125).bind fun p2 =>
    if p2.2 = 0 then
    ((ps_statement d p2.1).bind fun p3 =>
      if x2 < 0 then
      (ps_block_b50 d p3.1 p3.2 p3.2)
      else
      (if 0 ≤ x2 ∧ x2 < 4200 then
        (ps_block_b50 d (gW p3.1 75 x2 p3.2) x1 p3.2)
        else none))
    else
    (ps_block_b55 d p2.1 x1))) := Lm.eqn (ps_block_b10_l ..) (.bind (ps_good_l ..) fun p1 => (.ite (ps_block_b55_l ..) (.bind (tk_is_l ..) fun p2 => (.ite (.bind (ps_statement_l ..) fun p3 => (.ite (ps_block_b50_l ..) (.ite (ps_block_b50_l ..) .cst))) (ps_block_b55_l ..))))) fun n => (rfl)
theorem ps_block_b50_e (d : Nat) (σ : gM) (x1 x3 : Int) : ps_block_b50 d σ x1 x3 =
  (ps_block_b10 d σ x1 x3) := Lm.eqn (ps_block_b50_l ..) (ps_block_b10_l ..) fun n => (rfl)
theorem ps_block_b55_e (d : Nat) (σ : gM) (x1 : Int) : ps_block_b55 d σ x1 =
  ((ps_closes σ 125).bind fun p1 =>
  some (p1.1, x1)) := Lm.eqn (ps_block_b55_l ..) (.bind (ps_closes_l ..) fun p1 => .cst) fun n => (rfl)
def k_ps_resolve : List gC := [(0, 1, .aload_n 0, [], none), (1, 3, .getfield 18, [], none), (4, 1, .iload_n 2, [], none), (5, 1, .iaload, [], none),
  (6, 1, .iconst 5, [], none), (7, 3, .if_icmp .eq 4, [(0, 11)], none), (10, 1, .return_, [], none), (11, 1, .aload_n 0, [], none),
  (12, 1, .iload_n 1, [], none), (13, 1, .aload_n 0, [], none), (14, 3, .getfield 37, [], none), (17, 1, .iload_n 2, [], none),
  (18, 1, .iaload, [], none), (19, 1, .aload_n 0, [], none), (20, 3, .getfield 40, [], none), (23, 1, .iload_n 2, [], none),
  (24, 1, .iaload, [], none), (25, 3, .invokevirtual 164, [], none), (28, 1, .istore_n 3, [], none), (29, 1, .iload_n 3, [], none),
  (30, 3, .ifCond .ge 14, [(0, 44)], none), (33, 1, .aload_n 0, [], none), (34, 3, .getfield 18, [], none), (37, 1, .iload_n 2, [], none),
  (38, 2, .bipush 7, [], none), (40, 1, .iastore, [], none), (41, 3, .goto 10, [(0, 51)], none), (44, 1, .aload_n 0, [], none),
  (45, 3, .getfield 37, [], none), (48, 1, .iload_n 2, [], none), (49, 1, .iload_n 3, [], none), (50, 1, .iastore, [], none),
  (51, 1, .return_, [], none)]
def e_ps_resolve (m : Nat) : gE := (k_ps_resolve, f_ps, c_ps, [(164, 4, 15, 0, .inl (fn_ps_local m))], [], (m, 76738455346631734722560), 5)
theorem ok_ps_resolve : gchk cX7_resolve 4 k_ps_resolve = true := by decide +kernel
def fn_ps_resolve (m : Nat) : gFn := gF (e_ps_resolve m) 4
theorem mo_ps_resolve (m : Nat) : gMo (.inl (fn_ps_resolve m)) := gF_mo (E := e_ps_resolve m) ⟨mo_ps_local m, trivial⟩
noncomputable def ps_resolve (σ : gM) (x1 x2 : Int) : Option (gM × Int) := lim (fun n => fn_ps_resolve 119 n [(2, 68), (0, x1), (0, x2)] σ)
theorem ps_resolve_l (σ : gM) (x1 x2 : Int) : Lm (fun n => fn_ps_resolve 119 n [(2, 68), (0, x1), (0, x2)] σ) (ps_resolve σ x1 x2) := .of fun n => mo_ps_resolve 119 n [(2, 68), (0, x1), (0, x2)] σ
theorem ps_resolve_e (σ : gM) (x1 x2 : Int) : ps_resolve σ x1 x2 =
  (if 0 ≤ x2 ∧ x2 < 4200 then
  (if σ 70 x2 = 5 then
    (if 0 ≤ x2 ∧ x2 < 4200 then
      (if 0 ≤ x2 ∧ x2 < 4200 then
        ((ps_local σ x1 (σ 76 x2) (σ 77 x2)).bind fun p1 =>
          if p1.2 < 0 then
          (if 0 ≤ x2 ∧ x2 < 4200 then
            (some (gW p1.1 70 x2 7, 0))
            else none)
          else
          (if 0 ≤ x2 ∧ x2 < 4200 then
            (some (gW p1.1 76 x2 p1.2, 0))
            else none))
        else none)
      else none)
    else
    (some (σ, 0)))
  else none) := Lm.eqn (ps_resolve_l ..) (.ite (.ite (.ite (.ite (.bind (ps_local_l ..) fun p1 => (.ite (.ite .cst .cst) (.ite .cst .cst))) .cst) .cst) .cst) .cst) fun n => (rfl)
def k_ps_function : List gC := [(0, 1, .aload_n 0, [], none), (1, 3, .getfield 12, [], none), (4, 2, .ldc 132, [], none), (6, 3, .invokevirtual 133, [], none),
  (9, 3, .ifCond .ne 19, [(0, 28)], none), (12, 1, .aload_n 0, [], none), (13, 3, .getfield 12, [], none), (16, 1, .iconst 2, [], none),
  (17, 1, .aload_n 0, [], none), (18, 3, .getfield 12, [], none), (21, 3, .getfield 104, [], none), (24, 3, .invokevirtual 107, [], none),
  (27, 1, .pop, [], none), (28, 1, .aload_n 0, [], some [true, false, false, false]), (29, 3, .invokevirtual 82, [], none), (32, 3, .ifCond .eq 10, [(0, 42)], none),
  (35, 1, .aload_n 0, [], none), (36, 3, .getfield 12, [], none), (39, 3, .invokevirtual 98, [], none), (42, 1, .aload_n 0, [], some [true, false, false, false]),
  (43, 3, .invokevirtual 82, [], none), (46, 3, .ifCond .eq 30, [(0, 76)], none), (49, 1, .aload_n 0, [], none), (50, 3, .getfield 12, [], none),
  (53, 3, .getfield 89, [], none), (56, 1, .iconst 1, [], none), (57, 3, .if_icmp .eq 19, [(0, 76)], none), (60, 1, .aload_n 0, [], none),
  (61, 3, .getfield 12, [], none), (64, 1, .iconst 2, [], none), (65, 1, .aload_n 0, [], none), (66, 3, .getfield 12, [], none),
  (69, 3, .getfield 104, [], none), (72, 3, .invokevirtual 107, [], none), (75, 1, .pop, [], none), (76, 1, .aload_n 0, [], some [true, false, false, false]),
  (77, 3, .invokevirtual 82, [], none), (80, 3, .ifCond .eq 28, [(0, 108)], none), (83, 1, .aload_n 0, [], none), (84, 3, .getfield 75, [], none),
  (87, 2, .bipush 50, [], none), (89, 3, .if_icmp .ne 19, [(0, 108)], none), (92, 1, .aload_n 0, [], none), (93, 3, .getfield 12, [], none),
  (96, 1, .iconst 4, [], none), (97, 1, .aload_n 0, [], none), (98, 3, .getfield 12, [], none), (101, 3, .getfield 104, [], none),
  (104, 3, .invokevirtual 107, [], none), (107, 1, .pop, [], none), (108, 1, .iconst 0, [], some [true, false, false, false]), (109, 1, .istore_n 1, [], none),
  (110, 1, .iload_n 1, [], some [true, true, false, false]), (111, 1, .aload_n 0, [], none), (112, 3, .getfield 75, [], none), (115, 3, .if_icmp .ge 66, [(0, 181)], none),
  (118, 1, .aload_n 0, [], none), (119, 3, .invokevirtual 82, [], none), (122, 3, .ifCond .eq 59, [(0, 181)], none), (125, 1, .aload_n 0, [], none),
  (126, 1, .aload_n 0, [], none), (127, 3, .getfield 47, [], none), (130, 1, .iload_n 1, [], none), (131, 1, .iaload, [], none),
  (132, 1, .aload_n 0, [], none), (133, 3, .getfield 50, [], none), (136, 1, .iload_n 1, [], none), (137, 1, .iaload, [], none),
  (138, 1, .aload_n 0, [], none), (139, 3, .getfield 12, [], none), (142, 3, .getfield 104, [], none), (145, 1, .aload_n 0, [], none),
  (146, 3, .getfield 12, [], none), (149, 3, .getfield 137, [], none), (152, 3, .invokevirtual 140, [], none), (155, 3, .ifCond .eq 20, [(0, 175)], none),
  (158, 1, .aload_n 0, [], none), (159, 3, .getfield 12, [], none), (162, 2, .bipush 6, [], none), (164, 1, .aload_n 0, [], none),
  (165, 3, .getfield 12, [], none), (168, 3, .getfield 104, [], none), (171, 3, .invokevirtual 107, [], none), (174, 1, .pop, [], none),
  (175, 3, .iinc 1 1, [], some [true, true, false, false]), (178, 3, .goto (-68), [(0, 110)], none), (181, 1, .aload_n 0, [], some [true, false, false, false]), (182, 3, .invokevirtual 82, [], none),
  (185, 3, .ifCond .ne 4, [(0, 189)], none), (188, 1, .return_, [], none), (189, 1, .aload_n 0, [], none), (190, 3, .getfield 75, [], none),
  (193, 1, .istore_n 1, [], none), (194, 1, .aload_n 0, [], none), (195, 1, .dup, [], none), (196, 3, .getfield 75, [], none),
  (199, 1, .iconst 1, [], none), (200, 1, .iadd, [], none), (201, 3, .putfield 75, [], none), (204, 1, .aload_n 0, [], none),
  (205, 3, .getfield 47, [], none), (208, 1, .iload_n 1, [], none), (209, 1, .aload_n 0, [], none), (210, 3, .getfield 12, [], none),
  (213, 3, .getfield 104, [], none), (216, 1, .iastore, [], none), (217, 1, .aload_n 0, [], none), (218, 3, .getfield 50, [], none),
  (221, 1, .iload_n 1, [], none), (222, 1, .aload_n 0, [], none), (223, 3, .getfield 12, [], none), (226, 3, .getfield 137, [], none),
  (229, 1, .iastore, [], none), (230, 1, .aload_n 0, [], none), (231, 3, .getfield 53, [], none), (234, 1, .iload_n 1, [], none),
  (235, 1, .aload_n 0, [], none), (236, 3, .getfield 71, [], none), (239, 1, .iastore, [], none), (240, 1, .aload_n 0, [], none),
  (241, 3, .getfield 59, [], none), (244, 1, .iload_n 1, [], none), (245, 1, .iconst 0, [], none), (246, 1, .iastore, [], none),
  (247, 1, .aload_n 0, [], none), (248, 3, .getfield 62, [], none), (251, 1, .iload_n 1, [], none), (252, 1, .iconst 0, [], none),
  (253, 1, .iastore, [], none), (254, 1, .aload_n 0, [], none), (255, 1, .iconst 0, [], none), (256, 3, .putfield 125, [], none),
  (259, 1, .aload_n 0, [], none), (260, 1, .iconst 0, [], none), (261, 3, .putfield 114, [], none), (264, 1, .aload_n 0, [], none),
  (265, 1, .iconst 0, [], none), (266, 3, .putfield 144, [], none), (269, 1, .aload_n 0, [], none), (270, 3, .getfield 12, [], none),
  (273, 3, .invokevirtual 98, [], none), (276, 1, .aload_n 0, [], none), (277, 2, .bipush 40, [], none), (279, 3, .invokevirtual 147, [], none),
  (282, 1, .aload_n 0, [], none), (283, 3, .invokevirtual 82, [], none), (286, 3, .ifCond .eq 19, [(0, 305)], none), (289, 1, .aload_n 0, [], none),
  (290, 3, .getfield 12, [], none), (293, 2, .bipush 41, [], none), (295, 3, .invokevirtual 94, [], none), (298, 3, .ifCond .ne 7, [(0, 305)], none),
  (301, 1, .iconst 1, [], none), (302, 3, .goto 4, [(0, 306)], none), (305, 1, .iconst 0, [], some [true, true, false, false]), (306, 1, .istore_n 2, [], some [true, true, false, false]),
  (307, 1, .iload_n 2, [], some [true, true, true, false]), (308, 3, .ifCond .eq 47, [(0, 355)], none), (311, 1, .aload_n 0, [], none), (312, 1, .iload_n 1, [], none),
  (313, 3, .invokevirtual 150, [], none), (316, 1, .aload_n 0, [], none), (317, 3, .invokevirtual 82, [], none), (320, 3, .ifCond .eq 19, [(0, 339)], none),
  (323, 1, .aload_n 0, [], none), (324, 3, .getfield 12, [], none), (327, 2, .bipush 44, [], none), (329, 3, .invokevirtual 94, [], none),
  (332, 3, .ifCond .eq 7, [(0, 339)], none), (335, 1, .iconst 1, [], none), (336, 3, .goto 4, [(0, 340)], none), (339, 1, .iconst 0, [], some [true, true, false, false]),
  (340, 1, .istore_n 2, [], some [true, true, false, false]), (341, 1, .iload_n 2, [], none), (342, 3, .ifCond .eq (-35), [(0, 307)], none), (345, 1, .aload_n 0, [], none),
  (346, 3, .getfield 12, [], none), (349, 3, .invokevirtual 98, [], none), (352, 3, .goto (-45), [(0, 307)], none), (355, 1, .aload_n 0, [], none),
  (356, 2, .bipush 41, [], none), (358, 3, .invokevirtual 153, [], none), (361, 1, .aload_n 0, [], none), (362, 3, .getfield 56, [], none),
  (365, 1, .iload_n 1, [], none), (366, 1, .aload_n 0, [], none), (367, 3, .invokevirtual 156, [], none), (370, 1, .iastore, [], none),
  (371, 1, .aload_n 0, [], none), (372, 3, .invokevirtual 82, [], none), (375, 3, .ifCond .eq 30, [(0, 405)], none), (378, 1, .aload_n 0, [], none),
  (379, 3, .getfield 53, [], none), (382, 1, .iload_n 1, [], none), (383, 1, .iaload, [], none), (384, 1, .istore_n 3, [], none),
  (385, 1, .iload_n 3, [], some [true, true, false, true]), (386, 1, .aload_n 0, [], none), (387, 3, .getfield 71, [], none), (390, 3, .if_icmp .ge 15, [(0, 405)], none),
  (393, 1, .aload_n 0, [], none), (394, 1, .iload_n 1, [], none), (395, 1, .iload_n 3, [], none), (396, 3, .invokevirtual 160, [], none),
  (399, 3, .iinc 3 1, [], none), (402, 3, .goto (-17), [(0, 385)], none), (405, 1, .return_, [], none)]
def e_ps_function (m : Nat) : gE := (k_ps_function, f_ps, c_ps, [(133, 2, 16, 0, .inl (fn_tk_isWord_2 m)), (107, 3, 16, 0, .inl (fn_tk_fails m)), (82, 1, 15, 0, .inl (fn_ps_good m)), (98, 1, 16, 5, .inl (fn_tk_read m)), (140, 5, 15, 0, .inl (fn_ps_isSame m)), (147, 2, 15, 5, .inl (fn_ps_opens m)), (94, 2, 16, 0, .inl (fn_tk_is m)), (150, 2, 15, 5, .inl (fn_ps_param m)), (153, 2, 15, 5, .inl (fn_ps_closes m)), (156, 1, 15, 0, .inl (rec_ps_block m 60 0)), (160, 3, 15, 5, .inl (fn_ps_resolve m))], [], (m, 19565128167070859484739974150144559808821049521365632487854376382964864932600599634210540976632231346141218348204032), 5)
theorem ok_ps_function : gchk cX7_function 4 k_ps_function = true := by decide +kernel
def fn_ps_function (m : Nat) : gFn := gF (e_ps_function m) 4
theorem mo_ps_function (m : Nat) : gMo (.inl (fn_ps_function m)) := gF_mo (E := e_ps_function m) ⟨mo_tk_isWord_2 m, ⟨mo_tk_fails m, ⟨mo_ps_good m, ⟨mo_tk_read m, ⟨mo_ps_isSame m, ⟨mo_ps_opens m, ⟨mo_tk_is m, ⟨mo_ps_param m, ⟨mo_ps_closes m, ⟨mo_rec_ps_block m 60 0, ⟨mo_ps_resolve m, trivial⟩⟩⟩⟩⟩⟩⟩⟩⟩⟩⟩
noncomputable def ps_function (σ : gM) : Option (gM × Int) := lim (fun n => fn_ps_function 119 n [(2, 68)] σ)
theorem ps_function_l (σ : gM) : Lm (fun n => fn_ps_function 119 n [(2, 68)] σ) (ps_function σ) := .of fun n => mo_ps_function 119 n [(2, 68)] σ
theorem mb_ps_function : gMos (e_ps_function 119).2.2.2.1 := ⟨mo_tk_isWord_2 119, ⟨mo_tk_fails 119, ⟨mo_ps_good 119, ⟨mo_tk_read 119, ⟨mo_ps_isSame 119, ⟨mo_ps_opens 119, ⟨mo_tk_is 119, ⟨mo_ps_param 119, ⟨mo_ps_closes 119, ⟨mo_rec_ps_block 119 60 0, ⟨mo_ps_resolve 119, trivial⟩⟩⟩⟩⟩⟩⟩⟩⟩⟩⟩
noncomputable def ps_function_b28 (σ : gM) : Option (gM × Int) := lim (fun n => gB (e_ps_function 119) rF tF n 28 [(2, 68), (9, 0), (9, 0), (9, 0)] [] σ)
theorem ps_function_b28_l (σ : gM) : Lm (fun n => gB (e_ps_function 119) rF tF n 28 [(2, 68), (9, 0), (9, 0), (9, 0)] [] σ) (ps_function_b28 σ) := .of fun n => gB_le (gMos_spec (mb_ps_function)) n _ _ _ σ
noncomputable def ps_function_b42 (σ : gM) : Option (gM × Int) := lim (fun n => gB (e_ps_function 119) rF tF n 42 [(2, 68), (9, 0), (9, 0), (9, 0)] [] σ)
theorem ps_function_b42_l (σ : gM) : Lm (fun n => gB (e_ps_function 119) rF tF n 42 [(2, 68), (9, 0), (9, 0), (9, 0)] [] σ) (ps_function_b42 σ) := .of fun n => gB_le (gMos_spec (mb_ps_function)) n _ _ _ σ
noncomputable def ps_function_b76 (σ : gM) : Option (gM × Int) := lim (fun n => gB (e_ps_function 119) rF tF n 76 [(2, 68), (9, 0), (9, 0), (9, 0)] [] σ)
theorem ps_function_b76_l (σ : gM) : Lm (fun n => gB (e_ps_function 119) rF tF n 76 [(2, 68), (9, 0), (9, 0), (9, 0)] [] σ) (ps_function_b76 σ) := .of fun n => gB_le (gMos_spec (mb_ps_function)) n _ _ _ σ
noncomputable def ps_function_b108 (σ : gM) : Option (gM × Int) := lim (fun n => gB (e_ps_function 119) rF tF n 108 [(2, 68), (9, 0), (9, 0), (9, 0)] [] σ)
theorem ps_function_b108_l (σ : gM) : Lm (fun n => gB (e_ps_function 119) rF tF n 108 [(2, 68), (9, 0), (9, 0), (9, 0)] [] σ) (ps_function_b108 σ) := .of fun n => gB_le (gMos_spec (mb_ps_function)) n _ _ _ σ
noncomputable def ps_function_b110 (σ : gM) (x1 : Int) : Option (gM × Int) := lim (fun n => gB (e_ps_function 119) rF tF n 110 [(2, 68), (0, x1), (9, 0), (9, 0)] [] σ)
theorem ps_function_b110_l (σ : gM) (x1 : Int) : Lm (fun n => gB (e_ps_function 119) rF tF n 110 [(2, 68), (0, x1), (9, 0), (9, 0)] [] σ) (ps_function_b110 σ x1) := .of fun n => gB_le (gMos_spec (mb_ps_function)) n _ _ _ σ
noncomputable def ps_function_b175 (σ : gM) (x1 : Int) : Option (gM × Int) := lim (fun n => gB (e_ps_function 119) rF tF n 175 [(2, 68), (0, x1), (9, 0), (9, 0)] [] σ)
theorem ps_function_b175_l (σ : gM) (x1 : Int) : Lm (fun n => gB (e_ps_function 119) rF tF n 175 [(2, 68), (0, x1), (9, 0), (9, 0)] [] σ) (ps_function_b175 σ x1) := .of fun n => gB_le (gMos_spec (mb_ps_function)) n _ _ _ σ
noncomputable def ps_function_b181 (σ : gM) : Option (gM × Int) := lim (fun n => gB (e_ps_function 119) rF tF n 181 [(2, 68), (9, 0), (9, 0), (9, 0)] [] σ)
theorem ps_function_b181_l (σ : gM) : Lm (fun n => gB (e_ps_function 119) rF tF n 181 [(2, 68), (9, 0), (9, 0), (9, 0)] [] σ) (ps_function_b181 σ) := .of fun n => gB_le (gMos_spec (mb_ps_function)) n _ _ _ σ
noncomputable def ps_function_b305 (σ : gM) (x1 : Int) : Option (gM × Int) := lim (fun n => gB (e_ps_function 119) rF tF n 305 [(2, 68), (0, x1), (9, 0), (9, 0)] [] σ)
theorem ps_function_b305_l (σ : gM) (x1 : Int) : Lm (fun n => gB (e_ps_function 119) rF tF n 305 [(2, 68), (0, x1), (9, 0), (9, 0)] [] σ) (ps_function_b305 σ x1) := .of fun n => gB_le (gMos_spec (mb_ps_function)) n _ _ _ σ
noncomputable def ps_function_b306 (σ : gM) (x1 y0 : Int) : Option (gM × Int) := lim (fun n => gB (e_ps_function 119) rF tF n 306 [(2, 68), (0, x1), (9, 0), (9, 0)] [(0, y0)] σ)
theorem ps_function_b306_l (σ : gM) (x1 y0 : Int) : Lm (fun n => gB (e_ps_function 119) rF tF n 306 [(2, 68), (0, x1), (9, 0), (9, 0)] [(0, y0)] σ) (ps_function_b306 σ x1 y0) := .of fun n => gB_le (gMos_spec (mb_ps_function)) n _ _ _ σ
noncomputable def ps_function_b307 (σ : gM) (x1 x2 : Int) : Option (gM × Int) := lim (fun n => gB (e_ps_function 119) rF tF n 307 [(2, 68), (0, x1), (0, x2), (9, 0)] [] σ)
theorem ps_function_b307_l (σ : gM) (x1 x2 : Int) : Lm (fun n => gB (e_ps_function 119) rF tF n 307 [(2, 68), (0, x1), (0, x2), (9, 0)] [] σ) (ps_function_b307 σ x1 x2) := .of fun n => gB_le (gMos_spec (mb_ps_function)) n _ _ _ σ
noncomputable def ps_function_b339 (σ : gM) (x1 : Int) : Option (gM × Int) := lim (fun n => gB (e_ps_function 119) rF tF n 339 [(2, 68), (0, x1), (9, 0), (9, 0)] [] σ)
theorem ps_function_b339_l (σ : gM) (x1 : Int) : Lm (fun n => gB (e_ps_function 119) rF tF n 339 [(2, 68), (0, x1), (9, 0), (9, 0)] [] σ) (ps_function_b339 σ x1) := .of fun n => gB_le (gMos_spec (mb_ps_function)) n _ _ _ σ
noncomputable def ps_function_b340 (σ : gM) (x1 y0 : Int) : Option (gM × Int) := lim (fun n => gB (e_ps_function 119) rF tF n 340 [(2, 68), (0, x1), (9, 0), (9, 0)] [(0, y0)] σ)
theorem ps_function_b340_l (σ : gM) (x1 y0 : Int) : Lm (fun n => gB (e_ps_function 119) rF tF n 340 [(2, 68), (0, x1), (9, 0), (9, 0)] [(0, y0)] σ) (ps_function_b340 σ x1 y0) := .of fun n => gB_le (gMos_spec (mb_ps_function)) n _ _ _ σ
noncomputable def ps_function_b385 (σ : gM) (x1 x3 : Int) : Option (gM × Int) := lim (fun n => gB (e_ps_function 119) rF tF n 385 [(2, 68), (0, x1), (9, 0), (0, x3)] [] σ)
theorem ps_function_b385_l (σ : gM) (x1 x3 : Int) : Lm (fun n => gB (e_ps_function 119) rF tF n 385 [(2, 68), (0, x1), (9, 0), (0, x3)] [] σ) (ps_function_b385 σ x1 x3) := .of fun n => gB_le (gMos_spec (mb_ps_function)) n _ _ _ σ
theorem ps_function_e (σ : gM) : ps_function σ =
  ((tk_isWord_2 σ 9).bind fun p1 =>
  if p1.2 = 0 then
  ((tk_fails p1.1 2 (p1.1 69 5)).bind fun p2 =>
    ps_function_b28 p2.1)
  else
  (ps_function_b28 p1.1)) := Lm.eqn (ps_function_l ..) (.bind (tk_isWord_2_l ..) fun p1 => (.ite (.bind (tk_fails_l ..) fun p2 => (ps_function_b28_l ..)) (ps_function_b28_l ..))) fun n => (rfl)
theorem ps_function_b28_e (σ : gM) : ps_function_b28 σ =
  ((ps_good σ).bind fun p1 =>
  if p1.2 = 0 then
  (ps_function_b42 p1.1)
  else
  ((tk_read p1.1).bind fun p2 =>
    ps_function_b42 p2.1)) := Lm.eqn (ps_function_b28_l ..) (.bind (ps_good_l ..) fun p1 => (.ite (ps_function_b42_l ..) (.bind (tk_read_l ..) fun p2 => (ps_function_b42_l ..)))) fun n => (rfl)
theorem ps_function_b42_e (σ : gM) : ps_function_b42 σ =
  ((ps_good σ).bind fun p1 =>
  if p1.2 = 0 then
  (ps_function_b76 p1.1)
  else
  (if p1.1 69 4 = 1 then
    (ps_function_b76 p1.1)
    else
    ((tk_fails p1.1 2 (p1.1 69 5)).bind fun p2 =>
      ps_function_b76 p2.1))) := Lm.eqn (ps_function_b42_l ..) (.bind (ps_good_l ..) fun p1 => (.ite (ps_function_b76_l ..) (.ite (ps_function_b76_l ..) (.bind (tk_fails_l ..) fun p2 => (ps_function_b76_l ..))))) fun n => (rfl)
theorem ps_function_b76_e (σ : gM) : ps_function_b76 σ =
  ((ps_good σ).bind fun p1 =>
  if p1.2 = 0 then
  (ps_function_b108 p1.1)
  else
  (if p1.1 68 19 = 50 then
    ((tk_fails p1.1 4 (p1.1 69 5)).bind fun p2 =>
      ps_function_b108 p2.1)
    else
    (ps_function_b108 p1.1))) := Lm.eqn (ps_function_b76_l ..) (.bind (ps_good_l ..) fun p1 => (.ite (ps_function_b108_l ..) (.ite (.bind (tk_fails_l ..) fun p2 => (ps_function_b108_l ..)) (ps_function_b108_l ..)))) fun n => (rfl)
theorem ps_function_b108_e (σ : gM) : ps_function_b108 σ =
  (ps_function_b110 σ 0) := Lm.eqn (ps_function_b108_l ..) (ps_function_b110_l ..) fun n => (rfl)
theorem ps_function_b110_e (σ : gM) (x1 : Int) : ps_function_b110 σ x1 =
  (if x1 < σ 68 19 then
  ((ps_good σ).bind fun p1 =>
    if p1.2 = 0 then
    (ps_function_b181 p1.1)
    else
    (if 0 ≤ x1 ∧ x1 < 50 then
      (if 0 ≤ x1 ∧ x1 < 50 then
        ((ps_isSame p1.1 (p1.1 79 x1) (p1.1 80 x1) (p1.1 69 5) (p1.1 69 6)).bind fun p2 =>
          if p2.2 = 0 then
          (ps_function_b175 p2.1 x1)
          else
          ((tk_fails p2.1 6 (p2.1 69 5)).bind fun p3 =>
            ps_function_b175 p3.1 x1))
        else none)
      else none))
  else
  (ps_function_b181 σ)) := Lm.eqn (ps_function_b110_l ..) (.ite (.bind (ps_good_l ..) fun p1 => (.ite (ps_function_b181_l ..) (.ite (.ite (.bind (ps_isSame_l ..) fun p2 => (.ite (ps_function_b175_l ..) (.bind (tk_fails_l ..) fun p3 => (ps_function_b175_l ..)))) .cst) .cst))) (ps_function_b181_l ..)) fun n => (rfl)
theorem ps_function_b175_e (σ : gM) (x1 : Int) : ps_function_b175 σ x1 =
  (ps_function_b110 σ (w32 (x1 + 1))) := Lm.eqn (ps_function_b175_l ..) (ps_function_b110_l ..) fun n => (rfl)
theorem ps_function_b181_e (σ : gM) : ps_function_b181 σ =
  ((ps_good σ).bind fun p1 =>
  if p1.2 = 0 then
  (some (p1.1, 0))
  else
  (if 0 ≤ p1.1 68 19 ∧ p1.1 68 19 < 50 then
    (if 0 ≤ p1.1 68 19 ∧ p1.1 68 19 < 50 then
      (if 0 ≤ p1.1 68 19 ∧ p1.1 68 19 < 50 then
        (if 0 ≤ p1.1 68 19 ∧ p1.1 68 19 < 50 then
          (if 0 ≤ p1.1 68 19 ∧ p1.1 68 19 < 50 then
            ((tk_read (gW (gW (gW (gW (gW (gW (gW (gW (gW p1.1 68 19 (w32 ((p1.1 68 19) + 1))) 79 (p1.1 68 19) (p1.1 69 5)) 80 (p1.1 68 19) (p1.1 69 6)) 81 (p1.1 68 19) (p1.1 68 10)) 83 (p1.1 68 19) 0) 84 (p1.1 68 19) 0) 68 20 0) 68 21 0) 68 22 0)).bind fun p2 =>
              (ps_opens p2.1 40).bind fun p3 =>
              (ps_good p3.1).bind fun p4 =>
              if p4.2 = 0 then
              (ps_function_b305 p4.1 (p1.1 68 19))
              else
              ((tk_is p4.1 41).bind fun p5 =>
                if p5.2 = 0 then
                (ps_function_b306 p5.1 (p1.1 68 19) 1)
                else
                (ps_function_b305 p5.1 (p1.1 68 19))))
            else none)
          else none)
        else none)
      else none)
    else none)) := Lm.eqn (ps_function_b181_l ..) (.bind (ps_good_l ..) fun p1 => (.ite .cst (.ite (.ite (.ite (.ite (.ite (.bind (tk_read_l ..) fun p2 => (.bind (ps_opens_l ..) fun p3 => (.bind (ps_good_l ..) fun p4 => (.ite (ps_function_b305_l ..) (.bind (tk_is_l ..) fun p5 => (.ite (ps_function_b306_l ..) (ps_function_b305_l ..))))))) .cst) .cst) .cst) .cst) .cst))) fun n => (rfl)
theorem ps_function_b305_e (σ : gM) (x1 : Int) : ps_function_b305 σ x1 =
  (ps_function_b306 σ x1 0) := Lm.eqn (ps_function_b305_l ..) (ps_function_b306_l ..) fun n => (rfl)
theorem ps_function_b306_e (σ : gM) (x1 y0 : Int) : ps_function_b306 σ x1 y0 =
  (ps_function_b307 σ x1 y0) := Lm.eqn (ps_function_b306_l ..) (ps_function_b307_l ..) fun n => (rfl)
theorem ps_function_b307_e (σ : gM) (x1 x2 : Int) : ps_function_b307 σ x1 x2 =
  (if x2 = 0 then
  ((ps_closes σ 41).bind fun p1 =>
    (ps_block 60 p1.1).bind fun p2 =>
    if 0 ≤ x1 ∧ x1 < 50 then
    ((ps_good (gW p2.1 82 x1 p2.2)).bind fun p3 =>
      if p3.2 = 0 then
      (some (p3.1, 0))
      else
      (if 0 ≤ x1 ∧ x1 < 50 then
        (ps_function_b385 p3.1 x1 (p3.1 81 x1))
        else none))
    else none)
  else
  ((ps_param σ x1).bind fun p4 =>
    (ps_good p4.1).bind fun p5 =>
    if p5.2 = 0 then
    (ps_function_b339 p5.1 x1)
    else
    ((tk_is p5.1 44).bind fun p6 =>
      if p6.2 = 0 then
      (ps_function_b339 p6.1 x1)
      else
      (ps_function_b340 p6.1 x1 1)))) := Lm.eqn (ps_function_b307_l ..) (.ite (.bind (ps_closes_l ..) fun p1 => (.bind (ps_block_l ..) fun p2 => (.ite (.bind (ps_good_l ..) fun p3 => (.ite .cst (.ite (ps_function_b385_l ..) .cst))) .cst))) (.bind (ps_param_l ..) fun p4 => (.bind (ps_good_l ..) fun p5 => (.ite (ps_function_b339_l ..) (.bind (tk_is_l ..) fun p6 => (.ite (ps_function_b339_l ..) (ps_function_b340_l ..))))))) fun n => (rfl)
theorem ps_function_b339_e (σ : gM) (x1 : Int) : ps_function_b339 σ x1 =
  (ps_function_b340 σ x1 0) := Lm.eqn (ps_function_b339_l ..) (ps_function_b340_l ..) fun n => (rfl)
theorem ps_function_b340_e (σ : gM) (x1 y0 : Int) : ps_function_b340 σ x1 y0 =
  (if y0 = 0 then
  (ps_function_b307 σ x1 y0)
  else
  ((tk_read σ).bind fun p1 =>
    ps_function_b307 p1.1 x1 y0)) := Lm.eqn (ps_function_b340_l ..) (.ite (ps_function_b307_l ..) (.bind (tk_read_l ..) fun p1 => (ps_function_b307_l ..))) fun n => (rfl)
theorem ps_function_b385_e (σ : gM) (x1 x3 : Int) : ps_function_b385 σ x1 x3 =
  (if x3 < σ 68 10 then
  ((ps_resolve σ x1 x3).bind fun p1 =>
    ps_function_b385 p1.1 x1 (w32 (x3 + 1)))
  else
  (some (σ, 0))) := Lm.eqn (ps_function_b385_l ..) (.ite (.bind (ps_resolve_l ..) fun p1 => (ps_function_b385_l ..)) .cst) fun n => (rfl)
def k_ps_read : List gC := [(0, 1, .aload_n 0, [], none), (1, 1, .iconst 0, [], none), (2, 3, .putfield 71, [], none), (5, 1, .aload_n 0, [], none),
  (6, 1, .iconst 0, [], none), (7, 3, .putfield 75, [], none), (10, 1, .aload_n 0, [], none), (11, 3, .getfield 12, [], none),
  (14, 1, .aload_n 1, [], none), (15, 1, .iload_n 2, [], none), (16, 1, .iload_n 3, [], none), (17, 3, .invokevirtual 78, [], none),
  (20, 1, .iconst 1, [], none), (21, 2, .istore 4, [], none), (23, 2, .iload 4, [], some [true, false, false, false, true]), (25, 3, .ifCond .eq 34, [(0, 59)], none),
  (28, 1, .aload_n 0, [], none), (29, 3, .invokevirtual 82, [], none), (32, 3, .ifCond .eq 27, [(0, 59)], none), (35, 1, .aload_n 0, [], none),
  (36, 3, .invokevirtual 86, [], none), (39, 1, .aload_n 0, [], none), (40, 3, .getfield 12, [], none), (43, 3, .getfield 89, [], none),
  (46, 3, .ifCond .eq 7, [(0, 53)], none), (49, 1, .iconst 1, [], none), (50, 3, .goto 4, [(0, 54)], none), (53, 1, .iconst 0, [], none),
  (54, 2, .istore 4, [], some [true, false, false, false, false]), (56, 3, .goto (-33), [(0, 23)], none), (59, 1, .aload_n 0, [], some [true, false, false, false, false]), (60, 3, .invokevirtual 82, [], none),
  (63, 1, .ireturn, [], none)]
def e_ps_read (m : Nat) : gE := (k_ps_read, f_ps, c_ps, [(78, 4, 16, 5, .inl (fn_tk_begin m)), (82, 1, 15, 0, .inl (fn_ps_good m)), (86, 1, 15, 5, .inl (fn_ps_function m))], [], (m, 19699802992937442177360068525486847551318880661450231182520215276436407926936771740792523331995607522647881627467776), 6)
theorem ok_ps_read : gchk cX7_read 5 k_ps_read = true := by decide +kernel
def fn_ps_read (m : Nat) : gFn := gF (e_ps_read m) 5
theorem mo_ps_read (m : Nat) : gMo (.inl (fn_ps_read m)) := gF_mo (E := e_ps_read m) ⟨mo_tk_begin m, ⟨mo_ps_good m, ⟨mo_ps_function m, trivial⟩⟩⟩
noncomputable def ps_read (σ : gM) (x1 x2 x3 : Int) : Option (gM × Int) := lim (fun n => fn_ps_read 119 n [(2, 68), (2, x1), (0, x2), (0, x3)] σ)
theorem ps_read_l (σ : gM) (x1 x2 x3 : Int) : Lm (fun n => fn_ps_read 119 n [(2, 68), (2, x1), (0, x2), (0, x3)] σ) (ps_read σ x1 x2 x3) := .of fun n => mo_ps_read 119 n [(2, 68), (2, x1), (0, x2), (0, x3)] σ
theorem mb_ps_read : gMos (e_ps_read 119).2.2.2.1 := ⟨mo_tk_begin 119, ⟨mo_ps_good 119, ⟨mo_ps_function 119, trivial⟩⟩⟩
noncomputable def ps_read_b23 (σ : gM) (x4 : Int) : Option (gM × Int) := lim (fun n => gB (e_ps_read 119) rF tF n 23 [(2, 68), (9, 0), (9, 0), (9, 0), (0, x4)] [] σ)
theorem ps_read_b23_l (σ : gM) (x4 : Int) : Lm (fun n => gB (e_ps_read 119) rF tF n 23 [(2, 68), (9, 0), (9, 0), (9, 0), (0, x4)] [] σ) (ps_read_b23 σ x4) := .of fun n => gB_le (gMos_spec (mb_ps_read)) n _ _ _ σ
noncomputable def ps_read_b54 (σ : gM) (y0 : Int) : Option (gM × Int) := lim (fun n => gB (e_ps_read 119) rF tF n 54 [(2, 68), (9, 0), (9, 0), (9, 0), (9, 0)] [(0, y0)] σ)
theorem ps_read_b54_l (σ : gM) (y0 : Int) : Lm (fun n => gB (e_ps_read 119) rF tF n 54 [(2, 68), (9, 0), (9, 0), (9, 0), (9, 0)] [(0, y0)] σ) (ps_read_b54 σ y0) := .of fun n => gB_le (gMos_spec (mb_ps_read)) n _ _ _ σ
noncomputable def ps_read_b59 (σ : gM) : Option (gM × Int) := lim (fun n => gB (e_ps_read 119) rF tF n 59 [(2, 68), (9, 0), (9, 0), (9, 0), (9, 0)] [] σ)
theorem ps_read_b59_l (σ : gM) : Lm (fun n => gB (e_ps_read 119) rF tF n 59 [(2, 68), (9, 0), (9, 0), (9, 0), (9, 0)] [] σ) (ps_read_b59 σ) := .of fun n => gB_le (gMos_spec (mb_ps_read)) n _ _ _ σ
theorem ps_read_e (σ : gM) (x1 x2 x3 : Int) : ps_read σ x1 x2 x3 =
  ((tk_begin (gW (gW σ 68 10 0) 68 19 0) x1 x2 x3).bind fun p1 =>
  ps_read_b23 p1.1 1) := Lm.eqn (ps_read_l ..) (.bind (tk_begin_l ..) fun p1 => (ps_read_b23_l ..)) fun n => (rfl)
theorem ps_read_b23_e (σ : gM) (x4 : Int) : ps_read_b23 σ x4 =
  (if x4 = 0 then
  (ps_read_b59 σ)
  else
  ((ps_good σ).bind fun p1 =>
    if p1.2 = 0 then
    (ps_read_b59 p1.1)
    else
    ((ps_function p1.1).bind fun p2 =>
      if p2.1 69 4 = 0 then
      (ps_read_b54 p2.1 0)
      else
      (ps_read_b54 p2.1 1)))) := Lm.eqn (ps_read_b23_l ..) (.ite (ps_read_b59_l ..) (.bind (ps_good_l ..) fun p1 => (.ite (ps_read_b59_l ..) (.bind (ps_function_l ..) fun p2 => (.ite (ps_read_b54_l ..) (ps_read_b54_l ..)))))) fun n => (rfl)
theorem ps_read_b54_e (σ : gM) (y0 : Int) : ps_read_b54 σ y0 =
  (ps_read_b23 σ y0) := Lm.eqn (ps_read_b54_l ..) (ps_read_b23_l ..) fun n => (rfl)
theorem ps_read_b59_e (σ : gM) : ps_read_b59 σ =
  ((ps_good σ).bind fun p1 =>
  g01 p1.2 (some (p1.1, p1.2))) := Lm.eqn (ps_read_b59_l ..) (.bind (ps_good_l ..) fun p1 => .cst) fun n => (rfl)
