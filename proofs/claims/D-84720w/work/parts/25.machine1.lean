set_option maxRecDepth 100000
def f_mc : List (Nat × Nat × Int × Nat) := [(11, 17, 6, 2), (15, 17, 7, 2), (19, 17, 9, 2), (22, 17, 10, 2), (25, 17, 11, 2), (28, 17, 12, 2), (31, 17, 13, 2), (34, 17, 14, 2), (37, 17, 15, 2), (41, 17, 16, 2), (44, 17, 17, 2), (47, 17, 18, 2), (50, 17, 28, 2), (53, 17, 29, 2), (56, 17, 30, 2), (59, 17, 32, 2), (63, 17, 33, 2), (69, 17, 43, 2), (73, 17, 44, 2), (76, 17, 45, 2), (79, 17, 46, 2), (82, 17, 0, 2), (86, 17, 1, 2), (90, 17, 2, 2), (94, 17, 3, 2), (98, 17, 4, 2), (102, 17, 5, 8), (109, 17, 36, 0), (112, 17, 37, 0), (115, 17, 38, 0), (118, 17, 39, 0), (121, 17, 40, 0), (124, 17, 41, 0), (127, 17, 42, 0), (130, 17, 23, 0), (133, 17, 19, 0), (136, 17, 20, 0), (139, 17, 24, 0), (142, 17, 31, 0), (145, 17, 34, 0), (148, 17, 25, 0), (151, 17, 35, 0), (159, 17, 8, 0), (162, 11, 20, 2), (184, 11, 13, 2), (187, 17, 22, 0), (190, 11, 15, 2), (206, 17, 21, 0), (209, 17, 26, 0), (212, 11, 21, 2), (215, 17, 27, 0), (218, 11, 8, 2), (221, 11, 9, 2), (257, 11, 14, 2), (263, 11, 3, 2), (268, 14, 7, 2), (273, 11, 4, 2), (276, 14, 17, 2), (280, 14, 9, 2), (283, 14, 8, 2), (285, 14, 6, 2), (290, 11, 29, 2), (296, 11, 23, 2), (307, 11, 1, 2), (310, 11, 5, 2), (312, 11, 30, 2), (315, 11, 6, 2), (317, 11, 18, 2), (331, 11, 10, 2), (337, 11, 11, 2), (343, 13, 4, 2), (353, 11, 26, 2), (356, 11, 25, 2), (369, 10, 0, 2), (372, 10, 11, 0), (378, 11, 40, 2), (387, 10, 1, 2), (388, 10, 2, 2), (396, 11, 31, 0), (399, 15, 19, 0), (431, 11, 17, 2), (445, 12, 0, 0), (470, 13, 5, 2), (481, 17, 47, 1)]
def c_mc : List (Nat × gV) := [(279, 0, 64000), (421, 3, 11), (423, 3, 12), (429, 3, 5), (434, 3, 22), (491, 1, (-9223372036854775808)), (493, 1, (-1))]
def k_mc_none : List gC := [(0, 1, .aload_n 0, [], none), (1, 1, .iconst 0, [], none), (2, 3, .putfield 130, [], none), (5, 1, .aload_n 0, [], none),
  (6, 1, .iconst 0, [], none), (7, 3, .putfield 133, [], none), (10, 1, .aload_n 0, [], none), (11, 1, .iconst 0, [], none),
  (12, 3, .putfield 136, [], none), (15, 1, .aload_n 0, [], none), (16, 1, .iconst 0, [], none), (17, 3, .putfield 139, [], none),
  (20, 1, .aload_n 0, [], none), (21, 1, .iconst 0, [], none), (22, 3, .putfield 142, [], none), (25, 1, .aload_n 0, [], none),
  (26, 1, .iconst 0, [], none), (27, 3, .putfield 145, [], none), (30, 1, .aload_n 0, [], none), (31, 1, .iconst 0, [], none),
  (32, 3, .putfield 148, [], none), (35, 1, .aload_n 0, [], none), (36, 1, .iconst 0, [], none), (37, 3, .putfield 145, [], none),
  (40, 1, .aload_n 0, [], none), (41, 1, .iconst 0, [], none), (42, 3, .putfield 151, [], none), (45, 1, .aload_n 0, [], none),
  (46, 3, .getfield 82, [], none), (49, 3, .invokevirtual 154, [], none), (52, 1, .return_, [], none)]
def e_mc_none (m : Nat) : gE := (k_mc_none, f_mc, c_mc, [(154, 1, 10, 5, .inl (fn_hp_begin m))], [], (m, 1058877385008317736274306215671555049187639159186117884356516937449108293617672164896059338030292382804674945060690508403179520), 5)
theorem ok_mc_none : gchk cX9_none 1 k_mc_none = true := by decide +kernel
def fn_mc_none (m : Nat) : gFn := gF (e_mc_none m) 1
theorem mo_mc_none (m : Nat) : gMo (.inl (fn_mc_none m)) := gF_mo (E := e_mc_none m) ⟨mo_hp_begin m, trivial⟩
noncomputable def mc_none (σ : gM) : Option (gM × Int) := lim (fun n => fn_mc_none 119 n [(2, 87)] σ)
theorem mc_none_l (σ : gM) : Lm (fun n => fn_mc_none 119 n [(2, 87)] σ) (mc_none σ) := .of fun n => mo_mc_none 119 n [(2, 87)] σ
theorem mc_none_e (σ : gM) : mc_none σ =
  ((hp_begin (gW (gW (gW (gW (gW (gW (gW (gW (gW σ 87 23 0) 87 19 0) 87 20 0) 87 24 0) 87 31 0) 87 34 0) 87 25 0) 87 34 0) 87 35 0)).bind fun p1 =>
  some (p1.1, 0)) := Lm.eqn (mc_none_l ..) (.bind (hp_begin_l ..) fun p1 => .cst) fun n => (rfl)
def k_mc_clear : List gC := [(0, 1, .aload_n 0, [], none), (1, 3, .invokevirtual 106, [], none), (4, 1, .aload_n 0, [], none), (5, 1, .iconst 0, [], none),
  (6, 3, .putfield 109, [], none), (9, 1, .aload_n 0, [], none), (10, 1, .iconst 0, [], none), (11, 3, .putfield 112, [], none),
  (14, 1, .aload_n 0, [], none), (15, 1, .iconst 0, [], none), (16, 3, .putfield 115, [], none), (19, 1, .aload_n 0, [], none),
  (20, 1, .iconst 0, [], none), (21, 3, .putfield 118, [], none), (24, 1, .aload_n 0, [], none), (25, 1, .iconst 0, [], none),
  (26, 3, .putfield 121, [], none), (29, 1, .aload_n 0, [], none), (30, 1, .iconst 0, [], none), (31, 3, .putfield 124, [], none),
  (34, 1, .aload_n 0, [], none), (35, 1, .iconst 0, [], none), (36, 3, .putfield 127, [], none), (39, 1, .return_, [], none)]
def e_mc_clear (m : Nat) : gE := (k_mc_clear, f_mc, c_mc, [(106, 1, 17, 5, .inl (fn_mc_none m))], [], (m, 172996890643476817329271670173763171424396383579463805895416529993140956971017307968644472216558479110523758827921165909906948096), 5)
theorem ok_mc_clear : gchk cX9_clear 1 k_mc_clear = true := by decide +kernel
def fn_mc_clear (m : Nat) : gFn := gF (e_mc_clear m) 1
theorem mo_mc_clear (m : Nat) : gMo (.inl (fn_mc_clear m)) := gF_mo (E := e_mc_clear m) ⟨mo_mc_none m, trivial⟩
noncomputable def mc_clear (σ : gM) : Option (gM × Int) := lim (fun n => fn_mc_clear 119 n [(2, 87)] σ)
theorem mc_clear_l (σ : gM) : Lm (fun n => fn_mc_clear 119 n [(2, 87)] σ) (mc_clear σ) := .of fun n => mo_mc_clear 119 n [(2, 87)] σ
theorem mc_clear_e (σ : gM) : mc_clear σ =
  ((mc_none σ).bind fun p1 =>
  some (gW (gW (gW (gW (gW (gW (gW p1.1 87 36 0) 87 37 0) 87 38 0) 87 39 0) 87 40 0) 87 41 0) 87 42 0, 0)) := Lm.eqn (mc_clear_l ..) (.bind (mc_none_l ..) fun p1 => .cst) fun n => (rfl)
def k_mc_push : List gC := [(0, 1, .aload_n 0, [], none), (1, 3, .getfield 11, [], none), (4, 1, .aload_n 0, [], none), (5, 3, .getfield 159, [], none),
  (8, 1, .iload_n 1, [], none), (9, 1, .iastore, [], none), (10, 1, .aload_n 0, [], none), (11, 3, .getfield 15, [], none),
  (14, 1, .aload_n 0, [], none), (15, 3, .getfield 159, [], none), (18, 1, .lload_n 2, [], none), (19, 1, .lastore, [], none),
  (20, 1, .aload_n 0, [], none), (21, 1, .dup, [], none), (22, 3, .getfield 159, [], none), (25, 1, .iconst 1, [], none),
  (26, 1, .iadd, [], none), (27, 3, .putfield 159, [], none), (30, 1, .return_, [], none)]
def e_mc_push (m : Nat) : gE := (k_mc_push, f_mc, c_mc, [], [], (m, 5043456793138493339171717132818382567050206626619577173497381555743452386751642958261026081553724231487283588933615616), 5)
theorem ok_mc_push : gchk cX9_push 4 k_mc_push = true := by decide +kernel
def fn_mc_push (m : Nat) : gFn := gF (e_mc_push m) 4
theorem mo_mc_push (m : Nat) : gMo (.inl (fn_mc_push m)) := gF_mo (E := e_mc_push m) trivial
noncomputable def mc_push (σ : gM) (x1 x2 : Int) : Option (gM × Int) := lim (fun n => fn_mc_push 119 n [(2, 87), (0, x1), (1, x2)] σ)
theorem mc_push_l (σ : gM) (x1 x2 : Int) : Lm (fun n => fn_mc_push 119 n [(2, 87), (0, x1), (1, x2)] σ) (mc_push σ x1 x2) := .of fun n => mo_mc_push 119 n [(2, 87), (0, x1), (1, x2)] σ
theorem mc_push_e (σ : gM) (x1 x2 : Int) : mc_push σ x1 x2 =
  (if 0 ≤ σ 87 8 ∧ σ 87 8 < 18240 then
  (if 0 ≤ σ 87 8 ∧ σ 87 8 < 18240 then
    (some (gW (gW (gW σ 88 (σ 87 8) x1) 89 (σ 87 8) x2) 87 8 (w32 ((σ 87 8) + 1)), 0))
    else none)
  else none) := Lm.eqn (mc_push_l ..) (.ite (.ite .cst .cst) .cst) fun n => (rfl)
def k_mc_enters : List gC := [(0, 1, .aload_n 0, [], none), (1, 3, .getfield 28, [], none), (4, 1, .aload_n 0, [], none), (5, 3, .getfield 206, [], none),
  (8, 1, .iload_n 1, [], none), (9, 1, .iastore, [], none), (10, 1, .aload_n 0, [], none), (11, 3, .getfield 31, [], none),
  (14, 1, .aload_n 0, [], none), (15, 3, .getfield 206, [], none), (18, 1, .iconst 0, [], none), (19, 1, .iastore, [], none),
  (20, 1, .aload_n 0, [], none), (21, 3, .getfield 94, [], none), (24, 3, .getfield 285, [], none), (27, 1, .iload_n 1, [], none),
  (28, 1, .aload_n 0, [], none), (29, 3, .getfield 94, [], none), (32, 3, .getfield 285, [], none), (35, 1, .iload_n 1, [], none),
  (36, 1, .iaload, [], none), (37, 3, .invokestatic 171, [], none), (40, 1, .iastore, [], none), (41, 1, .aload_n 0, [], none),
  (42, 1, .aload_n 0, [], none), (43, 3, .getfield 112, [], none), (46, 3, .invokestatic 171, [], none), (49, 3, .putfield 112, [], none),
  (52, 1, .return_, [], none)]
def e_mc_enters (m : Nat) : gE := (k_mc_enters, f_mc, c_mc, [(171, 1, 0, 0, .inl (fn_cd_more m))], [], (m, 2707685248164858261307045101702230179137145581421695874189921465443966120903931272499975005961073836446294547591852649344925696), 5)
theorem ok_mc_enters : gchk cX9_enters 2 k_mc_enters = true := by decide +kernel
def fn_mc_enters (m : Nat) : gFn := gF (e_mc_enters m) 2
theorem mo_mc_enters (m : Nat) : gMo (.inl (fn_mc_enters m)) := gF_mo (E := e_mc_enters m) ⟨mo_cd_more m, trivial⟩
noncomputable def mc_enters (σ : gM) (x1 : Int) : Option (gM × Int) := lim (fun n => fn_mc_enters 119 n [(2, 87), (0, x1)] σ)
theorem mc_enters_l (σ : gM) (x1 : Int) : Lm (fun n => fn_mc_enters 119 n [(2, 87), (0, x1)] σ) (mc_enters σ x1) := .of fun n => mo_mc_enters 119 n [(2, 87), (0, x1)] σ
theorem mc_enters_e (σ : gM) (x1 : Int) : mc_enters σ x1 =
  (if 0 ≤ σ 87 21 ∧ σ 87 21 < 60 then
  (if 0 ≤ σ 87 21 ∧ σ 87 21 < 60 then
    (if 0 ≤ x1 ∧ x1 < 100 then
      ((cd_more (gW (gW σ 93 (σ 87 21) x1) 94 (σ 87 21) 0) (σ 58 x1)).bind fun p1 =>
        if 0 ≤ x1 ∧ x1 < 100 then
        ((cd_more (gW p1.1 58 x1 p1.2) (p1.1 87 37)).bind fun p2 =>
          some (gW p2.1 87 37 p2.2, 0))
        else none)
      else none)
    else none)
  else none) := Lm.eqn (mc_enters_l ..) (.ite (.ite (.ite (.bind (cd_more_l ..) fun p1 => (.ite (.bind (cd_more_l ..) fun p2 => .cst) .cst)) .cst) .cst) .cst) fun n => (rfl)
def k_mc_leaves : List gC := [(0, 1, .aload_n 0, [], none), (1, 3, .getfield 34, [], none), (4, 1, .aload_n 0, [], none), (5, 3, .getfield 206, [], none),
  (8, 1, .iaload, [], none), (9, 1, .istore_n 1, [], none), (10, 1, .iload_n 1, [], none), (11, 1, .istore_n 2, [], none),
  (12, 1, .iload_n 2, [], some [true, false, true]), (13, 1, .aload_n 0, [], none), (14, 3, .getfield 133, [], none), (17, 3, .if_icmp .ge 92, [(0, 109)], none),
  (20, 1, .iload_n 2, [], none), (21, 1, .aload_n 0, [], none), (22, 3, .getfield 206, [], none), (25, 3, .if_icmp .ne 26, [(0, 51)], none),
  (28, 1, .aload_n 0, [], none), (29, 1, .aload_n 0, [], none), (30, 3, .getfield 94, [], none), (33, 3, .getfield 276, [], none),
  (36, 1, .aload_n 0, [], none), (37, 3, .getfield 187, [], none), (40, 3, .ldc_w 279, [], none), (43, 1, .isub, [], none),
  (44, 1, .iaload, [], none), (45, 3, .putfield 187, [], none), (48, 3, .goto 27, [(0, 75)], none), (51, 1, .aload_n 0, [], none),
  (52, 3, .getfield 22, [], none), (55, 1, .iload_n 2, [], none), (56, 1, .aload_n 0, [], none), (57, 3, .getfield 94, [], none),
  (60, 3, .getfield 276, [], none), (63, 1, .aload_n 0, [], none), (64, 3, .getfield 22, [], none), (67, 1, .iload_n 2, [], none),
  (68, 1, .iaload, [], none), (69, 3, .ldc_w 279, [], none), (72, 1, .isub, [], none), (73, 1, .iaload, [], none),
  (74, 1, .iastore, [], none), (75, 1, .aload_n 0, [], some [true, false, true]), (76, 3, .getfield 28, [], none), (79, 1, .iload_n 2, [], none),
  (80, 1, .iconst (-1), [], none), (81, 1, .iastore, [], none), (82, 1, .aload_n 0, [], none), (83, 3, .getfield 31, [], none),
  (86, 1, .iload_n 2, [], none), (87, 1, .iconst (-1), [], none), (88, 1, .iastore, [], none), (89, 1, .aload_n 0, [], none),
  (90, 3, .getfield 37, [], none), (93, 1, .iload_n 2, [], none), (94, 1, .iconst 0, [], none), (95, 1, .bastore, [], none),
  (96, 1, .aload_n 0, [], none), (97, 3, .getfield 34, [], none), (100, 1, .iload_n 2, [], none), (101, 1, .iload_n 2, [], none),
  (102, 1, .iastore, [], none), (103, 3, .iinc 2 1, [], none), (106, 3, .goto (-94), [(0, 12)], none), (109, 1, .return_, [], none)]
def e_mc_leaves (m : Nat) : gE := (k_mc_leaves, f_mc, c_mc, [], [], (m, 82631996098781074868989413504096379978550585370535152410581099409300723904538918228148651305115439290741717896665612943360), 5)
theorem ok_mc_leaves : gchk cX9_leaves 3 k_mc_leaves = true := by decide +kernel
def fn_mc_leaves (m : Nat) : gFn := gF (e_mc_leaves m) 3
theorem mo_mc_leaves (m : Nat) : gMo (.inl (fn_mc_leaves m)) := gF_mo (E := e_mc_leaves m) trivial
noncomputable def mc_leaves (σ : gM) : Option (gM × Int) := lim (fun n => fn_mc_leaves 119 n [(2, 87)] σ)
theorem mc_leaves_l (σ : gM) : Lm (fun n => fn_mc_leaves 119 n [(2, 87)] σ) (mc_leaves σ) := .of fun n => mo_mc_leaves 119 n [(2, 87)] σ
theorem mb_mc_leaves : gMos (e_mc_leaves 119).2.2.2.1 := trivial
noncomputable def mc_leaves_b12 (σ : gM) (x2 : Int) : Option (gM × Int) := lim (fun n => gB (e_mc_leaves 119) rF tF n 12 [(2, 87), (9, 0), (0, x2)] [] σ)
theorem mc_leaves_b12_l (σ : gM) (x2 : Int) : Lm (fun n => gB (e_mc_leaves 119) rF tF n 12 [(2, 87), (9, 0), (0, x2)] [] σ) (mc_leaves_b12 σ x2) := .of fun n => gB_le (gMos_spec (mb_mc_leaves)) n _ _ _ σ
noncomputable def mc_leaves_b75 (σ : gM) (x2 : Int) : Option (gM × Int) := lim (fun n => gB (e_mc_leaves 119) rF tF n 75 [(2, 87), (9, 0), (0, x2)] [] σ)
theorem mc_leaves_b75_l (σ : gM) (x2 : Int) : Lm (fun n => gB (e_mc_leaves 119) rF tF n 75 [(2, 87), (9, 0), (0, x2)] [] σ) (mc_leaves_b75 σ x2) := .of fun n => gB_le (gMos_spec (mb_mc_leaves)) n _ _ _ σ
theorem mc_leaves_e (σ : gM) : mc_leaves σ =
  (if 0 ≤ σ 87 21 ∧ σ 87 21 < 60 then
  (mc_leaves_b12 σ (σ 95 (σ 87 21)))
  else none) := Lm.eqn (mc_leaves_l ..) (.ite (mc_leaves_b12_l ..) .cst) fun n => (rfl)
theorem mc_leaves_b12_e (σ : gM) (x2 : Int) : mc_leaves_b12 σ x2 =
  (if x2 < σ 87 19 then
  (if x2 = σ 87 21 then
    (if 0 ≤ w32 ((σ 87 22) - 64000) ∧ w32 ((σ 87 22) - 64000) < 100000 then
      (mc_leaves_b75 (gW σ 87 22 (σ 66 (w32 ((σ 87 22) - 64000)))) x2)
      else none)
    else
    (if 0 ≤ x2 ∧ x2 < 60 then
      (if 0 ≤ w32 ((σ 91 x2) - 64000) ∧ w32 ((σ 91 x2) - 64000) < 100000 then
        (if 0 ≤ x2 ∧ x2 < 60 then
          (mc_leaves_b75 (gW σ 91 x2 (σ 66 (w32 ((σ 91 x2) - 64000)))) x2)
          else none)
        else none)
      else none))
  else
  (some (σ, 0))) := Lm.eqn (mc_leaves_b12_l ..) (.ite (.ite (.ite (mc_leaves_b75_l ..) .cst) (.ite (.ite (.ite (mc_leaves_b75_l ..) .cst) .cst) .cst)) .cst) fun n => (rfl)
theorem mc_leaves_b75_e (σ : gM) (x2 : Int) : mc_leaves_b75 σ x2 =
  (if 0 ≤ x2 ∧ x2 < 60 then
  (if 0 ≤ x2 ∧ x2 < 60 then
    (if 0 ≤ x2 ∧ x2 < 60 then
      (if 0 ≤ x2 ∧ x2 < 60 then
        (mc_leaves_b12 (gW (gW (gW (gW σ 93 x2 (-1)) 94 x2 (-1)) 96 x2 0) 95 x2 x2) (w32 (x2 + 1)))
        else none)
      else none)
    else none)
  else none) := Lm.eqn (mc_leaves_b75_l ..) (.ite (.ite (.ite (.ite (mc_leaves_b12_l ..) .cst) .cst) .cst) .cst) fun n => (rfl)
def k_mc_changed : List gC := [(0, 1, .aload_n 0, [], none), (1, 3, .getfield 28, [], none), (4, 1, .aload_n 0, [], none), (5, 3, .getfield 206, [], none),
  (8, 1, .iaload, [], none), (9, 3, .ifCond .lt 38, [(0, 47)], none), (12, 1, .aload_n 0, [], none), (13, 1, .dup, [], none),
  (14, 3, .getfield 115, [], none), (17, 1, .iconst 1, [], none), (18, 1, .iadd, [], none), (19, 3, .putfield 115, [], none),
  (22, 1, .aload_n 0, [], none), (23, 3, .getfield 94, [], none), (26, 3, .getfield 268, [], none), (29, 1, .aload_n 0, [], none),
  (30, 3, .getfield 28, [], none), (33, 1, .aload_n 0, [], none), (34, 3, .getfield 206, [], none), (37, 1, .iaload, [], none),
  (38, 1, .dup2, [], none), (39, 1, .iaload, [], none), (40, 1, .iconst 1, [], none), (41, 1, .iadd, [], none),
  (42, 1, .iastore, [], none), (43, 1, .aload_n 0, [], none), (44, 3, .invokevirtual 270, [], none), (47, 1, .aload_n 0, [], some [true, true]),
  (48, 3, .getfield 86, [], none), (51, 3, .getfield 273, [], none), (54, 1, .iload_n 1, [], none), (55, 1, .dup2, [], none),
  (56, 1, .iaload, [], none), (57, 1, .iconst 1, [], none), (58, 1, .iadd, [], none), (59, 1, .iastore, [], none),
  (60, 1, .aload_n 0, [], none), (61, 1, .dup, [], none), (62, 3, .getfield 109, [], none), (65, 1, .iconst 1, [], none),
  (66, 1, .iadd, [], none), (67, 3, .putfield 109, [], none), (70, 1, .aload_n 0, [], none), (71, 3, .getfield 94, [], none),
  (74, 1, .aload_n 0, [], none), (75, 3, .getfield 19, [], none), (78, 1, .aload_n 0, [], none), (79, 3, .getfield 206, [], none),
  (82, 1, .iaload, [], none), (83, 3, .invokevirtual 275, [], none), (86, 1, .return_, [], none)]
def e_mc_changed (m : Nat) : gE := (k_mc_changed, f_mc, c_mc, [(270, 1, 17, 5, .inl (fn_mc_leaves m)), (275, 2, 14, 5, .inl (fn_cd_changed m))], [], (m, 6769295752408244434342481743669079544222842504139610220627214244709324602983732720168165663553989632278624755736439637640482816), 5)
theorem ok_mc_changed : gchk cX9_changed 2 k_mc_changed = true := by decide +kernel
def fn_mc_changed (m : Nat) : gFn := gF (e_mc_changed m) 2
theorem mo_mc_changed (m : Nat) : gMo (.inl (fn_mc_changed m)) := gF_mo (E := e_mc_changed m) ⟨mo_mc_leaves m, ⟨mo_cd_changed m, trivial⟩⟩
noncomputable def mc_changed (σ : gM) (x1 : Int) : Option (gM × Int) := lim (fun n => fn_mc_changed 119 n [(2, 87), (0, x1)] σ)
theorem mc_changed_l (σ : gM) (x1 : Int) : Lm (fun n => fn_mc_changed 119 n [(2, 87), (0, x1)] σ) (mc_changed σ x1) := .of fun n => mo_mc_changed 119 n [(2, 87), (0, x1)] σ
theorem mb_mc_changed : gMos (e_mc_changed 119).2.2.2.1 := ⟨mo_mc_leaves 119, ⟨mo_cd_changed 119, trivial⟩⟩
noncomputable def mc_changed_b47 (σ : gM) (x1 : Int) : Option (gM × Int) := lim (fun n => gB (e_mc_changed 119) rF tF n 47 [(2, 87), (0, x1)] [] σ)
theorem mc_changed_b47_l (σ : gM) (x1 : Int) : Lm (fun n => gB (e_mc_changed 119) rF tF n 47 [(2, 87), (0, x1)] [] σ) (mc_changed_b47 σ x1) := .of fun n => gB_le (gMos_spec (mb_mc_changed)) n _ _ _ σ
theorem mc_changed_e (σ : gM) (x1 : Int) : mc_changed σ x1 =
  (if 0 ≤ σ 87 21 ∧ σ 87 21 < 60 then
  (if σ 93 (σ 87 21) < 0 then
    (mc_changed_b47 σ x1)
    else
    (if 0 ≤ σ 87 21 ∧ σ 87 21 < 60 then
      (if 0 ≤ σ 93 (σ 87 21) ∧ σ 93 (σ 87 21) < 100 then
        (if 0 ≤ σ 93 (σ 87 21) ∧ σ 93 (σ 87 21) < 100 then
          ((mc_leaves (gW (gW σ 87 38 (w32 ((σ 87 38) + 1))) 59 (σ 93 (σ 87 21)) (w32 ((σ 59 (σ 93 (σ 87 21))) + 1)))).bind fun p1 =>
            mc_changed_b47 p1.1 x1)
          else none)
        else none)
      else none))
  else none) := Lm.eqn (mc_changed_l ..) (.ite (.ite (mc_changed_b47_l ..) (.ite (.ite (.ite (.bind (mc_leaves_l ..) fun p1 => (mc_changed_b47_l ..)) .cst) .cst) .cst)) .cst) fun n => (rfl)
theorem mc_changed_b47_e (σ : gM) (x1 : Int) : mc_changed_b47 σ x1 =
  (if 0 ≤ x1 ∧ x1 < 16000 then
  (if 0 ≤ x1 ∧ x1 < 16000 then
    (if 0 ≤ σ 87 21 ∧ σ 87 21 < 60 then
      ((cd_changed (gW (gW σ 12 x1 (w32 ((σ 12 x1) + 1))) 87 36 (w32 ((σ 87 36) + 1))) (σ 90 (σ 87 21))).bind fun p1 =>
        some (p1.1, 0))
      else none)
    else none)
  else none) := Lm.eqn (mc_changed_b47_l ..) (.ite (.ite (.ite (.bind (cd_changed_l ..) fun p1 => .cst) .cst) .cst) .cst) fun n => (rfl)
def k_mc_changes : List gC := [(0, 1, .aload_n 0, [], none), (1, 3, .getfield 86, [], none), (4, 3, .getfield 263, [], none), (7, 1, .iload_n 1, [], none),
  (8, 1, .iload_n 2, [], none), (9, 1, .iastore, [], none), (10, 1, .aload_n 0, [], none), (11, 1, .iload_n 1, [], none),
  (12, 3, .invokevirtual 265, [], none), (15, 1, .return_, [], none)]
def e_mc_changes (m : Nat) : gE := (k_mc_changes, f_mc, c_mc, [(265, 2, 17, 5, .inl (fn_mc_changed m))], [], (m, 6769295752408244434342481743669079544222842504139610220627214244709324602983732720168165663553989632278624755736439637640484864), 5)
theorem ok_mc_changes : gchk cX9_changes 3 k_mc_changes = true := by decide +kernel
def fn_mc_changes (m : Nat) : gFn := gF (e_mc_changes m) 3
theorem mo_mc_changes (m : Nat) : gMo (.inl (fn_mc_changes m)) := gF_mo (E := e_mc_changes m) ⟨mo_mc_changed m, trivial⟩
noncomputable def mc_changes (σ : gM) (x1 x2 : Int) : Option (gM × Int) := lim (fun n => fn_mc_changes 119 n [(2, 87), (0, x1), (0, x2)] σ)
theorem mc_changes_l (σ : gM) (x1 x2 : Int) : Lm (fun n => fn_mc_changes 119 n [(2, 87), (0, x1), (0, x2)] σ) (mc_changes σ x1 x2) := .of fun n => mo_mc_changes 119 n [(2, 87), (0, x1), (0, x2)] σ
theorem mc_changes_e (σ : gM) (x1 x2 : Int) : mc_changes σ x1 x2 =
  (if 0 ≤ x1 ∧ x1 < 16000 then
  ((mc_changed (gW σ 11 x1 x2) x1).bind fun p1 =>
    some (p1.1, 0))
  else none) := Lm.eqn (mc_changes_l ..) (.ite (.bind (mc_changed_l ..) fun p1 => .cst) .cst) fun n => (rfl)
def k_mc_write : List gC := [(0, 1, .aload_n 0, [], none), (1, 3, .getfield 86, [], none), (4, 3, .getfield 310, [], none), (7, 1, .iload_n 1, [], none),
  (8, 1, .iaload, [], none), (9, 2, .istore 5, [], none), (11, 2, .bipush 12, [], none), (13, 1, .aload_n 0, [], none),
  (14, 3, .getfield 19, [], none), (17, 1, .aload_n 0, [], none), (18, 3, .getfield 206, [], none), (21, 1, .iaload, [], none),
  (22, 1, .imul, [], none), (23, 2, .iload 5, [], none), (25, 1, .iadd, [], none), (26, 2, .istore 6, [], none),
  (28, 1, .aload_n 0, [], none), (29, 3, .getfield 86, [], none), (32, 3, .getfield 263, [], none), (35, 1, .iload_n 1, [], none),
  (36, 1, .iaload, [], none), (37, 2, .istore 7, [], none), (39, 2, .iload 7, [], none), (41, 1, .iconst 4, [], none),
  (42, 3, .if_icmp .ne 7, [(0, 49)], none), (45, 1, .iconst 4, [], none), (46, 3, .goto 21, [(0, 67)], none), (49, 1, .iload_n 2, [], none),
  (50, 3, .ifCond .ne 7, [(0, 57)], none), (53, 1, .iconst 1, [], none), (54, 3, .goto 13, [(0, 67)], none), (57, 1, .iload_n 2, [], none),
  (58, 1, .iconst 3, [], none), (59, 3, .if_icmp .ne 7, [(0, 66)], none), (62, 1, .iconst 2, [], none), (63, 3, .goto 4, [(0, 67)], none),
  (66, 1, .iconst 4, [], none), (67, 2, .istore 8, [], some [true, true, true, true, false, true, true, true, false, false]), (69, 2, .iload 8, [], none), (71, 1, .iconst 4, [], none),
  (72, 3, .if_icmp .ge 42, [(0, 114)], none), (75, 1, .aload_n 0, [], none), (76, 3, .getfield 86, [], none), (79, 3, .getfield 312, [], none),
  (82, 2, .iload 6, [], none), (84, 1, .iaload, [], none), (85, 2, .iload 8, [], none), (87, 3, .if_icmp .eq 27, [(0, 114)], none),
  (90, 2, .iload 7, [], none), (92, 2, .iload 8, [], none), (94, 1, .iand, [], none), (95, 3, .ifCond .ne 16, [(0, 111)], none),
  (98, 1, .aload_n 0, [], none), (99, 3, .getfield 86, [], none), (102, 3, .getfield 312, [], none), (105, 2, .iload 6, [], none),
  (107, 1, .iaload, [], none), (108, 3, .ifCond .eq 6, [(0, 114)], none), (111, 1, .iconst 4, [], some [true, true, true, true, false, true, true, true, false, false]), (112, 2, .istore 8, [], none),
  (114, 2, .iload 7, [], some [true, true, true, true, false, true, true, true, true, false]), (116, 2, .iload 8, [], none), (118, 1, .iand, [], none), (119, 3, .ifCond .ne 45, [(0, 164)], none),
  (122, 1, .aload_n 0, [], none), (123, 3, .getfield 86, [], none), (126, 3, .getfield 312, [], none), (129, 2, .iload 6, [], none),
  (131, 2, .iload 8, [], none), (133, 1, .iconst 4, [], none), (134, 3, .if_icmp .ne 7, [(0, 141)], none), (137, 1, .iconst 3, [], none),
  (138, 3, .goto 5, [(0, 143)], none), (141, 2, .iload 8, [], none), (143, 1, .iastore, [], some [true, true, true, true, false, true, false, true, true, false]), (144, 1, .aload_n 0, [], none),
  (145, 1, .iload_n 1, [], none), (146, 2, .iload 8, [], none), (148, 1, .iconst 4, [], none), (149, 3, .if_icmp .ne 7, [(0, 156)], none),
  (152, 1, .iconst 4, [], none), (153, 3, .goto 8, [(0, 161)], none), (156, 2, .iload 7, [], none), (158, 2, .iload 8, [], none),
  (160, 1, .ior, [], none), (161, 3, .invokevirtual 305, [], some [true, false, true, true, false, true, false, false, true, false]), (164, 2, .bipush 12, [], some [true, false, true, true, false, true, false, false, true, false]), (166, 1, .aload_n 0, [], none),
  (167, 3, .getfield 206, [], none), (170, 1, .imul, [], none), (171, 2, .iload 5, [], none), (173, 1, .iadd, [], none),
  (174, 2, .istore 9, [], none), (176, 1, .aload_n 0, [], none), (177, 3, .getfield 44, [], none), (180, 2, .iload 9, [], none),
  (182, 2, .iload 8, [], none), (184, 1, .iconst 4, [], none), (185, 3, .if_icmp .ne 7, [(0, 192)], none), (188, 1, .iconst 3, [], none),
  (189, 3, .goto 5, [(0, 194)], none), (192, 2, .iload 8, [], none), (194, 1, .iastore, [], some [true, false, true, true, false, false, false, false, false, true]), (195, 1, .aload_n 0, [], none),
  (196, 3, .getfield 41, [], none), (199, 2, .iload 9, [], none), (201, 1, .iload_n 2, [], none), (202, 1, .iastore, [], none),
  (203, 1, .aload_n 0, [], none), (204, 3, .getfield 47, [], none), (207, 2, .iload 9, [], none), (209, 1, .lload_n 3, [], none),
  (210, 1, .lastore, [], none), (211, 1, .return_, [], none)]
def e_mc_write (m : Nat) : gE := (k_mc_write, f_mc, c_mc, [(305, 3, 17, 5, .inl (fn_mc_changes m))], [], (m, 6769295752408244434342481743669079544222842504139610220627214244709324602983732720168165663553990741472899955437165981615527936), 5)
theorem ok_mc_write : gchk cX9_write 10 k_mc_write = true := by decide +kernel
def fn_mc_write (m : Nat) : gFn := gF (e_mc_write m) 10
theorem mo_mc_write (m : Nat) : gMo (.inl (fn_mc_write m)) := gF_mo (E := e_mc_write m) ⟨mo_mc_changes m, trivial⟩
noncomputable def mc_write (σ : gM) (x1 x2 x3 : Int) : Option (gM × Int) := lim (fun n => fn_mc_write 119 n [(2, 87), (0, x1), (0, x2), (1, x3)] σ)
theorem mc_write_l (σ : gM) (x1 x2 x3 : Int) : Lm (fun n => fn_mc_write 119 n [(2, 87), (0, x1), (0, x2), (1, x3)] σ) (mc_write σ x1 x2 x3) := .of fun n => mo_mc_write 119 n [(2, 87), (0, x1), (0, x2), (1, x3)] σ
theorem mb_mc_write : gMos (e_mc_write 119).2.2.2.1 := ⟨mo_mc_changes 119, trivial⟩
noncomputable def mc_write_b67 (σ : gM) (x1 x2 x3 x5 x6 x7 y0 : Int) : Option (gM × Int) := lim (fun n => gB (e_mc_write 119) rF tF n 67 [(2, 87), (0, x1), (0, x2), (1, x3), (9, 0), (0, x5), (0, x6), (0, x7), (9, 0), (9, 0)] [(0, y0)] σ)
theorem mc_write_b67_l (σ : gM) (x1 x2 x3 x5 x6 x7 y0 : Int) : Lm (fun n => gB (e_mc_write 119) rF tF n 67 [(2, 87), (0, x1), (0, x2), (1, x3), (9, 0), (0, x5), (0, x6), (0, x7), (9, 0), (9, 0)] [(0, y0)] σ) (mc_write_b67 σ x1 x2 x3 x5 x6 x7 y0) := .of fun n => gB_le (gMos_spec (mb_mc_write)) n _ _ _ σ
noncomputable def mc_write_b111 (σ : gM) (x1 x2 x3 x5 x6 x7 : Int) : Option (gM × Int) := lim (fun n => gB (e_mc_write 119) rF tF n 111 [(2, 87), (0, x1), (0, x2), (1, x3), (9, 0), (0, x5), (0, x6), (0, x7), (9, 0), (9, 0)] [] σ)
theorem mc_write_b111_l (σ : gM) (x1 x2 x3 x5 x6 x7 : Int) : Lm (fun n => gB (e_mc_write 119) rF tF n 111 [(2, 87), (0, x1), (0, x2), (1, x3), (9, 0), (0, x5), (0, x6), (0, x7), (9, 0), (9, 0)] [] σ) (mc_write_b111 σ x1 x2 x3 x5 x6 x7) := .of fun n => gB_le (gMos_spec (mb_mc_write)) n _ _ _ σ
noncomputable def mc_write_b114 (σ : gM) (x1 x2 x3 x5 x6 x7 x8 : Int) : Option (gM × Int) := lim (fun n => gB (e_mc_write 119) rF tF n 114 [(2, 87), (0, x1), (0, x2), (1, x3), (9, 0), (0, x5), (0, x6), (0, x7), (0, x8), (9, 0)] [] σ)
theorem mc_write_b114_l (σ : gM) (x1 x2 x3 x5 x6 x7 x8 : Int) : Lm (fun n => gB (e_mc_write 119) rF tF n 114 [(2, 87), (0, x1), (0, x2), (1, x3), (9, 0), (0, x5), (0, x6), (0, x7), (0, x8), (9, 0)] [] σ) (mc_write_b114 σ x1 x2 x3 x5 x6 x7 x8) := .of fun n => gB_le (gMos_spec (mb_mc_write)) n _ _ _ σ
noncomputable def mc_write_b143 (σ : gM) (x1 x2 x3 x5 x7 x8 y0 y1 : Int) : Option (gM × Int) := lim (fun n => gB (e_mc_write 119) rF tF n 143 [(2, 87), (0, x1), (0, x2), (1, x3), (9, 0), (0, x5), (9, 0), (0, x7), (0, x8), (9, 0)] [(0, y0), (0, y1), (2, 35)] σ)
theorem mc_write_b143_l (σ : gM) (x1 x2 x3 x5 x7 x8 y0 y1 : Int) : Lm (fun n => gB (e_mc_write 119) rF tF n 143 [(2, 87), (0, x1), (0, x2), (1, x3), (9, 0), (0, x5), (9, 0), (0, x7), (0, x8), (9, 0)] [(0, y0), (0, y1), (2, 35)] σ) (mc_write_b143 σ x1 x2 x3 x5 x7 x8 y0 y1) := .of fun n => gB_le (gMos_spec (mb_mc_write)) n _ _ _ σ
noncomputable def mc_write_b161 (σ : gM) (x2 x3 x5 x8 y0 y1 : Int) : Option (gM × Int) := lim (fun n => gB (e_mc_write 119) rF tF n 161 [(2, 87), (9, 0), (0, x2), (1, x3), (9, 0), (0, x5), (9, 0), (9, 0), (0, x8), (9, 0)] [(0, y0), (0, y1), (2, 87)] σ)
theorem mc_write_b161_l (σ : gM) (x2 x3 x5 x8 y0 y1 : Int) : Lm (fun n => gB (e_mc_write 119) rF tF n 161 [(2, 87), (9, 0), (0, x2), (1, x3), (9, 0), (0, x5), (9, 0), (9, 0), (0, x8), (9, 0)] [(0, y0), (0, y1), (2, 87)] σ) (mc_write_b161 σ x2 x3 x5 x8 y0 y1) := .of fun n => gB_le (gMos_spec (mb_mc_write)) n _ _ _ σ
noncomputable def mc_write_b164 (σ : gM) (x2 x3 x5 x8 : Int) : Option (gM × Int) := lim (fun n => gB (e_mc_write 119) rF tF n 164 [(2, 87), (9, 0), (0, x2), (1, x3), (9, 0), (0, x5), (9, 0), (9, 0), (0, x8), (9, 0)] [] σ)
theorem mc_write_b164_l (σ : gM) (x2 x3 x5 x8 : Int) : Lm (fun n => gB (e_mc_write 119) rF tF n 164 [(2, 87), (9, 0), (0, x2), (1, x3), (9, 0), (0, x5), (9, 0), (9, 0), (0, x8), (9, 0)] [] σ) (mc_write_b164 σ x2 x3 x5 x8) := .of fun n => gB_le (gMos_spec (mb_mc_write)) n _ _ _ σ
noncomputable def mc_write_b194 (σ : gM) (x2 x3 x9 y0 y1 : Int) : Option (gM × Int) := lim (fun n => gB (e_mc_write 119) rF tF n 194 [(2, 87), (9, 0), (0, x2), (1, x3), (9, 0), (9, 0), (9, 0), (9, 0), (9, 0), (0, x9)] [(0, y0), (0, y1), (2, 98)] σ)
theorem mc_write_b194_l (σ : gM) (x2 x3 x9 y0 y1 : Int) : Lm (fun n => gB (e_mc_write 119) rF tF n 194 [(2, 87), (9, 0), (0, x2), (1, x3), (9, 0), (9, 0), (9, 0), (9, 0), (9, 0), (0, x9)] [(0, y0), (0, y1), (2, 98)] σ) (mc_write_b194 σ x2 x3 x9 y0 y1) := .of fun n => gB_le (gMos_spec (mb_mc_write)) n _ _ _ σ
theorem mc_write_e (σ : gM) (x1 x2 x3 : Int) : mc_write σ x1 x2 x3 =
  (if 0 ≤ x1 ∧ x1 < 16000 then
  (if 0 ≤ σ 87 21 ∧ σ 87 21 < 60 then
    (if 0 ≤ x1 ∧ x1 < 16000 then
      (if σ 11 x1 = 4 then
        (mc_write_b67 σ x1 x2 x3 (σ 13 x1) (w32 ((w32 (12 * (σ 90 (σ 87 21)))) + (σ 13 x1))) (σ 11 x1) 4)
        else
        (if x2 = 0 then
          (mc_write_b67 σ x1 x2 x3 (σ 13 x1) (w32 ((w32 (12 * (σ 90 (σ 87 21)))) + (σ 13 x1))) (σ 11 x1) 1)
          else
          (if x2 = 3 then
            (mc_write_b67 σ x1 x2 x3 (σ 13 x1) (w32 ((w32 (12 * (σ 90 (σ 87 21)))) + (σ 13 x1))) (σ 11 x1) 2)
            else
            (mc_write_b67 σ x1 x2 x3 (σ 13 x1) (w32 ((w32 (12 * (σ 90 (σ 87 21)))) + (σ 13 x1))) (σ 11 x1) 4))))
      else none)
    else none)
  else none) := Lm.eqn (mc_write_l ..) (.ite (.ite (.ite (.ite (mc_write_b67_l ..) (.ite (mc_write_b67_l ..) (.ite (mc_write_b67_l ..) (mc_write_b67_l ..)))) .cst) .cst) .cst) fun n => (rfl)
theorem mc_write_b67_e (σ : gM) (x1 x2 x3 x5 x6 x7 y0 : Int) : mc_write_b67 σ x1 x2 x3 x5 x6 x7 y0 =
  (if y0 < 4 then
  (if 0 ≤ x6 ∧ x6 < 720 then
    (if σ 35 x6 = y0 then
      (mc_write_b114 σ x1 x2 x3 x5 x6 x7 y0)
      else
      (if i_and x7 y0 = 0 then
        (if 0 ≤ x6 ∧ x6 < 720 then
          (if σ 35 x6 = 0 then
            (mc_write_b114 σ x1 x2 x3 x5 x6 x7 y0)
            else
            (mc_write_b111 σ x1 x2 x3 x5 x6 x7))
          else none)
        else
        (mc_write_b111 σ x1 x2 x3 x5 x6 x7)))
    else none)
  else
  (mc_write_b114 σ x1 x2 x3 x5 x6 x7 y0)) := Lm.eqn (mc_write_b67_l ..) (.ite (.ite (.ite (mc_write_b114_l ..) (.ite (.ite (.ite (mc_write_b114_l ..) (mc_write_b111_l ..)) .cst) (mc_write_b111_l ..))) .cst) (mc_write_b114_l ..)) fun n => (rfl)
theorem mc_write_b111_e (σ : gM) (x1 x2 x3 x5 x6 x7 : Int) : mc_write_b111 σ x1 x2 x3 x5 x6 x7 =
  (mc_write_b114 σ x1 x2 x3 x5 x6 x7 4) := Lm.eqn (mc_write_b111_l ..) (mc_write_b114_l ..) fun n => (rfl)
theorem mc_write_b114_e (σ : gM) (x1 x2 x3 x5 x6 x7 x8 : Int) : mc_write_b114 σ x1 x2 x3 x5 x6 x7 x8 =
  (if i_and x7 x8 = 0 then
  (if x8 = 4 then
    (mc_write_b143 σ x1 x2 x3 x5 x7 x8 3 x6)
    else
    (mc_write_b143 σ x1 x2 x3 x5 x7 x8 x8 x6))
  else
  (mc_write_b164 σ x2 x3 x5 x8)) := Lm.eqn (mc_write_b114_l ..) (.ite (.ite (mc_write_b143_l ..) (mc_write_b143_l ..)) (mc_write_b164_l ..)) fun n => (rfl)
theorem mc_write_b143_e (σ : gM) (x1 x2 x3 x5 x7 x8 y0 y1 : Int) : mc_write_b143 σ x1 x2 x3 x5 x7 x8 y0 y1 =
  (if 0 ≤ y1 ∧ y1 < 720 then
  (if x8 = 4 then
    (mc_write_b161 (gW σ 35 y1 y0) x2 x3 x5 x8 4 x1)
    else
    (mc_write_b161 (gW σ 35 y1 y0) x2 x3 x5 x8 (i_or x7 x8) x1))
  else none) := Lm.eqn (mc_write_b143_l ..) (.ite (.ite (mc_write_b161_l ..) (mc_write_b161_l ..)) .cst) fun n => (rfl)
theorem mc_write_b161_e (σ : gM) (x2 x3 x5 x8 y0 y1 : Int) : mc_write_b161 σ x2 x3 x5 x8 y0 y1 =
  ((mc_changes σ y1 y0).bind fun p1 =>
  mc_write_b164 p1.1 x2 x3 x5 x8) := Lm.eqn (mc_write_b161_l ..) (.bind (mc_changes_l ..) fun p1 => (mc_write_b164_l ..)) fun n => (rfl)
theorem mc_write_b164_e (σ : gM) (x2 x3 x5 x8 : Int) : mc_write_b164 σ x2 x3 x5 x8 =
  (if x8 = 4 then
  (mc_write_b194 σ x2 x3 (w32 ((w32 (12 * (σ 87 21))) + x5)) 3 (w32 ((w32 (12 * (σ 87 21))) + x5)))
  else
  (mc_write_b194 σ x2 x3 (w32 ((w32 (12 * (σ 87 21))) + x5)) x8 (w32 ((w32 (12 * (σ 87 21))) + x5)))) := Lm.eqn (mc_write_b164_l ..) (.ite (mc_write_b194_l ..) (mc_write_b194_l ..)) fun n => (rfl)
theorem mc_write_b194_e (σ : gM) (x2 x3 x9 y0 y1 : Int) : mc_write_b194 σ x2 x3 x9 y0 y1 =
  (if 0 ≤ y1 ∧ y1 < 720 then
  (if 0 ≤ x9 ∧ x9 < 720 then
    (if 0 ≤ x9 ∧ x9 < 720 then
      (some (gW (gW (gW σ 98 y1 y0) 97 x9 x2) 99 x9 x3, 0))
      else none)
    else none)
  else none) := Lm.eqn (mc_write_b194_l ..) (.ite (.ite (.ite .cst .cst) .cst) .cst) fun n => (rfl)
def k_mc_activate : List gC := [(0, 1, .aload_n 0, [], none), (1, 3, .getfield 133, [], none), (4, 2, .istore 5, [], none), (6, 1, .aload_n 0, [], none),
  (7, 3, .getfield 206, [], none), (10, 2, .istore 6, [], none), (12, 1, .aload_n 0, [], none), (13, 1, .dup, [], none),
  (14, 3, .getfield 133, [], none), (17, 1, .iconst 1, [], none), (18, 1, .iadd, [], none), (19, 3, .putfield 133, [], none),
  (22, 1, .aload_n 0, [], none), (23, 1, .aload_n 0, [], none), (24, 3, .getfield 136, [], none), (27, 1, .aload_n 0, [], none),
  (28, 3, .getfield 133, [], none), (31, 3, .invokestatic 348, [], none), (34, 3, .putfield 136, [], none), (37, 1, .aload_n 0, [], none),
  (38, 3, .getfield 19, [], none), (41, 2, .iload 5, [], none), (43, 1, .iload_n 1, [], none), (44, 1, .iastore, [], none),
  (45, 1, .aload_n 0, [], none), (46, 3, .getfield 25, [], none), (49, 2, .iload 5, [], none), (51, 1, .iload_n 2, [], none),
  (52, 1, .iastore, [], none), (53, 1, .aload_n 0, [], none), (54, 3, .getfield 28, [], none), (57, 2, .iload 5, [], none),
  (59, 1, .iconst (-1), [], none), (60, 1, .iastore, [], none), (61, 1, .aload_n 0, [], none), (62, 3, .getfield 31, [], none),
  (65, 2, .iload 5, [], none), (67, 1, .iconst (-1), [], none), (68, 1, .iastore, [], none), (69, 1, .aload_n 0, [], none),
  (70, 3, .getfield 34, [], none), (73, 2, .iload 5, [], none), (75, 2, .iload 5, [], none), (77, 1, .iastore, [], none),
  (78, 1, .aload_n 0, [], none), (79, 3, .getfield 37, [], none), (82, 2, .iload 5, [], none), (84, 1, .iconst 0, [], none),
  (85, 1, .bastore, [], none), (86, 1, .iconst 0, [], none), (87, 2, .istore 7, [], none), (89, 2, .iload 7, [], some [true, true, true, true, true, true, true, true]),
  (91, 1, .aload_n 0, [], none), (92, 3, .getfield 86, [], none), (95, 3, .getfield 353, [], none), (98, 1, .iload_n 1, [], none),
  (99, 1, .iaload, [], none), (100, 3, .if_icmp .ge 51, [(0, 151)], none), (103, 1, .aload_n 0, [], none), (104, 3, .getfield 41, [], none),
  (107, 2, .bipush 12, [], none), (109, 2, .iload 5, [], none), (111, 1, .imul, [], none), (112, 2, .iload 7, [], none),
  (114, 1, .iadd, [], none), (115, 1, .iconst 4, [], none), (116, 1, .iastore, [], none), (117, 1, .aload_n 0, [], none),
  (118, 3, .getfield 47, [], none), (121, 2, .bipush 12, [], none), (123, 2, .iload 5, [], none), (125, 1, .imul, [], none),
  (126, 2, .iload 7, [], none), (128, 1, .iadd, [], none), (129, 1, .lconst 0, [], none), (130, 1, .lastore, [], none),
  (131, 1, .aload_n 0, [], none), (132, 3, .getfield 44, [], none), (135, 2, .bipush 12, [], none), (137, 2, .iload 5, [], none),
  (139, 1, .imul, [], none), (140, 2, .iload 7, [], none), (142, 1, .iadd, [], none), (143, 1, .iconst 3, [], none),
  (144, 1, .iastore, [], none), (145, 3, .iinc 7 1, [], none), (148, 3, .goto (-59), [(0, 89)], none), (151, 1, .aload_n 0, [], none),
  (152, 2, .iload 5, [], none), (154, 3, .putfield 206, [], none), (157, 1, .aload_n 0, [], none), (158, 1, .aload_n 0, [], none),
  (159, 3, .getfield 86, [], none), (162, 3, .getfield 296, [], none), (165, 1, .iload_n 1, [], none), (166, 1, .iaload, [], none),
  (167, 3, .putfield 187, [], none), (170, 2, .iload 4, [], none), (172, 3, .ifCond .lt 82, [(0, 254)], none), (175, 1, .aload_n 0, [], none),
  (176, 3, .getfield 28, [], none), (179, 2, .iload 5, [], none), (181, 1, .aload_n 0, [], none), (182, 3, .getfield 28, [], none),
  (185, 2, .iload 6, [], none), (187, 1, .iaload, [], none), (188, 1, .iastore, [], none), (189, 1, .aload_n 0, [], none),
  (190, 3, .getfield 31, [], none), (193, 2, .iload 5, [], none), (195, 2, .iload 4, [], none), (197, 1, .iastore, [], none),
  (198, 1, .aload_n 0, [], none), (199, 3, .getfield 34, [], none), (202, 2, .iload 5, [], none), (204, 1, .aload_n 0, [], none),
  (205, 3, .getfield 34, [], none), (208, 2, .iload 6, [], none), (210, 1, .iaload, [], none), (211, 1, .iastore, [], none),
  (212, 1, .aload_n 0, [], none), (213, 3, .getfield 37, [], none), (216, 2, .iload 5, [], none), (218, 1, .iconst 1, [], none),
  (219, 1, .bastore, [], none), (220, 1, .aload_n 0, [], none), (221, 1, .aload_n 0, [], none), (222, 3, .getfield 127, [], none),
  (225, 3, .invokestatic 171, [], none), (228, 3, .putfield 127, [], none), (231, 1, .aload_n 0, [], none), (232, 1, .aload_n 0, [], none),
  (233, 3, .getfield 94, [], none), (236, 1, .aload_n 0, [], none), (237, 3, .getfield 28, [], none), (240, 2, .iload 5, [], none),
  (242, 1, .iaload, [], none), (243, 2, .iload 4, [], none), (245, 3, .invokevirtual 298, [], none), (248, 3, .putfield 187, [], none),
  (251, 3, .goto 59, [(0, 310)], none), (254, 1, .aload_n 0, [], none), (255, 3, .getfield 94, [], none), (258, 1, .iload_n 1, [], none),
  (259, 1, .aload_n 0, [], none), (260, 3, .getfield 102, [], none), (263, 3, .invokevirtual 287, [], none), (266, 1, .aload_n 0, [], none),
  (267, 3, .getfield 86, [], none), (270, 3, .getfield 290, [], none), (273, 1, .iload_n 1, [], none), (274, 1, .iaload, [], none),
  (275, 3, .ifCond .lt 35, [(0, 310)], none), (278, 1, .aload_n 0, [], none), (279, 1, .aload_n 0, [], none), (280, 3, .getfield 86, [], none),
  (283, 3, .getfield 290, [], none), (286, 1, .iload_n 1, [], none), (287, 1, .iaload, [], none), (288, 3, .invokevirtual 293, [], none),
  (291, 1, .aload_n 0, [], none), (292, 1, .aload_n 0, [], none), (293, 3, .getfield 94, [], none), (296, 1, .aload_n 0, [], none),
  (297, 3, .getfield 28, [], none), (300, 2, .iload 5, [], none), (302, 1, .iaload, [], none), (303, 1, .iconst 0, [], none),
  (304, 3, .invokevirtual 298, [], none), (307, 3, .putfield 187, [], none), (310, 1, .iconst 0, [], some [true, true, true, true, false, false, false, false]), (311, 2, .istore 7, [], none),
  (313, 2, .iload 7, [], some [true, true, true, true, false, false, false, true]), (315, 1, .aload_n 0, [], none), (316, 3, .getfield 86, [], none), (319, 3, .getfield 356, [], none),
  (322, 1, .iload_n 1, [], none), (323, 1, .iaload, [], none), (324, 3, .if_icmp .ge 67, [(0, 391)], none), (327, 1, .aload_n 0, [], none),
  (328, 1, .aload_n 0, [], none), (329, 3, .getfield 86, [], none), (332, 3, .getfield 212, [], none), (335, 1, .iload_n 1, [], none),
  (336, 1, .iaload, [], none), (337, 2, .iload 7, [], none), (339, 1, .iadd, [], none), (340, 2, .iload 7, [], none),
  (342, 1, .iload_n 3, [], none), (343, 3, .if_icmp .ge 17, [(0, 360)], none), (346, 1, .aload_n 0, [], none), (347, 3, .getfield 11, [], none),
  (350, 1, .iload_n 2, [], none), (351, 1, .iconst 1, [], none), (352, 1, .iadd, [], none), (353, 2, .iload 7, [], none),
  (355, 1, .iadd, [], none), (356, 1, .iaload, [], none), (357, 3, .goto 4, [(0, 361)], none), (360, 1, .iconst 4, [], none),
  (361, 2, .iload 7, [], some [true, true, true, true, false, false, false, true]), (363, 1, .iload_n 3, [], none), (364, 3, .if_icmp .ge 17, [(0, 381)], none), (367, 1, .aload_n 0, [], none),
  (368, 3, .getfield 15, [], none), (371, 1, .iload_n 2, [], none), (372, 1, .iconst 1, [], none), (373, 1, .iadd, [], none),
  (374, 2, .iload 7, [], none), (376, 1, .iadd, [], none), (377, 1, .laload, [], none), (378, 3, .goto 4, [(0, 382)], none),
  (381, 1, .lconst 0, [], none), (382, 3, .invokevirtual 228, [], some [true, true, true, true, false, false, false, true]), (385, 3, .iinc 7 1, [], none), (388, 3, .goto (-75), [(0, 313)], none),
  (391, 1, .aload_n 0, [], none), (392, 1, .iload_n 2, [], none), (393, 3, .putfield 159, [], none), (396, 1, .return_, [], none)]
def e_mc_activate (m : Nat) : gE := (k_mc_activate, f_mc, c_mc, [(348, 2, 0, 0, .inl (fn_jm_max 0)), (171, 1, 0, 0, .inl (fn_cd_more m)), (298, 3, 14, 0, .inl (fn_cd_start m)), (287, 3, 14, 5, .inl (fn_cd_heats m)), (293, 2, 17, 5, .inl (fn_mc_enters m)), (228, 4, 17, 5, .inl (fn_mc_write m))], [], (m, 96122981249888610284055120554059203708655315900315630957242957318814155427252202365392126910038388536830393663313226299741313024), 5)
theorem ok_mc_activate : gchk cX9_activate 8 k_mc_activate = true := by decide +kernel
def fn_mc_activate (m : Nat) : gFn := gF (e_mc_activate m) 8
theorem mo_mc_activate (m : Nat) : gMo (.inl (fn_mc_activate m)) := gF_mo (E := e_mc_activate m) ⟨mo_jm_max 0, ⟨mo_cd_more m, ⟨mo_cd_start m, ⟨mo_cd_heats m, ⟨mo_mc_enters m, ⟨mo_mc_write m, trivial⟩⟩⟩⟩⟩⟩
noncomputable def mc_activate (σ : gM) (x1 x2 x3 x4 : Int) : Option (gM × Int) := lim (fun n => fn_mc_activate 119 n [(2, 87), (0, x1), (0, x2), (0, x3), (0, x4)] σ)
theorem mc_activate_l (σ : gM) (x1 x2 x3 x4 : Int) : Lm (fun n => fn_mc_activate 119 n [(2, 87), (0, x1), (0, x2), (0, x3), (0, x4)] σ) (mc_activate σ x1 x2 x3 x4) := .of fun n => mo_mc_activate 119 n [(2, 87), (0, x1), (0, x2), (0, x3), (0, x4)] σ
theorem mb_mc_activate : gMos (e_mc_activate 119).2.2.2.1 := ⟨mo_jm_max 0, ⟨mo_cd_more 119, ⟨mo_cd_start 119, ⟨mo_cd_heats 119, ⟨mo_mc_enters 119, ⟨mo_mc_write 119, trivial⟩⟩⟩⟩⟩⟩
noncomputable def mc_activate_b89 (σ : gM) (x1 x2 x3 x4 x5 x6 x7 : Int) : Option (gM × Int) := lim (fun n => gB (e_mc_activate 119) rF tF n 89 [(2, 87), (0, x1), (0, x2), (0, x3), (0, x4), (0, x5), (0, x6), (0, x7)] [] σ)
theorem mc_activate_b89_l (σ : gM) (x1 x2 x3 x4 x5 x6 x7 : Int) : Lm (fun n => gB (e_mc_activate 119) rF tF n 89 [(2, 87), (0, x1), (0, x2), (0, x3), (0, x4), (0, x5), (0, x6), (0, x7)] [] σ) (mc_activate_b89 σ x1 x2 x3 x4 x5 x6 x7) := .of fun n => gB_le (gMos_spec (mb_mc_activate)) n _ _ _ σ
noncomputable def mc_activate_b310 (σ : gM) (x1 x2 x3 : Int) : Option (gM × Int) := lim (fun n => gB (e_mc_activate 119) rF tF n 310 [(2, 87), (0, x1), (0, x2), (0, x3), (9, 0), (9, 0), (9, 0), (9, 0)] [] σ)
theorem mc_activate_b310_l (σ : gM) (x1 x2 x3 : Int) : Lm (fun n => gB (e_mc_activate 119) rF tF n 310 [(2, 87), (0, x1), (0, x2), (0, x3), (9, 0), (9, 0), (9, 0), (9, 0)] [] σ) (mc_activate_b310 σ x1 x2 x3) := .of fun n => gB_le (gMos_spec (mb_mc_activate)) n _ _ _ σ
noncomputable def mc_activate_b313 (σ : gM) (x1 x2 x3 x7 : Int) : Option (gM × Int) := lim (fun n => gB (e_mc_activate 119) rF tF n 313 [(2, 87), (0, x1), (0, x2), (0, x3), (9, 0), (9, 0), (9, 0), (0, x7)] [] σ)
theorem mc_activate_b313_l (σ : gM) (x1 x2 x3 x7 : Int) : Lm (fun n => gB (e_mc_activate 119) rF tF n 313 [(2, 87), (0, x1), (0, x2), (0, x3), (9, 0), (9, 0), (9, 0), (0, x7)] [] σ) (mc_activate_b313 σ x1 x2 x3 x7) := .of fun n => gB_le (gMos_spec (mb_mc_activate)) n _ _ _ σ
noncomputable def mc_activate_b361 (σ : gM) (x1 x2 x3 x7 y0 y1 : Int) : Option (gM × Int) := lim (fun n => gB (e_mc_activate 119) rF tF n 361 [(2, 87), (0, x1), (0, x2), (0, x3), (9, 0), (9, 0), (9, 0), (0, x7)] [(0, y0), (0, y1), (2, 87)] σ)
theorem mc_activate_b361_l (σ : gM) (x1 x2 x3 x7 y0 y1 : Int) : Lm (fun n => gB (e_mc_activate 119) rF tF n 361 [(2, 87), (0, x1), (0, x2), (0, x3), (9, 0), (9, 0), (9, 0), (0, x7)] [(0, y0), (0, y1), (2, 87)] σ) (mc_activate_b361 σ x1 x2 x3 x7 y0 y1) := .of fun n => gB_le (gMos_spec (mb_mc_activate)) n _ _ _ σ
noncomputable def mc_activate_b382 (σ : gM) (x1 x2 x3 x7 y0 y1 y2 : Int) : Option (gM × Int) := lim (fun n => gB (e_mc_activate 119) rF tF n 382 [(2, 87), (0, x1), (0, x2), (0, x3), (9, 0), (9, 0), (9, 0), (0, x7)] [(1, y0), (0, y1), (0, y2), (2, 87)] σ)
theorem mc_activate_b382_l (σ : gM) (x1 x2 x3 x7 y0 y1 y2 : Int) : Lm (fun n => gB (e_mc_activate 119) rF tF n 382 [(2, 87), (0, x1), (0, x2), (0, x3), (9, 0), (9, 0), (9, 0), (0, x7)] [(1, y0), (0, y1), (0, y2), (2, 87)] σ) (mc_activate_b382 σ x1 x2 x3 x7 y0 y1 y2) := .of fun n => gB_le (gMos_spec (mb_mc_activate)) n _ _ _ σ
theorem mc_activate_e (σ : gM) (x1 x2 x3 x4 : Int) : mc_activate σ x1 x2 x3 x4 =
  ((jm_max (gW σ 87 19 (w32 ((σ 87 19) + 1))) (σ 87 20) (w32 ((σ 87 19) + 1))).bind fun p1 =>
  if 0 ≤ σ 87 19 ∧ σ 87 19 < 60 then
  (if 0 ≤ σ 87 19 ∧ σ 87 19 < 60 then
    (if 0 ≤ σ 87 19 ∧ σ 87 19 < 60 then
      (if 0 ≤ σ 87 19 ∧ σ 87 19 < 60 then
        (if 0 ≤ σ 87 19 ∧ σ 87 19 < 60 then
          (if 0 ≤ σ 87 19 ∧ σ 87 19 < 60 then
            (mc_activate_b89 (gW (gW (gW (gW (gW (gW (gW p1.1 87 20 p1.2) 90 (σ 87 19) x1) 92 (σ 87 19) x2) 93 (σ 87 19) (-1)) 94 (σ 87 19) (-1)) 95 (σ 87 19) (σ 87 19)) 96 (σ 87 19) 0) x1 x2 x3 x4 (σ 87 19) (σ 87 21) 0)
            else none)
          else none)
        else none)
      else none)
    else none)
  else none) := Lm.eqn (mc_activate_l ..) (.bind (jm_max_l ..) fun p1 => (.ite (.ite (.ite (.ite (.ite (.ite (mc_activate_b89_l ..) .cst) .cst) .cst) .cst) .cst) .cst)) fun n => (rfl)
theorem mc_activate_b89_e (σ : gM) (x1 x2 x3 x4 x5 x6 x7 : Int) : mc_activate_b89 σ x1 x2 x3 x4 x5 x6 x7 =
  (if 0 ≤ x1 ∧ x1 < 60 then
  (if x7 < σ 31 x1 then
    (if 0 ≤ w32 ((w32 (12 * x5)) + x7) ∧ w32 ((w32 (12 * x5)) + x7) < 720 then
      (if 0 ≤ w32 ((w32 (12 * x5)) + x7) ∧ w32 ((w32 (12 * x5)) + x7) < 720 then
        (if 0 ≤ w32 ((w32 (12 * x5)) + x7) ∧ w32 ((w32 (12 * x5)) + x7) < 720 then
          (mc_activate_b89 (gW (gW (gW σ 97 (w32 ((w32 (12 * x5)) + x7)) 4) 99 (w32 ((w32 (12 * x5)) + x7)) 0) 98 (w32 ((w32 (12 * x5)) + x7)) 3) x1 x2 x3 x4 x5 x6 (w32 (x7 + 1)))
          else none)
        else none)
      else none)
    else
    (if 0 ≤ x1 ∧ x1 < 60 then
      (if x4 < 0 then
        ((cd_heats (gW (gW σ 87 21 x5) 87 22 (σ 28 x1)) x1 (σ 87 5)).bind fun p1 =>
          if 0 ≤ x1 ∧ x1 < 60 then
          (if p1.1 34 x1 < 0 then
            (mc_activate_b310 p1.1 x1 x2 x3)
            else
            (if 0 ≤ x1 ∧ x1 < 60 then
              ((mc_enters p1.1 (p1.1 34 x1)).bind fun p2 =>
                if 0 ≤ x5 ∧ x5 < 60 then
                ((cd_start p2.1 (p2.1 93 x5) 0).bind fun p3 =>
                  mc_activate_b310 (gW p3.1 87 22 p3.2) x1 x2 x3)
                else none)
              else none))
          else none)
        else
        (if 0 ≤ x6 ∧ x6 < 60 then
          (if 0 ≤ x5 ∧ x5 < 60 then
            (if 0 ≤ x5 ∧ x5 < 60 then
              (if 0 ≤ x6 ∧ x6 < 60 then
                (if 0 ≤ x5 ∧ x5 < 60 then
                  (if 0 ≤ x5 ∧ x5 < 60 then
                    ((cd_more (gW (gW (gW (gW (gW (gW σ 87 21 x5) 87 22 (σ 28 x1)) 93 x5 (σ 93 x6)) 94 x5 x4) 95 x5 (σ 95 x6)) 96 x5 1) (σ 87 42)).bind fun p4 =>
                      if 0 ≤ x5 ∧ x5 < 60 then
                      ((cd_start (gW p4.1 87 42 p4.2) (p4.1 93 x5) x4).bind fun p5 =>
                        mc_activate_b310 (gW p5.1 87 22 p5.2) x1 x2 x3)
                      else none)
                    else none)
                  else none)
                else none)
              else none)
            else none)
          else none))
      else none))
  else none) := Lm.eqn (mc_activate_b89_l ..) (.ite (.ite (.ite (.ite (.ite (mc_activate_b89_l ..) .cst) .cst) .cst) (.ite (.ite (.bind (cd_heats_l ..) fun p1 => (.ite (.ite (mc_activate_b310_l ..) (.ite (.bind (mc_enters_l ..) fun p2 => (.ite (.bind (cd_start_l ..) fun p3 => (mc_activate_b310_l ..)) .cst)) .cst)) .cst)) (.ite (.ite (.ite (.ite (.ite (.ite (.bind (cd_more_l ..) fun p4 => (.ite (.bind (cd_start_l ..) fun p5 => (mc_activate_b310_l ..)) .cst)) .cst) .cst) .cst) .cst) .cst) .cst)) .cst)) .cst) fun n => (rfl)
theorem mc_activate_b310_e (σ : gM) (x1 x2 x3 : Int) : mc_activate_b310 σ x1 x2 x3 =
  (mc_activate_b313 σ x1 x2 x3 0) := Lm.eqn (mc_activate_b310_l ..) (mc_activate_b313_l ..) fun n => (rfl)
theorem mc_activate_b313_e (σ : gM) (x1 x2 x3 x7 : Int) : mc_activate_b313 σ x1 x2 x3 x7 =
  (if 0 ≤ x1 ∧ x1 < 60 then
  (if x7 < σ 30 x1 then
    (if 0 ≤ x1 ∧ x1 < 60 then
      (if x7 < x3 then
        (if 0 ≤ w32 ((w32 (x2 + 1)) + x7) ∧ w32 ((w32 (x2 + 1)) + x7) < 18240 then
          (mc_activate_b361 σ x1 x2 x3 x7 (σ 88 (w32 ((w32 (x2 + 1)) + x7))) (w32 ((σ 26 x1) + x7)))
          else none)
        else
        (mc_activate_b361 σ x1 x2 x3 x7 4 (w32 ((σ 26 x1) + x7))))
      else none)
    else
    (some (gW σ 87 8 x2, 0)))
  else none) := Lm.eqn (mc_activate_b313_l ..) (.ite (.ite (.ite (.ite (.ite (mc_activate_b361_l ..) .cst) (mc_activate_b361_l ..)) .cst) .cst) .cst) fun n => (rfl)
theorem mc_activate_b361_e (σ : gM) (x1 x2 x3 x7 y0 y1 : Int) : mc_activate_b361 σ x1 x2 x3 x7 y0 y1 =
  (if x7 < x3 then
  (if 0 ≤ w32 ((w32 (x2 + 1)) + x7) ∧ w32 ((w32 (x2 + 1)) + x7) < 18240 then
    (mc_activate_b382 σ x1 x2 x3 x7 (σ 89 (w32 ((w32 (x2 + 1)) + x7))) y0 y1)
    else none)
  else
  (mc_activate_b382 σ x1 x2 x3 x7 0 y0 y1)) := Lm.eqn (mc_activate_b361_l ..) (.ite (.ite (mc_activate_b382_l ..) .cst) (mc_activate_b382_l ..)) fun n => (rfl)
theorem mc_activate_b382_e (σ : gM) (x1 x2 x3 x7 y0 y1 y2 : Int) : mc_activate_b382 σ x1 x2 x3 x7 y0 y1 y2 =
  ((mc_write σ y2 y1 y0).bind fun p1 =>
  mc_activate_b313 p1.1 x1 x2 x3 (w32 (x7 + 1))) := Lm.eqn (mc_activate_b382_l ..) (.bind (mc_write_l ..) fun p1 => (mc_activate_b313_l ..)) fun n => (rfl)
def k_mc_fails : List gC := [(0, 1, .aload_n 0, [], none), (1, 1, .iconst 3, [], none), (2, 3, .putfield 130, [], none), (5, 1, .aload_n 0, [], none),
  (6, 1, .iload_n 1, [], none), (7, 3, .putfield 148, [], none), (10, 1, .aload_n 0, [], none), (11, 1, .aload_n 0, [], none),
  (12, 3, .getfield 19, [], none), (15, 1, .aload_n 0, [], none), (16, 3, .getfield 206, [], none), (19, 1, .iaload, [], none),
  (20, 3, .putfield 209, [], none), (23, 1, .aload_n 0, [], none), (24, 1, .iload_n 2, [], none), (25, 1, .aload_n 0, [], none),
  (26, 3, .getfield 86, [], none), (29, 3, .getfield 212, [], none), (32, 1, .aload_n 0, [], none), (33, 3, .getfield 209, [], none),
  (36, 1, .iaload, [], none), (37, 1, .isub, [], none), (38, 3, .putfield 215, [], none), (41, 1, .aload_n 0, [], none),
  (42, 1, .iconst 0, [], none), (43, 3, .putfield 133, [], none), (46, 1, .iconst 0, [], none), (47, 1, .ireturn, [], none)]
def e_mc_fails (m : Nat) : gE := (k_mc_fails, f_mc, c_mc, [], [], (m, 4802984773241649976760009659925602086253252774662355733865026403165604576951324622011140357101056366470779899869310337679360), 6)
theorem ok_mc_fails : gchk cX9_fails 3 k_mc_fails = true := by decide +kernel
def fn_mc_fails (m : Nat) : gFn := gF (e_mc_fails m) 3
theorem mo_mc_fails (m : Nat) : gMo (.inl (fn_mc_fails m)) := gF_mo (E := e_mc_fails m) trivial
noncomputable def mc_fails (σ : gM) (x1 x2 : Int) : Option (gM × Int) := lim (fun n => fn_mc_fails 119 n [(2, 87), (0, x1), (0, x2)] σ)
theorem mc_fails_l (σ : gM) (x1 x2 : Int) : Lm (fun n => fn_mc_fails 119 n [(2, 87), (0, x1), (0, x2)] σ) (mc_fails σ x1 x2) := .of fun n => mo_mc_fails 119 n [(2, 87), (0, x1), (0, x2)] σ
theorem mc_fails_e (σ : gM) (x1 x2 : Int) : mc_fails σ x1 x2 =
  (if 0 ≤ σ 87 21 ∧ σ 87 21 < 60 then
  (if 0 ≤ σ 90 (σ 87 21) ∧ σ 90 (σ 87 21) < 60 then
    (some (gW (gW (gW (gW (gW σ 87 23 3) 87 25 x1) 87 26 (σ 90 (σ 87 21))) 87 27 (w32 (x2 - (σ 26 (σ 90 (σ 87 21)))))) 87 19 0, 0))
    else none)
  else none) := Lm.eqn (mc_fails_l ..) (.ite (.ite .cst .cst) .cst) fun n => (rfl)
def k_mc_falls : List gC := [(0, 1, .aload_n 0, [], none), (1, 3, .getfield 28, [], none), (4, 1, .aload_n 0, [], none), (5, 3, .getfield 206, [], none),
  (8, 1, .iaload, [], none), (9, 3, .ifCond .lt 23, [(0, 32)], none), (12, 1, .aload_n 0, [], none), (13, 3, .getfield 94, [], none),
  (16, 3, .getfield 280, [], none), (19, 1, .aload_n 0, [], none), (20, 3, .getfield 28, [], none), (23, 1, .aload_n 0, [], none),
  (24, 3, .getfield 206, [], none), (27, 1, .iaload, [], none), (28, 1, .baload, [], none), (29, 3, .ifCond .eq 4, [(0, 33)], none),
  (32, 1, .return_, [], none), (33, 1, .aload_n 0, [], none), (34, 1, .dup, [], none), (35, 3, .getfield 118, [], none),
  (38, 1, .iconst 1, [], none), (39, 1, .iadd, [], none), (40, 3, .putfield 118, [], none), (43, 1, .aload_n 0, [], none),
  (44, 3, .getfield 94, [], none), (47, 3, .getfield 283, [], none), (50, 1, .aload_n 0, [], none), (51, 3, .getfield 28, [], none),
  (54, 1, .aload_n 0, [], none), (55, 3, .getfield 206, [], none), (58, 1, .iaload, [], none), (59, 1, .dup2, [], none),
  (60, 1, .iaload, [], none), (61, 1, .iconst 1, [], none), (62, 1, .iadd, [], none), (63, 1, .iastore, [], none),
  (64, 1, .aload_n 0, [], none), (65, 3, .invokevirtual 270, [], none), (68, 1, .return_, [], none)]
def e_mc_falls (m : Nat) : gE := (k_mc_falls, f_mc, c_mc, [(270, 1, 17, 5, .inl (fn_mc_leaves m))], [], (m, 10830823624655531826303049396222424812928560876272154031912096442875273784339629628918128172495600342382225160688800872676720640), 5)
theorem ok_mc_falls : gchk cX9_falls 1 k_mc_falls = true := by decide +kernel
def fn_mc_falls (m : Nat) : gFn := gF (e_mc_falls m) 1
theorem mo_mc_falls (m : Nat) : gMo (.inl (fn_mc_falls m)) := gF_mo (E := e_mc_falls m) ⟨mo_mc_leaves m, trivial⟩
noncomputable def mc_falls (σ : gM) : Option (gM × Int) := lim (fun n => fn_mc_falls 119 n [(2, 87)] σ)
theorem mc_falls_l (σ : gM) : Lm (fun n => fn_mc_falls 119 n [(2, 87)] σ) (mc_falls σ) := .of fun n => mo_mc_falls 119 n [(2, 87)] σ
theorem mc_falls_e (σ : gM) : mc_falls σ =
  (if 0 ≤ σ 87 21 ∧ σ 87 21 < 60 then
  (if σ 93 (σ 87 21) < 0 then
    (some (σ, 0))
    else
    (if 0 ≤ σ 87 21 ∧ σ 87 21 < 60 then
      (if 0 ≤ σ 93 (σ 87 21) ∧ σ 93 (σ 87 21) < 100 then
        (if σ 61 (σ 93 (σ 87 21)) = 0 then
          (if 0 ≤ σ 87 21 ∧ σ 87 21 < 60 then
            (if 0 ≤ σ 93 (σ 87 21) ∧ σ 93 (σ 87 21) < 100 then
              (if 0 ≤ σ 93 (σ 87 21) ∧ σ 93 (σ 87 21) < 100 then
                ((mc_leaves (gW (gW σ 87 39 (w32 ((σ 87 39) + 1))) 60 (σ 93 (σ 87 21)) (w32 ((σ 60 (σ 93 (σ 87 21))) + 1)))).bind fun p1 =>
                  some (p1.1, 0))
                else none)
              else none)
            else none)
          else
          (some (σ, 0)))
        else none)
      else none))
  else none) := Lm.eqn (mc_falls_l ..) (.ite (.ite .cst (.ite (.ite (.ite (.ite (.ite (.ite (.bind (mc_leaves_l ..) fun p1 => .cst) .cst) .cst) .cst) .cst) .cst) .cst)) .cst) fun n => (rfl)
def k_mc_again : List gC := [(0, 1, .aload_n 0, [], none), (1, 3, .getfield 19, [], none), (4, 1, .aload_n 0, [], none), (5, 3, .getfield 206, [], none),
  (8, 1, .iaload, [], none), (9, 1, .istore_n 1, [], none), (10, 1, .aload_n 0, [], none), (11, 3, .getfield 86, [], none),
  (14, 3, .getfield 257, [], none), (17, 1, .aload_n 0, [], none), (18, 3, .getfield 187, [], none), (21, 1, .iaload, [], none),
  (22, 1, .istore_n 2, [], none), (23, 1, .aload_n 0, [], none), (24, 3, .getfield 28, [], none), (27, 1, .aload_n 0, [], none),
  (28, 3, .getfield 206, [], none), (31, 1, .iaload, [], none), (32, 3, .ifCond .ge 70, [(0, 102)], none), (35, 1, .aload_n 0, [], none),
  (36, 3, .getfield 94, [], none), (39, 1, .iload_n 1, [], none), (40, 1, .aload_n 0, [], none), (41, 3, .getfield 102, [], none),
  (44, 3, .invokevirtual 287, [], none), (47, 1, .aload_n 0, [], none), (48, 3, .getfield 86, [], none), (51, 3, .getfield 290, [], none),
  (54, 1, .iload_n 1, [], none), (55, 1, .iaload, [], none), (56, 3, .ifCond .lt 46, [(0, 102)], none), (59, 1, .aload_n 0, [], none),
  (60, 1, .aload_n 0, [], none), (61, 3, .getfield 86, [], none), (64, 3, .getfield 290, [], none), (67, 1, .iload_n 1, [], none),
  (68, 1, .iaload, [], none), (69, 3, .invokevirtual 293, [], none), (72, 1, .iload_n 2, [], none), (73, 1, .aload_n 0, [], none),
  (74, 3, .getfield 86, [], none), (77, 3, .getfield 296, [], none), (80, 1, .iload_n 1, [], none), (81, 1, .iaload, [], none),
  (82, 1, .isub, [], none), (83, 1, .aload_n 0, [], none), (84, 3, .getfield 94, [], none), (87, 1, .aload_n 0, [], none),
  (88, 3, .getfield 28, [], none), (91, 1, .aload_n 0, [], none), (92, 3, .getfield 206, [], none), (95, 1, .iaload, [], none),
  (96, 1, .iconst 0, [], none), (97, 3, .invokevirtual 298, [], none), (100, 1, .iadd, [], none), (101, 1, .istore_n 2, [], none),
  (102, 1, .aload_n 0, [], some [true, false, true]), (103, 1, .iload_n 2, [], none), (104, 3, .putfield 187, [], none), (107, 1, .return_, [], none)]
def e_mc_again (m : Nat) : gE := (k_mc_again, f_mc, c_mc, [(287, 3, 14, 5, .inl (fn_cd_heats m)), (293, 2, 17, 5, .inl (fn_mc_enters m)), (298, 3, 14, 0, .inl (fn_cd_start m))], [], (m, 2707767880160957042383060840423729311272929542454717452812730329037959562189704605837896616050423043260935653343863434079371264), 5)
theorem ok_mc_again : gchk cX9_again 3 k_mc_again = true := by decide +kernel
def fn_mc_again (m : Nat) : gFn := gF (e_mc_again m) 3
theorem mo_mc_again (m : Nat) : gMo (.inl (fn_mc_again m)) := gF_mo (E := e_mc_again m) ⟨mo_cd_heats m, ⟨mo_mc_enters m, ⟨mo_cd_start m, trivial⟩⟩⟩
noncomputable def mc_again (σ : gM) : Option (gM × Int) := lim (fun n => fn_mc_again 119 n [(2, 87)] σ)
theorem mc_again_l (σ : gM) : Lm (fun n => fn_mc_again 119 n [(2, 87)] σ) (mc_again σ) := .of fun n => mo_mc_again 119 n [(2, 87)] σ
theorem mb_mc_again : gMos (e_mc_again 119).2.2.2.1 := ⟨mo_cd_heats 119, ⟨mo_mc_enters 119, ⟨mo_cd_start 119, trivial⟩⟩⟩
noncomputable def mc_again_b102 (σ : gM) (x2 : Int) : Option (gM × Int) := lim (fun n => gB (e_mc_again 119) rF tF n 102 [(2, 87), (9, 0), (0, x2)] [] σ)
theorem mc_again_b102_l (σ : gM) (x2 : Int) : Lm (fun n => gB (e_mc_again 119) rF tF n 102 [(2, 87), (9, 0), (0, x2)] [] σ) (mc_again_b102 σ x2) := .of fun n => gB_le (gMos_spec (mb_mc_again)) n _ _ _ σ
theorem mc_again_e (σ : gM) : mc_again σ =
  (if 0 ≤ σ 87 21 ∧ σ 87 21 < 60 then
  (if 0 ≤ σ 87 22 ∧ σ 87 22 < 164000 then
    (if 0 ≤ σ 87 21 ∧ σ 87 21 < 60 then
      (if σ 93 (σ 87 21) < 0 then
        ((cd_heats σ (σ 90 (σ 87 21)) (σ 87 5)).bind fun p1 =>
          if 0 ≤ σ 90 (σ 87 21) ∧ σ 90 (σ 87 21) < 60 then
          (if p1.1 34 (σ 90 (σ 87 21)) < 0 then
            (mc_again_b102 p1.1 (σ 21 (σ 87 22)))
            else
            (if 0 ≤ σ 90 (σ 87 21) ∧ σ 90 (σ 87 21) < 60 then
              ((mc_enters p1.1 (p1.1 34 (σ 90 (σ 87 21)))).bind fun p2 =>
                if 0 ≤ σ 90 (σ 87 21) ∧ σ 90 (σ 87 21) < 60 then
                (if 0 ≤ p2.1 87 21 ∧ p2.1 87 21 < 60 then
                  ((cd_start p2.1 (p2.1 93 (p2.1 87 21)) 0).bind fun p3 =>
                    mc_again_b102 p3.1 (w32 ((w32 ((σ 21 (σ 87 22)) - (p2.1 28 (σ 90 (σ 87 21))))) + p3.2)))
                  else none)
                else none)
              else none))
          else none)
        else
        (mc_again_b102 σ (σ 21 (σ 87 22))))
      else none)
    else none)
  else none) := Lm.eqn (mc_again_l ..) (.ite (.ite (.ite (.ite (.bind (cd_heats_l ..) fun p1 => (.ite (.ite (mc_again_b102_l ..) (.ite (.bind (mc_enters_l ..) fun p2 => (.ite (.ite (.bind (cd_start_l ..) fun p3 => (mc_again_b102_l ..)) .cst) .cst)) .cst)) .cst)) (mc_again_b102_l ..)) .cst) .cst) .cst) fun n => (rfl)
theorem mc_again_b102_e (σ : gM) (x2 : Int) : mc_again_b102 σ x2 =
  (some (gW σ 87 22 x2, 0)) := Lm.eqn (mc_again_b102_l ..) .cst fun n => (rfl)
def k_mc_read : List gC := [(0, 2, .bipush 12, [], none), (2, 1, .aload_n 0, [], none), (3, 3, .getfield 206, [], none), (6, 1, .imul, [], none),
  (7, 1, .aload_n 0, [], none), (8, 3, .getfield 86, [], none), (11, 3, .getfield 310, [], none), (14, 1, .iload_n 1, [], none),
  (15, 1, .iaload, [], none), (16, 1, .iadd, [], none), (17, 1, .istore_n 2, [], none), (18, 1, .aload_n 0, [], none),
  (19, 3, .getfield 86, [], none), (22, 3, .getfield 263, [], none), (25, 1, .iload_n 1, [], none), (26, 1, .iaload, [], none),
  (27, 1, .istore_n 3, [], none), (28, 1, .iload_n 3, [], none), (29, 1, .iconst 4, [], none), (30, 1, .iand, [], none),
  (31, 3, .ifCond .ne 51, [(0, 82)], none), (34, 1, .aload_n 0, [], none), (35, 3, .getfield 44, [], none), (38, 1, .iload_n 2, [], none),
  (39, 1, .iaload, [], none), (40, 1, .iconst 3, [], none), (41, 3, .if_icmp .ne 7, [(0, 48)], none), (44, 1, .iconst 4, [], none),
  (45, 3, .goto 9, [(0, 54)], none), (48, 1, .aload_n 0, [], none), (49, 3, .getfield 44, [], none), (52, 1, .iload_n 2, [], none),
  (53, 1, .iaload, [], none), (54, 2, .istore 4, [], some [true, true, true, true, false]), (56, 1, .iload_n 3, [], none), (57, 2, .iload 4, [], none),
  (59, 1, .iand, [], none), (60, 3, .ifCond .ne 22, [(0, 82)], none), (63, 1, .aload_n 0, [], none), (64, 1, .iload_n 1, [], none),
  (65, 2, .iload 4, [], none), (67, 1, .iconst 4, [], none), (68, 3, .if_icmp .ne 7, [(0, 75)], none), (71, 1, .iconst 4, [], none),
  (72, 3, .goto 7, [(0, 79)], none), (75, 1, .iload_n 3, [], none), (76, 2, .iload 4, [], none), (78, 1, .ior, [], none),
  (79, 3, .invokevirtual 305, [], some [true, true, true, false, false]), (82, 1, .aload_n 0, [], some [true, true, true, false, false]), (83, 3, .getfield 86, [], none), (86, 3, .getfield 263, [], none),
  (89, 1, .iload_n 1, [], none), (90, 1, .iaload, [], none), (91, 1, .iconst 4, [], none), (92, 3, .if_icmp .ne 10, [(0, 102)], none),
  (95, 1, .aload_n 0, [], none), (96, 3, .getfield 44, [], none), (99, 1, .iload_n 2, [], none), (100, 1, .iconst 3, [], none),
  (101, 1, .iastore, [], none), (102, 1, .aload_n 0, [], some [true, false, true, false, false]), (103, 1, .aload_n 0, [], none), (104, 3, .getfield 41, [], none),
  (107, 1, .iload_n 2, [], none), (108, 1, .iaload, [], none), (109, 1, .aload_n 0, [], none), (110, 3, .getfield 47, [], none),
  (113, 1, .iload_n 2, [], none), (114, 1, .laload, [], none), (115, 3, .invokevirtual 167, [], none), (118, 1, .return_, [], none)]
def e_mc_read (m : Nat) : gE := (k_mc_read, f_mc, c_mc, [(305, 3, 17, 5, .inl (fn_mc_changes m)), (167, 3, 17, 5, .inl (fn_mc_push m))], [], (m, 6769295757451701227480975082840796677041225071189816847246791418206706158727185106919808621815016030744999044281073600749901824), 5)
theorem ok_mc_read : gchk cX9_read 5 k_mc_read = true := by decide +kernel
def fn_mc_read (m : Nat) : gFn := gF (e_mc_read m) 5
theorem mo_mc_read (m : Nat) : gMo (.inl (fn_mc_read m)) := gF_mo (E := e_mc_read m) ⟨mo_mc_changes m, ⟨mo_mc_push m, trivial⟩⟩
noncomputable def mc_read (σ : gM) (x1 : Int) : Option (gM × Int) := lim (fun n => fn_mc_read 119 n [(2, 87), (0, x1)] σ)
theorem mc_read_l (σ : gM) (x1 : Int) : Lm (fun n => fn_mc_read 119 n [(2, 87), (0, x1)] σ) (mc_read σ x1) := .of fun n => mo_mc_read 119 n [(2, 87), (0, x1)] σ
theorem mb_mc_read : gMos (e_mc_read 119).2.2.2.1 := ⟨mo_mc_changes 119, ⟨mo_mc_push 119, trivial⟩⟩
noncomputable def mc_read_b54 (σ : gM) (x1 x2 x3 y0 : Int) : Option (gM × Int) := lim (fun n => gB (e_mc_read 119) rF tF n 54 [(2, 87), (0, x1), (0, x2), (0, x3), (9, 0)] [(0, y0)] σ)
theorem mc_read_b54_l (σ : gM) (x1 x2 x3 y0 : Int) : Lm (fun n => gB (e_mc_read 119) rF tF n 54 [(2, 87), (0, x1), (0, x2), (0, x3), (9, 0)] [(0, y0)] σ) (mc_read_b54 σ x1 x2 x3 y0) := .of fun n => gB_le (gMos_spec (mb_mc_read)) n _ _ _ σ
noncomputable def mc_read_b79 (σ : gM) (x1 x2 y0 y1 : Int) : Option (gM × Int) := lim (fun n => gB (e_mc_read 119) rF tF n 79 [(2, 87), (0, x1), (0, x2), (9, 0), (9, 0)] [(0, y0), (0, y1), (2, 87)] σ)
theorem mc_read_b79_l (σ : gM) (x1 x2 y0 y1 : Int) : Lm (fun n => gB (e_mc_read 119) rF tF n 79 [(2, 87), (0, x1), (0, x2), (9, 0), (9, 0)] [(0, y0), (0, y1), (2, 87)] σ) (mc_read_b79 σ x1 x2 y0 y1) := .of fun n => gB_le (gMos_spec (mb_mc_read)) n _ _ _ σ
noncomputable def mc_read_b82 (σ : gM) (x1 x2 : Int) : Option (gM × Int) := lim (fun n => gB (e_mc_read 119) rF tF n 82 [(2, 87), (0, x1), (0, x2), (9, 0), (9, 0)] [] σ)
theorem mc_read_b82_l (σ : gM) (x1 x2 : Int) : Lm (fun n => gB (e_mc_read 119) rF tF n 82 [(2, 87), (0, x1), (0, x2), (9, 0), (9, 0)] [] σ) (mc_read_b82 σ x1 x2) := .of fun n => gB_le (gMos_spec (mb_mc_read)) n _ _ _ σ
noncomputable def mc_read_b102 (σ : gM) (x2 : Int) : Option (gM × Int) := lim (fun n => gB (e_mc_read 119) rF tF n 102 [(2, 87), (9, 0), (0, x2), (9, 0), (9, 0)] [] σ)
theorem mc_read_b102_l (σ : gM) (x2 : Int) : Lm (fun n => gB (e_mc_read 119) rF tF n 102 [(2, 87), (9, 0), (0, x2), (9, 0), (9, 0)] [] σ) (mc_read_b102 σ x2) := .of fun n => gB_le (gMos_spec (mb_mc_read)) n _ _ _ σ
theorem mc_read_e (σ : gM) (x1 : Int) : mc_read σ x1 =
  (if 0 ≤ x1 ∧ x1 < 16000 then
  (if 0 ≤ x1 ∧ x1 < 16000 then
    (if i_and (σ 11 x1) 4 = 0 then
      (if 0 ≤ w32 ((w32 (12 * (σ 87 21))) + (σ 13 x1)) ∧ w32 ((w32 (12 * (σ 87 21))) + (σ 13 x1)) < 720 then
        (if σ 98 (w32 ((w32 (12 * (σ 87 21))) + (σ 13 x1))) = 3 then
          (mc_read_b54 σ x1 (w32 ((w32 (12 * (σ 87 21))) + (σ 13 x1))) (σ 11 x1) 4)
          else
          (if 0 ≤ w32 ((w32 (12 * (σ 87 21))) + (σ 13 x1)) ∧ w32 ((w32 (12 * (σ 87 21))) + (σ 13 x1)) < 720 then
            (mc_read_b54 σ x1 (w32 ((w32 (12 * (σ 87 21))) + (σ 13 x1))) (σ 11 x1) (σ 98 (w32 ((w32 (12 * (σ 87 21))) + (σ 13 x1)))))
            else none))
        else none)
      else
      (mc_read_b82 σ x1 (w32 ((w32 (12 * (σ 87 21))) + (σ 13 x1)))))
    else none)
  else none) := Lm.eqn (mc_read_l ..) (.ite (.ite (.ite (.ite (.ite (mc_read_b54_l ..) (.ite (mc_read_b54_l ..) .cst)) .cst) (mc_read_b82_l ..)) .cst) .cst) fun n => (rfl)
theorem mc_read_b54_e (σ : gM) (x1 x2 x3 y0 : Int) : mc_read_b54 σ x1 x2 x3 y0 =
  (if i_and x3 y0 = 0 then
  (if y0 = 4 then
    (mc_read_b79 σ x1 x2 4 x1)
    else
    (mc_read_b79 σ x1 x2 (i_or x3 y0) x1))
  else
  (mc_read_b82 σ x1 x2)) := Lm.eqn (mc_read_b54_l ..) (.ite (.ite (mc_read_b79_l ..) (mc_read_b79_l ..)) (mc_read_b82_l ..)) fun n => (rfl)
theorem mc_read_b79_e (σ : gM) (x1 x2 y0 y1 : Int) : mc_read_b79 σ x1 x2 y0 y1 =
  ((mc_changes σ y1 y0).bind fun p1 =>
  mc_read_b82 p1.1 x1 x2) := Lm.eqn (mc_read_b79_l ..) (.bind (mc_changes_l ..) fun p1 => (mc_read_b82_l ..)) fun n => (rfl)
theorem mc_read_b82_e (σ : gM) (x1 x2 : Int) : mc_read_b82 σ x1 x2 =
  (if 0 ≤ x1 ∧ x1 < 16000 then
  (if σ 11 x1 = 4 then
    (if 0 ≤ x2 ∧ x2 < 720 then
      (mc_read_b102 (gW σ 98 x2 3) x2)
      else none)
    else
    (mc_read_b102 σ x2))
  else none) := Lm.eqn (mc_read_b82_l ..) (.ite (.ite (.ite (mc_read_b102_l ..) .cst) (mc_read_b102_l ..)) .cst) fun n => (rfl)
theorem mc_read_b102_e (σ : gM) (x2 : Int) : mc_read_b102 σ x2 =
  (if 0 ≤ x2 ∧ x2 < 720 then
  (if 0 ≤ x2 ∧ x2 < 720 then
    ((mc_push σ (σ 97 x2) (σ 99 x2)).bind fun p1 =>
      some (p1.1, 0))
    else none)
  else none) := Lm.eqn (mc_read_b102_l ..) (.ite (.ite (.bind (mc_push_l ..) fun p1 => .cst) .cst) .cst) fun n => (rfl)
def k_mc_areLongs : List gC := [(0, 1, .aload_n 0, [], none), (1, 3, .getfield 11, [], none), (4, 1, .aload_n 0, [], none), (5, 3, .getfield 159, [], none),
  (8, 1, .iconst 2, [], none), (9, 1, .isub, [], none), (10, 1, .iaload, [], none), (11, 3, .ifCond .ne 21, [(0, 32)], none),
  (14, 1, .aload_n 0, [], none), (15, 3, .getfield 11, [], none), (18, 1, .aload_n 0, [], none), (19, 3, .getfield 159, [], none),
  (22, 1, .iconst 1, [], none), (23, 1, .isub, [], none), (24, 1, .iaload, [], none), (25, 3, .ifCond .ne 7, [(0, 32)], none),
  (28, 1, .iconst 1, [], none), (29, 3, .goto 4, [(0, 33)], none), (32, 1, .iconst 0, [], none), (33, 1, .ireturn, [], none)]
def e_mc_areLongs (m : Nat) : gE := (k_mc_areLongs, f_mc, c_mc, [], [], (m, 0), 6)
theorem ok_mc_areLongs : gchk cX9_areLongs 1 k_mc_areLongs = true := by decide +kernel
def fn_mc_areLongs (m : Nat) : gFn := gF (e_mc_areLongs m) 1
theorem mo_mc_areLongs (m : Nat) : gMo (.inl (fn_mc_areLongs m)) := gF_mo (E := e_mc_areLongs m) trivial
noncomputable def mc_areLongs (σ : gM) : Option (gM × Int) := lim (fun n => fn_mc_areLongs 119 n [(2, 87)] σ)
theorem mc_areLongs_l (σ : gM) : Lm (fun n => fn_mc_areLongs 119 n [(2, 87)] σ) (mc_areLongs σ) := .of fun n => mo_mc_areLongs 119 n [(2, 87)] σ
theorem mc_areLongs_e (σ : gM) : mc_areLongs σ =
  (if 0 ≤ w32 ((σ 87 8) - 2) ∧ w32 ((σ 87 8) - 2) < 18240 then
  (if σ 88 (w32 ((σ 87 8) - 2)) = 0 then
    (if 0 ≤ w32 ((σ 87 8) - 1) ∧ w32 ((σ 87 8) - 1) < 18240 then
      (if σ 88 (w32 ((σ 87 8) - 1)) = 0 then
        (some (σ, 1))
        else
        (some (σ, 0)))
      else none)
    else
    (some (σ, 0)))
  else none) := Lm.eqn (mc_areLongs_l ..) (.ite (.ite (.ite (.ite .cst .cst) .cst) .cst) .cst) fun n => (rfl)
def k_mc_holds : List gC := [(0, 1, .iload_n 0, [], none), (1, 2, .bipush 12, [], none), (3, 3, .if_icmp .ne 15, [(0, 18)], none), (6, 1, .iload_n 1, [], none),
  (7, 3, .ifCond .ge 7, [(0, 14)], none), (10, 1, .iconst 1, [], none), (11, 3, .goto 52, [(0, 63)], none), (14, 1, .iconst 0, [], none),
  (15, 3, .goto 48, [(0, 63)], none), (18, 1, .iload_n 0, [], none), (19, 2, .bipush 13, [], none), (21, 3, .if_icmp .ne 15, [(0, 36)], none),
  (24, 1, .iload_n 1, [], none), (25, 3, .ifCond .gt 7, [(0, 32)], none), (28, 1, .iconst 1, [], none), (29, 3, .goto 34, [(0, 63)], none),
  (32, 1, .iconst 0, [], none), (33, 3, .goto 30, [(0, 63)], none), (36, 1, .iload_n 0, [], none), (37, 2, .bipush 14, [], none),
  (39, 3, .if_icmp .ne 15, [(0, 54)], none), (42, 1, .iload_n 1, [], none), (43, 3, .ifCond .le 7, [(0, 50)], none), (46, 1, .iconst 1, [], none),
  (47, 3, .goto 16, [(0, 63)], none), (50, 1, .iconst 0, [], none), (51, 3, .goto 12, [(0, 63)], none), (54, 1, .iload_n 1, [], none),
  (55, 3, .ifCond .lt 7, [(0, 62)], none), (58, 1, .iconst 1, [], none), (59, 3, .goto 4, [(0, 63)], none), (62, 1, .iconst 0, [], none),
  (63, 1, .ireturn, [], none)]
def e_mc_holds (m : Nat) : gE := (k_mc_holds, f_mc, c_mc, [], [], (m, 0), 6)
theorem ok_mc_holds : gchk cX9_holds 2 k_mc_holds = true := by decide +kernel
def fn_mc_holds (m : Nat) : gFn := gF (e_mc_holds m) 2
theorem mo_mc_holds (m : Nat) : gMo (.inl (fn_mc_holds m)) := gF_mo (E := e_mc_holds m) trivial
noncomputable def mc_holds (σ : gM) (x0 x1 : Int) : Option (gM × Int) := lim (fun n => fn_mc_holds 119 n [(0, x0), (0, x1)] σ)
theorem mc_holds_l (σ : gM) (x0 x1 : Int) : Lm (fun n => fn_mc_holds 119 n [(0, x0), (0, x1)] σ) (mc_holds σ x0 x1) := .of fun n => mo_mc_holds 119 n [(0, x0), (0, x1)] σ
theorem mc_holds_e (σ : gM) (x0 x1 : Int) : mc_holds σ x0 x1 =
  (if x0 = 12 then
  (if x1 < 0 then
    (some (σ, 1))
    else
    (some (σ, 0)))
  else
  (if x0 = 13 then
    (if 0 < x1 then
      (some (σ, 0))
      else
      (some (σ, 1)))
    else
    (if x0 = 14 then
      (if 0 < x1 then
        (some (σ, 1))
        else
        (some (σ, 0)))
      else
      (if x1 < 0 then
        (some (σ, 0))
        else
        (some (σ, 1)))))) := Lm.eqn (mc_holds_l ..) (.ite (.ite .cst .cst) (.ite (.ite .cst .cst) (.ite (.ite .cst .cst) (.ite .cst .cst)))) fun n => (rfl)
def k_mc_settle : List gC := [(0, 1, .aload_n 0, [], none), (1, 1, .dup, [], none), (2, 3, .getfield 159, [], none), (5, 1, .iconst 2, [], none),
  (6, 1, .isub, [], none), (7, 3, .putfield 159, [], none), (10, 1, .aload_n 0, [], none), (11, 1, .iload_n 1, [], none),
  (12, 1, .lload_n 2, [], none), (13, 3, .invokevirtual 167, [], none), (16, 1, .return_, [], none)]
def e_mc_settle (m : Nat) : gE := (k_mc_settle, f_mc, c_mc, [(167, 3, 17, 5, .inl (fn_mc_push m))], [], (m, 5043456793138493339171717132818382567050206626619577173497381555743452386751642958261026081553724231487283588933615616), 5)
theorem ok_mc_settle : gchk cX9_settle 4 k_mc_settle = true := by decide +kernel
def fn_mc_settle (m : Nat) : gFn := gF (e_mc_settle m) 4
theorem mo_mc_settle (m : Nat) : gMo (.inl (fn_mc_settle m)) := gF_mo (E := e_mc_settle m) ⟨mo_mc_push m, trivial⟩
noncomputable def mc_settle (σ : gM) (x1 x2 : Int) : Option (gM × Int) := lim (fun n => fn_mc_settle 119 n [(2, 87), (0, x1), (1, x2)] σ)
theorem mc_settle_l (σ : gM) (x1 x2 : Int) : Lm (fun n => fn_mc_settle 119 n [(2, 87), (0, x1), (1, x2)] σ) (mc_settle σ x1 x2) := .of fun n => mo_mc_settle 119 n [(2, 87), (0, x1), (1, x2)] σ
theorem mc_settle_e (σ : gM) (x1 x2 : Int) : mc_settle σ x1 x2 =
  ((mc_push (gW σ 87 8 (w32 ((σ 87 8) - 2))) x1 x2).bind fun p1 =>
  some (p1.1, 0)) := Lm.eqn (mc_settle_l ..) (.bind (mc_push_l ..) fun p1 => .cst) fun n => (rfl)
def k_mc_fits : List gC := [(0, 1, .iload_n 1, [], none), (1, 27, .tableswitch 121 8 10 #[27, 60, 90], [(0, 122), (8, 28), (9, 61), (10, 91)], none), (28, 1, .aload_n 0, [], none), (29, 1, .lload_n 2, [], none),
  (30, 2, .lload 4, [], none), (32, 1, .ladd, [], none), (33, 3, .putfield 481, [], none), (36, 1, .lload_n 2, [], none),
  (37, 1, .aload_n 0, [], none), (38, 3, .getfield 481, [], none), (41, 1, .lxor, [], none), (42, 2, .lload 4, [], none),
  (44, 1, .aload_n 0, [], none), (45, 3, .getfield 481, [], none), (48, 1, .lxor, [], none), (49, 1, .land, [], none),
  (50, 1, .lconst 0, [], none), (51, 1, .lcmp, [], none), (52, 3, .ifCond .lt 7, [(0, 59)], none), (55, 1, .iconst 1, [], none),
  (56, 3, .goto 4, [(0, 60)], none), (59, 1, .iconst 0, [], none), (60, 1, .ireturn, [], none), (61, 1, .aload_n 0, [], none),
  (62, 1, .lload_n 2, [], none), (63, 2, .lload 4, [], none), (65, 1, .lsub, [], none), (66, 3, .putfield 481, [], none),
  (69, 1, .lload_n 2, [], none), (70, 2, .lload 4, [], none), (72, 1, .lxor, [], none), (73, 1, .lload_n 2, [], none),
  (74, 1, .aload_n 0, [], none), (75, 3, .getfield 481, [], none), (78, 1, .lxor, [], none), (79, 1, .land, [], none),
  (80, 1, .lconst 0, [], none), (81, 1, .lcmp, [], none), (82, 3, .ifCond .lt 7, [(0, 89)], none), (85, 1, .iconst 1, [], none),
  (86, 3, .goto 4, [(0, 90)], none), (89, 1, .iconst 0, [], none), (90, 1, .ireturn, [], none), (91, 1, .aload_n 0, [], none),
  (92, 1, .lload_n 2, [], none), (93, 2, .lload 4, [], none), (95, 1, .lmul, [], none), (96, 3, .putfield 481, [], none),
  (99, 1, .lload_n 2, [], none), (100, 2, .lload 4, [], none), (102, 3, .invokestatic 485, [], none), (105, 1, .aload_n 0, [], none),
  (106, 3, .getfield 481, [], none), (109, 2, .bipush 63, [], none), (111, 1, .lshr, [], none), (112, 1, .lcmp, [], none),
  (113, 3, .ifCond .ne 7, [(0, 120)], none), (116, 1, .iconst 1, [], none), (117, 3, .goto 4, [(0, 121)], none), (120, 1, .iconst 0, [], none),
  (121, 1, .ireturn, [], none), (122, 1, .lload_n 2, [], none), (123, 3, .ldc2_w 491, [], none), (126, 1, .lcmp, [], none),
  (127, 3, .ifCond .ne 14, [(0, 141)], none), (130, 2, .lload 4, [], none), (132, 3, .ldc2_w 493, [], none), (135, 1, .lcmp, [], none),
  (136, 3, .ifCond .ne 5, [(0, 141)], none), (139, 1, .iconst 0, [], none), (140, 1, .ireturn, [], none), (141, 1, .aload_n 0, [], some [true, false, true, false, true, false]),
  (142, 1, .lload_n 2, [], none), (143, 2, .lload 4, [], none), (145, 1, .ldiv, [], none), (146, 3, .putfield 481, [], none),
  (149, 1, .iconst 1, [], none), (150, 1, .ireturn, [], none)]
def e_mc_fits (m : Nat) : gE := (k_mc_fits, f_mc, c_mc, [(485, 2, 0, 1, .inl (fn_jm_multiplyHigh 0))], [], (m, 2772669694120814859578414184143083703436437075375816575170479580614621307805625623039974406104139578097391210961403571828974157824), 6)
theorem ok_mc_fits : gchk cX9_fits 6 k_mc_fits = true := by decide +kernel
def fn_mc_fits (m : Nat) : gFn := gF (e_mc_fits m) 6
theorem mo_mc_fits (m : Nat) : gMo (.inl (fn_mc_fits m)) := gF_mo (E := e_mc_fits m) ⟨mo_jm_multiplyHigh 0, trivial⟩
noncomputable def mc_fits (σ : gM) (x1 x2 x4 : Int) : Option (gM × Int) := lim (fun n => fn_mc_fits 119 n [(2, 87), (0, x1), (1, x2), (1, x4)] σ)
theorem mc_fits_l (σ : gM) (x1 x2 x4 : Int) : Lm (fun n => fn_mc_fits 119 n [(2, 87), (0, x1), (1, x2), (1, x4)] σ) (mc_fits σ x1 x2 x4) := .of fun n => mo_mc_fits 119 n [(2, 87), (0, x1), (1, x2), (1, x4)] σ
theorem mb_mc_fits : gMos (e_mc_fits 119).2.2.2.1 := ⟨mo_jm_multiplyHigh 0, trivial⟩
noncomputable def mc_fits_b141 (σ : gM) (x2 x4 : Int) : Option (gM × Int) := lim (fun n => gB (e_mc_fits 119) rF tF n 141 [(2, 87), (9, 0), (1, x2), (9, 0), (1, x4), (9, 0)] [] σ)
theorem mc_fits_b141_l (σ : gM) (x2 x4 : Int) : Lm (fun n => gB (e_mc_fits 119) rF tF n 141 [(2, 87), (9, 0), (1, x2), (9, 0), (1, x4), (9, 0)] [] σ) (mc_fits_b141 σ x2 x4) := .of fun n => gB_le (gMos_spec (mb_mc_fits)) n _ _ _ σ
theorem mc_fits_e (σ : gM) (x1 x2 x4 : Int) : mc_fits σ x1 x2 x4 =
  (if x1 = 8 then
  (if l_cmp (l_and (l_xor x2 (w64 (x2 + x4))) (l_xor x4 (w64 (x2 + x4)))) 0 < 0 then
    (some (gW σ 87 47 (w64 (x2 + x4)), 0))
    else
    (some (gW σ 87 47 (w64 (x2 + x4)), 1)))
  else if x1 = 9 then
  (if l_cmp (l_and (l_xor x2 x4) (l_xor x2 (w64 (x2 - x4)))) 0 < 0 then
    (some (gW σ 87 47 (w64 (x2 - x4)), 0))
    else
    (some (gW σ 87 47 (w64 (x2 - x4)), 1)))
  else if x1 = 10 then
  ((jm_multiplyHigh (gW σ 87 47 (w64 (x2 * x4))) x2 x4).bind fun p1 =>
    if l_cmp p1.2 (l_shr (p1.1 87 47) 63) = 0 then
    (some (p1.1, 1))
    else
    (some (p1.1, 0)))
  else (if l_cmp x2 (-9223372036854775808) = 0 then
    (if l_cmp x4 (-1) = 0 then
      (some (σ, 0))
      else
      (mc_fits_b141 σ x2 x4))
    else
    (mc_fits_b141 σ x2 x4))) := Lm.eqn (mc_fits_l ..) (.ite (.ite .cst .cst) (.ite (.ite .cst .cst) (.ite (.bind (jm_multiplyHigh_l ..) fun p1 => (.ite .cst .cst)) (.ite (.ite .cst (mc_fits_b141_l ..)) (mc_fits_b141_l ..))))) fun n => (rfl)
theorem mc_fits_b141_e (σ : gM) (x2 x4 : Int) : mc_fits_b141 σ x2 x4 =
  (if x4 = 0 then none else
  (some (gW σ 87 47 (w64 (Int.tdiv x2 x4)), 1))) := Lm.eqn (mc_fits_b141_l ..) (.ite .cst .cst) fun n => (rfl)
def k_mc_longs : List gC := [(0, 1, .aload_n 0, [], none), (1, 3, .invokevirtual 495, [], none), (4, 3, .ifCond .ne 5, [(0, 9)], none), (7, 1, .iconst 0, [], none),
  (8, 1, .ireturn, [], none), (9, 1, .aload_n 0, [], none), (10, 3, .getfield 15, [], none), (13, 1, .aload_n 0, [], none),
  (14, 3, .getfield 159, [], none), (17, 1, .iconst 2, [], none), (18, 1, .isub, [], none), (19, 1, .laload, [], none),
  (20, 1, .lstore_n 2, [], none), (21, 1, .aload_n 0, [], none), (22, 3, .getfield 15, [], none), (25, 1, .aload_n 0, [], none),
  (26, 3, .getfield 159, [], none), (29, 1, .iconst 1, [], none), (30, 1, .isub, [], none), (31, 1, .laload, [], none),
  (32, 2, .lstore 4, [], none), (34, 1, .aload_n 0, [], none), (35, 3, .getfield 86, [], none), (38, 3, .getfield 307, [], none),
  (41, 1, .iload_n 1, [], none), (42, 1, .iaload, [], none), (43, 2, .istore 6, [], none), (45, 2, .iload 6, [], none),
  (47, 2, .bipush 12, [], none), (49, 3, .if_icmp .lt 29, [(0, 78)], none), (52, 1, .aload_n 0, [], none), (53, 1, .iconst 3, [], none),
  (54, 2, .iload 6, [], none), (56, 1, .lload_n 2, [], none), (57, 2, .lload 4, [], none), (59, 3, .invokestatic 499, [], none),
  (62, 3, .invokestatic 503, [], none), (65, 3, .ifCond .eq 7, [(0, 72)], none), (68, 1, .lconst 1, [], none), (69, 3, .goto 4, [(0, 73)], none),
  (72, 1, .lconst 0, [], none), (73, 3, .invokevirtual 506, [], some [false, false, false, false, false, false, false]), (76, 1, .iconst 1, [], none), (77, 1, .ireturn, [], none),
  (78, 2, .iload 6, [], none), (80, 2, .bipush 11, [], none), (82, 3, .if_icmp .ne 10, [(0, 92)], none), (85, 2, .lload 4, [], none),
  (87, 1, .lconst 0, [], none), (88, 1, .lcmp, [], none), (89, 3, .ifCond .eq 15, [(0, 104)], none), (92, 1, .aload_n 0, [], some [true, false, true, false, true, false, true]),
  (93, 2, .iload 6, [], none), (95, 1, .lload_n 2, [], none), (96, 2, .lload 4, [], none), (98, 3, .invokevirtual 509, [], none),
  (101, 3, .ifCond .ne 5, [(0, 106)], none), (104, 1, .iconst 0, [], none), (105, 1, .ireturn, [], none), (106, 1, .aload_n 0, [], none),
  (107, 1, .iconst 0, [], none), (108, 1, .aload_n 0, [], none), (109, 3, .getfield 481, [], none), (112, 3, .invokevirtual 506, [], none),
  (115, 1, .iconst 1, [], none), (116, 1, .ireturn, [], none)]
def e_mc_longs (m : Nat) : gE := (k_mc_longs, f_mc, c_mc, [(495, 1, 17, 0, .inl (fn_mc_areLongs m)), (499, 2, 0, 0, .inl (fn_jl_compare 0)), (503, 2, 0, 0, .inl (fn_mc_holds m)), (506, 3, 17, 5, .inl (fn_mc_settle m)), (509, 4, 17, 0, .inl (fn_mc_fits m))], [], (m, 2772669694125858316371552677482255420569255457942866781797099157788118689361369075426726049062400604178944935192890855417907773440), 6)
theorem ok_mc_longs : gchk cX9_longs 7 k_mc_longs = true := by decide +kernel
def fn_mc_longs (m : Nat) : gFn := gF (e_mc_longs m) 7
theorem mo_mc_longs (m : Nat) : gMo (.inl (fn_mc_longs m)) := gF_mo (E := e_mc_longs m) ⟨mo_mc_areLongs m, ⟨mo_jl_compare 0, ⟨mo_mc_holds m, ⟨mo_mc_settle m, ⟨mo_mc_fits m, trivial⟩⟩⟩⟩⟩
noncomputable def mc_longs (σ : gM) (x1 : Int) : Option (gM × Int) := lim (fun n => fn_mc_longs 119 n [(2, 87), (0, x1)] σ)
theorem mc_longs_l (σ : gM) (x1 : Int) : Lm (fun n => fn_mc_longs 119 n [(2, 87), (0, x1)] σ) (mc_longs σ x1) := .of fun n => mo_mc_longs 119 n [(2, 87), (0, x1)] σ
theorem mb_mc_longs : gMos (e_mc_longs 119).2.2.2.1 := ⟨mo_mc_areLongs 119, ⟨mo_jl_compare 0, ⟨mo_mc_holds 119, ⟨mo_mc_settle 119, ⟨mo_mc_fits 119, trivial⟩⟩⟩⟩⟩
noncomputable def mc_longs_b73 (σ : gM) (y0 y1 : Int) : Option (gM × Int) := lim (fun n => gB (e_mc_longs 119) rF tF n 73 [(9, 0), (9, 0), (9, 0), (9, 0), (9, 0), (9, 0), (9, 0)] [(1, y0), (0, y1), (2, 87)] σ)
theorem mc_longs_b73_l (σ : gM) (y0 y1 : Int) : Lm (fun n => gB (e_mc_longs 119) rF tF n 73 [(9, 0), (9, 0), (9, 0), (9, 0), (9, 0), (9, 0), (9, 0)] [(1, y0), (0, y1), (2, 87)] σ) (mc_longs_b73 σ y0 y1) := .of fun n => gB_le (gMos_spec (mb_mc_longs)) n _ _ _ σ
noncomputable def mc_longs_b92 (σ : gM) (x2 x4 x6 : Int) : Option (gM × Int) := lim (fun n => gB (e_mc_longs 119) rF tF n 92 [(2, 87), (9, 0), (1, x2), (9, 0), (1, x4), (9, 0), (0, x6)] [] σ)
theorem mc_longs_b92_l (σ : gM) (x2 x4 x6 : Int) : Lm (fun n => gB (e_mc_longs 119) rF tF n 92 [(2, 87), (9, 0), (1, x2), (9, 0), (1, x4), (9, 0), (0, x6)] [] σ) (mc_longs_b92 σ x2 x4 x6) := .of fun n => gB_le (gMos_spec (mb_mc_longs)) n _ _ _ σ
theorem mc_longs_e (σ : gM) (x1 : Int) : mc_longs σ x1 =
  ((mc_areLongs σ).bind fun p1 =>
  if p1.2 = 0 then
  (some (p1.1, 0))
  else
  (if 0 ≤ w32 ((p1.1 87 8) - 2) ∧ w32 ((p1.1 87 8) - 2) < 18240 then
    (if 0 ≤ w32 ((p1.1 87 8) - 1) ∧ w32 ((p1.1 87 8) - 1) < 18240 then
      (if 0 ≤ x1 ∧ x1 < 16000 then
        (if p1.1 9 x1 < 12 then
          (if p1.1 9 x1 = 11 then
            (if l_cmp (p1.1 89 (w32 ((p1.1 87 8) - 1))) 0 = 0 then
              (some (p1.1, 0))
              else
              (mc_longs_b92 p1.1 (p1.1 89 (w32 ((p1.1 87 8) - 2))) (p1.1 89 (w32 ((p1.1 87 8) - 1))) (p1.1 9 x1)))
            else
            (mc_longs_b92 p1.1 (p1.1 89 (w32 ((p1.1 87 8) - 2))) (p1.1 89 (w32 ((p1.1 87 8) - 1))) (p1.1 9 x1)))
          else
          ((jl_compare p1.1 (p1.1 89 (w32 ((p1.1 87 8) - 2))) (p1.1 89 (w32 ((p1.1 87 8) - 1)))).bind fun p2 =>
            (mc_holds p2.1 (p1.1 9 x1) p2.2).bind fun p3 =>
            if p3.2 = 0 then
            (mc_longs_b73 p3.1 0 3)
            else
            (mc_longs_b73 p3.1 1 3)))
        else none)
      else none)
    else none)) := Lm.eqn (mc_longs_l ..) (.bind (mc_areLongs_l ..) fun p1 => (.ite .cst (.ite (.ite (.ite (.ite (.ite (.ite .cst (mc_longs_b92_l ..)) (mc_longs_b92_l ..)) (.bind (jl_compare_l ..) fun p2 => (.bind (mc_holds_l ..) fun p3 => (.ite (mc_longs_b73_l ..) (mc_longs_b73_l ..))))) .cst) .cst) .cst))) fun n => (rfl)
theorem mc_longs_b73_e (σ : gM) (y0 y1 : Int) : mc_longs_b73 σ y0 y1 =
  ((mc_settle σ y1 y0).bind fun p1 =>
  some (p1.1, 1)) := Lm.eqn (mc_longs_b73_l ..) (.bind (mc_settle_l ..) fun p1 => .cst) fun n => (rfl)
theorem mc_longs_b92_e (σ : gM) (x2 x4 x6 : Int) : mc_longs_b92 σ x2 x4 x6 =
  ((mc_fits σ x6 x2 x4).bind fun p1 =>
  if p1.2 = 0 then
  (some (p1.1, 0))
  else
  ((mc_settle p1.1 0 (p1.1 87 47)).bind fun p2 =>
    some (p2.1, 1))) := Lm.eqn (mc_longs_b92_l ..) (.bind (mc_fits_l ..) fun p1 => (.ite .cst (.bind (mc_settle_l ..) fun p2 => .cst))) fun n => (rfl)
def k_mc_isNumber : List gC := [(0, 1, .aload_n 0, [], none), (1, 3, .getfield 11, [], none), (4, 1, .iload_n 1, [], none), (5, 1, .iaload, [], none),
  (6, 3, .ifCond .eq 13, [(0, 19)], none), (9, 1, .aload_n 0, [], none), (10, 3, .getfield 11, [], none), (13, 1, .iload_n 1, [], none),
  (14, 1, .iaload, [], none), (15, 1, .iconst 1, [], none), (16, 3, .if_icmp .ne 7, [(0, 23)], none), (19, 1, .iconst 1, [], some [false, false]),
  (20, 3, .goto 4, [(0, 24)], none), (23, 1, .iconst 0, [], none), (24, 1, .ireturn, [], none)]
def e_mc_isNumber (m : Nat) : gE := (k_mc_isNumber, f_mc, c_mc, [], [], (m, 0), 6)
theorem ok_mc_isNumber : gchk cX9_isNumber 2 k_mc_isNumber = true := by decide +kernel
def fn_mc_isNumber (m : Nat) : gFn := gF (e_mc_isNumber m) 2
theorem mo_mc_isNumber (m : Nat) : gMo (.inl (fn_mc_isNumber m)) := gF_mo (E := e_mc_isNumber m) trivial
noncomputable def mc_isNumber (σ : gM) (x1 : Int) : Option (gM × Int) := lim (fun n => fn_mc_isNumber 119 n [(2, 87), (0, x1)] σ)
theorem mc_isNumber_l (σ : gM) (x1 : Int) : Lm (fun n => fn_mc_isNumber 119 n [(2, 87), (0, x1)] σ) (mc_isNumber σ x1) := .of fun n => mo_mc_isNumber 119 n [(2, 87), (0, x1)] σ
theorem mb_mc_isNumber : gMos (e_mc_isNumber 119).2.2.2.1 := trivial
noncomputable def mc_isNumber_b19 (σ : gM) : Option (gM × Int) := lim (fun n => gB (e_mc_isNumber 119) rF tF n 19 [(9, 0), (9, 0)] [] σ)
theorem mc_isNumber_b19_l (σ : gM) : Lm (fun n => gB (e_mc_isNumber 119) rF tF n 19 [(9, 0), (9, 0)] [] σ) (mc_isNumber_b19 σ) := .of fun n => gB_le (gMos_spec (mb_mc_isNumber)) n _ _ _ σ
theorem mc_isNumber_e (σ : gM) (x1 : Int) : mc_isNumber σ x1 =
  (if 0 ≤ x1 ∧ x1 < 18240 then
  (if σ 88 x1 = 0 then
    (mc_isNumber_b19 σ)
    else
    (if 0 ≤ x1 ∧ x1 < 18240 then
      (if σ 88 x1 = 1 then
        (mc_isNumber_b19 σ)
        else
        (some (σ, 0)))
      else none))
  else none) := Lm.eqn (mc_isNumber_l ..) (.ite (.ite (mc_isNumber_b19_l ..) (.ite (.ite (mc_isNumber_b19_l ..) .cst) .cst)) .cst) fun n => (rfl)
theorem mc_isNumber_b19_e (σ : gM) : mc_isNumber_b19 σ =
  (some (σ, 1)) := Lm.eqn (mc_isNumber_b19_l ..) .cst fun n => (rfl)
def k_mc_whole : List gC := [(0, 1, .aload_n 0, [], none), (1, 3, .getfield 11, [], none), (4, 1, .iload_n 1, [], none), (5, 1, .iaload, [], none),
  (6, 3, .ifCond .ne 16, [(0, 22)], none), (9, 1, .aload_n 2, [], none), (10, 1, .aload_n 0, [], none), (11, 3, .getfield 15, [], none),
  (14, 1, .iload_n 1, [], none), (15, 1, .laload, [], none), (16, 3, .invokevirtual 409, [], none), (19, 3, .goto 18, [(0, 37)], none),
  (22, 1, .aload_n 0, [], none), (23, 3, .getfield 82, [], none), (26, 1, .aload_n 0, [], none), (27, 3, .getfield 15, [], none),
  (30, 1, .iload_n 1, [], none), (31, 1, .laload, [], none), (32, 1, .l2i, [], none), (33, 1, .aload_n 2, [], none),
  (34, 3, .invokevirtual 416, [], none), (37, 1, .return_, [], none)]
def e_mc_whole (m : Nat) : gE := (k_mc_whole, f_mc, c_mc, [(409, 2, 12, 5, .inl (fn_wl_of m)), (416, 3, 10, 5, .inl (fn_hp_get m))], [], (m, 24227587787227680242996183141042265400644274563352017343858361682490010613500890323204207710303182943436953965533314456975336030601216), 5)
theorem ok_mc_whole : gchk cX9_whole 3 k_mc_whole = true := by decide +kernel
def fn_mc_whole (m : Nat) : gFn := gF (e_mc_whole m) 3
theorem mo_mc_whole (m : Nat) : gMo (.inl (fn_mc_whole m)) := gF_mo (E := e_mc_whole m) ⟨mo_wl_of m, ⟨mo_hp_get m, trivial⟩⟩
noncomputable def mc_whole (σ : gM) (x1 x2 : Int) : Option (gM × Int) := lim (fun n => fn_mc_whole 119 n [(2, 87), (0, x1), (2, x2)] σ)
theorem mc_whole_l (σ : gM) (x1 x2 : Int) : Lm (fun n => fn_mc_whole 119 n [(2, 87), (0, x1), (2, x2)] σ) (mc_whole σ x1 x2) := .of fun n => mo_mc_whole 119 n [(2, 87), (0, x1), (2, x2)] σ
theorem mc_whole_e (σ : gM) (x1 x2 : Int) : mc_whole σ x1 x2 =
  (if 0 ≤ x1 ∧ x1 < 18240 then
  (if σ 88 x1 = 0 then
    (if 0 ≤ x1 ∧ x1 < 18240 then
      (gis 119 x2 12 ((wl_of σ x2 (σ 89 x1)).bind fun p2 =>
        some (p2.1, 0)))
      else none)
    else
    (if 0 ≤ x1 ∧ x1 < 18240 then
      ((hp_get σ (w32 (σ 89 x1)) x2).bind fun p1 =>
        some (p1.1, 0))
      else none))
  else none) := Lm.eqn (mc_whole_l ..) (.ite (.ite (.ite (.xis (.bind (wl_of_l ..) fun p2 => .cst)) .cst) (.ite (.bind (hp_get_l ..) fun p1 => .cst) .cst)) .cst) fun n => (rfl)
def k_mc_order : List gC := [(0, 1, .aload_n 0, [], none), (1, 3, .invokevirtual 495, [], none), (4, 3, .ifCond .eq 29, [(0, 33)], none), (7, 1, .aload_n 0, [], none),
  (8, 3, .getfield 15, [], none), (11, 1, .aload_n 0, [], none), (12, 3, .getfield 159, [], none), (15, 1, .iconst 2, [], none),
  (16, 1, .isub, [], none), (17, 1, .laload, [], none), (18, 1, .aload_n 0, [], none), (19, 3, .getfield 15, [], none),
  (22, 1, .aload_n 0, [], none), (23, 3, .getfield 159, [], none), (26, 1, .iconst 1, [], none), (27, 1, .isub, [], none),
  (28, 1, .laload, [], none), (29, 3, .invokestatic 499, [], none), (32, 1, .ireturn, [], none), (33, 1, .aload_n 0, [], none),
  (34, 1, .aload_n 0, [], none), (35, 3, .getfield 159, [], none), (38, 1, .iconst 2, [], none), (39, 1, .isub, [], none),
  (40, 1, .aload_n 0, [], none), (41, 3, .getfield 69, [], none), (44, 3, .invokevirtual 530, [], none), (47, 1, .aload_n 0, [], none),
  (48, 1, .aload_n 0, [], none), (49, 3, .getfield 159, [], none), (52, 1, .iconst 1, [], none), (53, 1, .isub, [], none),
  (54, 1, .aload_n 0, [], none), (55, 3, .getfield 73, [], none), (58, 3, .invokevirtual 530, [], none), (61, 1, .aload_n 0, [], none),
  (62, 3, .getfield 69, [], none), (65, 1, .aload_n 0, [], none), (66, 3, .getfield 73, [], none), (69, 3, .invokestatic 554, [], none),
  (72, 1, .ireturn, [], none)]
def e_mc_order (m : Nat) : gE := (k_mc_order, f_mc, c_mc, [(495, 1, 17, 0, .inl (fn_mc_areLongs m)), (499, 2, 0, 0, .inl (fn_jl_compare 0)), (530, 3, 17, 5, .inl (fn_mc_whole m)), (554, 2, 0, 0, .inl (fn_wl_compare m))], [], (m, 24227587787227680242996183141042265400644274563352017343858361682490010613500890323204207710303182943436953965533314456975336030601216), 0)
theorem ok_mc_order : gchk cX9_order 1 k_mc_order = true := by decide +kernel
def fn_mc_order (m : Nat) : gFn := gF (e_mc_order m) 1
theorem mo_mc_order (m : Nat) : gMo (.inl (fn_mc_order m)) := gF_mo (E := e_mc_order m) ⟨mo_mc_areLongs m, ⟨mo_jl_compare 0, ⟨mo_mc_whole m, ⟨mo_wl_compare m, trivial⟩⟩⟩⟩
noncomputable def mc_order (σ : gM) : Option (gM × Int) := lim (fun n => fn_mc_order 119 n [(2, 87)] σ)
theorem mc_order_l (σ : gM) : Lm (fun n => fn_mc_order 119 n [(2, 87)] σ) (mc_order σ) := .of fun n => mo_mc_order 119 n [(2, 87)] σ
theorem mc_order_e (σ : gM) : mc_order σ =
  ((mc_areLongs σ).bind fun p1 =>
  if p1.2 = 0 then
  ((mc_whole p1.1 (w32 ((p1.1 87 8) - 2)) 105).bind fun p2 =>
    (mc_whole p2.1 (w32 ((p2.1 87 8) - 1)) 108).bind fun p3 =>
    (wl_compare p3.1 105 108).bind fun p4 =>
    some (p4.1, p4.2))
  else
  (if 0 ≤ w32 ((p1.1 87 8) - 2) ∧ w32 ((p1.1 87 8) - 2) < 18240 then
    (if 0 ≤ w32 ((p1.1 87 8) - 1) ∧ w32 ((p1.1 87 8) - 1) < 18240 then
      ((jl_compare p1.1 (p1.1 89 (w32 ((p1.1 87 8) - 2))) (p1.1 89 (w32 ((p1.1 87 8) - 1)))).bind fun p5 =>
        some (p5.1, p5.2))
      else none)
    else none)) := Lm.eqn (mc_order_l ..) (.bind (mc_areLongs_l ..) fun p1 => (.ite (.bind (mc_whole_l ..) fun p2 => (.bind (mc_whole_l ..) fun p3 => (.bind (wl_compare_l ..) fun p4 => .cst))) (.ite (.ite (.bind (jl_compare_l ..) fun p5 => .cst) .cst) .cst))) fun n => (rfl)
def k_mc_needs : List gC := [(0, 1, .aload_n 0, [], none), (1, 3, .getfield 86, [], none), (4, 3, .getfield 263, [], none), (7, 1, .iload_n 1, [], none),
  (8, 1, .iaload, [], none), (9, 2, .istore 4, [], none), (11, 2, .iload 4, [], none), (13, 1, .iload_n 2, [], none),
  (14, 1, .iand, [], none), (15, 3, .ifCond .ne 26, [(0, 41)], none), (18, 1, .aload_n 0, [], none), (19, 1, .iload_n 1, [], none),
  (20, 1, .iload_n 3, [], none), (21, 3, .ifCond .eq 13, [(0, 34)], none), (24, 2, .iload 4, [], none), (26, 1, .iload_n 2, [], none),
  (27, 1, .ineg, [], none), (28, 1, .iand, [], none), (29, 1, .iload_n 2, [], none), (30, 1, .ior, [], none),
  (31, 3, .goto 7, [(0, 38)], none), (34, 2, .iload 4, [], none), (36, 1, .iload_n 2, [], none), (37, 1, .ior, [], none),
  (38, 3, .invokevirtual 305, [], some [false, false, false, false, false]), (41, 1, .return_, [], none)]
def e_mc_needs (m : Nat) : gE := (k_mc_needs, f_mc, c_mc, [(305, 3, 17, 5, .inl (fn_mc_changes m))], [], (m, 6769295752408244434342481743669079544222842504139610220627214244709324602983732720168165663553989632278624755736439637640484864), 5)
theorem ok_mc_needs : gchk cX9_needs 5 k_mc_needs = true := by decide +kernel
def fn_mc_needs (m : Nat) : gFn := gF (e_mc_needs m) 5
theorem mo_mc_needs (m : Nat) : gMo (.inl (fn_mc_needs m)) := gF_mo (E := e_mc_needs m) ⟨mo_mc_changes m, trivial⟩
noncomputable def mc_needs (σ : gM) (x1 x2 x3 : Int) : Option (gM × Int) := lim (fun n => fn_mc_needs 119 n [(2, 87), (0, x1), (0, x2), (0, x3)] σ)
theorem mc_needs_l (σ : gM) (x1 x2 x3 : Int) : Lm (fun n => fn_mc_needs 119 n [(2, 87), (0, x1), (0, x2), (0, x3)] σ) (mc_needs σ x1 x2 x3) := .of fun n => mo_mc_needs 119 n [(2, 87), (0, x1), (0, x2), (0, x3)] σ
theorem mb_mc_needs : gMos (e_mc_needs 119).2.2.2.1 := ⟨mo_mc_changes 119, trivial⟩
noncomputable def mc_needs_b38 (σ : gM) (y0 y1 : Int) : Option (gM × Int) := lim (fun n => gB (e_mc_needs 119) rF tF n 38 [(9, 0), (9, 0), (9, 0), (9, 0), (9, 0)] [(0, y0), (0, y1), (2, 87)] σ)
theorem mc_needs_b38_l (σ : gM) (y0 y1 : Int) : Lm (fun n => gB (e_mc_needs 119) rF tF n 38 [(9, 0), (9, 0), (9, 0), (9, 0), (9, 0)] [(0, y0), (0, y1), (2, 87)] σ) (mc_needs_b38 σ y0 y1) := .of fun n => gB_le (gMos_spec (mb_mc_needs)) n _ _ _ σ
theorem mc_needs_e (σ : gM) (x1 x2 x3 : Int) : mc_needs σ x1 x2 x3 =
  (if 0 ≤ x1 ∧ x1 < 16000 then
  (if i_and (σ 11 x1) x2 = 0 then
    (if x3 = 0 then
      (mc_needs_b38 σ (i_or (σ 11 x1) x2) x1)
      else
      (mc_needs_b38 σ (i_or (i_and (σ 11 x1) (w32 (-x2))) x2) x1))
    else
    (some (σ, 0)))
  else none) := Lm.eqn (mc_needs_l ..) (.ite (.ite (.ite (mc_needs_b38_l ..) (mc_needs_b38_l ..)) .cst) .cst) fun n => (rfl)
theorem mc_needs_b38_e (σ : gM) (y0 y1 : Int) : mc_needs_b38 σ y0 y1 =
  ((mc_changes σ y1 y0).bind fun p1 =>
  some (p1.1, 0)) := Lm.eqn (mc_needs_b38_l ..) (.bind (mc_changes_l ..) fun p1 => .cst) fun n => (rfl)
def k_mc_alike : List gC := [(0, 1, .aload_n 0, [], none), (1, 3, .getfield 11, [], none), (4, 1, .aload_n 0, [], none), (5, 3, .getfield 159, [], none),
  (8, 1, .iconst 2, [], none), (9, 1, .isub, [], none), (10, 1, .iaload, [], none), (11, 1, .istore_n 3, [], none),
  (12, 1, .aload_n 0, [], none), (13, 3, .getfield 11, [], none), (16, 1, .aload_n 0, [], none), (17, 3, .getfield 159, [], none),
  (20, 1, .iconst 1, [], none), (21, 1, .isub, [], none), (22, 1, .iaload, [], none), (23, 2, .istore 4, [], none),
  (25, 1, .aload_n 0, [], none), (26, 3, .getfield 86, [], none), (29, 3, .getfield 263, [], none), (32, 1, .iload_n 1, [], none),
  (33, 1, .iaload, [], none), (34, 2, .bipush 8, [], none), (36, 1, .iand, [], none), (37, 3, .ifCond .ne 9, [(0, 46)], none),
  (40, 1, .iload_n 3, [], none), (41, 2, .iload 4, [], none), (43, 3, .if_icmp .eq 8, [(0, 51)], none), (46, 2, .bipush 8, [], some [true, true, true, true, true, false, false]),
  (48, 3, .goto 31, [(0, 79)], none), (51, 1, .iload_n 3, [], none), (52, 3, .ifCond .ne 7, [(0, 59)], none), (55, 1, .iconst 1, [], none),
  (56, 3, .goto 23, [(0, 79)], none), (59, 1, .iload_n 3, [], none), (60, 1, .iconst 3, [], none), (61, 3, .if_icmp .ne 7, [(0, 68)], none),
  (64, 1, .iconst 2, [], none), (65, 3, .goto 14, [(0, 79)], none), (68, 1, .iload_n 3, [], none), (69, 1, .iconst 2, [], none),
  (70, 3, .if_icmp .ne 7, [(0, 77)], none), (73, 1, .iconst 4, [], none), (74, 3, .goto 5, [(0, 79)], none), (77, 2, .bipush 8, [], none),
  (79, 2, .istore 5, [], some [true, true, true, true, true, false, false]), (81, 1, .aload_n 0, [], none), (82, 1, .aload_n 0, [], none), (83, 3, .getfield 159, [], none),
  (86, 1, .iconst 2, [], none), (87, 1, .isub, [], none), (88, 3, .invokevirtual 516, [], none), (91, 3, .ifCond .eq 33, [(0, 124)], none),
  (94, 1, .aload_n 0, [], none), (95, 1, .aload_n 0, [], none), (96, 3, .getfield 159, [], none), (99, 1, .iconst 1, [], none),
  (100, 1, .isub, [], none), (101, 3, .invokevirtual 516, [], none), (104, 3, .ifCond .eq 20, [(0, 124)], none), (107, 1, .aload_n 0, [], none),
  (108, 3, .invokevirtual 551, [], none), (111, 3, .ifCond .ne 7, [(0, 118)], none), (114, 1, .iconst 1, [], none), (115, 3, .goto 4, [(0, 119)], none),
  (118, 1, .iconst 0, [], none), (119, 2, .istore 6, [], some [true, true, true, false, false, true, false]), (121, 3, .goto 84, [(0, 205)], none), (124, 1, .iload_n 3, [], some [true, true, true, true, true, true, false]),
  (125, 2, .iload 4, [], none), (127, 3, .if_icmp .ne 75, [(0, 202)], none), (130, 1, .iload_n 3, [], none), (131, 1, .iconst 2, [], none),
  (132, 3, .if_icmp .ne 40, [(0, 172)], none), (135, 1, .aload_n 0, [], none), (136, 3, .getfield 82, [], none), (139, 1, .aload_n 0, [], none),
  (140, 3, .getfield 15, [], none), (143, 1, .aload_n 0, [], none), (144, 3, .getfield 159, [], none), (147, 1, .iconst 2, [], none),
  (148, 1, .isub, [], none), (149, 1, .laload, [], none), (150, 1, .l2i, [], none), (151, 1, .aload_n 0, [], none),
  (152, 3, .getfield 15, [], none), (155, 1, .aload_n 0, [], none), (156, 3, .getfield 159, [], none), (159, 1, .iconst 1, [], none),
  (160, 1, .isub, [], none), (161, 1, .laload, [], none), (162, 1, .l2i, [], none), (163, 3, .invokevirtual 560, [], none),
  (166, 3, .ifCond .eq 36, [(0, 202)], none), (169, 3, .goto 29, [(0, 198)], none), (172, 1, .aload_n 0, [], none), (173, 3, .getfield 15, [], none),
  (176, 1, .aload_n 0, [], none), (177, 3, .getfield 159, [], none), (180, 1, .iconst 2, [], none), (181, 1, .isub, [], none),
  (182, 1, .laload, [], none), (183, 1, .aload_n 0, [], none), (184, 3, .getfield 15, [], none), (187, 1, .aload_n 0, [], none),
  (188, 3, .getfield 159, [], none), (191, 1, .iconst 1, [], none), (192, 1, .isub, [], none), (193, 1, .laload, [], none),
  (194, 1, .lcmp, [], none), (195, 3, .ifCond .ne 7, [(0, 202)], none), (198, 1, .iconst 1, [], some [true, true, true, false, false, true, false]), (199, 3, .goto 4, [(0, 203)], none),
  (202, 1, .iconst 0, [], some [true, true, true, false, false, true, false]), (203, 2, .istore 6, [], some [true, true, true, false, false, true, false]), (205, 1, .aload_n 0, [], some [true, true, true, false, false, true, true]), (206, 1, .iload_n 1, [], none),
  (207, 2, .iload 5, [], none), (209, 2, .iload 5, [], none), (211, 2, .bipush 8, [], none), (213, 3, .if_icmp .ne 7, [(0, 220)], none),
  (216, 1, .iconst 1, [], none), (217, 3, .goto 4, [(0, 221)], none), (220, 1, .iconst 0, [], none), (221, 3, .invokevirtual 526, [], some [true, false, true, false, false, false, true]),
  (224, 1, .aload_n 0, [], none), (225, 1, .iconst 3, [], none), (226, 2, .iload 6, [], none), (228, 1, .iload_n 2, [], none),
  (229, 2, .bipush 16, [], none), (231, 3, .if_icmp .ne 7, [(0, 238)], none), (234, 1, .iconst 1, [], none), (235, 3, .goto 4, [(0, 239)], none),
  (238, 1, .iconst 0, [], none), (239, 3, .if_icmp .ne 7, [(0, 246)], some [false, false, false, false, false, false, false]), (242, 1, .lconst 1, [], none), (243, 3, .goto 4, [(0, 247)], none),
  (246, 1, .lconst 0, [], none), (247, 3, .invokevirtual 506, [], some [false, false, false, false, false, false, false]), (250, 1, .iconst 1, [], none), (251, 1, .ireturn, [], none)]
def e_mc_alike (m : Nat) : gE := (k_mc_alike, f_mc, c_mc, [(516, 2, 17, 0, .inl (fn_mc_isNumber m)), (551, 1, 17, 0, .inl (fn_mc_order m)), (560, 3, 10, 0, .inl (fn_hp_isSame m)), (526, 4, 17, 5, .inl (fn_mc_needs m)), (506, 3, 17, 5, .inl (fn_mc_settle m))], [], (m, 24227594556523437694697410622017348241440951604577088533675208929281428820207049050389314630111804758452667797882301680698562604701696), 6)
theorem ok_mc_alike : gchk cX9_alike 7 k_mc_alike = true := by decide +kernel
def fn_mc_alike (m : Nat) : gFn := gF (e_mc_alike m) 7
theorem mo_mc_alike (m : Nat) : gMo (.inl (fn_mc_alike m)) := gF_mo (E := e_mc_alike m) ⟨mo_mc_isNumber m, ⟨mo_mc_order m, ⟨mo_hp_isSame m, ⟨mo_mc_needs m, ⟨mo_mc_settle m, trivial⟩⟩⟩⟩⟩
noncomputable def mc_alike (σ : gM) (x1 x2 : Int) : Option (gM × Int) := lim (fun n => fn_mc_alike 119 n [(2, 87), (0, x1), (0, x2)] σ)
theorem mc_alike_l (σ : gM) (x1 x2 : Int) : Lm (fun n => fn_mc_alike 119 n [(2, 87), (0, x1), (0, x2)] σ) (mc_alike σ x1 x2) := .of fun n => mo_mc_alike 119 n [(2, 87), (0, x1), (0, x2)] σ
theorem mb_mc_alike : gMos (e_mc_alike 119).2.2.2.1 := ⟨mo_mc_isNumber 119, ⟨mo_mc_order 119, ⟨mo_hp_isSame 119, ⟨mo_mc_needs 119, ⟨mo_mc_settle 119, trivial⟩⟩⟩⟩⟩
noncomputable def mc_alike_b46 (σ : gM) (x1 x2 x3 x4 : Int) : Option (gM × Int) := lim (fun n => gB (e_mc_alike 119) rF tF n 46 [(2, 87), (0, x1), (0, x2), (0, x3), (0, x4), (9, 0), (9, 0)] [] σ)
theorem mc_alike_b46_l (σ : gM) (x1 x2 x3 x4 : Int) : Lm (fun n => gB (e_mc_alike 119) rF tF n 46 [(2, 87), (0, x1), (0, x2), (0, x3), (0, x4), (9, 0), (9, 0)] [] σ) (mc_alike_b46 σ x1 x2 x3 x4) := .of fun n => gB_le (gMos_spec (mb_mc_alike)) n _ _ _ σ
noncomputable def mc_alike_b79 (σ : gM) (x1 x2 x3 x4 y0 : Int) : Option (gM × Int) := lim (fun n => gB (e_mc_alike 119) rF tF n 79 [(2, 87), (0, x1), (0, x2), (0, x3), (0, x4), (9, 0), (9, 0)] [(0, y0)] σ)
theorem mc_alike_b79_l (σ : gM) (x1 x2 x3 x4 y0 : Int) : Lm (fun n => gB (e_mc_alike 119) rF tF n 79 [(2, 87), (0, x1), (0, x2), (0, x3), (0, x4), (9, 0), (9, 0)] [(0, y0)] σ) (mc_alike_b79 σ x1 x2 x3 x4 y0) := .of fun n => gB_le (gMos_spec (mb_mc_alike)) n _ _ _ σ
noncomputable def mc_alike_b119 (σ : gM) (x1 x2 x5 y0 : Int) : Option (gM × Int) := lim (fun n => gB (e_mc_alike 119) rF tF n 119 [(2, 87), (0, x1), (0, x2), (9, 0), (9, 0), (0, x5), (9, 0)] [(0, y0)] σ)
theorem mc_alike_b119_l (σ : gM) (x1 x2 x5 y0 : Int) : Lm (fun n => gB (e_mc_alike 119) rF tF n 119 [(2, 87), (0, x1), (0, x2), (9, 0), (9, 0), (0, x5), (9, 0)] [(0, y0)] σ) (mc_alike_b119 σ x1 x2 x5 y0) := .of fun n => gB_le (gMos_spec (mb_mc_alike)) n _ _ _ σ
noncomputable def mc_alike_b124 (σ : gM) (x1 x2 x3 x4 x5 : Int) : Option (gM × Int) := lim (fun n => gB (e_mc_alike 119) rF tF n 124 [(2, 87), (0, x1), (0, x2), (0, x3), (0, x4), (0, x5), (9, 0)] [] σ)
theorem mc_alike_b124_l (σ : gM) (x1 x2 x3 x4 x5 : Int) : Lm (fun n => gB (e_mc_alike 119) rF tF n 124 [(2, 87), (0, x1), (0, x2), (0, x3), (0, x4), (0, x5), (9, 0)] [] σ) (mc_alike_b124 σ x1 x2 x3 x4 x5) := .of fun n => gB_le (gMos_spec (mb_mc_alike)) n _ _ _ σ
noncomputable def mc_alike_b198 (σ : gM) (x1 x2 x5 : Int) : Option (gM × Int) := lim (fun n => gB (e_mc_alike 119) rF tF n 198 [(2, 87), (0, x1), (0, x2), (9, 0), (9, 0), (0, x5), (9, 0)] [] σ)
theorem mc_alike_b198_l (σ : gM) (x1 x2 x5 : Int) : Lm (fun n => gB (e_mc_alike 119) rF tF n 198 [(2, 87), (0, x1), (0, x2), (9, 0), (9, 0), (0, x5), (9, 0)] [] σ) (mc_alike_b198 σ x1 x2 x5) := .of fun n => gB_le (gMos_spec (mb_mc_alike)) n _ _ _ σ
noncomputable def mc_alike_b202 (σ : gM) (x1 x2 x5 : Int) : Option (gM × Int) := lim (fun n => gB (e_mc_alike 119) rF tF n 202 [(2, 87), (0, x1), (0, x2), (9, 0), (9, 0), (0, x5), (9, 0)] [] σ)
theorem mc_alike_b202_l (σ : gM) (x1 x2 x5 : Int) : Lm (fun n => gB (e_mc_alike 119) rF tF n 202 [(2, 87), (0, x1), (0, x2), (9, 0), (9, 0), (0, x5), (9, 0)] [] σ) (mc_alike_b202 σ x1 x2 x5) := .of fun n => gB_le (gMos_spec (mb_mc_alike)) n _ _ _ σ
noncomputable def mc_alike_b203 (σ : gM) (x1 x2 x5 y0 : Int) : Option (gM × Int) := lim (fun n => gB (e_mc_alike 119) rF tF n 203 [(2, 87), (0, x1), (0, x2), (9, 0), (9, 0), (0, x5), (9, 0)] [(0, y0)] σ)
theorem mc_alike_b203_l (σ : gM) (x1 x2 x5 y0 : Int) : Lm (fun n => gB (e_mc_alike 119) rF tF n 203 [(2, 87), (0, x1), (0, x2), (9, 0), (9, 0), (0, x5), (9, 0)] [(0, y0)] σ) (mc_alike_b203 σ x1 x2 x5 y0) := .of fun n => gB_le (gMos_spec (mb_mc_alike)) n _ _ _ σ
noncomputable def mc_alike_b205 (σ : gM) (x1 x2 x5 x6 : Int) : Option (gM × Int) := lim (fun n => gB (e_mc_alike 119) rF tF n 205 [(2, 87), (0, x1), (0, x2), (9, 0), (9, 0), (0, x5), (0, x6)] [] σ)
theorem mc_alike_b205_l (σ : gM) (x1 x2 x5 x6 : Int) : Lm (fun n => gB (e_mc_alike 119) rF tF n 205 [(2, 87), (0, x1), (0, x2), (9, 0), (9, 0), (0, x5), (0, x6)] [] σ) (mc_alike_b205 σ x1 x2 x5 x6) := .of fun n => gB_le (gMos_spec (mb_mc_alike)) n _ _ _ σ
noncomputable def mc_alike_b221 (σ : gM) (x2 x6 y0 y1 y2 : Int) : Option (gM × Int) := lim (fun n => gB (e_mc_alike 119) rF tF n 221 [(2, 87), (9, 0), (0, x2), (9, 0), (9, 0), (9, 0), (0, x6)] [(0, y0), (0, y1), (0, y2), (2, 87)] σ)
theorem mc_alike_b221_l (σ : gM) (x2 x6 y0 y1 y2 : Int) : Lm (fun n => gB (e_mc_alike 119) rF tF n 221 [(2, 87), (9, 0), (0, x2), (9, 0), (9, 0), (9, 0), (0, x6)] [(0, y0), (0, y1), (0, y2), (2, 87)] σ) (mc_alike_b221 σ x2 x6 y0 y1 y2) := .of fun n => gB_le (gMos_spec (mb_mc_alike)) n _ _ _ σ
noncomputable def mc_alike_b239 (σ : gM) (y0 y1 y2 : Int) : Option (gM × Int) := lim (fun n => gB (e_mc_alike 119) rF tF n 239 [(9, 0), (9, 0), (9, 0), (9, 0), (9, 0), (9, 0), (9, 0)] [(0, y0), (0, y1), (0, y2), (2, 87)] σ)
theorem mc_alike_b239_l (σ : gM) (y0 y1 y2 : Int) : Lm (fun n => gB (e_mc_alike 119) rF tF n 239 [(9, 0), (9, 0), (9, 0), (9, 0), (9, 0), (9, 0), (9, 0)] [(0, y0), (0, y1), (0, y2), (2, 87)] σ) (mc_alike_b239 σ y0 y1 y2) := .of fun n => gB_le (gMos_spec (mb_mc_alike)) n _ _ _ σ
noncomputable def mc_alike_b247 (σ : gM) (y0 y1 : Int) : Option (gM × Int) := lim (fun n => gB (e_mc_alike 119) rF tF n 247 [(9, 0), (9, 0), (9, 0), (9, 0), (9, 0), (9, 0), (9, 0)] [(1, y0), (0, y1), (2, 87)] σ)
theorem mc_alike_b247_l (σ : gM) (y0 y1 : Int) : Lm (fun n => gB (e_mc_alike 119) rF tF n 247 [(9, 0), (9, 0), (9, 0), (9, 0), (9, 0), (9, 0), (9, 0)] [(1, y0), (0, y1), (2, 87)] σ) (mc_alike_b247 σ y0 y1) := .of fun n => gB_le (gMos_spec (mb_mc_alike)) n _ _ _ σ
theorem mc_alike_e (σ : gM) (x1 x2 : Int) : mc_alike σ x1 x2 =
  (if 0 ≤ w32 ((σ 87 8) - 2) ∧ w32 ((σ 87 8) - 2) < 18240 then
  (if 0 ≤ w32 ((σ 87 8) - 1) ∧ w32 ((σ 87 8) - 1) < 18240 then
    (if 0 ≤ x1 ∧ x1 < 16000 then
      (if i_and (σ 11 x1) 8 = 0 then
        (if σ 88 (w32 ((σ 87 8) - 2)) = σ 88 (w32 ((σ 87 8) - 1)) then
          (if σ 88 (w32 ((σ 87 8) - 2)) = 0 then
            (mc_alike_b79 σ x1 x2 (σ 88 (w32 ((σ 87 8) - 2))) (σ 88 (w32 ((σ 87 8) - 1))) 1)
            else
            (if σ 88 (w32 ((σ 87 8) - 2)) = 3 then
              (mc_alike_b79 σ x1 x2 (σ 88 (w32 ((σ 87 8) - 2))) (σ 88 (w32 ((σ 87 8) - 1))) 2)
              else
              (if σ 88 (w32 ((σ 87 8) - 2)) = 2 then
                (mc_alike_b79 σ x1 x2 (σ 88 (w32 ((σ 87 8) - 2))) (σ 88 (w32 ((σ 87 8) - 1))) 4)
                else
                (mc_alike_b79 σ x1 x2 (σ 88 (w32 ((σ 87 8) - 2))) (σ 88 (w32 ((σ 87 8) - 1))) 8))))
          else
          (mc_alike_b46 σ x1 x2 (σ 88 (w32 ((σ 87 8) - 2))) (σ 88 (w32 ((σ 87 8) - 1)))))
        else
        (mc_alike_b46 σ x1 x2 (σ 88 (w32 ((σ 87 8) - 2))) (σ 88 (w32 ((σ 87 8) - 1)))))
      else none)
    else none)
  else none) := Lm.eqn (mc_alike_l ..) (.ite (.ite (.ite (.ite (.ite (.ite (mc_alike_b79_l ..) (.ite (mc_alike_b79_l ..) (.ite (mc_alike_b79_l ..) (mc_alike_b79_l ..)))) (mc_alike_b46_l ..)) (mc_alike_b46_l ..)) .cst) .cst) .cst) fun n => (rfl)
theorem mc_alike_b46_e (σ : gM) (x1 x2 x3 x4 : Int) : mc_alike_b46 σ x1 x2 x3 x4 =
  (mc_alike_b79 σ x1 x2 x3 x4 8) := Lm.eqn (mc_alike_b46_l ..) (mc_alike_b79_l ..) fun n => (rfl)
theorem mc_alike_b79_e (σ : gM) (x1 x2 x3 x4 y0 : Int) : mc_alike_b79 σ x1 x2 x3 x4 y0 =
  ((mc_isNumber σ (w32 ((σ 87 8) - 2))).bind fun p1 =>
  if p1.2 = 0 then
  (mc_alike_b124 p1.1 x1 x2 x3 x4 y0)
  else
  ((mc_isNumber p1.1 (w32 ((p1.1 87 8) - 1))).bind fun p2 =>
    if p2.2 = 0 then
    (mc_alike_b124 p2.1 x1 x2 x3 x4 y0)
    else
    ((mc_order p2.1).bind fun p3 =>
      if p3.2 = 0 then
      (mc_alike_b119 p3.1 x1 x2 y0 1)
      else
      (mc_alike_b119 p3.1 x1 x2 y0 0)))) := Lm.eqn (mc_alike_b79_l ..) (.bind (mc_isNumber_l ..) fun p1 => (.ite (mc_alike_b124_l ..) (.bind (mc_isNumber_l ..) fun p2 => (.ite (mc_alike_b124_l ..) (.bind (mc_order_l ..) fun p3 => (.ite (mc_alike_b119_l ..) (mc_alike_b119_l ..))))))) fun n => (rfl)
theorem mc_alike_b119_e (σ : gM) (x1 x2 x5 y0 : Int) : mc_alike_b119 σ x1 x2 x5 y0 =
  (mc_alike_b205 σ x1 x2 x5 y0) := Lm.eqn (mc_alike_b119_l ..) (mc_alike_b205_l ..) fun n => (rfl)
theorem mc_alike_b124_e (σ : gM) (x1 x2 x3 x4 x5 : Int) : mc_alike_b124 σ x1 x2 x3 x4 x5 =
  (if x3 = x4 then
  (if x3 = 2 then
    (if 0 ≤ w32 ((σ 87 8) - 2) ∧ w32 ((σ 87 8) - 2) < 18240 then
      (if 0 ≤ w32 ((σ 87 8) - 1) ∧ w32 ((σ 87 8) - 1) < 18240 then
        ((hp_isSame σ (w32 (σ 89 (w32 ((σ 87 8) - 2)))) (w32 (σ 89 (w32 ((σ 87 8) - 1))))).bind fun p1 =>
          if p1.2 = 0 then
          (mc_alike_b202 p1.1 x1 x2 x5)
          else
          (mc_alike_b198 p1.1 x1 x2 x5))
        else none)
      else none)
    else
    (if 0 ≤ w32 ((σ 87 8) - 2) ∧ w32 ((σ 87 8) - 2) < 18240 then
      (if 0 ≤ w32 ((σ 87 8) - 1) ∧ w32 ((σ 87 8) - 1) < 18240 then
        (if l_cmp (σ 89 (w32 ((σ 87 8) - 2))) (σ 89 (w32 ((σ 87 8) - 1))) = 0 then
          (mc_alike_b198 σ x1 x2 x5)
          else
          (mc_alike_b202 σ x1 x2 x5))
        else none)
      else none))
  else
  (mc_alike_b202 σ x1 x2 x5)) := Lm.eqn (mc_alike_b124_l ..) (.ite (.ite (.ite (.ite (.bind (hp_isSame_l ..) fun p1 => (.ite (mc_alike_b202_l ..) (mc_alike_b198_l ..))) .cst) .cst) (.ite (.ite (.ite (mc_alike_b198_l ..) (mc_alike_b202_l ..)) .cst) .cst)) (mc_alike_b202_l ..)) fun n => (rfl)
theorem mc_alike_b198_e (σ : gM) (x1 x2 x5 : Int) : mc_alike_b198 σ x1 x2 x5 =
  (mc_alike_b203 σ x1 x2 x5 1) := Lm.eqn (mc_alike_b198_l ..) (mc_alike_b203_l ..) fun n => (rfl)
theorem mc_alike_b202_e (σ : gM) (x1 x2 x5 : Int) : mc_alike_b202 σ x1 x2 x5 =
  (mc_alike_b203 σ x1 x2 x5 0) := Lm.eqn (mc_alike_b202_l ..) (mc_alike_b203_l ..) fun n => (rfl)
theorem mc_alike_b203_e (σ : gM) (x1 x2 x5 y0 : Int) : mc_alike_b203 σ x1 x2 x5 y0 =
  (mc_alike_b205 σ x1 x2 x5 y0) := Lm.eqn (mc_alike_b203_l ..) (mc_alike_b205_l ..) fun n => (rfl)
theorem mc_alike_b205_e (σ : gM) (x1 x2 x5 x6 : Int) : mc_alike_b205 σ x1 x2 x5 x6 =
  (if x5 = 8 then
  (mc_alike_b221 σ x2 x6 1 x5 x1)
  else
  (mc_alike_b221 σ x2 x6 0 x5 x1)) := Lm.eqn (mc_alike_b205_l ..) (.ite (mc_alike_b221_l ..) (mc_alike_b221_l ..)) fun n => (rfl)
theorem mc_alike_b221_e (σ : gM) (x2 x6 y0 y1 y2 : Int) : mc_alike_b221 σ x2 x6 y0 y1 y2 =
  ((mc_needs σ y2 y1 y0).bind fun p1 =>
  if x2 = 16 then
  (mc_alike_b239 p1.1 1 x6 3)
  else
  (mc_alike_b239 p1.1 0 x6 3)) := Lm.eqn (mc_alike_b221_l ..) (.bind (mc_needs_l ..) fun p1 => (.ite (mc_alike_b239_l ..) (mc_alike_b239_l ..))) fun n => (rfl)
theorem mc_alike_b239_e (σ : gM) (y0 y1 y2 : Int) : mc_alike_b239 σ y0 y1 y2 =
  (if y1 = y0 then
  (mc_alike_b247 σ 1 y2)
  else
  (mc_alike_b247 σ 0 y2)) := Lm.eqn (mc_alike_b239_l ..) (.ite (mc_alike_b247_l ..) (mc_alike_b247_l ..)) fun n => (rfl)
theorem mc_alike_b247_e (σ : gM) (y0 y1 : Int) : mc_alike_b247 σ y0 y1 =
  ((mc_settle σ y1 y0).bind fun p1 =>
  some (p1.1, 1)) := Lm.eqn (mc_alike_b247_l ..) (.bind (mc_settle_l ..) fun p1 => .cst) fun n => (rfl)
def k_mc_digits : List gC := [(0, 1, .aload_n 1, [], none), (1, 3, .getfield 445, [], none), (4, 3, .ifCond .ge 12, [(0, 16)], none), (7, 1, .aload_n 0, [], none),
  (8, 3, .getfield 82, [], none), (11, 2, .bipush 45, [], none), (13, 3, .invokevirtual 385, [], none), (16, 1, .aload_n 1, [], some [true, true, false]),
  (17, 3, .invokevirtual 448, [], none), (20, 1, .iconst 1, [], none), (21, 1, .isub, [], none), (22, 1, .istore_n 2, [], none),
  (23, 1, .iload_n 2, [], some [true, true, true]), (24, 3, .ifCond .lt 24, [(0, 48)], none), (27, 1, .aload_n 0, [], none), (28, 3, .getfield 82, [], none),
  (31, 2, .bipush 48, [], none), (33, 1, .aload_n 1, [], none), (34, 1, .iload_n 2, [], none), (35, 3, .invokevirtual 450, [], none),
  (38, 1, .iadd, [], none), (39, 3, .invokevirtual 385, [], none), (42, 3, .iinc 2 (-1), [], none), (45, 3, .goto (-22), [(0, 23)], none),
  (48, 1, .return_, [], none)]
def e_mc_digits (m : Nat) : gE := (k_mc_digits, f_mc, c_mc, [(385, 2, 10, 5, .inl (fn_hp_put m)), (448, 1, 12, 0, .inl (fn_wl_digits m)), (450, 2, 12, 0, .inl (fn_wl_digit m))], [], (m, 1897137590064188545819787018382342682267975428761855001222473056385648716020711426), 5)
theorem ok_mc_digits : gchk cX9_digits 3 k_mc_digits = true := by decide +kernel
def fn_mc_digits (m : Nat) : gFn := gF (e_mc_digits m) 3
theorem mo_mc_digits (m : Nat) : gMo (.inl (fn_mc_digits m)) := gF_mo (E := e_mc_digits m) ⟨mo_hp_put m, ⟨mo_wl_digits m, ⟨mo_wl_digit m, trivial⟩⟩⟩
noncomputable def mc_digits (σ : gM) (x1 : Int) : Option (gM × Int) := lim (fun n => fn_mc_digits 119 n [(2, 87), (2, x1)] σ)
theorem mc_digits_l (σ : gM) (x1 : Int) : Lm (fun n => fn_mc_digits 119 n [(2, 87), (2, x1)] σ) (mc_digits σ x1) := .of fun n => mo_mc_digits 119 n [(2, 87), (2, x1)] σ
theorem mb_mc_digits : gMos (e_mc_digits 119).2.2.2.1 := ⟨mo_hp_put 119, ⟨mo_wl_digits 119, ⟨mo_wl_digit 119, trivial⟩⟩⟩
noncomputable def mc_digits_b16 (σ : gM) (x1 : Int) : Option (gM × Int) := lim (fun n => gB (e_mc_digits 119) rF tF n 16 [(2, 87), (2, x1), (9, 0)] [] σ)
theorem mc_digits_b16_l (σ : gM) (x1 : Int) : Lm (fun n => gB (e_mc_digits 119) rF tF n 16 [(2, 87), (2, x1), (9, 0)] [] σ) (mc_digits_b16 σ x1) := .of fun n => gB_le (gMos_spec (mb_mc_digits)) n _ _ _ σ
noncomputable def mc_digits_b23 (σ : gM) (x1 x2 : Int) : Option (gM × Int) := lim (fun n => gB (e_mc_digits 119) rF tF n 23 [(2, 87), (2, x1), (0, x2)] [] σ)
theorem mc_digits_b23_l (σ : gM) (x1 x2 : Int) : Lm (fun n => gB (e_mc_digits 119) rF tF n 23 [(2, 87), (2, x1), (0, x2)] [] σ) (mc_digits_b23 σ x1 x2) := .of fun n => gB_le (gMos_spec (mb_mc_digits)) n _ _ _ σ
theorem mc_digits_e (σ : gM) (x1 : Int) : mc_digits σ x1 =
  (gis 119 x1 12 (if σ x1 0 < 0 then
  ((hp_put σ 45).bind fun p1 =>
    mc_digits_b16 p1.1 x1)
  else
  (mc_digits_b16 σ x1))) := Lm.eqn (mc_digits_l ..) (.xis (.ite (.bind (hp_put_l ..) fun p1 => (mc_digits_b16_l ..)) (mc_digits_b16_l ..))) fun n => (rfl)
theorem mc_digits_b16_e (σ : gM) (x1 : Int) : mc_digits_b16 σ x1 =
  (gis 119 x1 12 ((wl_digits σ x1).bind fun p1 =>
  mc_digits_b23 p1.1 x1 (w32 (p1.2 - 1)))) := Lm.eqn (mc_digits_b16_l ..) (.xis (.bind (wl_digits_l ..) fun p1 => (mc_digits_b23_l ..))) fun n => (rfl)
theorem mc_digits_b23_e (σ : gM) (x1 x2 : Int) : mc_digits_b23 σ x1 x2 =
  (if x2 < 0 then
  (some (σ, 0))
  else
  (gis 119 x1 12 ((wl_digit σ x1 x2).bind fun p1 =>
    (hp_put p1.1 (w32 (48 + p1.2))).bind fun p2 =>
    mc_digits_b23 p2.1 x1 (w32 (x2 + (-1)))))) := Lm.eqn (mc_digits_b23_l ..) (.ite .cst (.xis (.bind (wl_digit_l ..) fun p1 => (.bind (hp_put_l ..) fun p2 => (mc_digits_b23_l ..))))) fun n => (rfl)
def k_mc_letters : List gC := [(0, 1, .iconst 0, [], none), (1, 1, .istore_n 2, [], none), (2, 1, .iload_n 2, [], some [true, true, true]), (3, 1, .aload_n 0, [], none),
  (4, 3, .getfield 82, [], none), (7, 3, .getfield 388, [], none), (10, 1, .iload_n 1, [], none), (11, 1, .iaload, [], none),
  (12, 3, .if_icmp .ge 35, [(0, 47)], none), (15, 1, .aload_n 0, [], none), (16, 3, .getfield 82, [], none), (19, 1, .aload_n 0, [], none),
  (20, 3, .getfield 82, [], none), (23, 3, .getfield 369, [], none), (26, 1, .aload_n 0, [], none), (27, 3, .getfield 82, [], none),
  (30, 3, .getfield 387, [], none), (33, 1, .iload_n 1, [], none), (34, 1, .iaload, [], none), (35, 1, .iload_n 2, [], none),
  (36, 1, .iadd, [], none), (37, 1, .baload, [], none), (38, 3, .invokevirtual 385, [], none), (41, 3, .iinc 2 1, [], none),
  (44, 3, .goto (-42), [(0, 2)], none), (47, 1, .return_, [], none)]
def e_mc_letters (m : Nat) : gE := (k_mc_letters, f_mc, c_mc, [(385, 2, 10, 5, .inl (fn_hp_put m))], [], (m, 1897137590064188545819787018382342682267975428761855001222473056385648716020711426), 5)
theorem ok_mc_letters : gchk cX9_letters 3 k_mc_letters = true := by decide +kernel
def fn_mc_letters (m : Nat) : gFn := gF (e_mc_letters m) 3
theorem mo_mc_letters (m : Nat) : gMo (.inl (fn_mc_letters m)) := gF_mo (E := e_mc_letters m) ⟨mo_hp_put m, trivial⟩
noncomputable def mc_letters (σ : gM) (x1 : Int) : Option (gM × Int) := lim (fun n => fn_mc_letters 119 n [(2, 87), (0, x1)] σ)
theorem mc_letters_l (σ : gM) (x1 : Int) : Lm (fun n => fn_mc_letters 119 n [(2, 87), (0, x1)] σ) (mc_letters σ x1) := .of fun n => mo_mc_letters 119 n [(2, 87), (0, x1)] σ
theorem mb_mc_letters : gMos (e_mc_letters 119).2.2.2.1 := ⟨mo_hp_put 119, trivial⟩
noncomputable def mc_letters_b2 (σ : gM) (x1 x2 : Int) : Option (gM × Int) := lim (fun n => gB (e_mc_letters 119) rF tF n 2 [(2, 87), (0, x1), (0, x2)] [] σ)
theorem mc_letters_b2_l (σ : gM) (x1 x2 : Int) : Lm (fun n => gB (e_mc_letters 119) rF tF n 2 [(2, 87), (0, x1), (0, x2)] [] σ) (mc_letters_b2 σ x1 x2) := .of fun n => gB_le (gMos_spec (mb_mc_letters)) n _ _ _ σ
theorem mc_letters_e (σ : gM) (x1 : Int) : mc_letters σ x1 =
  (mc_letters_b2 σ x1 0) := Lm.eqn (mc_letters_l ..) (mc_letters_b2_l ..) fun n => (rfl)
theorem mc_letters_b2_e (σ : gM) (x1 x2 : Int) : mc_letters_b2 σ x1 x2 =
  (if 0 ≤ x1 ∧ x1 < 108000 then
  (if x2 < σ 3 x1 then
    (if 0 ≤ x1 ∧ x1 < 108000 then
      (if 0 ≤ w32 ((σ 2 x1) + x2) ∧ w32 ((σ 2 x1) + x2) < 124600 then
        ((hp_put σ (σ 1 (w32 ((σ 2 x1) + x2)))).bind fun p1 =>
          mc_letters_b2 p1.1 x1 (w32 (x2 + 1)))
        else none)
      else none)
    else
    (some (σ, 0)))
  else none) := Lm.eqn (mc_letters_b2_l ..) (.ite (.ite (.ite (.ite (.bind (hp_put_l ..) fun p1 => (mc_letters_b2_l ..)) .cst) .cst) .cst) .cst) fun n => (rfl)
def k_mc_says : List gC := [(0, 1, .iconst 0, [], none), (1, 1, .istore_n 2, [], none), (2, 1, .iload_n 2, [], some [true, true, true]), (3, 1, .aload_n 1, [], none),
  (4, 3, .invokevirtual 436, [], none), (7, 3, .if_icmp .ge 21, [(0, 28)], none), (10, 1, .aload_n 0, [], none), (11, 3, .getfield 82, [], none),
  (14, 1, .aload_n 1, [], none), (15, 1, .iload_n 2, [], none), (16, 3, .invokevirtual 441, [], none), (19, 3, .invokevirtual 385, [], none),
  (22, 3, .iinc 2 1, [], none), (25, 3, .goto (-23), [(0, 2)], none), (28, 1, .return_, [], none)]
def e_mc_says (m : Nat) : gE := (k_mc_says, f_mc, c_mc, [(436, 1, 100, 0, .inl (fn_st_length 0)), (441, 2, 100, 0, .inl (fn_st_charAt 0)), (385, 2, 10, 5, .inl (fn_hp_put m))], [], (m, 1897137590064188545819787018382342682267975428761855001222473056385648716020711426), 5)
theorem ok_mc_says : gchk cX9_says 3 k_mc_says = true := by decide +kernel
def fn_mc_says (m : Nat) : gFn := gF (e_mc_says m) 3
theorem mo_mc_says (m : Nat) : gMo (.inl (fn_mc_says m)) := gF_mo (E := e_mc_says m) ⟨mo_st_length 0, ⟨mo_st_charAt 0, ⟨mo_hp_put m, trivial⟩⟩⟩
noncomputable def mc_says (σ : gM) (x1 : Int) : Option (gM × Int) := lim (fun n => fn_mc_says 119 n [(2, 87), (3, x1)] σ)
theorem mc_says_l (σ : gM) (x1 : Int) : Lm (fun n => fn_mc_says 119 n [(2, 87), (3, x1)] σ) (mc_says σ x1) := .of fun n => mo_mc_says 119 n [(2, 87), (3, x1)] σ
theorem mb_mc_says : gMos (e_mc_says 119).2.2.2.1 := ⟨mo_st_length 0, ⟨mo_st_charAt 0, ⟨mo_hp_put 119, trivial⟩⟩⟩
noncomputable def mc_says_b2 (σ : gM) (x1 x2 : Int) : Option (gM × Int) := lim (fun n => gB (e_mc_says 119) rF tF n 2 [(2, 87), (3, x1), (0, x2)] [] σ)
theorem mc_says_b2_l (σ : gM) (x1 x2 : Int) : Lm (fun n => gB (e_mc_says 119) rF tF n 2 [(2, 87), (3, x1), (0, x2)] [] σ) (mc_says_b2 σ x1 x2) := .of fun n => gB_le (gMos_spec (mb_mc_says)) n _ _ _ σ
theorem mc_says_e (σ : gM) (x1 : Int) : mc_says σ x1 =
  (mc_says_b2 σ x1 0) := Lm.eqn (mc_says_l ..) (mc_says_b2_l ..) fun n => (rfl)
theorem mc_says_b2_e (σ : gM) (x1 x2 : Int) : mc_says_b2 σ x1 x2 =
  (gtx x1 ((st_length σ x1).bind fun p1 =>
  if x2 < p1.2 then
  (gtx x1 ((st_charAt p1.1 x1 x2).bind fun p2 =>
    (hp_put p2.1 p2.2).bind fun p3 =>
    mc_says_b2 p3.1 x1 (w32 (x2 + 1))))
  else
  (some (p1.1, 0)))) := Lm.eqn (mc_says_b2_l ..) (.xtx (.bind (st_length_l ..) fun p1 => (.ite (.xtx (.bind (st_charAt_l ..) fun p2 => (.bind (hp_put_l ..) fun p3 => (mc_says_b2_l ..)))) .cst))) fun n => (rfl)
def k_mc_shows : List gC := [(0, 1, .iload_n 1, [], none), (1, 39, .tableswitch 140 0 5 #[39, 58, 82, 91, 113, 123], [(0, 141), (0, 40), (1, 59), (2, 83), (3, 92), (4, 114), (5, 124)], none), (40, 1, .aload_n 0, [], none), (41, 3, .getfield 69, [], none),
  (44, 1, .lload_n 2, [], none), (45, 3, .invokevirtual 409, [], none), (48, 1, .aload_n 0, [], none), (49, 1, .aload_n 0, [], none),
  (50, 3, .getfield 69, [], none), (53, 3, .invokevirtual 412, [], none), (56, 3, .goto 92, [(0, 148)], none), (59, 1, .aload_n 0, [], none),
  (60, 3, .getfield 82, [], none), (63, 1, .lload_n 2, [], none), (64, 1, .l2i, [], none), (65, 1, .aload_n 0, [], none),
  (66, 3, .getfield 69, [], none), (69, 3, .invokevirtual 416, [], none), (72, 1, .aload_n 0, [], none), (73, 1, .aload_n 0, [], none),
  (74, 3, .getfield 69, [], none), (77, 3, .invokevirtual 412, [], none), (80, 3, .goto 68, [(0, 148)], none), (83, 1, .aload_n 0, [], none),
  (84, 1, .lload_n 2, [], none), (85, 1, .l2i, [], none), (86, 3, .invokevirtual 419, [], none), (89, 3, .goto 59, [(0, 148)], none),
  (92, 1, .aload_n 0, [], none), (93, 1, .lload_n 2, [], none), (94, 1, .lconst 1, [], none), (95, 1, .lcmp, [], none),
  (96, 3, .ifCond .ne 9, [(0, 105)], none), (99, 3, .ldc_w 421, [], none), (102, 3, .goto 6, [(0, 108)], none), (105, 3, .ldc_w 423, [], none),
  (108, 3, .invokevirtual 425, [], some [false, false, false, false]), (111, 3, .goto 37, [(0, 148)], none), (114, 1, .aload_n 0, [], none), (115, 3, .ldc_w 429, [], none),
  (118, 3, .invokevirtual 425, [], none), (121, 3, .goto 27, [(0, 148)], none), (124, 1, .aload_n 0, [], none), (125, 1, .aload_n 0, [], none),
  (126, 3, .getfield 86, [], none), (129, 3, .getfield 431, [], none), (132, 1, .lload_n 2, [], none), (133, 1, .l2i, [], none),
  (134, 1, .iaload, [], none), (135, 3, .invokevirtual 419, [], none), (138, 3, .goto 10, [(0, 148)], none), (141, 1, .aload_n 0, [], none),
  (142, 3, .ldc_w 434, [], none), (145, 3, .invokevirtual 425, [], none), (148, 1, .return_, [], none)]
def e_mc_shows (m : Nat) : gE := (k_mc_shows, f_mc, c_mc, [(409, 2, 12, 5, .inl (fn_wl_of m)), (412, 2, 17, 5, .inl (fn_mc_digits m)), (416, 3, 10, 5, .inl (fn_hp_get m)), (419, 2, 17, 5, .inl (fn_mc_letters m)), (425, 2, 17, 5, .inl (fn_mc_says m))], [], (m, 24227587787227680242996183141042265400644274563352019240995951746678556433287908705546889978278611705291955188006370842624052051312642), 5)
theorem ok_mc_shows : gchk cX9_shows 4 k_mc_shows = true := by decide +kernel
def fn_mc_shows (m : Nat) : gFn := gF (e_mc_shows m) 4
theorem mo_mc_shows (m : Nat) : gMo (.inl (fn_mc_shows m)) := gF_mo (E := e_mc_shows m) ⟨mo_wl_of m, ⟨mo_mc_digits m, ⟨mo_hp_get m, ⟨mo_mc_letters m, ⟨mo_mc_says m, trivial⟩⟩⟩⟩⟩
noncomputable def mc_shows (σ : gM) (x1 x2 : Int) : Option (gM × Int) := lim (fun n => fn_mc_shows 119 n [(2, 87), (0, x1), (1, x2)] σ)
theorem mc_shows_l (σ : gM) (x1 x2 : Int) : Lm (fun n => fn_mc_shows 119 n [(2, 87), (0, x1), (1, x2)] σ) (mc_shows σ x1 x2) := .of fun n => mo_mc_shows 119 n [(2, 87), (0, x1), (1, x2)] σ
theorem mb_mc_shows : gMos (e_mc_shows 119).2.2.2.1 := ⟨mo_wl_of 119, ⟨mo_mc_digits 119, ⟨mo_hp_get 119, ⟨mo_mc_letters 119, ⟨mo_mc_says 119, trivial⟩⟩⟩⟩⟩
noncomputable def mc_shows_b108 (σ : gM) (y0 : Int) : Option (gM × Int) := lim (fun n => gB (e_mc_shows 119) rF tF n 108 [(9, 0), (9, 0), (9, 0), (9, 0)] [(3, y0), (2, 87)] σ)
theorem mc_shows_b108_l (σ : gM) (y0 : Int) : Lm (fun n => gB (e_mc_shows 119) rF tF n 108 [(9, 0), (9, 0), (9, 0), (9, 0)] [(3, y0), (2, 87)] σ) (mc_shows_b108 σ y0) := .of fun n => gB_le (gMos_spec (mb_mc_shows)) n _ _ _ σ
theorem mc_shows_e (σ : gM) (x1 x2 : Int) : mc_shows σ x1 x2 =
  (if x1 = 0 then
  ((wl_of σ 105 x2).bind fun p1 =>
    (mc_digits p1.1 105).bind fun p2 =>
    some (p2.1, 0))
  else if x1 = 1 then
  ((hp_get σ (w32 x2) 105).bind fun p3 =>
    (mc_digits p3.1 105).bind fun p4 =>
    some (p4.1, 0))
  else if x1 = 2 then
  ((mc_letters σ (w32 x2)).bind fun p5 =>
    some (p5.1, 0))
  else if x1 = 3 then
  (if l_cmp x2 1 = 0 then
    (mc_shows_b108 σ 11)
    else
    (mc_shows_b108 σ 12))
  else if x1 = 4 then
  ((mc_says σ 5).bind fun p6 =>
    some (p6.1, 0))
  else if x1 = 5 then
  (if 0 ≤ w32 x2 ∧ w32 x2 < 9000 then
    ((mc_letters σ (σ 23 (w32 x2))).bind fun p7 =>
      some (p7.1, 0))
    else none)
  else ((mc_says σ 22).bind fun p8 =>
    some (p8.1, 0))) := Lm.eqn (mc_shows_l ..) (.ite (.bind (wl_of_l ..) fun p1 => (.bind (mc_digits_l ..) fun p2 => .cst)) (.ite (.bind (hp_get_l ..) fun p3 => (.bind (mc_digits_l ..) fun p4 => .cst)) (.ite (.bind (mc_letters_l ..) fun p5 => .cst) (.ite (.ite (mc_shows_b108_l ..) (mc_shows_b108_l ..)) (.ite (.bind (mc_says_l ..) fun p6 => .cst) (.ite (.ite (.bind (mc_letters_l ..) fun p7 => .cst) .cst) (.bind (mc_says_l ..) fun p8 => .cst))))))) fun n => (rfl)
theorem mc_shows_b108_e (σ : gM) (y0 : Int) : mc_shows_b108 σ y0 =
  ((mc_says σ y0).bind fun p1 =>
  some (p1.1, 0)) := Lm.eqn (mc_shows_b108_l ..) (.bind (mc_says_l ..) fun p1 => .cst) fun n => (rfl)
def k_mc_joins : List gC := [(0, 1, .aload_n 0, [], none), (1, 3, .getfield 11, [], none), (4, 1, .aload_n 0, [], none), (5, 3, .getfield 159, [], none),
  (8, 1, .iconst 2, [], none), (9, 1, .isub, [], none), (10, 1, .iaload, [], none), (11, 1, .istore_n 2, [], none),
  (12, 1, .aload_n 0, [], none), (13, 3, .getfield 11, [], none), (16, 1, .aload_n 0, [], none), (17, 3, .getfield 159, [], none),
  (20, 1, .iconst 1, [], none), (21, 1, .isub, [], none), (22, 1, .iaload, [], none), (23, 1, .istore_n 3, [], none),
  (24, 1, .iload_n 2, [], none), (25, 1, .iconst 5, [], none), (26, 3, .if_icmp .ge 8, [(0, 34)], none), (29, 1, .iload_n 3, [], none),
  (30, 1, .iconst 5, [], none), (31, 3, .if_icmp .lt 10, [(0, 41)], none), (34, 1, .aload_n 0, [], some [true, true, false, false]), (35, 1, .iconst 1, [], none),
  (36, 1, .iload_n 1, [], none), (37, 3, .invokevirtual 193, [], none), (40, 1, .ireturn, [], none), (41, 1, .aload_n 0, [], none),
  (42, 3, .getfield 82, [], none), (45, 3, .invokevirtual 359, [], none), (48, 1, .aload_n 0, [], none), (49, 1, .iload_n 2, [], none),
  (50, 1, .aload_n 0, [], none), (51, 3, .getfield 15, [], none), (54, 1, .aload_n 0, [], none), (55, 3, .getfield 159, [], none),
  (58, 1, .iconst 2, [], none), (59, 1, .isub, [], none), (60, 1, .laload, [], none), (61, 3, .invokevirtual 362, [], none),
  (64, 1, .aload_n 0, [], none), (65, 1, .iload_n 3, [], none), (66, 1, .aload_n 0, [], none), (67, 3, .getfield 15, [], none),
  (70, 1, .aload_n 0, [], none), (71, 3, .getfield 159, [], none), (74, 1, .iconst 1, [], none), (75, 1, .isub, [], none),
  (76, 1, .laload, [], none), (77, 3, .invokevirtual 362, [], none), (80, 1, .aload_n 0, [], none), (81, 3, .getfield 82, [], none),
  (84, 3, .invokevirtual 365, [], none), (87, 3, .sipush 200, [], none), (90, 3, .if_icmp .le 11, [(0, 101)], none), (93, 1, .aload_n 0, [], none),
  (94, 2, .bipush 8, [], none), (96, 1, .iload_n 1, [], none), (97, 3, .invokevirtual 193, [], none), (100, 1, .ireturn, [], none),
  (101, 1, .aload_n 0, [], none), (102, 3, .getfield 82, [], none), (105, 1, .aload_n 0, [], none), (106, 3, .getfield 82, [], none),
  (109, 3, .invokevirtual 365, [], none), (112, 1, .iconst 1, [], none), (113, 1, .iadd, [], none), (114, 3, .invokevirtual 545, [], none),
  (117, 3, .ifCond .ne 11, [(0, 128)], none), (120, 1, .aload_n 0, [], none), (121, 2, .bipush 9, [], none), (123, 1, .iload_n 1, [], none),
  (124, 3, .invokevirtual 193, [], none), (127, 1, .ireturn, [], none), (128, 1, .aload_n 0, [], none), (129, 1, .iload_n 1, [], none),
  (130, 1, .iconst 4, [], none), (131, 1, .iconst 0, [], none), (132, 3, .invokevirtual 526, [], none), (135, 1, .aload_n 0, [], none),
  (136, 1, .iconst 2, [], none), (137, 1, .aload_n 0, [], none), (138, 3, .getfield 82, [], none), (141, 3, .invokevirtual 557, [], none),
  (144, 1, .i2l, [], none), (145, 3, .invokevirtual 506, [], none), (148, 1, .iconst 1, [], none), (149, 1, .ireturn, [], none)]
def e_mc_joins (m : Nat) : gE := (k_mc_joins, f_mc, c_mc, [(193, 3, 17, 0, .inl (fn_mc_fails m)), (359, 1, 10, 5, .inl (fn_hp_lay m)), (362, 3, 17, 5, .inl (fn_mc_shows m)), (365, 1, 10, 0, .inl (fn_hp_laidLetters m)), (545, 2, 10, 0, .inl (fn_hp_makes m)), (526, 4, 17, 5, .inl (fn_mc_needs m)), (557, 1, 10, 0, .inl (fn_hp_laidString m)), (506, 3, 17, 5, .inl (fn_mc_settle m))], [], (m, 24227594561326422467939060598777357901366553690830344509757247896464626294263247147543915579331481151184038727276364231350081227331646), 6)
theorem ok_mc_joins : gchk cX9_joins 4 k_mc_joins = true := by decide +kernel
def fn_mc_joins (m : Nat) : gFn := gF (e_mc_joins m) 4
theorem mo_mc_joins (m : Nat) : gMo (.inl (fn_mc_joins m)) := gF_mo (E := e_mc_joins m) ⟨mo_mc_fails m, ⟨mo_hp_lay m, ⟨mo_mc_shows m, ⟨mo_hp_laidLetters m, ⟨mo_hp_makes m, ⟨mo_mc_needs m, ⟨mo_hp_laidString m, ⟨mo_mc_settle m, trivial⟩⟩⟩⟩⟩⟩⟩⟩
noncomputable def mc_joins (σ : gM) (x1 : Int) : Option (gM × Int) := lim (fun n => fn_mc_joins 119 n [(2, 87), (0, x1)] σ)
theorem mc_joins_l (σ : gM) (x1 : Int) : Lm (fun n => fn_mc_joins 119 n [(2, 87), (0, x1)] σ) (mc_joins σ x1) := .of fun n => mo_mc_joins 119 n [(2, 87), (0, x1)] σ
theorem mb_mc_joins : gMos (e_mc_joins 119).2.2.2.1 := ⟨mo_mc_fails 119, ⟨mo_hp_lay 119, ⟨mo_mc_shows 119, ⟨mo_hp_laidLetters 119, ⟨mo_hp_makes 119, ⟨mo_mc_needs 119, ⟨mo_hp_laidString 119, ⟨mo_mc_settle 119, trivial⟩⟩⟩⟩⟩⟩⟩⟩
noncomputable def mc_joins_b34 (σ : gM) (x1 : Int) : Option (gM × Int) := lim (fun n => gB (e_mc_joins 119) rF tF n 34 [(2, 87), (0, x1), (9, 0), (9, 0)] [] σ)
theorem mc_joins_b34_l (σ : gM) (x1 : Int) : Lm (fun n => gB (e_mc_joins 119) rF tF n 34 [(2, 87), (0, x1), (9, 0), (9, 0)] [] σ) (mc_joins_b34 σ x1) := .of fun n => gB_le (gMos_spec (mb_mc_joins)) n _ _ _ σ
theorem mc_joins_e (σ : gM) (x1 : Int) : mc_joins σ x1 =
  (if 0 ≤ w32 ((σ 87 8) - 2) ∧ w32 ((σ 87 8) - 2) < 18240 then
  (if 0 ≤ w32 ((σ 87 8) - 1) ∧ w32 ((σ 87 8) - 1) < 18240 then
    (if σ 88 (w32 ((σ 87 8) - 2)) < 5 then
      (if σ 88 (w32 ((σ 87 8) - 1)) < 5 then
        ((hp_lay σ).bind fun p1 =>
          if 0 ≤ w32 ((p1.1 87 8) - 2) ∧ w32 ((p1.1 87 8) - 2) < 18240 then
          ((mc_shows p1.1 (σ 88 (w32 ((σ 87 8) - 2))) (p1.1 89 (w32 ((p1.1 87 8) - 2)))).bind fun p2 =>
            if 0 ≤ w32 ((p2.1 87 8) - 1) ∧ w32 ((p2.1 87 8) - 1) < 18240 then
            ((mc_shows p2.1 (σ 88 (w32 ((σ 87 8) - 1))) (p2.1 89 (w32 ((p2.1 87 8) - 1)))).bind fun p3 =>
              (hp_laidLetters p3.1).bind fun p4 =>
              if 200 < p4.2 then
              ((mc_fails p4.1 8 x1).bind fun p11 =>
                g01 p11.2 (some (p11.1, p11.2)))
              else
              ((hp_laidLetters p4.1).bind fun p5 =>
                (hp_makes p5.1 (w32 (p5.2 + 1))).bind fun p6 =>
                if p6.2 = 0 then
                ((mc_fails p6.1 9 x1).bind fun p10 =>
                  g01 p10.2 (some (p10.1, p10.2)))
                else
                ((mc_needs p6.1 x1 4 0).bind fun p7 =>
                  (hp_laidString p7.1).bind fun p8 =>
                  (mc_settle p8.1 2 p8.2).bind fun p9 =>
                  some (p9.1, 1))))
            else none)
          else none)
        else
        (mc_joins_b34 σ x1))
      else
      (mc_joins_b34 σ x1))
    else none)
  else none) := Lm.eqn (mc_joins_l ..) (.ite (.ite (.ite (.ite (.bind (hp_lay_l ..) fun p1 => (.ite (.bind (mc_shows_l ..) fun p2 => (.ite (.bind (mc_shows_l ..) fun p3 => (.bind (hp_laidLetters_l ..) fun p4 => (.ite (.bind (mc_fails_l ..) fun p11 => .cst) (.bind (hp_laidLetters_l ..) fun p5 => (.bind (hp_makes_l ..) fun p6 => (.ite (.bind (mc_fails_l ..) fun p10 => .cst) (.bind (mc_needs_l ..) fun p7 => (.bind (hp_laidString_l ..) fun p8 => (.bind (mc_settle_l ..) fun p9 => .cst))))))))) .cst)) .cst)) (mc_joins_b34_l ..)) (mc_joins_b34_l ..)) .cst) .cst) fun n => (rfl)
theorem mc_joins_b34_e (σ : gM) (x1 : Int) : mc_joins_b34 σ x1 =
  ((mc_fails σ 1 x1).bind fun p1 =>
  g01 p1.2 (some (p1.1, p1.2))) := Lm.eqn (mc_joins_b34_l ..) (.bind (mc_fails_l ..) fun p1 => .cst) fun n => (rfl)
def k_mc_compares : List gC := [(0, 1, .aload_n 0, [], none), (1, 1, .iload_n 1, [], none), (2, 1, .iload_n 3, [], none), (3, 3, .ifCond .eq 7, [(0, 10)], none),
  (6, 1, .iconst 1, [], none), (7, 3, .goto 4, [(0, 11)], none), (10, 1, .iconst 2, [], none), (11, 1, .iload_n 3, [], some [true, false, true, true]),
  (12, 3, .ifCond .ne 7, [(0, 19)], none), (15, 1, .iconst 1, [], none), (16, 3, .goto 4, [(0, 20)], none), (19, 1, .iconst 0, [], none),
  (20, 3, .invokevirtual 526, [], some [true, false, true, false]), (23, 1, .aload_n 0, [], none), (24, 1, .iconst 3, [], none), (25, 1, .iload_n 2, [], none),
  (26, 1, .aload_n 0, [], none), (27, 3, .invokevirtual 551, [], none), (30, 3, .invokestatic 503, [], none), (33, 3, .ifCond .eq 7, [(0, 40)], none),
  (36, 1, .lconst 1, [], none), (37, 3, .goto 4, [(0, 41)], none), (40, 1, .lconst 0, [], none), (41, 3, .invokevirtual 506, [], some [false, false, false, false]),
  (44, 1, .iconst 1, [], none), (45, 1, .ireturn, [], none)]
def e_mc_compares (m : Nat) : gE := (k_mc_compares, f_mc, c_mc, [(526, 4, 17, 5, .inl (fn_mc_needs m)), (551, 1, 17, 0, .inl (fn_mc_order m)), (503, 2, 0, 0, .inl (fn_mc_holds m)), (506, 3, 17, 5, .inl (fn_mc_settle m))], [], (m, 24227594556523437694697410622017348241440951604577088533675208929281428820207049050389314630111804758452667797882301680698562604701696), 6)
theorem ok_mc_compares : gchk cX9_compares 4 k_mc_compares = true := by decide +kernel
def fn_mc_compares (m : Nat) : gFn := gF (e_mc_compares m) 4
theorem mo_mc_compares (m : Nat) : gMo (.inl (fn_mc_compares m)) := gF_mo (E := e_mc_compares m) ⟨mo_mc_needs m, ⟨mo_mc_order m, ⟨mo_mc_holds m, ⟨mo_mc_settle m, trivial⟩⟩⟩⟩
noncomputable def mc_compares (σ : gM) (x1 x2 x3 : Int) : Option (gM × Int) := lim (fun n => fn_mc_compares 119 n [(2, 87), (0, x1), (0, x2), (0, x3)] σ)
theorem mc_compares_l (σ : gM) (x1 x2 x3 : Int) : Lm (fun n => fn_mc_compares 119 n [(2, 87), (0, x1), (0, x2), (0, x3)] σ) (mc_compares σ x1 x2 x3) := .of fun n => mo_mc_compares 119 n [(2, 87), (0, x1), (0, x2), (0, x3)] σ
theorem mb_mc_compares : gMos (e_mc_compares 119).2.2.2.1 := ⟨mo_mc_needs 119, ⟨mo_mc_order 119, ⟨mo_mc_holds 119, ⟨mo_mc_settle 119, trivial⟩⟩⟩⟩
noncomputable def mc_compares_b11 (σ : gM) (x2 x3 y0 y1 : Int) : Option (gM × Int) := lim (fun n => gB (e_mc_compares 119) rF tF n 11 [(2, 87), (9, 0), (0, x2), (0, x3)] [(0, y0), (0, y1), (2, 87)] σ)
theorem mc_compares_b11_l (σ : gM) (x2 x3 y0 y1 : Int) : Lm (fun n => gB (e_mc_compares 119) rF tF n 11 [(2, 87), (9, 0), (0, x2), (0, x3)] [(0, y0), (0, y1), (2, 87)] σ) (mc_compares_b11 σ x2 x3 y0 y1) := .of fun n => gB_le (gMos_spec (mb_mc_compares)) n _ _ _ σ
noncomputable def mc_compares_b20 (σ : gM) (x2 y0 y1 y2 : Int) : Option (gM × Int) := lim (fun n => gB (e_mc_compares 119) rF tF n 20 [(2, 87), (9, 0), (0, x2), (9, 0)] [(0, y0), (0, y1), (0, y2), (2, 87)] σ)
theorem mc_compares_b20_l (σ : gM) (x2 y0 y1 y2 : Int) : Lm (fun n => gB (e_mc_compares 119) rF tF n 20 [(2, 87), (9, 0), (0, x2), (9, 0)] [(0, y0), (0, y1), (0, y2), (2, 87)] σ) (mc_compares_b20 σ x2 y0 y1 y2) := .of fun n => gB_le (gMos_spec (mb_mc_compares)) n _ _ _ σ
noncomputable def mc_compares_b41 (σ : gM) (y0 y1 : Int) : Option (gM × Int) := lim (fun n => gB (e_mc_compares 119) rF tF n 41 [(9, 0), (9, 0), (9, 0), (9, 0)] [(1, y0), (0, y1), (2, 87)] σ)
theorem mc_compares_b41_l (σ : gM) (y0 y1 : Int) : Lm (fun n => gB (e_mc_compares 119) rF tF n 41 [(9, 0), (9, 0), (9, 0), (9, 0)] [(1, y0), (0, y1), (2, 87)] σ) (mc_compares_b41 σ y0 y1) := .of fun n => gB_le (gMos_spec (mb_mc_compares)) n _ _ _ σ
theorem mc_compares_e (σ : gM) (x1 x2 x3 : Int) : mc_compares σ x1 x2 x3 =
  (if x3 = 0 then
  (mc_compares_b11 σ x2 x3 2 x1)
  else
  (mc_compares_b11 σ x2 x3 1 x1)) := Lm.eqn (mc_compares_l ..) (.ite (mc_compares_b11_l ..) (mc_compares_b11_l ..)) fun n => (rfl)
theorem mc_compares_b11_e (σ : gM) (x2 x3 y0 y1 : Int) : mc_compares_b11 σ x2 x3 y0 y1 =
  (if x3 = 0 then
  (mc_compares_b20 σ x2 1 y0 y1)
  else
  (mc_compares_b20 σ x2 0 y0 y1)) := Lm.eqn (mc_compares_b11_l ..) (.ite (mc_compares_b20_l ..) (mc_compares_b20_l ..)) fun n => (rfl)
theorem mc_compares_b20_e (σ : gM) (x2 y0 y1 y2 : Int) : mc_compares_b20 σ x2 y0 y1 y2 =
  ((mc_needs σ y2 y1 y0).bind fun p1 =>
  (mc_order p1.1).bind fun p2 =>
  (mc_holds p2.1 x2 p2.2).bind fun p3 =>
  if p3.2 = 0 then
  (mc_compares_b41 p3.1 0 3)
  else
  (mc_compares_b41 p3.1 1 3)) := Lm.eqn (mc_compares_b20_l ..) (.bind (mc_needs_l ..) fun p1 => (.bind (mc_order_l ..) fun p2 => (.bind (mc_holds_l ..) fun p3 => (.ite (mc_compares_b41_l ..) (mc_compares_b41_l ..))))) fun n => (rfl)
theorem mc_compares_b41_e (σ : gM) (y0 y1 : Int) : mc_compares_b41 σ y0 y1 =
  ((mc_settle σ y1 y0).bind fun p1 =>
  some (p1.1, 1)) := Lm.eqn (mc_compares_b41_l ..) (.bind (mc_settle_l ..) fun p1 => .cst) fun n => (rfl)
def k_mc_two : List gC := [(0, 1, .aload_n 0, [], none), (1, 3, .getfield 86, [], none), (4, 3, .getfield 307, [], none), (7, 1, .iload_n 1, [], none),
  (8, 1, .iaload, [], none), (9, 1, .istore_n 2, [], none), (10, 1, .iload_n 2, [], none), (11, 2, .bipush 16, [], none),
  (13, 3, .if_icmp .eq 9, [(0, 22)], none), (16, 1, .iload_n 2, [], none), (17, 2, .bipush 17, [], none), (19, 3, .if_icmp .ne 10, [(0, 29)], none),
  (22, 1, .aload_n 0, [], some [true, true, true, false, false]), (23, 1, .iload_n 1, [], none), (24, 1, .iload_n 2, [], none), (25, 3, .invokevirtual 513, [], none),
  (28, 1, .ireturn, [], none), (29, 1, .aload_n 0, [], none), (30, 1, .aload_n 0, [], none), (31, 3, .getfield 159, [], none),
  (34, 1, .iconst 2, [], none), (35, 1, .isub, [], none), (36, 3, .invokevirtual 516, [], none), (39, 3, .ifCond .eq 16, [(0, 55)], none),
  (42, 1, .aload_n 0, [], none), (43, 1, .aload_n 0, [], none), (44, 3, .getfield 159, [], none), (47, 1, .iconst 1, [], none),
  (48, 1, .isub, [], none), (49, 3, .invokevirtual 516, [], none), (52, 3, .ifCond .ne 54, [(0, 106)], none), (55, 1, .iload_n 2, [], some [true, true, true, false, false]),
  (56, 2, .bipush 8, [], none), (58, 3, .if_icmp .ne 41, [(0, 99)], none), (61, 1, .aload_n 0, [], none), (62, 3, .getfield 11, [], none),
  (65, 1, .aload_n 0, [], none), (66, 3, .getfield 159, [], none), (69, 1, .iconst 2, [], none), (70, 1, .isub, [], none),
  (71, 1, .iaload, [], none), (72, 1, .iconst 2, [], none), (73, 3, .if_icmp .eq 18, [(0, 91)], none), (76, 1, .aload_n 0, [], none),
  (77, 3, .getfield 11, [], none), (80, 1, .aload_n 0, [], none), (81, 3, .getfield 159, [], none), (84, 1, .iconst 1, [], none),
  (85, 1, .isub, [], none), (86, 1, .iaload, [], none), (87, 1, .iconst 2, [], none), (88, 3, .if_icmp .ne 11, [(0, 99)], none),
  (91, 1, .aload_n 0, [], some [true, true, false, false, false]), (92, 1, .iload_n 1, [], none), (93, 3, .invokevirtual 519, [], none), (96, 3, .goto 9, [(0, 105)], none),
  (99, 1, .aload_n 0, [], some [true, true, false, false, false]), (100, 1, .iconst 1, [], none), (101, 1, .iload_n 1, [], none), (102, 3, .invokevirtual 193, [], none),
  (105, 1, .ireturn, [], none), (106, 1, .aload_n 0, [], none), (107, 3, .invokevirtual 495, [], none), (110, 3, .ifCond .eq 21, [(0, 131)], none),
  (113, 1, .aload_n 0, [], none), (114, 3, .getfield 86, [], none), (117, 3, .getfield 263, [], none), (120, 1, .iload_n 1, [], none),
  (121, 1, .iaload, [], none), (122, 1, .iconst 2, [], none), (123, 1, .iand, [], none), (124, 3, .ifCond .ne 7, [(0, 131)], none),
  (127, 1, .iconst 1, [], none), (128, 3, .goto 4, [(0, 132)], none), (131, 1, .iconst 0, [], some [true, true, true, false, false]), (132, 1, .istore_n 3, [], some [true, true, true, false, false]),
  (133, 1, .iload_n 2, [], none), (134, 2, .bipush 12, [], none), (136, 3, .if_icmp .lt 11, [(0, 147)], none), (139, 1, .aload_n 0, [], none),
  (140, 1, .iload_n 1, [], none), (141, 1, .iload_n 2, [], none), (142, 1, .iload_n 3, [], none), (143, 3, .invokevirtual 522, [], none),
  (146, 1, .ireturn, [], none), (147, 1, .iload_n 2, [], none), (148, 2, .bipush 11, [], none), (150, 3, .if_icmp .ne 40, [(0, 190)], none),
  (153, 1, .aload_n 0, [], none), (154, 3, .getfield 11, [], none), (157, 1, .aload_n 0, [], none), (158, 3, .getfield 159, [], none),
  (161, 1, .iconst 1, [], none), (162, 1, .isub, [], none), (163, 1, .iaload, [], none), (164, 3, .ifCond .ne 26, [(0, 190)], none),
  (167, 1, .aload_n 0, [], none), (168, 3, .getfield 15, [], none), (171, 1, .aload_n 0, [], none), (172, 3, .getfield 159, [], none),
  (175, 1, .iconst 1, [], none), (176, 1, .isub, [], none), (177, 1, .laload, [], none), (178, 1, .lconst 0, [], none),
  (179, 1, .lcmp, [], none), (180, 3, .ifCond .ne 10, [(0, 190)], none), (183, 1, .aload_n 0, [], none), (184, 1, .iconst 2, [], none),
  (185, 1, .iload_n 1, [], none), (186, 3, .invokevirtual 193, [], none), (189, 1, .ireturn, [], none), (190, 1, .iload_n 3, [], some [true, true, true, true, false]),
  (191, 3, .ifCond .eq 51, [(0, 242)], none), (194, 1, .aload_n 0, [], none), (195, 1, .iload_n 2, [], none), (196, 1, .aload_n 0, [], none),
  (197, 3, .getfield 15, [], none), (200, 1, .aload_n 0, [], none), (201, 3, .getfield 159, [], none), (204, 1, .iconst 2, [], none),
  (205, 1, .isub, [], none), (206, 1, .laload, [], none), (207, 1, .aload_n 0, [], none), (208, 3, .getfield 15, [], none),
  (211, 1, .aload_n 0, [], none), (212, 3, .getfield 159, [], none), (215, 1, .iconst 1, [], none), (216, 1, .isub, [], none),
  (217, 1, .laload, [], none), (218, 3, .invokevirtual 509, [], none), (221, 3, .ifCond .eq 21, [(0, 242)], none), (224, 1, .aload_n 0, [], none),
  (225, 1, .iload_n 1, [], none), (226, 1, .iconst 1, [], none), (227, 1, .iconst 0, [], none), (228, 3, .invokevirtual 526, [], none),
  (231, 1, .aload_n 0, [], none), (232, 1, .iconst 0, [], none), (233, 1, .aload_n 0, [], none), (234, 3, .getfield 481, [], none),
  (237, 3, .invokevirtual 506, [], none), (240, 1, .iconst 1, [], none), (241, 1, .ireturn, [], none), (242, 1, .aload_n 0, [], some [true, true, true, false, false]),
  (243, 1, .aload_n 0, [], none), (244, 3, .getfield 159, [], none), (247, 1, .iconst 2, [], none), (248, 1, .isub, [], none),
  (249, 1, .aload_n 0, [], none), (250, 3, .getfield 69, [], none), (253, 3, .invokevirtual 530, [], none), (256, 1, .aload_n 0, [], none),
  (257, 1, .aload_n 0, [], none), (258, 3, .getfield 159, [], none), (261, 1, .iconst 1, [], none), (262, 1, .isub, [], none),
  (263, 1, .aload_n 0, [], none), (264, 3, .getfield 73, [], none), (267, 3, .invokevirtual 530, [], none), (270, 1, .iload_n 2, [], none),
  (271, 2, .bipush 11, [], none), (273, 3, .if_icmp .ne 20, [(0, 293)], none), (276, 1, .aload_n 0, [], none), (277, 3, .getfield 73, [], none),
  (280, 3, .getfield 445, [], none), (283, 3, .ifCond .ne 10, [(0, 293)], none), (286, 1, .aload_n 0, [], none), (287, 1, .iconst 2, [], none),
  (288, 1, .iload_n 1, [], none), (289, 3, .invokevirtual 193, [], none), (292, 1, .ireturn, [], none), (293, 1, .iconst 1, [], some [true, true, true, false, false]),
  (294, 2, .istore 4, [], none), (296, 1, .iload_n 2, [], none), (297, 2, .bipush 8, [], none), (299, 3, .if_icmp .eq 9, [(0, 308)], none),
  (302, 1, .iload_n 2, [], none), (303, 2, .bipush 9, [], none), (305, 3, .if_icmp .ne 34, [(0, 339)], none), (308, 1, .aload_n 0, [], some [true, true, true, false, false]),
  (309, 3, .getfield 76, [], none), (312, 1, .aload_n 0, [], none), (313, 3, .getfield 69, [], none), (316, 1, .aload_n 0, [], none),
  (317, 3, .getfield 73, [], none), (320, 1, .iload_n 2, [], none), (321, 2, .bipush 9, [], none), (323, 3, .if_icmp .ne 7, [(0, 330)], none),
  (326, 1, .iconst 1, [], none), (327, 3, .goto 4, [(0, 331)], none), (330, 1, .iconst 0, [], none), (331, 3, .invokevirtual 533, [], some [true, true, false, false, false]),
  (334, 2, .istore 4, [], none), (336, 3, .goto 48, [(0, 384)], none), (339, 1, .iload_n 2, [], none), (340, 2, .bipush 10, [], none),
  (342, 3, .if_icmp .ne 23, [(0, 365)], none), (345, 1, .aload_n 0, [], none), (346, 3, .getfield 76, [], none), (349, 1, .aload_n 0, [], none),
  (350, 3, .getfield 69, [], none), (353, 1, .aload_n 0, [], none), (354, 3, .getfield 73, [], none), (357, 3, .invokevirtual 537, [], none),
  (360, 2, .istore 4, [], none), (362, 3, .goto 22, [(0, 384)], none), (365, 1, .aload_n 0, [], none), (366, 3, .getfield 76, [], none),
  (369, 1, .aload_n 0, [], none), (370, 3, .getfield 69, [], none), (373, 1, .aload_n 0, [], none), (374, 3, .getfield 73, [], none),
  (377, 1, .aload_n 0, [], none), (378, 3, .getfield 79, [], none), (381, 3, .invokevirtual 541, [], none), (384, 2, .iload 4, [], some [true, true, false, false, true]),
  (386, 3, .ifCond .ne 11, [(0, 397)], none), (389, 1, .aload_n 0, [], none), (390, 2, .bipush 8, [], none), (392, 1, .iload_n 1, [], none),
  (393, 3, .invokevirtual 193, [], none), (396, 1, .ireturn, [], none), (397, 1, .aload_n 0, [], none), (398, 3, .getfield 82, [], none),
  (401, 1, .iconst 4, [], none), (402, 3, .invokevirtual 545, [], none), (405, 3, .ifCond .ne 11, [(0, 416)], none), (408, 1, .aload_n 0, [], none),
  (409, 2, .bipush 9, [], none), (411, 1, .iload_n 1, [], none), (412, 3, .invokevirtual 193, [], none), (415, 1, .ireturn, [], none),
  (416, 1, .aload_n 0, [], none), (417, 1, .iload_n 1, [], none), (418, 1, .iconst 2, [], none), (419, 1, .iconst 1, [], none),
  (420, 3, .invokevirtual 526, [], none), (423, 1, .aload_n 0, [], none), (424, 1, .iconst 1, [], none), (425, 1, .aload_n 0, [], none),
  (426, 3, .getfield 82, [], none), (429, 1, .aload_n 0, [], none), (430, 3, .getfield 76, [], none), (433, 1, .iconst 0, [], none),
  (434, 3, .invokevirtual 548, [], none), (437, 1, .i2l, [], none), (438, 3, .invokevirtual 506, [], none), (441, 1, .iconst 1, [], none),
  (442, 1, .ireturn, [], none)]
def e_mc_two (m : Nat) : gE := (k_mc_two, f_mc, c_mc, [(513, 3, 17, 0, .inl (fn_mc_alike m)), (516, 2, 17, 0, .inl (fn_mc_isNumber m)), (519, 2, 17, 0, .inl (fn_mc_joins m)), (193, 3, 17, 0, .inl (fn_mc_fails m)), (495, 1, 17, 0, .inl (fn_mc_areLongs m)), (522, 4, 17, 0, .inl (fn_mc_compares m)), (509, 4, 17, 0, .inl (fn_mc_fits m)), (526, 4, 17, 5, .inl (fn_mc_needs m)), (506, 3, 17, 5, .inl (fn_mc_settle m)), (530, 3, 17, 5, .inl (fn_mc_whole m)), (533, 4, 12, 0, .inl (fn_wl_sum m)), (537, 3, 12, 0, .inl (fn_wl_product m)), (541, 4, 12, 5, .inl (fn_wl_quotient m)), (545, 2, 10, 0, .inl (fn_hp_makes m)), (548, 3, 10, 0, .inl (fn_hp_whole m))], [], (m, 24230367231020543282798639012961500985069990127905720859902365581598269427386151693200834941605674724955532157397690327459022478776574), 6)
theorem ok_mc_two : gchk cX9_two 5 k_mc_two = true := by decide +kernel
def fn_mc_two (m : Nat) : gFn := gF (e_mc_two m) 5
theorem mo_mc_two (m : Nat) : gMo (.inl (fn_mc_two m)) := gF_mo (E := e_mc_two m) ⟨mo_mc_alike m, ⟨mo_mc_isNumber m, ⟨mo_mc_joins m, ⟨mo_mc_fails m, ⟨mo_mc_areLongs m, ⟨mo_mc_compares m, ⟨mo_mc_fits m, ⟨mo_mc_needs m, ⟨mo_mc_settle m, ⟨mo_mc_whole m, ⟨mo_wl_sum m, ⟨mo_wl_product m, ⟨mo_wl_quotient m, ⟨mo_hp_makes m, ⟨mo_hp_whole m, trivial⟩⟩⟩⟩⟩⟩⟩⟩⟩⟩⟩⟩⟩⟩⟩
noncomputable def mc_two (σ : gM) (x1 : Int) : Option (gM × Int) := lim (fun n => fn_mc_two 119 n [(2, 87), (0, x1)] σ)
theorem mc_two_l (σ : gM) (x1 : Int) : Lm (fun n => fn_mc_two 119 n [(2, 87), (0, x1)] σ) (mc_two σ x1) := .of fun n => mo_mc_two 119 n [(2, 87), (0, x1)] σ
theorem mb_mc_two : gMos (e_mc_two 119).2.2.2.1 := ⟨mo_mc_alike 119, ⟨mo_mc_isNumber 119, ⟨mo_mc_joins 119, ⟨mo_mc_fails 119, ⟨mo_mc_areLongs 119, ⟨mo_mc_compares 119, ⟨mo_mc_fits 119, ⟨mo_mc_needs 119, ⟨mo_mc_settle 119, ⟨mo_mc_whole 119, ⟨mo_wl_sum 119, ⟨mo_wl_product 119, ⟨mo_wl_quotient 119, ⟨mo_hp_makes 119, ⟨mo_hp_whole 119, trivial⟩⟩⟩⟩⟩⟩⟩⟩⟩⟩⟩⟩⟩⟩⟩
noncomputable def mc_two_b22 (σ : gM) (x1 x2 : Int) : Option (gM × Int) := lim (fun n => gB (e_mc_two 119) rF tF n 22 [(2, 87), (0, x1), (0, x2), (9, 0), (9, 0)] [] σ)
theorem mc_two_b22_l (σ : gM) (x1 x2 : Int) : Lm (fun n => gB (e_mc_two 119) rF tF n 22 [(2, 87), (0, x1), (0, x2), (9, 0), (9, 0)] [] σ) (mc_two_b22 σ x1 x2) := .of fun n => gB_le (gMos_spec (mb_mc_two)) n _ _ _ σ
noncomputable def mc_two_b55 (σ : gM) (x1 x2 : Int) : Option (gM × Int) := lim (fun n => gB (e_mc_two 119) rF tF n 55 [(2, 87), (0, x1), (0, x2), (9, 0), (9, 0)] [] σ)
theorem mc_two_b55_l (σ : gM) (x1 x2 : Int) : Lm (fun n => gB (e_mc_two 119) rF tF n 55 [(2, 87), (0, x1), (0, x2), (9, 0), (9, 0)] [] σ) (mc_two_b55 σ x1 x2) := .of fun n => gB_le (gMos_spec (mb_mc_two)) n _ _ _ σ
noncomputable def mc_two_b91 (σ : gM) (x1 : Int) : Option (gM × Int) := lim (fun n => gB (e_mc_two 119) rF tF n 91 [(2, 87), (0, x1), (9, 0), (9, 0), (9, 0)] [] σ)
theorem mc_two_b91_l (σ : gM) (x1 : Int) : Lm (fun n => gB (e_mc_two 119) rF tF n 91 [(2, 87), (0, x1), (9, 0), (9, 0), (9, 0)] [] σ) (mc_two_b91 σ x1) := .of fun n => gB_le (gMos_spec (mb_mc_two)) n _ _ _ σ
noncomputable def mc_two_b99 (σ : gM) (x1 : Int) : Option (gM × Int) := lim (fun n => gB (e_mc_two 119) rF tF n 99 [(2, 87), (0, x1), (9, 0), (9, 0), (9, 0)] [] σ)
theorem mc_two_b99_l (σ : gM) (x1 : Int) : Lm (fun n => gB (e_mc_two 119) rF tF n 99 [(2, 87), (0, x1), (9, 0), (9, 0), (9, 0)] [] σ) (mc_two_b99 σ x1) := .of fun n => gB_le (gMos_spec (mb_mc_two)) n _ _ _ σ
noncomputable def mc_two_b131 (σ : gM) (x1 x2 : Int) : Option (gM × Int) := lim (fun n => gB (e_mc_two 119) rF tF n 131 [(2, 87), (0, x1), (0, x2), (9, 0), (9, 0)] [] σ)
theorem mc_two_b131_l (σ : gM) (x1 x2 : Int) : Lm (fun n => gB (e_mc_two 119) rF tF n 131 [(2, 87), (0, x1), (0, x2), (9, 0), (9, 0)] [] σ) (mc_two_b131 σ x1 x2) := .of fun n => gB_le (gMos_spec (mb_mc_two)) n _ _ _ σ
noncomputable def mc_two_b132 (σ : gM) (x1 x2 y0 : Int) : Option (gM × Int) := lim (fun n => gB (e_mc_two 119) rF tF n 132 [(2, 87), (0, x1), (0, x2), (9, 0), (9, 0)] [(0, y0)] σ)
theorem mc_two_b132_l (σ : gM) (x1 x2 y0 : Int) : Lm (fun n => gB (e_mc_two 119) rF tF n 132 [(2, 87), (0, x1), (0, x2), (9, 0), (9, 0)] [(0, y0)] σ) (mc_two_b132 σ x1 x2 y0) := .of fun n => gB_le (gMos_spec (mb_mc_two)) n _ _ _ σ
noncomputable def mc_two_b190 (σ : gM) (x1 x2 x3 : Int) : Option (gM × Int) := lim (fun n => gB (e_mc_two 119) rF tF n 190 [(2, 87), (0, x1), (0, x2), (0, x3), (9, 0)] [] σ)
theorem mc_two_b190_l (σ : gM) (x1 x2 x3 : Int) : Lm (fun n => gB (e_mc_two 119) rF tF n 190 [(2, 87), (0, x1), (0, x2), (0, x3), (9, 0)] [] σ) (mc_two_b190 σ x1 x2 x3) := .of fun n => gB_le (gMos_spec (mb_mc_two)) n _ _ _ σ
noncomputable def mc_two_b242 (σ : gM) (x1 x2 : Int) : Option (gM × Int) := lim (fun n => gB (e_mc_two 119) rF tF n 242 [(2, 87), (0, x1), (0, x2), (9, 0), (9, 0)] [] σ)
theorem mc_two_b242_l (σ : gM) (x1 x2 : Int) : Lm (fun n => gB (e_mc_two 119) rF tF n 242 [(2, 87), (0, x1), (0, x2), (9, 0), (9, 0)] [] σ) (mc_two_b242 σ x1 x2) := .of fun n => gB_le (gMos_spec (mb_mc_two)) n _ _ _ σ
noncomputable def mc_two_b293 (σ : gM) (x1 x2 : Int) : Option (gM × Int) := lim (fun n => gB (e_mc_two 119) rF tF n 293 [(2, 87), (0, x1), (0, x2), (9, 0), (9, 0)] [] σ)
theorem mc_two_b293_l (σ : gM) (x1 x2 : Int) : Lm (fun n => gB (e_mc_two 119) rF tF n 293 [(2, 87), (0, x1), (0, x2), (9, 0), (9, 0)] [] σ) (mc_two_b293 σ x1 x2) := .of fun n => gB_le (gMos_spec (mb_mc_two)) n _ _ _ σ
noncomputable def mc_two_b308 (σ : gM) (x1 x2 : Int) : Option (gM × Int) := lim (fun n => gB (e_mc_two 119) rF tF n 308 [(2, 87), (0, x1), (0, x2), (9, 0), (9, 0)] [] σ)
theorem mc_two_b308_l (σ : gM) (x1 x2 : Int) : Lm (fun n => gB (e_mc_two 119) rF tF n 308 [(2, 87), (0, x1), (0, x2), (9, 0), (9, 0)] [] σ) (mc_two_b308 σ x1 x2) := .of fun n => gB_le (gMos_spec (mb_mc_two)) n _ _ _ σ
noncomputable def mc_two_b331 (σ : gM) (x1 y0 : Int) : Option (gM × Int) := lim (fun n => gB (e_mc_two 119) rF tF n 331 [(2, 87), (0, x1), (9, 0), (9, 0), (9, 0)] [(0, y0), (2, 108), (2, 105), (2, 111)] σ)
theorem mc_two_b331_l (σ : gM) (x1 y0 : Int) : Lm (fun n => gB (e_mc_two 119) rF tF n 331 [(2, 87), (0, x1), (9, 0), (9, 0), (9, 0)] [(0, y0), (2, 108), (2, 105), (2, 111)] σ) (mc_two_b331 σ x1 y0) := .of fun n => gB_le (gMos_spec (mb_mc_two)) n _ _ _ σ
noncomputable def mc_two_b384 (σ : gM) (x1 x4 : Int) : Option (gM × Int) := lim (fun n => gB (e_mc_two 119) rF tF n 384 [(2, 87), (0, x1), (9, 0), (9, 0), (0, x4)] [] σ)
theorem mc_two_b384_l (σ : gM) (x1 x4 : Int) : Lm (fun n => gB (e_mc_two 119) rF tF n 384 [(2, 87), (0, x1), (9, 0), (9, 0), (0, x4)] [] σ) (mc_two_b384 σ x1 x4) := .of fun n => gB_le (gMos_spec (mb_mc_two)) n _ _ _ σ
theorem mc_two_e (σ : gM) (x1 : Int) : mc_two σ x1 =
  (if 0 ≤ x1 ∧ x1 < 16000 then
  (if σ 9 x1 = 16 then
    (mc_two_b22 σ x1 (σ 9 x1))
    else
    (if σ 9 x1 = 17 then
      (mc_two_b22 σ x1 (σ 9 x1))
      else
      ((mc_isNumber σ (w32 ((σ 87 8) - 2))).bind fun p1 =>
        if p1.2 = 0 then
        (mc_two_b55 p1.1 x1 (σ 9 x1))
        else
        ((mc_isNumber p1.1 (w32 ((p1.1 87 8) - 1))).bind fun p2 =>
          if p2.2 = 0 then
          (mc_two_b55 p2.1 x1 (σ 9 x1))
          else
          ((mc_areLongs p2.1).bind fun p3 =>
            if p3.2 = 0 then
            (mc_two_b131 p3.1 x1 (σ 9 x1))
            else
            (if 0 ≤ x1 ∧ x1 < 16000 then
              (if i_and (p3.1 11 x1) 2 = 0 then
                (mc_two_b132 p3.1 x1 (σ 9 x1) 1)
                else
                (mc_two_b131 p3.1 x1 (σ 9 x1)))
              else none))))))
  else none) := Lm.eqn (mc_two_l ..) (.ite (.ite (mc_two_b22_l ..) (.ite (mc_two_b22_l ..) (.bind (mc_isNumber_l ..) fun p1 => (.ite (mc_two_b55_l ..) (.bind (mc_isNumber_l ..) fun p2 => (.ite (mc_two_b55_l ..) (.bind (mc_areLongs_l ..) fun p3 => (.ite (mc_two_b131_l ..) (.ite (.ite (mc_two_b132_l ..) (mc_two_b131_l ..)) .cst))))))))) .cst) fun n => (rfl)
theorem mc_two_b22_e (σ : gM) (x1 x2 : Int) : mc_two_b22 σ x1 x2 =
  ((mc_alike σ x1 x2).bind fun p1 =>
  g01 p1.2 (some (p1.1, p1.2))) := Lm.eqn (mc_two_b22_l ..) (.bind (mc_alike_l ..) fun p1 => .cst) fun n => (rfl)
theorem mc_two_b55_e (σ : gM) (x1 x2 : Int) : mc_two_b55 σ x1 x2 =
  (if x2 = 8 then
  (if 0 ≤ w32 ((σ 87 8) - 2) ∧ w32 ((σ 87 8) - 2) < 18240 then
    (if σ 88 (w32 ((σ 87 8) - 2)) = 2 then
      (mc_two_b91 σ x1)
      else
      (if 0 ≤ w32 ((σ 87 8) - 1) ∧ w32 ((σ 87 8) - 1) < 18240 then
        (if σ 88 (w32 ((σ 87 8) - 1)) = 2 then
          (mc_two_b91 σ x1)
          else
          (mc_two_b99 σ x1))
        else none))
    else none)
  else
  (mc_two_b99 σ x1)) := Lm.eqn (mc_two_b55_l ..) (.ite (.ite (.ite (mc_two_b91_l ..) (.ite (.ite (mc_two_b91_l ..) (mc_two_b99_l ..)) .cst)) .cst) (mc_two_b99_l ..)) fun n => (rfl)
theorem mc_two_b91_e (σ : gM) (x1 : Int) : mc_two_b91 σ x1 =
  ((mc_joins σ x1).bind fun p1 =>
  g01 p1.2 (some (p1.1, p1.2))) := Lm.eqn (mc_two_b91_l ..) (.bind (mc_joins_l ..) fun p1 => .cst) fun n => (rfl)
theorem mc_two_b99_e (σ : gM) (x1 : Int) : mc_two_b99 σ x1 =
  ((mc_fails σ 1 x1).bind fun p1 =>
  g01 p1.2 (some (p1.1, p1.2))) := Lm.eqn (mc_two_b99_l ..) (.bind (mc_fails_l ..) fun p1 => .cst) fun n => (rfl)
theorem mc_two_b131_e (σ : gM) (x1 x2 : Int) : mc_two_b131 σ x1 x2 =
  (mc_two_b132 σ x1 x2 0) := Lm.eqn (mc_two_b131_l ..) (mc_two_b132_l ..) fun n => (rfl)
theorem mc_two_b132_e (σ : gM) (x1 x2 y0 : Int) : mc_two_b132 σ x1 x2 y0 =
  (if x2 < 12 then
  (if x2 = 11 then
    (if 0 ≤ w32 ((σ 87 8) - 1) ∧ w32 ((σ 87 8) - 1) < 18240 then
      (if σ 88 (w32 ((σ 87 8) - 1)) = 0 then
        (if 0 ≤ w32 ((σ 87 8) - 1) ∧ w32 ((σ 87 8) - 1) < 18240 then
          (if l_cmp (σ 89 (w32 ((σ 87 8) - 1))) 0 = 0 then
            ((mc_fails σ 2 x1).bind fun p1 =>
              g01 p1.2 (some (p1.1, p1.2)))
            else
            (mc_two_b190 σ x1 x2 y0))
          else none)
        else
        (mc_two_b190 σ x1 x2 y0))
      else none)
    else
    (mc_two_b190 σ x1 x2 y0))
  else
  ((mc_compares σ x1 x2 y0).bind fun p2 =>
    g01 p2.2 (some (p2.1, p2.2)))) := Lm.eqn (mc_two_b132_l ..) (.ite (.ite (.ite (.ite (.ite (.ite (.bind (mc_fails_l ..) fun p1 => .cst) (mc_two_b190_l ..)) .cst) (mc_two_b190_l ..)) .cst) (mc_two_b190_l ..)) (.bind (mc_compares_l ..) fun p2 => .cst)) fun n => (rfl)
theorem mc_two_b190_e (σ : gM) (x1 x2 x3 : Int) : mc_two_b190 σ x1 x2 x3 =
  (if x3 = 0 then
  (mc_two_b242 σ x1 x2)
  else
  (if 0 ≤ w32 ((σ 87 8) - 2) ∧ w32 ((σ 87 8) - 2) < 18240 then
    (if 0 ≤ w32 ((σ 87 8) - 1) ∧ w32 ((σ 87 8) - 1) < 18240 then
      ((mc_fits σ x2 (σ 89 (w32 ((σ 87 8) - 2))) (σ 89 (w32 ((σ 87 8) - 1)))).bind fun p1 =>
        if p1.2 = 0 then
        (mc_two_b242 p1.1 x1 x2)
        else
        ((mc_needs p1.1 x1 1 0).bind fun p2 =>
          (mc_settle p2.1 0 (p2.1 87 47)).bind fun p3 =>
          some (p3.1, 1)))
      else none)
    else none)) := Lm.eqn (mc_two_b190_l ..) (.ite (mc_two_b242_l ..) (.ite (.ite (.bind (mc_fits_l ..) fun p1 => (.ite (mc_two_b242_l ..) (.bind (mc_needs_l ..) fun p2 => (.bind (mc_settle_l ..) fun p3 => .cst)))) .cst) .cst)) fun n => (rfl)
theorem mc_two_b242_e (σ : gM) (x1 x2 : Int) : mc_two_b242 σ x1 x2 =
  ((mc_whole σ (w32 ((σ 87 8) - 2)) 105).bind fun p1 =>
  (mc_whole p1.1 (w32 ((p1.1 87 8) - 1)) 108).bind fun p2 =>
  if x2 = 11 then
  (if p2.1 108 0 = 0 then
    ((mc_fails p2.1 2 x1).bind fun p3 =>
      g01 p3.2 (some (p3.1, p3.2)))
    else
    (mc_two_b293 p2.1 x1 x2))
  else
  (mc_two_b293 p2.1 x1 x2)) := Lm.eqn (mc_two_b242_l ..) (.bind (mc_whole_l ..) fun p1 => (.bind (mc_whole_l ..) fun p2 => (.ite (.ite (.bind (mc_fails_l ..) fun p3 => .cst) (mc_two_b293_l ..)) (mc_two_b293_l ..)))) fun n => (rfl)
theorem mc_two_b293_e (σ : gM) (x1 x2 : Int) : mc_two_b293 σ x1 x2 =
  (if x2 = 8 then
  (mc_two_b308 σ x1 x2)
  else
  (if x2 = 9 then
    (mc_two_b308 σ x1 x2)
    else
    (if x2 = 10 then
      ((wl_product σ 111 105 108).bind fun p2 =>
        mc_two_b384 p2.1 x1 p2.2)
      else
      ((wl_quotient σ 111 105 108 114).bind fun p1 =>
        mc_two_b384 p1.1 x1 1)))) := Lm.eqn (mc_two_b293_l ..) (.ite (mc_two_b308_l ..) (.ite (mc_two_b308_l ..) (.ite (.bind (wl_product_l ..) fun p2 => (mc_two_b384_l ..)) (.bind (wl_quotient_l ..) fun p1 => (mc_two_b384_l ..))))) fun n => (rfl)
theorem mc_two_b308_e (σ : gM) (x1 x2 : Int) : mc_two_b308 σ x1 x2 =
  (if x2 = 9 then
  (mc_two_b331 σ x1 1)
  else
  (mc_two_b331 σ x1 0)) := Lm.eqn (mc_two_b308_l ..) (.ite (mc_two_b331_l ..) (mc_two_b331_l ..)) fun n => (rfl)
theorem mc_two_b331_e (σ : gM) (x1 y0 : Int) : mc_two_b331 σ x1 y0 =
  ((wl_sum σ 111 105 108 y0).bind fun p1 =>
  mc_two_b384 p1.1 x1 p1.2) := Lm.eqn (mc_two_b331_l ..) (.bind (wl_sum_l ..) fun p1 => (mc_two_b384_l ..)) fun n => (rfl)
theorem mc_two_b384_e (σ : gM) (x1 x4 : Int) : mc_two_b384 σ x1 x4 =
  (if x4 = 0 then
  ((mc_fails σ 8 x1).bind fun p6 =>
    g01 p6.2 (some (p6.1, p6.2)))
  else
  ((hp_makes σ 4).bind fun p1 =>
    if p1.2 = 0 then
    ((mc_fails p1.1 9 x1).bind fun p5 =>
      g01 p5.2 (some (p5.1, p5.2)))
    else
    ((mc_needs p1.1 x1 2 1).bind fun p2 =>
      (hp_whole p2.1 111 0).bind fun p3 =>
      (mc_settle p3.1 1 p3.2).bind fun p4 =>
      some (p4.1, 1)))) := Lm.eqn (mc_two_b384_l ..) (.ite (.bind (mc_fails_l ..) fun p6 => .cst) (.bind (hp_makes_l ..) fun p1 => (.ite (.bind (mc_fails_l ..) fun p5 => .cst) (.bind (mc_needs_l ..) fun p2 => (.bind (hp_whole_l ..) fun p3 => (.bind (mc_settle_l ..) fun p4 => .cst)))))) fun n => (rfl)
def k_mc_isTruth : List gC := [(0, 1, .aload_n 0, [], none), (1, 3, .getfield 11, [], none), (4, 1, .aload_n 0, [], none), (5, 3, .getfield 159, [], none),
  (8, 1, .iconst 1, [], none), (9, 1, .isub, [], none), (10, 1, .iaload, [], none), (11, 1, .iconst 3, [], none),
  (12, 3, .if_icmp .eq 12, [(0, 24)], none), (15, 1, .aload_n 0, [], none), (16, 1, .iconst 1, [], none), (17, 1, .iload_n 1, [], none),
  (18, 3, .invokevirtual 193, [], none), (21, 3, .ifCond .eq 7, [(0, 28)], none), (24, 1, .iconst 1, [], some [false, false]), (25, 3, .goto 4, [(0, 29)], none),
  (28, 1, .iconst 0, [], none), (29, 1, .ireturn, [], none)]
def e_mc_isTruth (m : Nat) : gE := (k_mc_isTruth, f_mc, c_mc, [(193, 3, 17, 0, .inl (fn_mc_fails m))], [], (m, 4802984773241649976760009659925602086253252774662355733865026403165604576951324622011140357101056366470779899869310337679360), 6)
theorem ok_mc_isTruth : gchk cX9_isTruth 2 k_mc_isTruth = true := by decide +kernel
def fn_mc_isTruth (m : Nat) : gFn := gF (e_mc_isTruth m) 2
theorem mo_mc_isTruth (m : Nat) : gMo (.inl (fn_mc_isTruth m)) := gF_mo (E := e_mc_isTruth m) ⟨mo_mc_fails m, trivial⟩
noncomputable def mc_isTruth (σ : gM) (x1 : Int) : Option (gM × Int) := lim (fun n => fn_mc_isTruth 119 n [(2, 87), (0, x1)] σ)
theorem mc_isTruth_l (σ : gM) (x1 : Int) : Lm (fun n => fn_mc_isTruth 119 n [(2, 87), (0, x1)] σ) (mc_isTruth σ x1) := .of fun n => mo_mc_isTruth 119 n [(2, 87), (0, x1)] σ
theorem mb_mc_isTruth : gMos (e_mc_isTruth 119).2.2.2.1 := ⟨mo_mc_fails 119, trivial⟩
noncomputable def mc_isTruth_b24 (σ : gM) : Option (gM × Int) := lim (fun n => gB (e_mc_isTruth 119) rF tF n 24 [(9, 0), (9, 0)] [] σ)
theorem mc_isTruth_b24_l (σ : gM) : Lm (fun n => gB (e_mc_isTruth 119) rF tF n 24 [(9, 0), (9, 0)] [] σ) (mc_isTruth_b24 σ) := .of fun n => gB_le (gMos_spec (mb_mc_isTruth)) n _ _ _ σ
theorem mc_isTruth_e (σ : gM) (x1 : Int) : mc_isTruth σ x1 =
  (if 0 ≤ w32 ((σ 87 8) - 1) ∧ w32 ((σ 87 8) - 1) < 18240 then
  (if σ 88 (w32 ((σ 87 8) - 1)) = 3 then
    (mc_isTruth_b24 σ)
    else
    ((mc_fails σ 1 x1).bind fun p1 =>
      if p1.2 = 0 then
      (some (p1.1, 0))
      else
      (mc_isTruth_b24 p1.1)))
  else none) := Lm.eqn (mc_isTruth_l ..) (.ite (.ite (mc_isTruth_b24_l ..) (.bind (mc_fails_l ..) fun p1 => (.ite .cst (mc_isTruth_b24_l ..)))) .cst) fun n => (rfl)
theorem mc_isTruth_b24_e (σ : gM) : mc_isTruth_b24 σ =
  (some (σ, 1)) := Lm.eqn (mc_isTruth_b24_l ..) .cst fun n => (rfl)
