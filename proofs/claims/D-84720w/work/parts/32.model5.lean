set_option maxRecDepth 100000
def k_md_gets : List gC := [(0, 1, .aload_n 0, [], none), (1, 3, .getfield 326, [], none), (4, 1, .iload_n 1, [], none), (5, 1, .iaload, [], none),
  (6, 1, .istore_n 3, [], none), (7, 1, .aload_n 0, [], none), (8, 3, .getfield 326, [], none), (11, 1, .iload_n 1, [], none),
  (12, 1, .dup2, [], none), (13, 1, .iaload, [], none), (14, 1, .iconst 1, [], none), (15, 1, .iadd, [], none),
  (16, 1, .iastore, [], none), (17, 1, .iload_n 3, [], none), (18, 3, .ifCond .ne 15, [(0, 33)], none), (21, 1, .aload_n 0, [], none),
  (22, 1, .aload_n 0, [], none), (23, 3, .getfield 170, [], none), (26, 1, .iload_n 2, [], none), (27, 1, .iaload, [], none),
  (28, 1, .iconst (-1), [], none), (29, 3, .invokevirtual 746, [], none), (32, 1, .return_, [], none), (33, 1, .iload_n 3, [], none),
  (34, 1, .iconst 1, [], none), (35, 3, .if_icmp .ne 25, [(0, 60)], none), (38, 1, .aload_n 0, [], none), (39, 3, .getfield 173, [], none),
  (42, 1, .iload_n 2, [], none), (43, 1, .iaload, [], none), (44, 1, .iconst (-1), [], none), (45, 3, .if_icmp .eq 15, [(0, 60)], none),
  (48, 1, .aload_n 0, [], none), (49, 1, .aload_n 0, [], none), (50, 3, .getfield 173, [], none), (53, 1, .iload_n 2, [], none),
  (54, 1, .iaload, [], none), (55, 1, .iconst (-1), [], none), (56, 3, .invokevirtual 746, [], none), (59, 1, .return_, [], none),
  (60, 1, .aload_n 0, [], some [true, false, true, false, false, false, false]), (61, 3, .getfield 173, [], none), (64, 1, .iload_n 2, [], none), (65, 1, .iaload, [], none),
  (66, 1, .iconst (-1), [], none), (67, 3, .if_icmp .ne 12, [(0, 79)], none), (70, 1, .aload_n 0, [], none), (71, 3, .getfield 707, [], none),
  (74, 1, .iconst 1, [], none), (75, 1, .isub, [], none), (76, 3, .goto 9, [(0, 85)], none), (79, 1, .aload_n 0, [], none),
  (80, 3, .getfield 707, [], none), (83, 1, .iconst 2, [], none), (84, 1, .isub, [], none), (85, 2, .istore 4, [], some [true, false, true, false, false, false, false]),
  (87, 1, .aload_n 0, [], none), (88, 3, .getfield 332, [], none), (91, 2, .iload 4, [], none), (93, 1, .iaload, [], none),
  (94, 2, .bipush 6, [], none), (96, 3, .if_icmp .eq 10, [(0, 106)], none), (99, 1, .aload_n 0, [], none), (100, 1, .iconst 4, [], none),
  (101, 1, .iload_n 2, [], none), (102, 3, .invokevirtual 726, [], none), (105, 1, .athrow, [], none), (106, 1, .aload_n 0, [], none),
  (107, 3, .getfield 173, [], none), (110, 1, .iload_n 2, [], none), (111, 1, .iaload, [], none), (112, 1, .iconst (-1), [], none),
  (113, 3, .if_icmp .eq 23, [(0, 136)], none), (116, 1, .aload_n 0, [], none), (117, 3, .getfield 332, [], none), (120, 2, .iload 4, [], none),
  (122, 1, .iconst 1, [], none), (123, 1, .iadd, [], none), (124, 1, .iaload, [], none), (125, 1, .iconst 4, [], none),
  (126, 3, .if_icmp .eq 10, [(0, 136)], none), (129, 1, .aload_n 0, [], none), (130, 1, .iconst 1, [], none), (131, 1, .iload_n 2, [], none),
  (132, 3, .invokevirtual 726, [], none), (135, 1, .athrow, [], none), (136, 1, .aload_n 0, [], some [true, false, true, false, true, false, false]), (137, 3, .getfield 335, [], none),
  (140, 2, .iload 4, [], none), (142, 1, .laload, [], none), (143, 1, .l2i, [], none), (144, 2, .istore 5, [], none),
  (146, 1, .aload_n 0, [], none), (147, 1, .aload_n 0, [], none), (148, 3, .getfield 240, [], none), (151, 2, .iload 5, [], none),
  (153, 1, .iaload, [], none), (154, 1, .aload_n 0, [], none), (155, 1, .iload_n 2, [], none), (156, 2, .iload 4, [], none),
  (158, 1, .iconst 1, [], none), (159, 1, .iadd, [], none), (160, 3, .invokevirtual 880, [], none), (163, 3, .invokevirtual 884, [], none),
  (166, 2, .istore 6, [], none), (168, 2, .iload 6, [], none), (170, 3, .ifCond .ge 10, [(0, 180)], none), (173, 1, .aload_n 0, [], none),
  (174, 1, .iconst 5, [], none), (175, 1, .iload_n 2, [], none), (176, 3, .invokevirtual 726, [], none), (179, 1, .athrow, [], none),
  (180, 1, .aload_n 0, [], none), (181, 2, .iload 5, [], none), (183, 3, .invokevirtual 888, [], none), (186, 1, .aload_n 0, [], none),
  (187, 1, .iload_n 2, [], none), (188, 1, .aload_n 0, [], none), (189, 3, .getfield 240, [], none), (192, 2, .iload 5, [], none),
  (194, 1, .iaload, [], none), (195, 2, .iload 6, [], none), (197, 1, .iconst (-1), [], none), (198, 1, .iconst 3, [], none),
  (199, 3, .invokevirtual 891, [], none), (202, 1, .aload_n 0, [], none), (203, 2, .iload 4, [], none), (205, 3, .putfield 707, [], none),
  (208, 1, .aload_n 0, [], none), (209, 1, .aload_n 0, [], none), (210, 3, .getfield 243, [], none), (213, 2, .bipush 12, [], none),
  (215, 2, .iload 5, [], none), (217, 1, .imul, [], none), (218, 2, .iload 6, [], none), (220, 1, .iadd, [], none),
  (221, 1, .iaload, [], none), (222, 1, .aload_n 0, [], none), (223, 3, .getfield 246, [], none), (226, 2, .bipush 12, [], none),
  (228, 2, .iload 5, [], none), (230, 1, .imul, [], none), (231, 2, .iload 6, [], none), (233, 1, .iadd, [], none),
  (234, 1, .laload, [], none), (235, 3, .invokevirtual 762, [], none), (238, 1, .aload_n 0, [], none), (239, 1, .dup, [], none),
  (240, 3, .getfield 710, [], none), (243, 1, .iconst 1, [], none), (244, 1, .isub, [], none), (245, 3, .putfield 710, [], none),
  (248, 1, .return_, [], none)]
def e_md_gets (m : Nat) : gE := (k_md_gets, f_md, c_md, [(746, 3, 20, 5, .inl (fn_md_task m)), (726, 3, 20, 2, .inl (fn_md_error m)), (880, 3, 20, 1, .inl (fn_md_nameAt m)), (884, 3, 20, 0, .inl (fn_md_propertyAt m)), (888, 2, 20, 5, .inl (fn_md_moves m)), (891, 6, 20, 5, .inl (fn_md_enter m)), (762, 3, 20, 5, .inl (fn_md_push m))], [], (m, 914133163844594357887617317688616014369845466278078960322377055319348143993741781061489418322354294281552993630606425253144676304768944950130340609847967245463935757981784735744), 5)
theorem ok_md_gets : gchk cX10_gets 7 k_md_gets = true := by decide +kernel
def fn_md_gets (m : Nat) : gFt := gG (e_md_gets m) 7
theorem mo_md_gets (m : Nat) : gMo (.inr (fn_md_gets m)) := gG_mo (E := e_md_gets m) ⟨mo_md_task m, ⟨mo_md_error m, ⟨mo_md_nameAt m, ⟨mo_md_propertyAt m, ⟨mo_md_moves m, ⟨mo_md_enter m, ⟨mo_md_push m, trivial⟩⟩⟩⟩⟩⟩⟩
noncomputable def md_gets (σ : gM) (x1 x2 : Int) : Option (gM × Option Int) := lim (fun n => fn_md_gets 227 n [(2, 119), (0, x1), (0, x2)] σ)
theorem md_gets_l (σ : gM) (x1 x2 : Int) : Lm (fun n => fn_md_gets 227 n [(2, 119), (0, x1), (0, x2)] σ) (md_gets σ x1 x2) := .of fun n => mo_md_gets 227 n [(2, 119), (0, x1), (0, x2)] σ
theorem mb_md_gets : gMos (e_md_gets 227).2.2.2.1 := ⟨mo_md_task 227, ⟨mo_md_error 227, ⟨mo_md_nameAt 227, ⟨mo_md_propertyAt 227, ⟨mo_md_moves 227, ⟨mo_md_enter 227, ⟨mo_md_push 227, trivial⟩⟩⟩⟩⟩⟩⟩
noncomputable def md_gets_b60 (σ : gM) (x2 : Int) : Option (gM × Option Int) := lim (fun n => gB (e_md_gets 227) rG gthr n 60 [(2, 119), (9, 0), (0, x2), (9, 0), (9, 0), (9, 0), (9, 0)] [] σ)
theorem md_gets_b60_l (σ : gM) (x2 : Int) : Lm (fun n => gB (e_md_gets 227) rG gthr n 60 [(2, 119), (9, 0), (0, x2), (9, 0), (9, 0), (9, 0), (9, 0)] [] σ) (md_gets_b60 σ x2) := .of fun n => gB_le (gMos_spec (mb_md_gets)) n _ _ _ σ
noncomputable def md_gets_b85 (σ : gM) (x2 y0 : Int) : Option (gM × Option Int) := lim (fun n => gB (e_md_gets 227) rG gthr n 85 [(2, 119), (9, 0), (0, x2), (9, 0), (9, 0), (9, 0), (9, 0)] [(0, y0)] σ)
theorem md_gets_b85_l (σ : gM) (x2 y0 : Int) : Lm (fun n => gB (e_md_gets 227) rG gthr n 85 [(2, 119), (9, 0), (0, x2), (9, 0), (9, 0), (9, 0), (9, 0)] [(0, y0)] σ) (md_gets_b85 σ x2 y0) := .of fun n => gB_le (gMos_spec (mb_md_gets)) n _ _ _ σ
noncomputable def md_gets_b136 (σ : gM) (x2 x4 : Int) : Option (gM × Option Int) := lim (fun n => gB (e_md_gets 227) rG gthr n 136 [(2, 119), (9, 0), (0, x2), (9, 0), (0, x4), (9, 0), (9, 0)] [] σ)
theorem md_gets_b136_l (σ : gM) (x2 x4 : Int) : Lm (fun n => gB (e_md_gets 227) rG gthr n 136 [(2, 119), (9, 0), (0, x2), (9, 0), (0, x4), (9, 0), (9, 0)] [] σ) (md_gets_b136 σ x2 x4) := .of fun n => gB_le (gMos_spec (mb_md_gets)) n _ _ _ σ
theorem md_gets_e (σ : gM) (x1 x2 : Int) : md_gets σ x1 x2 =
  (if 0 ≤ x1 ∧ x1 < 42000 then
  (if 0 ≤ x1 ∧ x1 < 42000 then
    (if 0 ≤ x1 ∧ x1 < 42000 then
      (if σ 219 x1 = 0 then
        (if 0 ≤ x2 ∧ x2 < 20000 then
          ((md_task (gW σ 219 x1 (w32 ((σ 219 x1) + 1))) (σ 170 x2) (-1)).bind fun p2 =>
            some (p2.1, some 0))
          else none)
        else
        (if σ 219 x1 = 1 then
          (if 0 ≤ x2 ∧ x2 < 20000 then
            (if σ 171 x2 = (-1) then
              (md_gets_b60 (gW σ 219 x1 (w32 ((σ 219 x1) + 1))) x2)
              else
              (if 0 ≤ x2 ∧ x2 < 20000 then
                ((md_task (gW σ 219 x1 (w32 ((σ 219 x1) + 1))) (σ 171 x2) (-1)).bind fun p1 =>
                  some (p1.1, some 0))
                else none))
            else none)
          else
          (md_gets_b60 (gW σ 219 x1 (w32 ((σ 219 x1) + 1))) x2)))
      else none)
    else none)
  else none) := Lm.eqn (md_gets_l ..) (.ite (.ite (.ite (.ite (.ite (.bind (md_task_l ..) fun p2 => .cst) .cst) (.ite (.ite (.ite (md_gets_b60_l ..) (.ite (.bind (md_task_l ..) fun p1 => .cst) .cst)) .cst) (md_gets_b60_l ..))) .cst) .cst) .cst) fun n => (rfl)
theorem md_gets_b60_e (σ : gM) (x2 : Int) : md_gets_b60 σ x2 =
  (if 0 ≤ x2 ∧ x2 < 20000 then
  (if σ 171 x2 = (-1) then
    (md_gets_b85 σ x2 (w32 ((σ 119 125) - 1)))
    else
    (md_gets_b85 σ x2 (w32 ((σ 119 125) - 2))))
  else none) := Lm.eqn (md_gets_b60_l ..) (.ite (.ite (md_gets_b85_l ..) (md_gets_b85_l ..)) .cst) fun n => (rfl)
theorem md_gets_b85_e (σ : gM) (x2 y0 : Int) : md_gets_b85 σ x2 y0 =
  (if 0 ≤ y0 ∧ y0 < 24000 then
  (if σ 221 y0 = 6 then
    (if 0 ≤ x2 ∧ x2 < 20000 then
      (if σ 171 x2 = (-1) then
        (md_gets_b136 σ x2 y0)
        else
        (if 0 ≤ w32 (y0 + 1) ∧ w32 (y0 + 1) < 24000 then
          (if σ 221 (w32 (y0 + 1)) = 4 then
            (md_gets_b136 σ x2 y0)
            else
            ((md_error σ 1 x2).bind fun p1 =>
              gthr p1.1 p1.2))
          else none))
      else none)
    else
    ((md_error σ 4 x2).bind fun p2 =>
      gthr p2.1 p2.2))
  else none) := Lm.eqn (md_gets_b85_l ..) (.ite (.ite (.ite (.ite (md_gets_b136_l ..) (.ite (.ite (md_gets_b136_l ..) (.bind (md_error_l ..) fun p1 => .cst)) .cst)) .cst) (.bind (md_error_l ..) fun p2 => .cst)) .cst) fun n => (rfl)
theorem md_gets_b136_e (σ : gM) (x2 x4 : Int) : md_gets_b136 σ x2 x4 =
  (if 0 ≤ x4 ∧ x4 < 24000 then
  (if 0 ≤ w32 (σ 222 x4) ∧ w32 (σ 222 x4) < 400 then
    ((md_nameAt σ x2 (w32 (x4 + 1))).bind fun p1 =>
      (md_propertyAt p1.1 (σ 193 (w32 (σ 222 x4))) p1.2).bind fun p2 =>
      if p2.2 < 0 then
      ((md_error p2.1 5 x2).bind fun p6 =>
        gthr p6.1 p6.2)
      else
      ((md_moves p2.1 (w32 (σ 222 x4))).bind fun p3 =>
        if 0 ≤ w32 (σ 222 x4) ∧ w32 (σ 222 x4) < 400 then
        ((md_enter p3.1 x2 (p3.1 193 (w32 (σ 222 x4))) p2.2 (-1) 3).bind fun p4 =>
          if 0 ≤ w32 ((w32 (12 * (w32 (σ 222 x4)))) + p2.2) ∧ w32 ((w32 (12 * (w32 (σ 222 x4)))) + p2.2) < 4800 then
          (if 0 ≤ w32 ((w32 (12 * (w32 (σ 222 x4)))) + p2.2) ∧ w32 ((w32 (12 * (w32 (σ 222 x4)))) + p2.2) < 4800 then
            ((md_push (gW p4.1 119 125 x4) (p4.1 194 (w32 ((w32 (12 * (w32 (σ 222 x4)))) + p2.2))) (p4.1 195 (w32 ((w32 (12 * (w32 (σ 222 x4)))) + p2.2)))).bind fun p5 =>
              some (gW p5.1 119 124 (w32 ((p5.1 119 124) - 1)), some 0))
            else none)
          else none)
        else none))
    else none)
  else none) := Lm.eqn (md_gets_b136_l ..) (.ite (.ite (.bind (md_nameAt_l ..) fun p1 => (.bind (md_propertyAt_l ..) fun p2 => (.ite (.bind (md_error_l ..) fun p6 => .cst) (.bind (md_moves_l ..) fun p3 => (.ite (.bind (md_enter_l ..) fun p4 => (.ite (.ite (.bind (md_push_l ..) fun p5 => .cst) .cst) .cst)) .cst))))) .cst) .cst) fun n => (rfl)
def k_md_heirOf : List gC := [(0, 1, .iload_n 1, [], none), (1, 1, .istore_n 2, [], none), (2, 1, .aload_n 0, [], some [true, false, true]), (3, 3, .getfield 231, [], none),
  (6, 1, .iload_n 2, [], none), (7, 1, .iaload, [], none), (8, 3, .ifCond .lt 13, [(0, 21)], none), (11, 1, .aload_n 0, [], none),
  (12, 3, .getfield 231, [], none), (15, 1, .iload_n 2, [], none), (16, 1, .iaload, [], none), (17, 1, .istore_n 2, [], none),
  (18, 3, .goto (-16), [(0, 2)], none), (21, 1, .iload_n 2, [], none), (22, 1, .ireturn, [], none)]
def e_md_heirOf (m : Nat) : gE := (k_md_heirOf, f_md, c_md, [], [], (m, 0), 0)
theorem ok_md_heirOf : gchk cX10_heirOf 3 k_md_heirOf = true := by decide +kernel
def fn_md_heirOf (m : Nat) : gFn := gF (e_md_heirOf m) 3
theorem mo_md_heirOf (m : Nat) : gMo (.inl (fn_md_heirOf m)) := gF_mo (E := e_md_heirOf m) trivial
noncomputable def md_heirOf (σ : gM) (x1 : Int) : Option (gM × Int) := lim (fun n => fn_md_heirOf 227 n [(2, 119), (0, x1)] σ)
theorem md_heirOf_l (σ : gM) (x1 : Int) : Lm (fun n => fn_md_heirOf 227 n [(2, 119), (0, x1)] σ) (md_heirOf σ x1) := .of fun n => mo_md_heirOf 227 n [(2, 119), (0, x1)] σ
theorem mb_md_heirOf : gMos (e_md_heirOf 227).2.2.2.1 := trivial
noncomputable def md_heirOf_b2 (σ : gM) (x2 : Int) : Option (gM × Int) := lim (fun n => gB (e_md_heirOf 227) rF tF n 2 [(2, 119), (9, 0), (0, x2)] [] σ)
theorem md_heirOf_b2_l (σ : gM) (x2 : Int) : Lm (fun n => gB (e_md_heirOf 227) rF tF n 2 [(2, 119), (9, 0), (0, x2)] [] σ) (md_heirOf_b2 σ x2) := .of fun n => gB_le (gMos_spec (mb_md_heirOf)) n _ _ _ σ
theorem md_heirOf_e (σ : gM) (x1 : Int) : md_heirOf σ x1 =
  (md_heirOf_b2 σ x1) := Lm.eqn (md_heirOf_l ..) (md_heirOf_b2_l ..) fun n => (rfl)
theorem md_heirOf_b2_e (σ : gM) (x2 : Int) : md_heirOf_b2 σ x2 =
  (if 0 ≤ x2 ∧ x2 < 200 then
  (if σ 190 x2 < 0 then
    (some (σ, x2))
    else
    (if 0 ≤ x2 ∧ x2 < 200 then
      (md_heirOf_b2 σ (σ 190 x2))
      else none))
  else none) := Lm.eqn (md_heirOf_b2_l ..) (.ite (.ite .cst (.ite (md_heirOf_b2_l ..) .cst)) .cst) fun n => (rfl)
def k_md_childOf : List gC := [(0, 1, .iconst 1, [], none), (1, 2, .istore 5, [], none), (3, 2, .iload 5, [], some [true, true, true, false, true, true]), (5, 1, .aload_n 0, [], none),
  (6, 3, .getfield 573, [], none), (9, 3, .if_icmp .ge 51, [(0, 60)], none), (12, 1, .aload_n 0, [], none), (13, 3, .getfield 225, [], none),
  (16, 2, .iload 5, [], none), (18, 1, .iaload, [], none), (19, 1, .iload_n 1, [], none), (20, 3, .if_icmp .ne 34, [(0, 54)], none),
  (23, 1, .aload_n 0, [], none), (24, 3, .getfield 228, [], none), (27, 2, .iload 5, [], none), (29, 1, .iaload, [], none),
  (30, 2, .iload 4, [], none), (32, 3, .if_icmp .ne 22, [(0, 54)], none), (35, 1, .aload_n 0, [], none), (36, 1, .aload_n 0, [], none),
  (37, 3, .getfield 237, [], none), (40, 2, .iload 5, [], none), (42, 1, .iaload, [], none), (43, 1, .i2l, [], none),
  (44, 1, .lload_n 2, [], none), (45, 3, .invokevirtual 637, [], none), (48, 3, .ifCond .eq 6, [(0, 54)], none), (51, 2, .iload 5, [], none),
  (53, 1, .ireturn, [], none), (54, 3, .iinc 5 1, [], some [true, true, true, false, true, true]), (57, 3, .goto (-54), [(0, 3)], none), (60, 1, .iconst (-1), [], none),
  (61, 1, .ireturn, [], none)]
def e_md_childOf (m : Nat) : gE := (k_md_childOf, f_md, c_md, [(637, 3, 20, 0, .inl (fn_md_isSame m))], [], (m, 0), 0)
theorem ok_md_childOf : gchk cX10_childOf 6 k_md_childOf = true := by decide +kernel
def fn_md_childOf (m : Nat) : gFn := gF (e_md_childOf m) 6
theorem mo_md_childOf (m : Nat) : gMo (.inl (fn_md_childOf m)) := gF_mo (E := e_md_childOf m) ⟨mo_md_isSame m, trivial⟩
noncomputable def md_childOf (σ : gM) (x1 x2 x4 : Int) : Option (gM × Int) := lim (fun n => fn_md_childOf 227 n [(2, 119), (0, x1), (1, x2), (0, x4)] σ)
theorem md_childOf_l (σ : gM) (x1 x2 x4 : Int) : Lm (fun n => fn_md_childOf 227 n [(2, 119), (0, x1), (1, x2), (0, x4)] σ) (md_childOf σ x1 x2 x4) := .of fun n => mo_md_childOf 227 n [(2, 119), (0, x1), (1, x2), (0, x4)] σ
theorem mb_md_childOf : gMos (e_md_childOf 227).2.2.2.1 := ⟨mo_md_isSame 227, trivial⟩
noncomputable def md_childOf_b3 (σ : gM) (x1 x2 x4 x5 : Int) : Option (gM × Int) := lim (fun n => gB (e_md_childOf 227) rF tF n 3 [(2, 119), (0, x1), (1, x2), (9, 0), (0, x4), (0, x5)] [] σ)
theorem md_childOf_b3_l (σ : gM) (x1 x2 x4 x5 : Int) : Lm (fun n => gB (e_md_childOf 227) rF tF n 3 [(2, 119), (0, x1), (1, x2), (9, 0), (0, x4), (0, x5)] [] σ) (md_childOf_b3 σ x1 x2 x4 x5) := .of fun n => gB_le (gMos_spec (mb_md_childOf)) n _ _ _ σ
noncomputable def md_childOf_b54 (σ : gM) (x1 x2 x4 x5 : Int) : Option (gM × Int) := lim (fun n => gB (e_md_childOf 227) rF tF n 54 [(2, 119), (0, x1), (1, x2), (9, 0), (0, x4), (0, x5)] [] σ)
theorem md_childOf_b54_l (σ : gM) (x1 x2 x4 x5 : Int) : Lm (fun n => gB (e_md_childOf 227) rF tF n 54 [(2, 119), (0, x1), (1, x2), (9, 0), (0, x4), (0, x5)] [] σ) (md_childOf_b54 σ x1 x2 x4 x5) := .of fun n => gB_le (gMos_spec (mb_md_childOf)) n _ _ _ σ
theorem md_childOf_e (σ : gM) (x1 x2 x4 : Int) : md_childOf σ x1 x2 x4 =
  (md_childOf_b3 σ x1 x2 x4 1) := Lm.eqn (md_childOf_l ..) (md_childOf_b3_l ..) fun n => (rfl)
theorem md_childOf_b3_e (σ : gM) (x1 x2 x4 x5 : Int) : md_childOf_b3 σ x1 x2 x4 x5 =
  (if x5 < σ 119 94 then
  (if 0 ≤ x5 ∧ x5 < 200 then
    (if σ 188 x5 = x1 then
      (if 0 ≤ x5 ∧ x5 < 200 then
        (if σ 189 x5 = x4 then
          (if 0 ≤ x5 ∧ x5 < 200 then
            ((md_isSame σ (σ 192 x5) x2).bind fun p1 =>
              if p1.2 = 0 then
              (md_childOf_b54 p1.1 x1 x2 x4 x5)
              else
              (some (p1.1, x5)))
            else none)
          else
          (md_childOf_b54 σ x1 x2 x4 x5))
        else none)
      else
      (md_childOf_b54 σ x1 x2 x4 x5))
    else none)
  else
  (some (σ, (-1)))) := Lm.eqn (md_childOf_b3_l ..) (.ite (.ite (.ite (.ite (.ite (.ite (.bind (md_isSame_l ..) fun p1 => (.ite (md_childOf_b54_l ..) .cst)) .cst) (md_childOf_b54_l ..)) .cst) (md_childOf_b54_l ..)) .cst) .cst) fun n => (rfl)
theorem md_childOf_b54_e (σ : gM) (x1 x2 x4 x5 : Int) : md_childOf_b54 σ x1 x2 x4 x5 =
  (md_childOf_b3 σ x1 x2 x4 (w32 (x5 + 1))) := Lm.eqn (md_childOf_b54_l ..) (md_childOf_b3_l ..) fun n => (rfl)
def k_md_shapeComes : List gC := [(0, 1, .aload_n 0, [], none), (1, 3, .getfield 32, [], none), (4, 1, .lload_n 2, [], none), (5, 1, .l2i, [], none),
  (6, 1, .iaload, [], none), (7, 2, .istore 5, [], none), (9, 1, .aload_n 0, [], none), (10, 3, .getfield 225, [], none),
  (13, 1, .aload_n 0, [], none), (14, 3, .getfield 573, [], none), (17, 1, .iload_n 1, [], none), (18, 1, .iastore, [], none),
  (19, 1, .aload_n 0, [], none), (20, 3, .getfield 237, [], none), (23, 1, .aload_n 0, [], none), (24, 3, .getfield 573, [], none),
  (27, 2, .iload 5, [], none), (29, 3, .sipush 9000, [], none), (32, 3, .if_icmp .ge 8, [(0, 40)], none), (35, 2, .iload 5, [], none),
  (37, 3, .goto 33, [(0, 70)], none), (40, 1, .aload_n 0, [], none), (41, 1, .aload_n 0, [], none), (42, 3, .getfield 17, [], none),
  (45, 1, .aload_n 0, [], none), (46, 3, .getfield 22, [], none), (49, 2, .iload 5, [], none), (51, 1, .iaload, [], none),
  (52, 1, .aload_n 0, [], none), (53, 3, .getfield 22, [], none), (56, 2, .iload 5, [], none), (58, 1, .iaload, [], none),
  (59, 1, .aload_n 0, [], none), (60, 3, .getfield 26, [], none), (63, 2, .iload 5, [], none), (65, 1, .iaload, [], none),
  (66, 1, .iadd, [], none), (67, 3, .invokevirtual 383, [], none), (70, 1, .iastore, [], some [true, true, false, false, true, false]), (71, 1, .aload_n 0, [], none),
  (72, 3, .getfield 228, [], none), (75, 1, .aload_n 0, [], none), (76, 3, .getfield 573, [], none), (79, 2, .iload 4, [], none),
  (81, 1, .iastore, [], none), (82, 1, .aload_n 0, [], none), (83, 3, .getfield 231, [], none), (86, 1, .aload_n 0, [], none),
  (87, 3, .getfield 573, [], none), (90, 1, .iconst (-1), [], none), (91, 1, .iastore, [], none), (92, 1, .aload_n 0, [], none),
  (93, 3, .getfield 234, [], none), (96, 1, .aload_n 0, [], none), (97, 3, .getfield 573, [], none), (100, 1, .aload_n 0, [], none),
  (101, 3, .getfield 234, [], none), (104, 1, .iload_n 1, [], none), (105, 1, .iaload, [], none), (106, 1, .iconst 1, [], none),
  (107, 1, .iadd, [], none), (108, 1, .iastore, [], none), (109, 1, .aload_n 0, [], none), (110, 1, .dup, [], none),
  (111, 3, .getfield 573, [], none), (114, 1, .iconst 1, [], none), (115, 1, .iadd, [], none), (116, 3, .putfield 573, [], none),
  (119, 1, .aload_n 0, [], none), (120, 3, .getfield 573, [], none), (123, 1, .iconst 1, [], none), (124, 1, .isub, [], none),
  (125, 1, .ireturn, [], none)]
def e_md_shapeComes (m : Nat) : gE := (k_md_shapeComes, f_md, c_md, [(383, 4, 20, 0, .inl (fn_md_keep_2 m))], [], (m, 7371020360979572953596786862601944302814829907111681096651459890970117260221082510023616582141131409950186069406925641808066794286237987403347477082006675699324157952), 0)
theorem ok_md_shapeComes : gchk cX10_shapeComes 6 k_md_shapeComes = true := by decide +kernel
def fn_md_shapeComes (m : Nat) : gFn := gF (e_md_shapeComes m) 6
theorem mo_md_shapeComes (m : Nat) : gMo (.inl (fn_md_shapeComes m)) := gF_mo (E := e_md_shapeComes m) ⟨mo_md_keep_2 m, trivial⟩
noncomputable def md_shapeComes (σ : gM) (x1 x2 x4 : Int) : Option (gM × Int) := lim (fun n => fn_md_shapeComes 227 n [(2, 119), (0, x1), (1, x2), (0, x4)] σ)
theorem md_shapeComes_l (σ : gM) (x1 x2 x4 : Int) : Lm (fun n => fn_md_shapeComes 227 n [(2, 119), (0, x1), (1, x2), (0, x4)] σ) (md_shapeComes σ x1 x2 x4) := .of fun n => mo_md_shapeComes 227 n [(2, 119), (0, x1), (1, x2), (0, x4)] σ
theorem mb_md_shapeComes : gMos (e_md_shapeComes 227).2.2.2.1 := ⟨mo_md_keep_2 227, trivial⟩
noncomputable def md_shapeComes_b70 (σ : gM) (x1 x4 y0 y1 : Int) : Option (gM × Int) := lim (fun n => gB (e_md_shapeComes 227) rF tF n 70 [(2, 119), (0, x1), (9, 0), (9, 0), (0, x4), (9, 0)] [(0, y0), (0, y1), (2, 192)] σ)
theorem md_shapeComes_b70_l (σ : gM) (x1 x4 y0 y1 : Int) : Lm (fun n => gB (e_md_shapeComes 227) rF tF n 70 [(2, 119), (0, x1), (9, 0), (9, 0), (0, x4), (9, 0)] [(0, y0), (0, y1), (2, 192)] σ) (md_shapeComes_b70 σ x1 x4 y0 y1) := .of fun n => gB_le (gMos_spec (mb_md_shapeComes)) n _ _ _ σ
theorem md_shapeComes_e (σ : gM) (x1 x2 x4 : Int) : md_shapeComes σ x1 x2 x4 =
  (if 0 ≤ w32 x2 ∧ w32 x2 < 109004 then
  (if 0 ≤ σ 119 94 ∧ σ 119 94 < 200 then
    (if σ 125 (w32 x2) < 9000 then
      (md_shapeComes_b70 (gW σ 188 (σ 119 94) x1) x1 x4 (σ 125 (w32 x2)) (σ 119 94))
      else
      (if 0 ≤ σ 125 (w32 x2) ∧ σ 125 (w32 x2) < 109004 then
        (if 0 ≤ σ 125 (w32 x2) ∧ σ 125 (w32 x2) < 109004 then
          (if 0 ≤ σ 125 (w32 x2) ∧ σ 125 (w32 x2) < 109004 then
            ((md_keep_2 (gW σ 188 (σ 119 94) x1) 121 (σ 122 (σ 125 (w32 x2))) (w32 ((σ 122 (σ 125 (w32 x2))) + (σ 123 (σ 125 (w32 x2)))))).bind fun p1 =>
              md_shapeComes_b70 p1.1 x1 x4 p1.2 (σ 119 94))
            else none)
          else none)
        else none))
    else none)
  else none) := Lm.eqn (md_shapeComes_l ..) (.ite (.ite (.ite (md_shapeComes_b70_l ..) (.ite (.ite (.ite (.bind (md_keep_2_l ..) fun p1 => (md_shapeComes_b70_l ..)) .cst) .cst) .cst)) .cst) .cst) fun n => (rfl)
theorem md_shapeComes_b70_e (σ : gM) (x1 x4 y0 y1 : Int) : md_shapeComes_b70 σ x1 x4 y0 y1 =
  (if 0 ≤ y1 ∧ y1 < 200 then
  (if 0 ≤ σ 119 94 ∧ σ 119 94 < 200 then
    (if 0 ≤ σ 119 94 ∧ σ 119 94 < 200 then
      (if 0 ≤ x1 ∧ x1 < 200 then
        (if 0 ≤ σ 119 94 ∧ σ 119 94 < 200 then
          (some (gW (gW (gW (gW (gW σ 192 y1 y0) 189 (σ 119 94) x4) 190 (σ 119 94) (-1)) 191 (σ 119 94) (w32 ((σ 191 x1) + 1))) 119 94 (w32 ((σ 119 94) + 1)), w32 ((w32 ((σ 119 94) + 1)) - 1)))
          else none)
        else none)
      else none)
    else none)
  else none) := Lm.eqn (md_shapeComes_b70_l ..) (.ite (.ite (.ite (.ite (.ite .cst .cst) .cst) .cst) .cst) .cst) fun n => (rfl)
def k_md_withLast : List gC := [(0, 1, .iload_n 1, [], none), (1, 1, .istore_n 3, [], none), (2, 1, .aload_n 0, [], some [true, false, true, true]), (3, 3, .getfield 234, [], none),
  (6, 1, .iload_n 3, [], none), (7, 1, .iaload, [], none), (8, 1, .iload_n 2, [], none), (9, 1, .iconst 1, [], none),
  (10, 1, .iadd, [], none), (11, 3, .if_icmp .le 13, [(0, 24)], none), (14, 1, .aload_n 0, [], none), (15, 3, .getfield 225, [], none),
  (18, 1, .iload_n 3, [], none), (19, 1, .iaload, [], none), (20, 1, .istore_n 3, [], none), (21, 3, .goto (-19), [(0, 2)], none),
  (24, 1, .iload_n 3, [], none), (25, 1, .ireturn, [], none)]
def e_md_withLast (m : Nat) : gE := (k_md_withLast, f_md, c_md, [], [], (m, 0), 0)
theorem ok_md_withLast : gchk cX10_withLast 4 k_md_withLast = true := by decide +kernel
def fn_md_withLast (m : Nat) : gFn := gF (e_md_withLast m) 4
theorem mo_md_withLast (m : Nat) : gMo (.inl (fn_md_withLast m)) := gF_mo (E := e_md_withLast m) trivial
noncomputable def md_withLast (σ : gM) (x1 x2 : Int) : Option (gM × Int) := lim (fun n => fn_md_withLast 227 n [(2, 119), (0, x1), (0, x2)] σ)
theorem md_withLast_l (σ : gM) (x1 x2 : Int) : Lm (fun n => fn_md_withLast 227 n [(2, 119), (0, x1), (0, x2)] σ) (md_withLast σ x1 x2) := .of fun n => mo_md_withLast 227 n [(2, 119), (0, x1), (0, x2)] σ
theorem mb_md_withLast : gMos (e_md_withLast 227).2.2.2.1 := trivial
noncomputable def md_withLast_b2 (σ : gM) (x2 x3 : Int) : Option (gM × Int) := lim (fun n => gB (e_md_withLast 227) rF tF n 2 [(2, 119), (9, 0), (0, x2), (0, x3)] [] σ)
theorem md_withLast_b2_l (σ : gM) (x2 x3 : Int) : Lm (fun n => gB (e_md_withLast 227) rF tF n 2 [(2, 119), (9, 0), (0, x2), (0, x3)] [] σ) (md_withLast_b2 σ x2 x3) := .of fun n => gB_le (gMos_spec (mb_md_withLast)) n _ _ _ σ
theorem md_withLast_e (σ : gM) (x1 x2 : Int) : md_withLast σ x1 x2 =
  (md_withLast_b2 σ x2 x1) := Lm.eqn (md_withLast_l ..) (md_withLast_b2_l ..) fun n => (rfl)
theorem md_withLast_b2_e (σ : gM) (x2 x3 : Int) : md_withLast_b2 σ x2 x3 =
  (if 0 ≤ x3 ∧ x3 < 200 then
  (if w32 (x2 + 1) < σ 191 x3 then
    (if 0 ≤ x3 ∧ x3 < 200 then
      (md_withLast_b2 σ x2 (σ 188 x3))
      else none)
    else
    (some (σ, x3)))
  else none) := Lm.eqn (md_withLast_b2_l ..) (.ite (.ite (.ite (md_withLast_b2_l ..) .cst) .cst) .cst) fun n => (rfl)
def k_md_lacking : List gC := [(0, 1, .iconst 0, [], none), (1, 1, .istore_n 3, [], none), (2, 1, .iconst 0, [], none), (3, 2, .istore 4, [], none),
  (5, 2, .iload 4, [], some [true, true, true, true, true, false]), (7, 1, .aload_n 0, [], none), (8, 3, .getfield 234, [], none), (11, 1, .iload_n 1, [], none),
  (12, 1, .iaload, [], none), (13, 3, .if_icmp .ge 63, [(0, 76)], none), (16, 1, .aload_n 0, [], none), (17, 1, .iload_n 1, [], none),
  (18, 2, .iload 4, [], none), (20, 3, .invokevirtual 641, [], none), (23, 2, .istore 5, [], none), (25, 1, .aload_n 0, [], none),
  (26, 1, .iload_n 3, [], none), (27, 1, .aload_n 0, [], none), (28, 3, .getfield 237, [], none), (31, 2, .iload 5, [], none),
  (33, 1, .iaload, [], none), (34, 1, .i2l, [], none), (35, 2, .iload 4, [], none), (37, 1, .iload_n 2, [], none),
  (38, 3, .if_icmp .ne 7, [(0, 45)], none), (41, 1, .iconst 3, [], none), (42, 3, .goto 10, [(0, 52)], none), (45, 1, .aload_n 0, [], none),
  (46, 3, .getfield 228, [], none), (49, 2, .iload 5, [], none), (51, 1, .iaload, [], none), (52, 3, .invokevirtual 644, [], some [true, true, true, false, true, false]),
  (55, 1, .istore_n 3, [], none), (56, 1, .iload_n 3, [], none), (57, 3, .ifCond .ge 13, [(0, 70)], none), (60, 1, .aload_n 0, [], none),
  (61, 3, .getfield 234, [], none), (64, 1, .iload_n 1, [], none), (65, 1, .iaload, [], none), (66, 2, .iload 4, [], none),
  (68, 1, .isub, [], none), (69, 1, .ireturn, [], none), (70, 3, .iinc 4 1, [], none), (73, 3, .goto (-68), [(0, 5)], none),
  (76, 1, .iconst 0, [], none), (77, 1, .ireturn, [], none)]
def e_md_lacking (m : Nat) : gE := (k_md_lacking, f_md, c_md, [(641, 3, 20, 0, .inl (fn_md_withLast m)), (644, 4, 20, 0, .inl (fn_md_childOf m))], [], (m, 0), 0)
theorem ok_md_lacking : gchk cX10_lacking 6 k_md_lacking = true := by decide +kernel
def fn_md_lacking (m : Nat) : gFn := gF (e_md_lacking m) 6
theorem mo_md_lacking (m : Nat) : gMo (.inl (fn_md_lacking m)) := gF_mo (E := e_md_lacking m) ⟨mo_md_withLast m, ⟨mo_md_childOf m, trivial⟩⟩
noncomputable def md_lacking (σ : gM) (x1 x2 : Int) : Option (gM × Int) := lim (fun n => fn_md_lacking 227 n [(2, 119), (0, x1), (0, x2)] σ)
theorem md_lacking_l (σ : gM) (x1 x2 : Int) : Lm (fun n => fn_md_lacking 227 n [(2, 119), (0, x1), (0, x2)] σ) (md_lacking σ x1 x2) := .of fun n => mo_md_lacking 227 n [(2, 119), (0, x1), (0, x2)] σ
theorem mb_md_lacking : gMos (e_md_lacking 227).2.2.2.1 := ⟨mo_md_withLast 227, ⟨mo_md_childOf 227, trivial⟩⟩
noncomputable def md_lacking_b5 (σ : gM) (x1 x2 x3 x4 : Int) : Option (gM × Int) := lim (fun n => gB (e_md_lacking 227) rF tF n 5 [(2, 119), (0, x1), (0, x2), (0, x3), (0, x4), (9, 0)] [] σ)
theorem md_lacking_b5_l (σ : gM) (x1 x2 x3 x4 : Int) : Lm (fun n => gB (e_md_lacking 227) rF tF n 5 [(2, 119), (0, x1), (0, x2), (0, x3), (0, x4), (9, 0)] [] σ) (md_lacking_b5 σ x1 x2 x3 x4) := .of fun n => gB_le (gMos_spec (mb_md_lacking)) n _ _ _ σ
noncomputable def md_lacking_b52 (σ : gM) (x1 x2 x4 y0 y1 y2 : Int) : Option (gM × Int) := lim (fun n => gB (e_md_lacking 227) rF tF n 52 [(2, 119), (0, x1), (0, x2), (9, 0), (0, x4), (9, 0)] [(0, y0), (1, y1), (0, y2), (2, 119)] σ)
theorem md_lacking_b52_l (σ : gM) (x1 x2 x4 y0 y1 y2 : Int) : Lm (fun n => gB (e_md_lacking 227) rF tF n 52 [(2, 119), (0, x1), (0, x2), (9, 0), (0, x4), (9, 0)] [(0, y0), (1, y1), (0, y2), (2, 119)] σ) (md_lacking_b52 σ x1 x2 x4 y0 y1 y2) := .of fun n => gB_le (gMos_spec (mb_md_lacking)) n _ _ _ σ
theorem md_lacking_e (σ : gM) (x1 x2 : Int) : md_lacking σ x1 x2 =
  (md_lacking_b5 σ x1 x2 0 0) := Lm.eqn (md_lacking_l ..) (md_lacking_b5_l ..) fun n => (rfl)
theorem md_lacking_b5_e (σ : gM) (x1 x2 x3 x4 : Int) : md_lacking_b5 σ x1 x2 x3 x4 =
  (if 0 ≤ x1 ∧ x1 < 200 then
  (if x4 < σ 191 x1 then
    ((md_withLast σ x1 x4).bind fun p1 =>
      if 0 ≤ p1.2 ∧ p1.2 < 200 then
      (if x4 = x2 then
        (md_lacking_b52 p1.1 x1 x2 x4 3 (p1.1 192 p1.2) x3)
        else
        (if 0 ≤ p1.2 ∧ p1.2 < 200 then
          (md_lacking_b52 p1.1 x1 x2 x4 (p1.1 189 p1.2) (p1.1 192 p1.2) x3)
          else none))
      else none)
    else
    (some (σ, 0)))
  else none) := Lm.eqn (md_lacking_b5_l ..) (.ite (.ite (.bind (md_withLast_l ..) fun p1 => (.ite (.ite (md_lacking_b52_l ..) (.ite (md_lacking_b52_l ..) .cst)) .cst)) .cst) .cst) fun n => (rfl)
theorem md_lacking_b52_e (σ : gM) (x1 x2 x4 y0 y1 y2 : Int) : md_lacking_b52 σ x1 x2 x4 y0 y1 y2 =
  ((md_childOf σ y2 y1 y0).bind fun p1 =>
  if p1.2 < 0 then
  (if 0 ≤ x1 ∧ x1 < 200 then
    (some (p1.1, w32 ((p1.1 191 x1) - x4)))
    else none)
  else
  (md_lacking_b5 p1.1 x1 x2 p1.2 (w32 (x4 + 1)))) := Lm.eqn (md_lacking_b52_l ..) (.bind (md_childOf_l ..) fun p1 => (.ite (.ite .cst .cst) (md_lacking_b5_l ..))) fun n => (rfl)
def k_md_heirComes : List gC := [(0, 1, .iconst 0, [], none), (1, 1, .istore_n 3, [], none), (2, 1, .iconst 0, [], none), (3, 2, .istore 4, [], none),
  (5, 2, .iload 4, [], some [true, true, true, true, true, false, false, false]), (7, 1, .aload_n 0, [], none), (8, 3, .getfield 234, [], none), (11, 1, .iload_n 1, [], none),
  (12, 1, .iaload, [], none), (13, 3, .if_icmp .ge 80, [(0, 93)], none), (16, 1, .aload_n 0, [], none), (17, 1, .iload_n 1, [], none),
  (18, 2, .iload 4, [], none), (20, 3, .invokevirtual 641, [], none), (23, 2, .istore 5, [], none), (25, 2, .iload 4, [], none),
  (27, 1, .iload_n 2, [], none), (28, 3, .if_icmp .ne 7, [(0, 35)], none), (31, 1, .iconst 3, [], none), (32, 3, .goto 10, [(0, 42)], none),
  (35, 1, .aload_n 0, [], none), (36, 3, .getfield 228, [], none), (39, 2, .iload 5, [], none), (41, 1, .iaload, [], none),
  (42, 2, .istore 6, [], some [true, true, true, true, true, true, false, false]), (44, 1, .aload_n 0, [], none), (45, 1, .iload_n 3, [], none), (46, 1, .aload_n 0, [], none),
  (47, 3, .getfield 237, [], none), (50, 2, .iload 5, [], none), (52, 1, .iaload, [], none), (53, 1, .i2l, [], none),
  (54, 2, .iload 6, [], none), (56, 3, .invokevirtual 644, [], none), (59, 2, .istore 7, [], none), (61, 2, .iload 7, [], none),
  (63, 3, .ifCond .lt 8, [(0, 71)], none), (66, 2, .iload 7, [], none), (68, 3, .goto 18, [(0, 86)], none), (71, 1, .aload_n 0, [], none),
  (72, 1, .iload_n 3, [], none), (73, 1, .aload_n 0, [], none), (74, 3, .getfield 237, [], none), (77, 2, .iload 5, [], none),
  (79, 1, .iaload, [], none), (80, 1, .i2l, [], none), (81, 2, .iload 6, [], none), (83, 3, .invokevirtual 648, [], none),
  (86, 1, .istore_n 3, [], some [true, true, true, false, true, false, false, false]), (87, 3, .iinc 4 1, [], none), (90, 3, .goto (-85), [(0, 5)], none), (93, 1, .iload_n 3, [], none),
  (94, 1, .ireturn, [], none)]
def e_md_heirComes (m : Nat) : gE := (k_md_heirComes, f_md, c_md, [(641, 3, 20, 0, .inl (fn_md_withLast m)), (644, 4, 20, 0, .inl (fn_md_childOf m)), (648, 4, 20, 0, .inl (fn_md_shapeComes m))], [], (m, 7371020360979572953596786862601944302814829907111681096651459890970117260221082510023616582141131409950186069406925641808066794286237987403347477082006675699324157952), 0)
theorem ok_md_heirComes : gchk cX10_heirComes 8 k_md_heirComes = true := by decide +kernel
def fn_md_heirComes (m : Nat) : gFn := gF (e_md_heirComes m) 8
theorem mo_md_heirComes (m : Nat) : gMo (.inl (fn_md_heirComes m)) := gF_mo (E := e_md_heirComes m) ⟨mo_md_withLast m, ⟨mo_md_childOf m, ⟨mo_md_shapeComes m, trivial⟩⟩⟩
noncomputable def md_heirComes (σ : gM) (x1 x2 : Int) : Option (gM × Int) := lim (fun n => fn_md_heirComes 227 n [(2, 119), (0, x1), (0, x2)] σ)
theorem md_heirComes_l (σ : gM) (x1 x2 : Int) : Lm (fun n => fn_md_heirComes 227 n [(2, 119), (0, x1), (0, x2)] σ) (md_heirComes σ x1 x2) := .of fun n => mo_md_heirComes 227 n [(2, 119), (0, x1), (0, x2)] σ
theorem mb_md_heirComes : gMos (e_md_heirComes 227).2.2.2.1 := ⟨mo_md_withLast 227, ⟨mo_md_childOf 227, ⟨mo_md_shapeComes 227, trivial⟩⟩⟩
noncomputable def md_heirComes_b5 (σ : gM) (x1 x2 x3 x4 : Int) : Option (gM × Int) := lim (fun n => gB (e_md_heirComes 227) rF tF n 5 [(2, 119), (0, x1), (0, x2), (0, x3), (0, x4), (9, 0), (9, 0), (9, 0)] [] σ)
theorem md_heirComes_b5_l (σ : gM) (x1 x2 x3 x4 : Int) : Lm (fun n => gB (e_md_heirComes 227) rF tF n 5 [(2, 119), (0, x1), (0, x2), (0, x3), (0, x4), (9, 0), (9, 0), (9, 0)] [] σ) (md_heirComes_b5 σ x1 x2 x3 x4) := .of fun n => gB_le (gMos_spec (mb_md_heirComes)) n _ _ _ σ
noncomputable def md_heirComes_b42 (σ : gM) (x1 x2 x3 x4 x5 y0 : Int) : Option (gM × Int) := lim (fun n => gB (e_md_heirComes 227) rF tF n 42 [(2, 119), (0, x1), (0, x2), (0, x3), (0, x4), (0, x5), (9, 0), (9, 0)] [(0, y0)] σ)
theorem md_heirComes_b42_l (σ : gM) (x1 x2 x3 x4 x5 y0 : Int) : Lm (fun n => gB (e_md_heirComes 227) rF tF n 42 [(2, 119), (0, x1), (0, x2), (0, x3), (0, x4), (0, x5), (9, 0), (9, 0)] [(0, y0)] σ) (md_heirComes_b42 σ x1 x2 x3 x4 x5 y0) := .of fun n => gB_le (gMos_spec (mb_md_heirComes)) n _ _ _ σ
noncomputable def md_heirComes_b86 (σ : gM) (x1 x2 x4 y0 : Int) : Option (gM × Int) := lim (fun n => gB (e_md_heirComes 227) rF tF n 86 [(2, 119), (0, x1), (0, x2), (9, 0), (0, x4), (9, 0), (9, 0), (9, 0)] [(0, y0)] σ)
theorem md_heirComes_b86_l (σ : gM) (x1 x2 x4 y0 : Int) : Lm (fun n => gB (e_md_heirComes 227) rF tF n 86 [(2, 119), (0, x1), (0, x2), (9, 0), (0, x4), (9, 0), (9, 0), (9, 0)] [(0, y0)] σ) (md_heirComes_b86 σ x1 x2 x4 y0) := .of fun n => gB_le (gMos_spec (mb_md_heirComes)) n _ _ _ σ
theorem md_heirComes_e (σ : gM) (x1 x2 : Int) : md_heirComes σ x1 x2 =
  (md_heirComes_b5 σ x1 x2 0 0) := Lm.eqn (md_heirComes_l ..) (md_heirComes_b5_l ..) fun n => (rfl)
theorem md_heirComes_b5_e (σ : gM) (x1 x2 x3 x4 : Int) : md_heirComes_b5 σ x1 x2 x3 x4 =
  (if 0 ≤ x1 ∧ x1 < 200 then
  (if x4 < σ 191 x1 then
    ((md_withLast σ x1 x4).bind fun p1 =>
      if x4 = x2 then
      (md_heirComes_b42 p1.1 x1 x2 x3 x4 p1.2 3)
      else
      (if 0 ≤ p1.2 ∧ p1.2 < 200 then
        (md_heirComes_b42 p1.1 x1 x2 x3 x4 p1.2 (p1.1 189 p1.2))
        else none))
    else
    (some (σ, x3)))
  else none) := Lm.eqn (md_heirComes_b5_l ..) (.ite (.ite (.bind (md_withLast_l ..) fun p1 => (.ite (md_heirComes_b42_l ..) (.ite (md_heirComes_b42_l ..) .cst))) .cst) .cst) fun n => (rfl)
theorem md_heirComes_b42_e (σ : gM) (x1 x2 x3 x4 x5 y0 : Int) : md_heirComes_b42 σ x1 x2 x3 x4 x5 y0 =
  (if 0 ≤ x5 ∧ x5 < 200 then
  ((md_childOf σ x3 (σ 192 x5) y0).bind fun p1 =>
    if p1.2 < 0 then
    (if 0 ≤ x5 ∧ x5 < 200 then
      ((md_shapeComes p1.1 x3 (p1.1 192 x5) y0).bind fun p2 =>
        md_heirComes_b86 p2.1 x1 x2 x4 p2.2)
      else none)
    else
    (md_heirComes_b86 p1.1 x1 x2 x4 p1.2))
  else none) := Lm.eqn (md_heirComes_b42_l ..) (.ite (.bind (md_childOf_l ..) fun p1 => (.ite (.ite (.bind (md_shapeComes_l ..) fun p2 => (md_heirComes_b86_l ..)) .cst) (md_heirComes_b86_l ..))) .cst) fun n => (rfl)
theorem md_heirComes_b86_e (σ : gM) (x1 x2 x4 y0 : Int) : md_heirComes_b86 σ x1 x2 x4 y0 =
  (md_heirComes_b5 σ x1 x2 y0 (w32 (x4 + 1))) := Lm.eqn (md_heirComes_b86_l ..) (md_heirComes_b5_l ..) fun n => (rfl)
def k_md_endCodesOfShape : List gC := [(0, 1, .iconst 0, [], none), (1, 1, .istore_n 2, [], none), (2, 1, .iload_n 2, [], some [true, true, true, false, false, false, false, false]), (3, 1, .aload_n 0, [], none),
  (4, 3, .getfield 576, [], none), (7, 3, .if_icmp .ge 204, [(0, 211)], none), (10, 1, .iconst 0, [], none), (11, 1, .istore_n 3, [], none),
  (12, 1, .iconst 0, [], none), (13, 2, .istore 4, [], none), (15, 2, .iload 4, [], some [true, true, true, true, true, false, false, false]), (17, 1, .aload_n 0, [], none),
  (18, 3, .getfield 252, [], none), (21, 1, .iload_n 2, [], none), (22, 1, .iaload, [], none), (23, 3, .if_icmp .ge 173, [(0, 196)], none),
  (26, 1, .aload_n 0, [], none), (27, 3, .getfield 270, [], none), (30, 1, .iload_n 2, [], none), (31, 1, .baload, [], none),
  (32, 3, .ifCond .eq 164, [(0, 196)], none), (35, 1, .iload_n 3, [], none), (36, 3, .ifCond .ne 160, [(0, 196)], none), (39, 1, .aload_n 0, [], none),
  (40, 3, .getfield 273, [], none), (43, 1, .aload_n 0, [], none), (44, 1, .iload_n 2, [], none), (45, 2, .iload 4, [], none),
  (47, 3, .invokevirtual 655, [], none), (50, 1, .iaload, [], none), (51, 2, .istore 5, [], none), (53, 1, .aload_n 0, [], none),
  (54, 3, .getfield 134, [], none), (57, 2, .iload 5, [], none), (59, 1, .iaload, [], none), (60, 2, .istore 6, [], none),
  (62, 2, .iload 6, [], some [true, true, true, true, true, true, true, false]), (64, 1, .aload_n 0, [], none), (65, 3, .getfield 134, [], none), (68, 2, .iload 5, [], none),
  (70, 1, .iaload, [], none), (71, 1, .aload_n 0, [], none), (72, 3, .getfield 137, [], none), (75, 2, .iload 5, [], none),
  (77, 1, .iaload, [], none), (78, 1, .iadd, [], none), (79, 3, .if_icmp .ge 111, [(0, 190)], none), (82, 1, .aload_n 0, [], none),
  (83, 3, .getfield 164, [], none), (86, 2, .iload 6, [], none), (88, 1, .iaload, [], none), (89, 2, .bipush 21, [], none),
  (91, 3, .if_icmp .eq 18, [(0, 109)], none), (94, 1, .aload_n 0, [], none), (95, 3, .getfield 164, [], none), (98, 2, .iload 6, [], none),
  (100, 1, .iaload, [], none), (101, 2, .bipush 22, [], none), (103, 3, .if_icmp .eq 6, [(0, 109)], none), (106, 3, .goto 78, [(0, 184)], none),
  (109, 1, .iconst 0, [], some [true, true, true, true, true, true, true, false]), (110, 2, .istore 7, [], none), (112, 2, .iload 7, [], some [true, true, true, true, true, true, true, true]), (114, 1, .aload_n 0, [], none),
  (115, 3, .getfield 203, [], none), (118, 2, .iload 6, [], none), (120, 1, .iaload, [], none), (121, 3, .if_icmp .ge 63, [(0, 184)], none),
  (124, 1, .iload_n 3, [], none), (125, 3, .ifCond .ne 47, [(0, 172)], none), (128, 1, .aload_n 0, [], none), (129, 3, .getfield 207, [], none),
  (132, 1, .iconst 3, [], none), (133, 2, .iload 6, [], none), (135, 1, .imul, [], none), (136, 2, .iload 7, [], none),
  (138, 1, .iadd, [], none), (139, 1, .iaload, [], none), (140, 1, .iload_n 1, [], none), (141, 3, .if_icmp .eq 31, [(0, 172)], none),
  (144, 1, .aload_n 0, [], none), (145, 3, .getfield 164, [], none), (148, 2, .iload 6, [], none), (150, 1, .iaload, [], none),
  (151, 2, .bipush 22, [], none), (153, 3, .if_icmp .ne 23, [(0, 176)], none), (156, 1, .aload_n 0, [], none), (157, 3, .getfield 213, [], none),
  (160, 1, .iconst 3, [], none), (161, 2, .iload 6, [], none), (163, 1, .imul, [], none), (164, 2, .iload 7, [], none),
  (166, 1, .iadd, [], none), (167, 1, .iaload, [], none), (168, 1, .iload_n 1, [], none), (169, 3, .if_icmp .ne 7, [(0, 176)], none),
  (172, 1, .iconst 1, [], some [true, true, true, false, true, true, true, true]), (173, 3, .goto 4, [(0, 177)], none), (176, 1, .iconst 0, [], some [true, true, true, false, true, true, true, true]), (177, 1, .istore_n 3, [], some [true, true, true, false, true, true, true, true]),
  (178, 3, .iinc 7 1, [], none), (181, 3, .goto (-69), [(0, 112)], none), (184, 3, .iinc 6 1, [], some [true, true, true, true, true, true, true, false]), (187, 3, .goto (-125), [(0, 62)], none),
  (190, 3, .iinc 4 1, [], none), (193, 3, .goto (-178), [(0, 15)], none), (196, 1, .iload_n 3, [], some [true, true, true, true, false, false, false, false]), (197, 3, .ifCond .eq 8, [(0, 205)], none),
  (200, 1, .aload_n 0, [], none), (201, 1, .iload_n 2, [], none), (202, 3, .invokevirtual 676, [], none), (205, 3, .iinc 2 1, [], some [true, true, true, false, false, false, false, false]),
  (208, 3, .goto (-206), [(0, 2)], none), (211, 1, .return_, [], none)]
def e_md_endCodesOfShape (m : Nat) : gE := (k_md_endCodesOfShape, f_md, c_md, [(655, 3, 20, 0, .inl (fn_md_unit m)), (676, 2, 20, 5, .inl (fn_md_endCode m))], [], (m, 12855504354106998243631638408766189256162814742734085063442432), 5)
theorem ok_md_endCodesOfShape : gchk cX10_endCodesOfShape 8 k_md_endCodesOfShape = true := by decide +kernel
def fn_md_endCodesOfShape (m : Nat) : gFn := gF (e_md_endCodesOfShape m) 8
theorem mo_md_endCodesOfShape (m : Nat) : gMo (.inl (fn_md_endCodesOfShape m)) := gF_mo (E := e_md_endCodesOfShape m) ⟨mo_md_unit m, ⟨mo_md_endCode m, trivial⟩⟩
noncomputable def md_endCodesOfShape (σ : gM) (x1 : Int) : Option (gM × Int) := lim (fun n => fn_md_endCodesOfShape 227 n [(2, 119), (0, x1)] σ)
theorem md_endCodesOfShape_l (σ : gM) (x1 : Int) : Lm (fun n => fn_md_endCodesOfShape 227 n [(2, 119), (0, x1)] σ) (md_endCodesOfShape σ x1) := .of fun n => mo_md_endCodesOfShape 227 n [(2, 119), (0, x1)] σ
theorem mb_md_endCodesOfShape : gMos (e_md_endCodesOfShape 227).2.2.2.1 := ⟨mo_md_unit 227, ⟨mo_md_endCode 227, trivial⟩⟩
noncomputable def md_endCodesOfShape_b2 (σ : gM) (x1 x2 : Int) : Option (gM × Int) := lim (fun n => gB (e_md_endCodesOfShape 227) rF tF n 2 [(2, 119), (0, x1), (0, x2), (9, 0), (9, 0), (9, 0), (9, 0), (9, 0)] [] σ)
theorem md_endCodesOfShape_b2_l (σ : gM) (x1 x2 : Int) : Lm (fun n => gB (e_md_endCodesOfShape 227) rF tF n 2 [(2, 119), (0, x1), (0, x2), (9, 0), (9, 0), (9, 0), (9, 0), (9, 0)] [] σ) (md_endCodesOfShape_b2 σ x1 x2) := .of fun n => gB_le (gMos_spec (mb_md_endCodesOfShape)) n _ _ _ σ
noncomputable def md_endCodesOfShape_b15 (σ : gM) (x1 x2 x3 x4 : Int) : Option (gM × Int) := lim (fun n => gB (e_md_endCodesOfShape 227) rF tF n 15 [(2, 119), (0, x1), (0, x2), (0, x3), (0, x4), (9, 0), (9, 0), (9, 0)] [] σ)
theorem md_endCodesOfShape_b15_l (σ : gM) (x1 x2 x3 x4 : Int) : Lm (fun n => gB (e_md_endCodesOfShape 227) rF tF n 15 [(2, 119), (0, x1), (0, x2), (0, x3), (0, x4), (9, 0), (9, 0), (9, 0)] [] σ) (md_endCodesOfShape_b15 σ x1 x2 x3 x4) := .of fun n => gB_le (gMos_spec (mb_md_endCodesOfShape)) n _ _ _ σ
noncomputable def md_endCodesOfShape_b62 (σ : gM) (x1 x2 x3 x4 x5 x6 : Int) : Option (gM × Int) := lim (fun n => gB (e_md_endCodesOfShape 227) rF tF n 62 [(2, 119), (0, x1), (0, x2), (0, x3), (0, x4), (0, x5), (0, x6), (9, 0)] [] σ)
theorem md_endCodesOfShape_b62_l (σ : gM) (x1 x2 x3 x4 x5 x6 : Int) : Lm (fun n => gB (e_md_endCodesOfShape 227) rF tF n 62 [(2, 119), (0, x1), (0, x2), (0, x3), (0, x4), (0, x5), (0, x6), (9, 0)] [] σ) (md_endCodesOfShape_b62 σ x1 x2 x3 x4 x5 x6) := .of fun n => gB_le (gMos_spec (mb_md_endCodesOfShape)) n _ _ _ σ
noncomputable def md_endCodesOfShape_b109 (σ : gM) (x1 x2 x3 x4 x5 x6 : Int) : Option (gM × Int) := lim (fun n => gB (e_md_endCodesOfShape 227) rF tF n 109 [(2, 119), (0, x1), (0, x2), (0, x3), (0, x4), (0, x5), (0, x6), (9, 0)] [] σ)
theorem md_endCodesOfShape_b109_l (σ : gM) (x1 x2 x3 x4 x5 x6 : Int) : Lm (fun n => gB (e_md_endCodesOfShape 227) rF tF n 109 [(2, 119), (0, x1), (0, x2), (0, x3), (0, x4), (0, x5), (0, x6), (9, 0)] [] σ) (md_endCodesOfShape_b109 σ x1 x2 x3 x4 x5 x6) := .of fun n => gB_le (gMos_spec (mb_md_endCodesOfShape)) n _ _ _ σ
noncomputable def md_endCodesOfShape_b112 (σ : gM) (x1 x2 x3 x4 x5 x6 x7 : Int) : Option (gM × Int) := lim (fun n => gB (e_md_endCodesOfShape 227) rF tF n 112 [(2, 119), (0, x1), (0, x2), (0, x3), (0, x4), (0, x5), (0, x6), (0, x7)] [] σ)
theorem md_endCodesOfShape_b112_l (σ : gM) (x1 x2 x3 x4 x5 x6 x7 : Int) : Lm (fun n => gB (e_md_endCodesOfShape 227) rF tF n 112 [(2, 119), (0, x1), (0, x2), (0, x3), (0, x4), (0, x5), (0, x6), (0, x7)] [] σ) (md_endCodesOfShape_b112 σ x1 x2 x3 x4 x5 x6 x7) := .of fun n => gB_le (gMos_spec (mb_md_endCodesOfShape)) n _ _ _ σ
noncomputable def md_endCodesOfShape_b172 (σ : gM) (x1 x2 x4 x5 x6 x7 : Int) : Option (gM × Int) := lim (fun n => gB (e_md_endCodesOfShape 227) rF tF n 172 [(2, 119), (0, x1), (0, x2), (9, 0), (0, x4), (0, x5), (0, x6), (0, x7)] [] σ)
theorem md_endCodesOfShape_b172_l (σ : gM) (x1 x2 x4 x5 x6 x7 : Int) : Lm (fun n => gB (e_md_endCodesOfShape 227) rF tF n 172 [(2, 119), (0, x1), (0, x2), (9, 0), (0, x4), (0, x5), (0, x6), (0, x7)] [] σ) (md_endCodesOfShape_b172 σ x1 x2 x4 x5 x6 x7) := .of fun n => gB_le (gMos_spec (mb_md_endCodesOfShape)) n _ _ _ σ
noncomputable def md_endCodesOfShape_b176 (σ : gM) (x1 x2 x4 x5 x6 x7 : Int) : Option (gM × Int) := lim (fun n => gB (e_md_endCodesOfShape 227) rF tF n 176 [(2, 119), (0, x1), (0, x2), (9, 0), (0, x4), (0, x5), (0, x6), (0, x7)] [] σ)
theorem md_endCodesOfShape_b176_l (σ : gM) (x1 x2 x4 x5 x6 x7 : Int) : Lm (fun n => gB (e_md_endCodesOfShape 227) rF tF n 176 [(2, 119), (0, x1), (0, x2), (9, 0), (0, x4), (0, x5), (0, x6), (0, x7)] [] σ) (md_endCodesOfShape_b176 σ x1 x2 x4 x5 x6 x7) := .of fun n => gB_le (gMos_spec (mb_md_endCodesOfShape)) n _ _ _ σ
noncomputable def md_endCodesOfShape_b177 (σ : gM) (x1 x2 x4 x5 x6 x7 y0 : Int) : Option (gM × Int) := lim (fun n => gB (e_md_endCodesOfShape 227) rF tF n 177 [(2, 119), (0, x1), (0, x2), (9, 0), (0, x4), (0, x5), (0, x6), (0, x7)] [(0, y0)] σ)
theorem md_endCodesOfShape_b177_l (σ : gM) (x1 x2 x4 x5 x6 x7 y0 : Int) : Lm (fun n => gB (e_md_endCodesOfShape 227) rF tF n 177 [(2, 119), (0, x1), (0, x2), (9, 0), (0, x4), (0, x5), (0, x6), (0, x7)] [(0, y0)] σ) (md_endCodesOfShape_b177 σ x1 x2 x4 x5 x6 x7 y0) := .of fun n => gB_le (gMos_spec (mb_md_endCodesOfShape)) n _ _ _ σ
noncomputable def md_endCodesOfShape_b184 (σ : gM) (x1 x2 x3 x4 x5 x6 : Int) : Option (gM × Int) := lim (fun n => gB (e_md_endCodesOfShape 227) rF tF n 184 [(2, 119), (0, x1), (0, x2), (0, x3), (0, x4), (0, x5), (0, x6), (9, 0)] [] σ)
theorem md_endCodesOfShape_b184_l (σ : gM) (x1 x2 x3 x4 x5 x6 : Int) : Lm (fun n => gB (e_md_endCodesOfShape 227) rF tF n 184 [(2, 119), (0, x1), (0, x2), (0, x3), (0, x4), (0, x5), (0, x6), (9, 0)] [] σ) (md_endCodesOfShape_b184 σ x1 x2 x3 x4 x5 x6) := .of fun n => gB_le (gMos_spec (mb_md_endCodesOfShape)) n _ _ _ σ
noncomputable def md_endCodesOfShape_b196 (σ : gM) (x1 x2 x3 : Int) : Option (gM × Int) := lim (fun n => gB (e_md_endCodesOfShape 227) rF tF n 196 [(2, 119), (0, x1), (0, x2), (0, x3), (9, 0), (9, 0), (9, 0), (9, 0)] [] σ)
theorem md_endCodesOfShape_b196_l (σ : gM) (x1 x2 x3 : Int) : Lm (fun n => gB (e_md_endCodesOfShape 227) rF tF n 196 [(2, 119), (0, x1), (0, x2), (0, x3), (9, 0), (9, 0), (9, 0), (9, 0)] [] σ) (md_endCodesOfShape_b196 σ x1 x2 x3) := .of fun n => gB_le (gMos_spec (mb_md_endCodesOfShape)) n _ _ _ σ
noncomputable def md_endCodesOfShape_b205 (σ : gM) (x1 x2 : Int) : Option (gM × Int) := lim (fun n => gB (e_md_endCodesOfShape 227) rF tF n 205 [(2, 119), (0, x1), (0, x2), (9, 0), (9, 0), (9, 0), (9, 0), (9, 0)] [] σ)
theorem md_endCodesOfShape_b205_l (σ : gM) (x1 x2 : Int) : Lm (fun n => gB (e_md_endCodesOfShape 227) rF tF n 205 [(2, 119), (0, x1), (0, x2), (9, 0), (9, 0), (9, 0), (9, 0), (9, 0)] [] σ) (md_endCodesOfShape_b205 σ x1 x2) := .of fun n => gB_le (gMos_spec (mb_md_endCodesOfShape)) n _ _ _ σ
theorem md_endCodesOfShape_e (σ : gM) (x1 : Int) : md_endCodesOfShape σ x1 =
  (md_endCodesOfShape_b2 σ x1 0) := Lm.eqn (md_endCodesOfShape_l ..) (md_endCodesOfShape_b2_l ..) fun n => (rfl)
theorem md_endCodesOfShape_b2_e (σ : gM) (x1 x2 : Int) : md_endCodesOfShape_b2 σ x1 x2 =
  (if x2 < σ 119 104 then
  (md_endCodesOfShape_b15 σ x1 x2 0 0)
  else
  (some (σ, 0))) := Lm.eqn (md_endCodesOfShape_b2_l ..) (.ite (md_endCodesOfShape_b15_l ..) .cst) fun n => (rfl)
theorem md_endCodesOfShape_b15_e (σ : gM) (x1 x2 x3 x4 : Int) : md_endCodesOfShape_b15 σ x1 x2 x3 x4 =
  (if 0 ≤ x2 ∧ x2 < 100 then
  (if x4 < σ 197 x2 then
    (if 0 ≤ x2 ∧ x2 < 100 then
      (if σ 203 x2 = 0 then
        (md_endCodesOfShape_b196 σ x1 x2 x3)
        else
        (if x3 = 0 then
          ((md_unit σ x2 x4).bind fun p1 =>
            if 0 ≤ p1.2 ∧ p1.2 < 15200 then
            (if 0 ≤ p1.1 204 p1.2 ∧ p1.1 204 p1.2 < 60 then
              (md_endCodesOfShape_b62 p1.1 x1 x2 x3 x4 (p1.1 204 p1.2) (p1.1 158 (p1.1 204 p1.2)))
              else none)
            else none)
          else
          (md_endCodesOfShape_b196 σ x1 x2 x3)))
      else none)
    else
    (md_endCodesOfShape_b196 σ x1 x2 x3))
  else none) := Lm.eqn (md_endCodesOfShape_b15_l ..) (.ite (.ite (.ite (.ite (md_endCodesOfShape_b196_l ..) (.ite (.bind (md_unit_l ..) fun p1 => (.ite (.ite (md_endCodesOfShape_b62_l ..) .cst) .cst)) (md_endCodesOfShape_b196_l ..))) .cst) (md_endCodesOfShape_b196_l ..)) .cst) fun n => (rfl)
theorem md_endCodesOfShape_b62_e (σ : gM) (x1 x2 x3 x4 x5 x6 : Int) : md_endCodesOfShape_b62 σ x1 x2 x3 x4 x5 x6 =
  (if 0 ≤ x5 ∧ x5 < 60 then
  (if 0 ≤ x5 ∧ x5 < 60 then
    (if x6 < w32 ((σ 158 x5) + (σ 159 x5)) then
      (if 0 ≤ x6 ∧ x6 < 20000 then
        (if σ 168 x6 = 21 then
          (md_endCodesOfShape_b109 σ x1 x2 x3 x4 x5 x6)
          else
          (if 0 ≤ x6 ∧ x6 < 20000 then
            (if σ 168 x6 = 22 then
              (md_endCodesOfShape_b109 σ x1 x2 x3 x4 x5 x6)
              else
              (md_endCodesOfShape_b184 σ x1 x2 x3 x4 x5 x6))
            else none))
        else none)
      else
      (md_endCodesOfShape_b15 σ x1 x2 x3 (w32 (x4 + 1))))
    else none)
  else none) := Lm.eqn (md_endCodesOfShape_b62_l ..) (.ite (.ite (.ite (.ite (.ite (md_endCodesOfShape_b109_l ..) (.ite (.ite (md_endCodesOfShape_b109_l ..) (md_endCodesOfShape_b184_l ..)) .cst)) .cst) (md_endCodesOfShape_b15_l ..)) .cst) .cst) fun n => (rfl)
theorem md_endCodesOfShape_b109_e (σ : gM) (x1 x2 x3 x4 x5 x6 : Int) : md_endCodesOfShape_b109 σ x1 x2 x3 x4 x5 x6 =
  (md_endCodesOfShape_b112 σ x1 x2 x3 x4 x5 x6 0) := Lm.eqn (md_endCodesOfShape_b109_l ..) (md_endCodesOfShape_b112_l ..) fun n => (rfl)
theorem md_endCodesOfShape_b112_e (σ : gM) (x1 x2 x3 x4 x5 x6 x7 : Int) : md_endCodesOfShape_b112 σ x1 x2 x3 x4 x5 x6 x7 =
  (if 0 ≤ x6 ∧ x6 < 20000 then
  (if x7 < σ 181 x6 then
    (if x3 = 0 then
      (if 0 ≤ w32 ((w32 (3 * x6)) + x7) ∧ w32 ((w32 (3 * x6)) + x7) < 60000 then
        (if σ 182 (w32 ((w32 (3 * x6)) + x7)) = x1 then
          (md_endCodesOfShape_b172 σ x1 x2 x4 x5 x6 x7)
          else
          (if 0 ≤ x6 ∧ x6 < 20000 then
            (if σ 168 x6 = 22 then
              (if 0 ≤ w32 ((w32 (3 * x6)) + x7) ∧ w32 ((w32 (3 * x6)) + x7) < 60000 then
                (if σ 184 (w32 ((w32 (3 * x6)) + x7)) = x1 then
                  (md_endCodesOfShape_b172 σ x1 x2 x4 x5 x6 x7)
                  else
                  (md_endCodesOfShape_b176 σ x1 x2 x4 x5 x6 x7))
                else none)
              else
              (md_endCodesOfShape_b176 σ x1 x2 x4 x5 x6 x7))
            else none))
        else none)
      else
      (md_endCodesOfShape_b172 σ x1 x2 x4 x5 x6 x7))
    else
    (md_endCodesOfShape_b184 σ x1 x2 x3 x4 x5 x6))
  else none) := Lm.eqn (md_endCodesOfShape_b112_l ..) (.ite (.ite (.ite (.ite (.ite (md_endCodesOfShape_b172_l ..) (.ite (.ite (.ite (.ite (md_endCodesOfShape_b172_l ..) (md_endCodesOfShape_b176_l ..)) .cst) (md_endCodesOfShape_b176_l ..)) .cst)) .cst) (md_endCodesOfShape_b172_l ..)) (md_endCodesOfShape_b184_l ..)) .cst) fun n => (rfl)
theorem md_endCodesOfShape_b172_e (σ : gM) (x1 x2 x4 x5 x6 x7 : Int) : md_endCodesOfShape_b172 σ x1 x2 x4 x5 x6 x7 =
  (md_endCodesOfShape_b177 σ x1 x2 x4 x5 x6 x7 1) := Lm.eqn (md_endCodesOfShape_b172_l ..) (md_endCodesOfShape_b177_l ..) fun n => (rfl)
theorem md_endCodesOfShape_b176_e (σ : gM) (x1 x2 x4 x5 x6 x7 : Int) : md_endCodesOfShape_b176 σ x1 x2 x4 x5 x6 x7 =
  (md_endCodesOfShape_b177 σ x1 x2 x4 x5 x6 x7 0) := Lm.eqn (md_endCodesOfShape_b176_l ..) (md_endCodesOfShape_b177_l ..) fun n => (rfl)
theorem md_endCodesOfShape_b177_e (σ : gM) (x1 x2 x4 x5 x6 x7 y0 : Int) : md_endCodesOfShape_b177 σ x1 x2 x4 x5 x6 x7 y0 =
  (md_endCodesOfShape_b112 σ x1 x2 y0 x4 x5 x6 (w32 (x7 + 1))) := Lm.eqn (md_endCodesOfShape_b177_l ..) (md_endCodesOfShape_b112_l ..) fun n => (rfl)
theorem md_endCodesOfShape_b184_e (σ : gM) (x1 x2 x3 x4 x5 x6 : Int) : md_endCodesOfShape_b184 σ x1 x2 x3 x4 x5 x6 =
  (md_endCodesOfShape_b62 σ x1 x2 x3 x4 x5 (w32 (x6 + 1))) := Lm.eqn (md_endCodesOfShape_b184_l ..) (md_endCodesOfShape_b62_l ..) fun n => (rfl)
theorem md_endCodesOfShape_b196_e (σ : gM) (x1 x2 x3 : Int) : md_endCodesOfShape_b196 σ x1 x2 x3 =
  (if x3 = 0 then
  (md_endCodesOfShape_b205 σ x1 x2)
  else
  ((md_endCode σ x2).bind fun p1 =>
    md_endCodesOfShape_b205 p1.1 x1 x2)) := Lm.eqn (md_endCodesOfShape_b196_l ..) (.ite (md_endCodesOfShape_b205_l ..) (.bind (md_endCode_l ..) fun p1 => (md_endCodesOfShape_b205_l ..))) fun n => (rfl)
theorem md_endCodesOfShape_b205_e (σ : gM) (x1 x2 : Int) : md_endCodesOfShape_b205 σ x1 x2 =
  (md_endCodesOfShape_b2 σ x1 (w32 (x2 + 1))) := Lm.eqn (md_endCodesOfShape_b205_l ..) (md_endCodesOfShape_b2_l ..) fun n => (rfl)
def k_md_puts : List gC := [(0, 1, .aload_n 0, [], none), (1, 3, .getfield 326, [], none), (4, 1, .iload_n 1, [], none), (5, 1, .iaload, [], none),
  (6, 1, .istore_n 3, [], none), (7, 1, .aload_n 0, [], none), (8, 3, .getfield 326, [], none), (11, 1, .iload_n 1, [], none),
  (12, 1, .dup2, [], none), (13, 1, .iaload, [], none), (14, 1, .iconst 1, [], none), (15, 1, .iadd, [], none),
  (16, 1, .iastore, [], none), (17, 1, .iload_n 3, [], none), (18, 1, .iconst 3, [], none), (19, 3, .if_icmp .ge 52, [(0, 71)], none),
  (22, 1, .iload_n 3, [], none), (23, 3, .ifCond .ne 12, [(0, 35)], none), (26, 1, .aload_n 0, [], none), (27, 3, .getfield 170, [], none),
  (30, 1, .iload_n 2, [], none), (31, 1, .iaload, [], none), (32, 3, .goto 23, [(0, 55)], none), (35, 1, .iload_n 3, [], none),
  (36, 1, .iconst 1, [], none), (37, 3, .if_icmp .ne 12, [(0, 49)], none), (40, 1, .aload_n 0, [], none), (41, 3, .getfield 173, [], none),
  (44, 1, .iload_n 2, [], none), (45, 1, .iaload, [], none), (46, 3, .goto 9, [(0, 55)], none), (49, 1, .aload_n 0, [], none),
  (50, 3, .getfield 176, [], none), (53, 1, .iload_n 2, [], none), (54, 1, .iaload, [], none), (55, 2, .istore 4, [], some [true, false, false, false, false, false, false, false, false, false, false, false, false, false, false]),
  (57, 2, .iload 4, [], none), (59, 1, .iconst (-1), [], none), (60, 3, .if_icmp .eq 10, [(0, 70)], none), (63, 1, .aload_n 0, [], none),
  (64, 2, .iload 4, [], none), (66, 1, .iconst (-1), [], none), (67, 3, .invokevirtual 746, [], none), (70, 1, .return_, [], none),
  (71, 1, .aload_n 0, [], none), (72, 3, .getfield 173, [], none), (75, 1, .iload_n 2, [], none), (76, 1, .iaload, [], none),
  (77, 1, .iconst (-1), [], none), (78, 3, .if_icmp .ne 12, [(0, 90)], none), (81, 1, .aload_n 0, [], none), (82, 3, .getfield 707, [], none),
  (85, 1, .iconst 2, [], none), (86, 1, .isub, [], none), (87, 3, .goto 9, [(0, 96)], none), (90, 1, .aload_n 0, [], none),
  (91, 3, .getfield 707, [], none), (94, 1, .iconst 3, [], none), (95, 1, .isub, [], none), (96, 2, .istore 4, [], some [true, false, true, false, false, false, false, false, false, false, false, false, false, false, false]),
  (98, 1, .aload_n 0, [], none), (99, 3, .getfield 332, [], none), (102, 2, .iload 4, [], none), (104, 1, .iaload, [], none),
  (105, 2, .bipush 6, [], none), (107, 3, .if_icmp .eq 10, [(0, 117)], none), (110, 1, .aload_n 0, [], none), (111, 1, .iconst 4, [], none),
  (112, 1, .iload_n 2, [], none), (113, 3, .invokevirtual 726, [], none), (116, 1, .athrow, [], none), (117, 1, .aload_n 0, [], none),
  (118, 3, .getfield 173, [], none), (121, 1, .iload_n 2, [], none), (122, 1, .iaload, [], none), (123, 1, .iconst (-1), [], none),
  (124, 3, .if_icmp .eq 23, [(0, 147)], none), (127, 1, .aload_n 0, [], none), (128, 3, .getfield 332, [], none), (131, 2, .iload 4, [], none),
  (133, 1, .iconst 1, [], none), (134, 1, .iadd, [], none), (135, 1, .iaload, [], none), (136, 1, .iconst 4, [], none),
  (137, 3, .if_icmp .eq 10, [(0, 147)], none), (140, 1, .aload_n 0, [], none), (141, 1, .iconst 1, [], none), (142, 1, .iload_n 2, [], none),
  (143, 3, .invokevirtual 726, [], none), (146, 1, .athrow, [], none), (147, 1, .aload_n 0, [], some [true, false, true, false, true, false, false, false, false, false, false, false, false, false, false]), (148, 3, .getfield 335, [], none),
  (151, 2, .iload 4, [], none), (153, 1, .laload, [], none), (154, 1, .l2i, [], none), (155, 2, .istore 5, [], none),
  (157, 1, .aload_n 0, [], none), (158, 3, .getfield 332, [], none), (161, 1, .aload_n 0, [], none), (162, 3, .getfield 707, [], none),
  (165, 1, .iconst 1, [], none), (166, 1, .isub, [], none), (167, 1, .iaload, [], none), (168, 2, .istore 6, [], none),
  (170, 1, .aload_n 0, [], none), (171, 3, .getfield 335, [], none), (174, 1, .aload_n 0, [], none), (175, 3, .getfield 707, [], none),
  (178, 1, .iconst 1, [], none), (179, 1, .isub, [], none), (180, 1, .laload, [], none), (181, 2, .lstore 7, [], none),
  (183, 1, .aload_n 0, [], none), (184, 1, .iload_n 2, [], none), (185, 2, .iload 4, [], none), (187, 1, .iconst 1, [], none),
  (188, 1, .iadd, [], none), (189, 3, .invokevirtual 880, [], none), (192, 2, .lstore 9, [], none), (194, 1, .aload_n 0, [], none),
  (195, 1, .aload_n 0, [], none), (196, 3, .getfield 240, [], none), (199, 2, .iload 5, [], none), (201, 1, .iaload, [], none),
  (202, 3, .invokevirtual 894, [], none), (205, 2, .istore 11, [], none), (207, 1, .aload_n 0, [], none), (208, 2, .iload 11, [], none),
  (210, 2, .lload 9, [], none), (212, 3, .invokevirtual 884, [], none), (215, 2, .istore 12, [], none), (217, 2, .iload 12, [], none),
  (219, 3, .ifCond .ge 131, [(0, 350)], none), (222, 1, .aload_n 0, [], none), (223, 3, .getfield 234, [], none), (226, 2, .iload 11, [], none),
  (228, 1, .iaload, [], none), (229, 2, .istore 12, [], none), (231, 2, .iload 12, [], none), (233, 2, .bipush 12, [], none),
  (235, 3, .if_icmp .ne 11, [(0, 246)], none), (238, 1, .aload_n 0, [], none), (239, 2, .bipush 9, [], none), (241, 1, .iload_n 2, [], none),
  (242, 3, .invokevirtual 726, [], none), (245, 1, .athrow, [], none), (246, 2, .iload 6, [], none), (248, 1, .iconst 2, [], none),
  (249, 3, .if_icmp .ne 7, [(0, 256)], none), (252, 1, .iconst 1, [], none), (253, 3, .goto 4, [(0, 257)], none), (256, 1, .iconst 3, [], none),
  (257, 2, .istore 13, [], some [true, false, true, false, true, true, true, true, false, true, false, true, true, false, false]), (259, 1, .aload_n 0, [], none), (260, 2, .iload 11, [], none), (262, 2, .lload 9, [], none),
  (264, 2, .iload 13, [], none), (266, 3, .invokevirtual 644, [], none), (269, 2, .istore 14, [], none), (271, 2, .iload 14, [], none),
  (273, 3, .ifCond .ge 21, [(0, 294)], none), (276, 1, .aload_n 0, [], none), (277, 3, .getfield 573, [], none), (280, 3, .sipush 200, [], none),
  (283, 3, .if_icmp .ne 11, [(0, 294)], none), (286, 1, .aload_n 0, [], none), (287, 2, .bipush 9, [], none), (289, 1, .iload_n 2, [], none),
  (290, 3, .invokevirtual 726, [], none), (293, 1, .athrow, [], none), (294, 1, .aload_n 0, [], some [true, false, true, false, true, true, true, true, false, true, false, true, true, true, true]), (295, 2, .iload 5, [], none),
  (297, 3, .invokevirtual 888, [], none), (300, 2, .iload 14, [], none), (302, 3, .ifCond .ge 15, [(0, 317)], none), (305, 1, .aload_n 0, [], none),
  (306, 2, .iload 11, [], none), (308, 2, .lload 9, [], none), (310, 2, .iload 13, [], none), (312, 3, .invokevirtual 648, [], none),
  (315, 2, .istore 14, [], none), (317, 1, .aload_n 0, [], some [true, false, true, false, true, true, true, true, false, false, false, true, true, false, true]), (318, 3, .getfield 240, [], none), (321, 2, .iload 5, [], none),
  (323, 1, .aload_n 0, [], none), (324, 2, .iload 14, [], none), (326, 3, .invokevirtual 894, [], none), (329, 1, .iastore, [], none),
  (330, 1, .aload_n 0, [], none), (331, 1, .iload_n 2, [], none), (332, 2, .iload 11, [], none), (334, 2, .iload 12, [], none),
  (336, 1, .aload_n 0, [], none), (337, 3, .getfield 240, [], none), (340, 2, .iload 5, [], none), (342, 1, .iaload, [], none),
  (343, 1, .iconst 3, [], none), (344, 3, .invokevirtual 891, [], none), (347, 3, .goto 111, [(0, 458)], none), (350, 1, .aload_n 0, [], none),
  (351, 3, .getfield 228, [], none), (354, 1, .aload_n 0, [], none), (355, 2, .iload 11, [], none), (357, 2, .iload 12, [], none),
  (359, 3, .invokevirtual 641, [], none), (362, 1, .iaload, [], none), (363, 1, .iconst 3, [], none), (364, 3, .if_icmp .eq 9, [(0, 373)], none),
  (367, 2, .iload 6, [], none), (369, 1, .iconst 2, [], none), (370, 3, .if_icmp .ne 24, [(0, 394)], none), (373, 1, .aload_n 0, [], some [true, false, true, false, true, true, true, true, false, false, false, true, true, false, false]),
  (374, 2, .iload 5, [], none), (376, 3, .invokevirtual 888, [], none), (379, 1, .aload_n 0, [], none), (380, 1, .iload_n 2, [], none),
  (381, 2, .iload 11, [], none), (383, 2, .iload 12, [], none), (385, 2, .iload 11, [], none), (387, 1, .iconst 3, [], none),
  (388, 3, .invokevirtual 891, [], none), (391, 3, .goto 67, [(0, 458)], none), (394, 1, .aload_n 0, [], none), (395, 3, .getfield 573, [], none),
  (398, 1, .aload_n 0, [], none), (399, 2, .iload 11, [], none), (401, 2, .iload 12, [], none), (403, 3, .invokevirtual 897, [], none),
  (406, 1, .iadd, [], none), (407, 3, .sipush 200, [], none), (410, 3, .if_icmp .le 11, [(0, 421)], none), (413, 1, .aload_n 0, [], none),
  (414, 2, .bipush 9, [], none), (416, 1, .iload_n 2, [], none), (417, 3, .invokevirtual 726, [], none), (420, 1, .athrow, [], none),
  (421, 1, .aload_n 0, [], none), (422, 2, .iload 5, [], none), (424, 3, .invokevirtual 888, [], none), (427, 1, .aload_n 0, [], none),
  (428, 2, .iload 11, [], none), (430, 2, .iload 12, [], none), (432, 3, .invokevirtual 900, [], none), (435, 2, .istore 13, [], none),
  (437, 1, .aload_n 0, [], none), (438, 3, .getfield 231, [], none), (441, 2, .iload 11, [], none), (443, 2, .iload 13, [], none),
  (445, 1, .iastore, [], none), (446, 1, .aload_n 0, [], none), (447, 2, .iload 11, [], none), (449, 3, .invokevirtual 903, [], none),
  (452, 1, .aload_n 0, [], none), (453, 2, .iload 5, [], none), (455, 3, .invokevirtual 888, [], none), (458, 1, .aload_n 0, [], some [true, false, false, false, true, true, true, true, false, false, false, false, true, false, false]),
  (459, 3, .getfield 243, [], none), (462, 2, .bipush 12, [], none), (464, 2, .iload 5, [], none), (466, 1, .imul, [], none),
  (467, 2, .iload 12, [], none), (469, 1, .iadd, [], none), (470, 2, .iload 6, [], none), (472, 1, .iastore, [], none),
  (473, 1, .aload_n 0, [], none), (474, 3, .getfield 246, [], none), (477, 2, .bipush 12, [], none), (479, 2, .iload 5, [], none),
  (481, 1, .imul, [], none), (482, 2, .iload 12, [], none), (484, 1, .iadd, [], none), (485, 2, .lload 7, [], none),
  (487, 1, .lastore, [], none), (488, 1, .aload_n 0, [], none), (489, 2, .iload 4, [], none), (491, 3, .putfield 707, [], none),
  (494, 1, .aload_n 0, [], none), (495, 2, .iload 6, [], none), (497, 2, .lload 7, [], none), (499, 3, .invokevirtual 762, [], none),
  (502, 1, .aload_n 0, [], none), (503, 1, .dup, [], none), (504, 3, .getfield 710, [], none), (507, 1, .iconst 1, [], none),
  (508, 1, .isub, [], none), (509, 3, .putfield 710, [], none), (512, 1, .return_, [], none)]
def e_md_puts (m : Nat) : gE := (k_md_puts, f_md, c_md, [(746, 3, 20, 5, .inl (fn_md_task m)), (726, 3, 20, 2, .inl (fn_md_error m)), (880, 3, 20, 1, .inl (fn_md_nameAt m)), (894, 2, 20, 0, .inl (fn_md_heirOf m)), (884, 3, 20, 0, .inl (fn_md_propertyAt m)), (644, 4, 20, 0, .inl (fn_md_childOf m)), (888, 2, 20, 5, .inl (fn_md_moves m)), (648, 4, 20, 0, .inl (fn_md_shapeComes m)), (891, 6, 20, 5, .inl (fn_md_enter m)), (641, 3, 20, 0, .inl (fn_md_withLast m)), (897, 3, 20, 0, .inl (fn_md_lacking m)), (900, 3, 20, 0, .inl (fn_md_heirComes m)), (903, 2, 20, 5, .inl (fn_md_endCodesOfShape m)), (762, 3, 20, 5, .inl (fn_md_push m))], [], (m, 914133163851965378248596890642212801232447410580893790229488736415999603884711898321710500832377910863694125040556611397876822771217180910446051675743311715774207767249523048448), 5)
theorem ok_md_puts : gchk cX10_puts 15 k_md_puts = true := by decide +kernel
def fn_md_puts (m : Nat) : gFt := gG (e_md_puts m) 15
theorem mo_md_puts (m : Nat) : gMo (.inr (fn_md_puts m)) := gG_mo (E := e_md_puts m) ⟨mo_md_task m, ⟨mo_md_error m, ⟨mo_md_nameAt m, ⟨mo_md_heirOf m, ⟨mo_md_propertyAt m, ⟨mo_md_childOf m, ⟨mo_md_moves m, ⟨mo_md_shapeComes m, ⟨mo_md_enter m, ⟨mo_md_withLast m, ⟨mo_md_lacking m, ⟨mo_md_heirComes m, ⟨mo_md_endCodesOfShape m, ⟨mo_md_push m, trivial⟩⟩⟩⟩⟩⟩⟩⟩⟩⟩⟩⟩⟩⟩
noncomputable def md_puts (σ : gM) (x1 x2 : Int) : Option (gM × Option Int) := lim (fun n => fn_md_puts 227 n [(2, 119), (0, x1), (0, x2)] σ)
theorem md_puts_l (σ : gM) (x1 x2 : Int) : Lm (fun n => fn_md_puts 227 n [(2, 119), (0, x1), (0, x2)] σ) (md_puts σ x1 x2) := .of fun n => mo_md_puts 227 n [(2, 119), (0, x1), (0, x2)] σ
theorem mb_md_puts : gMos (e_md_puts 227).2.2.2.1 := ⟨mo_md_task 227, ⟨mo_md_error 227, ⟨mo_md_nameAt 227, ⟨mo_md_heirOf 227, ⟨mo_md_propertyAt 227, ⟨mo_md_childOf 227, ⟨mo_md_moves 227, ⟨mo_md_shapeComes 227, ⟨mo_md_enter 227, ⟨mo_md_withLast 227, ⟨mo_md_lacking 227, ⟨mo_md_heirComes 227, ⟨mo_md_endCodesOfShape 227, ⟨mo_md_push 227, trivial⟩⟩⟩⟩⟩⟩⟩⟩⟩⟩⟩⟩⟩⟩
noncomputable def md_puts_b55 (σ : gM) (y0 : Int) : Option (gM × Option Int) := lim (fun n => gB (e_md_puts 227) rG gthr n 55 [(2, 119), (9, 0), (9, 0), (9, 0), (9, 0), (9, 0), (9, 0), (9, 0), (9, 0), (9, 0), (9, 0), (9, 0), (9, 0), (9, 0), (9, 0)] [(0, y0)] σ)
theorem md_puts_b55_l (σ : gM) (y0 : Int) : Lm (fun n => gB (e_md_puts 227) rG gthr n 55 [(2, 119), (9, 0), (9, 0), (9, 0), (9, 0), (9, 0), (9, 0), (9, 0), (9, 0), (9, 0), (9, 0), (9, 0), (9, 0), (9, 0), (9, 0)] [(0, y0)] σ) (md_puts_b55 σ y0) := .of fun n => gB_le (gMos_spec (mb_md_puts)) n _ _ _ σ
noncomputable def md_puts_b96 (σ : gM) (x2 y0 : Int) : Option (gM × Option Int) := lim (fun n => gB (e_md_puts 227) rG gthr n 96 [(2, 119), (9, 0), (0, x2), (9, 0), (9, 0), (9, 0), (9, 0), (9, 0), (9, 0), (9, 0), (9, 0), (9, 0), (9, 0), (9, 0), (9, 0)] [(0, y0)] σ)
theorem md_puts_b96_l (σ : gM) (x2 y0 : Int) : Lm (fun n => gB (e_md_puts 227) rG gthr n 96 [(2, 119), (9, 0), (0, x2), (9, 0), (9, 0), (9, 0), (9, 0), (9, 0), (9, 0), (9, 0), (9, 0), (9, 0), (9, 0), (9, 0), (9, 0)] [(0, y0)] σ) (md_puts_b96 σ x2 y0) := .of fun n => gB_le (gMos_spec (mb_md_puts)) n _ _ _ σ
noncomputable def md_puts_b147 (σ : gM) (x2 x4 : Int) : Option (gM × Option Int) := lim (fun n => gB (e_md_puts 227) rG gthr n 147 [(2, 119), (9, 0), (0, x2), (9, 0), (0, x4), (9, 0), (9, 0), (9, 0), (9, 0), (9, 0), (9, 0), (9, 0), (9, 0), (9, 0), (9, 0)] [] σ)
theorem md_puts_b147_l (σ : gM) (x2 x4 : Int) : Lm (fun n => gB (e_md_puts 227) rG gthr n 147 [(2, 119), (9, 0), (0, x2), (9, 0), (0, x4), (9, 0), (9, 0), (9, 0), (9, 0), (9, 0), (9, 0), (9, 0), (9, 0), (9, 0), (9, 0)] [] σ) (md_puts_b147 σ x2 x4) := .of fun n => gB_le (gMos_spec (mb_md_puts)) n _ _ _ σ
noncomputable def md_puts_b257 (σ : gM) (x2 x4 x5 x6 x7 x9 x11 x12 y0 : Int) : Option (gM × Option Int) := lim (fun n => gB (e_md_puts 227) rG gthr n 257 [(2, 119), (9, 0), (0, x2), (9, 0), (0, x4), (0, x5), (0, x6), (1, x7), (9, 0), (1, x9), (9, 0), (0, x11), (0, x12), (9, 0), (9, 0)] [(0, y0)] σ)
theorem md_puts_b257_l (σ : gM) (x2 x4 x5 x6 x7 x9 x11 x12 y0 : Int) : Lm (fun n => gB (e_md_puts 227) rG gthr n 257 [(2, 119), (9, 0), (0, x2), (9, 0), (0, x4), (0, x5), (0, x6), (1, x7), (9, 0), (1, x9), (9, 0), (0, x11), (0, x12), (9, 0), (9, 0)] [(0, y0)] σ) (md_puts_b257 σ x2 x4 x5 x6 x7 x9 x11 x12 y0) := .of fun n => gB_le (gMos_spec (mb_md_puts)) n _ _ _ σ
noncomputable def md_puts_b294 (σ : gM) (x2 x4 x5 x6 x7 x9 x11 x12 x13 x14 : Int) : Option (gM × Option Int) := lim (fun n => gB (e_md_puts 227) rG gthr n 294 [(2, 119), (9, 0), (0, x2), (9, 0), (0, x4), (0, x5), (0, x6), (1, x7), (9, 0), (1, x9), (9, 0), (0, x11), (0, x12), (0, x13), (0, x14)] [] σ)
theorem md_puts_b294_l (σ : gM) (x2 x4 x5 x6 x7 x9 x11 x12 x13 x14 : Int) : Lm (fun n => gB (e_md_puts 227) rG gthr n 294 [(2, 119), (9, 0), (0, x2), (9, 0), (0, x4), (0, x5), (0, x6), (1, x7), (9, 0), (1, x9), (9, 0), (0, x11), (0, x12), (0, x13), (0, x14)] [] σ) (md_puts_b294 σ x2 x4 x5 x6 x7 x9 x11 x12 x13 x14) := .of fun n => gB_le (gMos_spec (mb_md_puts)) n _ _ _ σ
noncomputable def md_puts_b317 (σ : gM) (x2 x4 x5 x6 x7 x11 x12 x14 : Int) : Option (gM × Option Int) := lim (fun n => gB (e_md_puts 227) rG gthr n 317 [(2, 119), (9, 0), (0, x2), (9, 0), (0, x4), (0, x5), (0, x6), (1, x7), (9, 0), (9, 0), (9, 0), (0, x11), (0, x12), (9, 0), (0, x14)] [] σ)
theorem md_puts_b317_l (σ : gM) (x2 x4 x5 x6 x7 x11 x12 x14 : Int) : Lm (fun n => gB (e_md_puts 227) rG gthr n 317 [(2, 119), (9, 0), (0, x2), (9, 0), (0, x4), (0, x5), (0, x6), (1, x7), (9, 0), (9, 0), (9, 0), (0, x11), (0, x12), (9, 0), (0, x14)] [] σ) (md_puts_b317 σ x2 x4 x5 x6 x7 x11 x12 x14) := .of fun n => gB_le (gMos_spec (mb_md_puts)) n _ _ _ σ
noncomputable def md_puts_b373 (σ : gM) (x2 x4 x5 x6 x7 x11 x12 : Int) : Option (gM × Option Int) := lim (fun n => gB (e_md_puts 227) rG gthr n 373 [(2, 119), (9, 0), (0, x2), (9, 0), (0, x4), (0, x5), (0, x6), (1, x7), (9, 0), (9, 0), (9, 0), (0, x11), (0, x12), (9, 0), (9, 0)] [] σ)
theorem md_puts_b373_l (σ : gM) (x2 x4 x5 x6 x7 x11 x12 : Int) : Lm (fun n => gB (e_md_puts 227) rG gthr n 373 [(2, 119), (9, 0), (0, x2), (9, 0), (0, x4), (0, x5), (0, x6), (1, x7), (9, 0), (9, 0), (9, 0), (0, x11), (0, x12), (9, 0), (9, 0)] [] σ) (md_puts_b373 σ x2 x4 x5 x6 x7 x11 x12) := .of fun n => gB_le (gMos_spec (mb_md_puts)) n _ _ _ σ
noncomputable def md_puts_b458 (σ : gM) (x4 x5 x6 x7 x12 : Int) : Option (gM × Option Int) := lim (fun n => gB (e_md_puts 227) rG gthr n 458 [(2, 119), (9, 0), (9, 0), (9, 0), (0, x4), (0, x5), (0, x6), (1, x7), (9, 0), (9, 0), (9, 0), (9, 0), (0, x12), (9, 0), (9, 0)] [] σ)
theorem md_puts_b458_l (σ : gM) (x4 x5 x6 x7 x12 : Int) : Lm (fun n => gB (e_md_puts 227) rG gthr n 458 [(2, 119), (9, 0), (9, 0), (9, 0), (0, x4), (0, x5), (0, x6), (1, x7), (9, 0), (9, 0), (9, 0), (9, 0), (0, x12), (9, 0), (9, 0)] [] σ) (md_puts_b458 σ x4 x5 x6 x7 x12) := .of fun n => gB_le (gMos_spec (mb_md_puts)) n _ _ _ σ
theorem md_puts_e (σ : gM) (x1 x2 : Int) : md_puts σ x1 x2 =
  (if 0 ≤ x1 ∧ x1 < 42000 then
  (if 0 ≤ x1 ∧ x1 < 42000 then
    (if 0 ≤ x1 ∧ x1 < 42000 then
      (if σ 219 x1 < 3 then
        (if σ 219 x1 = 0 then
          (if 0 ≤ x2 ∧ x2 < 20000 then
            (md_puts_b55 (gW σ 219 x1 (w32 ((σ 219 x1) + 1))) (σ 170 x2))
            else none)
          else
          (if σ 219 x1 = 1 then
            (if 0 ≤ x2 ∧ x2 < 20000 then
              (md_puts_b55 (gW σ 219 x1 (w32 ((σ 219 x1) + 1))) (σ 171 x2))
              else none)
            else
            (if 0 ≤ x2 ∧ x2 < 20000 then
              (md_puts_b55 (gW σ 219 x1 (w32 ((σ 219 x1) + 1))) (σ 172 x2))
              else none)))
        else
        (if 0 ≤ x2 ∧ x2 < 20000 then
          (if σ 171 x2 = (-1) then
            (md_puts_b96 (gW σ 219 x1 (w32 ((σ 219 x1) + 1))) x2 (w32 ((σ 119 125) - 2)))
            else
            (md_puts_b96 (gW σ 219 x1 (w32 ((σ 219 x1) + 1))) x2 (w32 ((σ 119 125) - 3))))
          else none))
      else none)
    else none)
  else none) := Lm.eqn (md_puts_l ..) (.ite (.ite (.ite (.ite (.ite (.ite (md_puts_b55_l ..) .cst) (.ite (.ite (md_puts_b55_l ..) .cst) (.ite (md_puts_b55_l ..) .cst))) (.ite (.ite (md_puts_b96_l ..) (md_puts_b96_l ..)) .cst)) .cst) .cst) .cst) fun n => (rfl)
theorem md_puts_b55_e (σ : gM) (y0 : Int) : md_puts_b55 σ y0 =
  (if y0 = (-1) then
  (some (σ, some 0))
  else
  ((md_task σ y0 (-1)).bind fun p1 =>
    some (p1.1, some 0))) := Lm.eqn (md_puts_b55_l ..) (.ite .cst (.bind (md_task_l ..) fun p1 => .cst)) fun n => (rfl)
theorem md_puts_b96_e (σ : gM) (x2 y0 : Int) : md_puts_b96 σ x2 y0 =
  (if 0 ≤ y0 ∧ y0 < 24000 then
  (if σ 221 y0 = 6 then
    (if 0 ≤ x2 ∧ x2 < 20000 then
      (if σ 171 x2 = (-1) then
        (md_puts_b147 σ x2 y0)
        else
        (if 0 ≤ w32 (y0 + 1) ∧ w32 (y0 + 1) < 24000 then
          (if σ 221 (w32 (y0 + 1)) = 4 then
            (md_puts_b147 σ x2 y0)
            else
            ((md_error σ 1 x2).bind fun p1 =>
              gthr p1.1 p1.2))
          else none))
      else none)
    else
    ((md_error σ 4 x2).bind fun p2 =>
      gthr p2.1 p2.2))
  else none) := Lm.eqn (md_puts_b96_l ..) (.ite (.ite (.ite (.ite (md_puts_b147_l ..) (.ite (.ite (md_puts_b147_l ..) (.bind (md_error_l ..) fun p1 => .cst)) .cst)) .cst) (.bind (md_error_l ..) fun p2 => .cst)) .cst) fun n => (rfl)
theorem md_puts_b147_e (σ : gM) (x2 x4 : Int) : md_puts_b147 σ x2 x4 =
  (if 0 ≤ x4 ∧ x4 < 24000 then
  (if 0 ≤ w32 ((σ 119 125) - 1) ∧ w32 ((σ 119 125) - 1) < 24000 then
    (if 0 ≤ w32 ((σ 119 125) - 1) ∧ w32 ((σ 119 125) - 1) < 24000 then
      ((md_nameAt σ x2 (w32 (x4 + 1))).bind fun p1 =>
        if 0 ≤ w32 (σ 222 x4) ∧ w32 (σ 222 x4) < 400 then
        ((md_heirOf p1.1 (p1.1 193 (w32 (σ 222 x4)))).bind fun p2 =>
          (md_propertyAt p2.1 p2.2 p1.2).bind fun p3 =>
          if p3.2 < 0 then
          (if 0 ≤ p2.2 ∧ p2.2 < 200 then
            (if p3.1 191 p2.2 = 12 then
              ((md_error p3.1 9 x2).bind fun p11 =>
                gthr p11.1 p11.2)
              else
              (if σ 221 (w32 ((σ 119 125) - 1)) = 2 then
                (md_puts_b257 p3.1 x2 x4 (w32 (σ 222 x4)) (σ 221 (w32 ((σ 119 125) - 1))) (σ 222 (w32 ((σ 119 125) - 1))) p1.2 p2.2 (p3.1 191 p2.2) 1)
                else
                (md_puts_b257 p3.1 x2 x4 (w32 (σ 222 x4)) (σ 221 (w32 ((σ 119 125) - 1))) (σ 222 (w32 ((σ 119 125) - 1))) p1.2 p2.2 (p3.1 191 p2.2) 3)))
            else none)
          else
          ((md_withLast p3.1 p2.2 p3.2).bind fun p4 =>
            if 0 ≤ p4.2 ∧ p4.2 < 200 then
            (if p4.1 189 p4.2 = 3 then
              (md_puts_b373 p4.1 x2 x4 (w32 (σ 222 x4)) (σ 221 (w32 ((σ 119 125) - 1))) (σ 222 (w32 ((σ 119 125) - 1))) p2.2 p3.2)
              else
              (if σ 221 (w32 ((σ 119 125) - 1)) = 2 then
                (md_puts_b373 p4.1 x2 x4 (w32 (σ 222 x4)) (σ 221 (w32 ((σ 119 125) - 1))) (σ 222 (w32 ((σ 119 125) - 1))) p2.2 p3.2)
                else
                ((md_lacking p4.1 p2.2 p3.2).bind fun p5 =>
                  if 200 < w32 ((p4.1 119 94) + p5.2) then
                  ((md_error p5.1 9 x2).bind fun p10 =>
                    gthr p10.1 p10.2)
                  else
                  ((md_moves p5.1 (w32 (σ 222 x4))).bind fun p6 =>
                    (md_heirComes p6.1 p2.2 p3.2).bind fun p7 =>
                    if 0 ≤ p2.2 ∧ p2.2 < 200 then
                    ((md_endCodesOfShape (gW p7.1 190 p2.2 p7.2) p2.2).bind fun p8 =>
                      (md_moves p8.1 (w32 (σ 222 x4))).bind fun p9 =>
                      md_puts_b458 p9.1 x4 (w32 (σ 222 x4)) (σ 221 (w32 ((σ 119 125) - 1))) (σ 222 (w32 ((σ 119 125) - 1))) p3.2)
                    else none))))
            else none))
        else none)
      else none)
    else none)
  else none) := Lm.eqn (md_puts_b147_l ..) (.ite (.ite (.ite (.bind (md_nameAt_l ..) fun p1 => (.ite (.bind (md_heirOf_l ..) fun p2 => (.bind (md_propertyAt_l ..) fun p3 => (.ite (.ite (.ite (.bind (md_error_l ..) fun p11 => .cst) (.ite (md_puts_b257_l ..) (md_puts_b257_l ..))) .cst) (.bind (md_withLast_l ..) fun p4 => (.ite (.ite (md_puts_b373_l ..) (.ite (md_puts_b373_l ..) (.bind (md_lacking_l ..) fun p5 => (.ite (.bind (md_error_l ..) fun p10 => .cst) (.bind (md_moves_l ..) fun p6 => (.bind (md_heirComes_l ..) fun p7 => (.ite (.bind (md_endCodesOfShape_l ..) fun p8 => (.bind (md_moves_l ..) fun p9 => (md_puts_b458_l ..))) .cst))))))) .cst))))) .cst)) .cst) .cst) .cst) fun n => (rfl)
theorem md_puts_b257_e (σ : gM) (x2 x4 x5 x6 x7 x9 x11 x12 y0 : Int) : md_puts_b257 σ x2 x4 x5 x6 x7 x9 x11 x12 y0 =
  ((md_childOf σ x11 x9 y0).bind fun p1 =>
  if p1.2 < 0 then
  (if p1.1 119 94 = 200 then
    ((md_error p1.1 9 x2).bind fun p2 =>
      gthr p2.1 p2.2)
    else
    (md_puts_b294 p1.1 x2 x4 x5 x6 x7 x9 x11 x12 y0 p1.2))
  else
  (md_puts_b294 p1.1 x2 x4 x5 x6 x7 x9 x11 x12 y0 p1.2)) := Lm.eqn (md_puts_b257_l ..) (.bind (md_childOf_l ..) fun p1 => (.ite (.ite (.bind (md_error_l ..) fun p2 => .cst) (md_puts_b294_l ..)) (md_puts_b294_l ..))) fun n => (rfl)
theorem md_puts_b294_e (σ : gM) (x2 x4 x5 x6 x7 x9 x11 x12 x13 x14 : Int) : md_puts_b294 σ x2 x4 x5 x6 x7 x9 x11 x12 x13 x14 =
  ((md_moves σ x5).bind fun p1 =>
  if x14 < 0 then
  ((md_shapeComes p1.1 x11 x9 x13).bind fun p2 =>
    md_puts_b317 p2.1 x2 x4 x5 x6 x7 x11 x12 p2.2)
  else
  (md_puts_b317 p1.1 x2 x4 x5 x6 x7 x11 x12 x14)) := Lm.eqn (md_puts_b294_l ..) (.bind (md_moves_l ..) fun p1 => (.ite (.bind (md_shapeComes_l ..) fun p2 => (md_puts_b317_l ..)) (md_puts_b317_l ..))) fun n => (rfl)
theorem md_puts_b317_e (σ : gM) (x2 x4 x5 x6 x7 x11 x12 x14 : Int) : md_puts_b317 σ x2 x4 x5 x6 x7 x11 x12 x14 =
  ((md_heirOf σ x14).bind fun p1 =>
  if 0 ≤ x5 ∧ x5 < 400 then
  (if 0 ≤ x5 ∧ x5 < 400 then
    ((md_enter (gW p1.1 193 x5 p1.2) x2 x11 x12 ((gW p1.1 193 x5 p1.2) 193 x5) 3).bind fun p2 =>
      md_puts_b458 p2.1 x4 x5 x6 x7 x12)
    else none)
  else none) := Lm.eqn (md_puts_b317_l ..) (.bind (md_heirOf_l ..) fun p1 => (.ite (.ite (.bind (md_enter_l ..) fun p2 => (md_puts_b458_l ..)) .cst) .cst)) fun n => (rfl)
theorem md_puts_b373_e (σ : gM) (x2 x4 x5 x6 x7 x11 x12 : Int) : md_puts_b373 σ x2 x4 x5 x6 x7 x11 x12 =
  ((md_moves σ x5).bind fun p1 =>
  (md_enter p1.1 x2 x11 x12 x11 3).bind fun p2 =>
  md_puts_b458 p2.1 x4 x5 x6 x7 x12) := Lm.eqn (md_puts_b373_l ..) (.bind (md_moves_l ..) fun p1 => (.bind (md_enter_l ..) fun p2 => (md_puts_b458_l ..))) fun n => (rfl)
theorem md_puts_b458_e (σ : gM) (x4 x5 x6 x7 x12 : Int) : md_puts_b458 σ x4 x5 x6 x7 x12 =
  (if 0 ≤ w32 ((w32 (12 * x5)) + x12) ∧ w32 ((w32 (12 * x5)) + x12) < 4800 then
  (if 0 ≤ w32 ((w32 (12 * x5)) + x12) ∧ w32 ((w32 (12 * x5)) + x12) < 4800 then
    ((md_push (gW (gW (gW σ 194 (w32 ((w32 (12 * x5)) + x12)) x6) 195 (w32 ((w32 (12 * x5)) + x12)) x7) 119 125 x4) x6 x7).bind fun p1 =>
      some (gW p1.1 119 124 (w32 ((p1.1 119 124) - 1)), some 0))
    else none)
  else none) := Lm.eqn (md_puts_b458_l ..) (.ite (.ite (.bind (md_push_l ..) fun p1 => .cst) .cst) .cst) fun n => (rfl)
def k_md_prints : List gC := [(0, 1, .aload_n 0, [], none), (1, 3, .getfield 919, [], none), (4, 3, .sipush 2000, [], none), (7, 3, .if_icmp .ge 14, [(0, 21)], none),
  (10, 1, .aload_n 0, [], none), (11, 3, .getfield 338, [], none), (14, 1, .aload_n 0, [], none), (15, 3, .getfield 919, [], none),
  (18, 1, .iload_n 1, [], none), (19, 1, .i2b, [], none), (20, 1, .bastore, [], none), (21, 1, .aload_n 0, [], some [true, false]),
  (22, 1, .dup, [], none), (23, 3, .getfield 919, [], none), (26, 1, .iconst 1, [], none), (27, 1, .iadd, [], none),
  (28, 3, .putfield 919, [], none), (31, 1, .return_, [], none)]
def e_md_prints (m : Nat) : gE := (k_md_prints, f_md, c_md, [], [], (m, 31658291388557380359744322690514840324496812684955115509000071179890844813636078997800499335839109758668501956010039169012294621724771698385661244671614536763611907386838614016), 5)
theorem ok_md_prints : gchk cX10_prints 2 k_md_prints = true := by decide +kernel
def fn_md_prints (m : Nat) : gFn := gF (e_md_prints m) 2
theorem mo_md_prints (m : Nat) : gMo (.inl (fn_md_prints m)) := gF_mo (E := e_md_prints m) trivial
noncomputable def md_prints (σ : gM) (x1 : Int) : Option (gM × Int) := lim (fun n => fn_md_prints 227 n [(2, 119), (0, x1)] σ)
theorem md_prints_l (σ : gM) (x1 : Int) : Lm (fun n => fn_md_prints 227 n [(2, 119), (0, x1)] σ) (md_prints σ x1) := .of fun n => mo_md_prints 227 n [(2, 119), (0, x1)] σ
theorem mb_md_prints : gMos (e_md_prints 227).2.2.2.1 := trivial
noncomputable def md_prints_b21 (σ : gM) : Option (gM × Int) := lim (fun n => gB (e_md_prints 227) rF tF n 21 [(2, 119), (9, 0)] [] σ)
theorem md_prints_b21_l (σ : gM) : Lm (fun n => gB (e_md_prints 227) rF tF n 21 [(2, 119), (9, 0)] [] σ) (md_prints_b21 σ) := .of fun n => gB_le (gMos_spec (mb_md_prints)) n _ _ _ σ
theorem md_prints_e (σ : gM) (x1 : Int) : md_prints σ x1 =
  (if σ 119 126 < 2000 then
  (if 0 ≤ σ 119 126 ∧ σ 119 126 < 2000 then
    (md_prints_b21 (gW σ 223 (σ 119 126) (w8 (w8 x1))))
    else none)
  else
  (md_prints_b21 σ)) := Lm.eqn (md_prints_l ..) (.ite (.ite (md_prints_b21_l ..) .cst) (md_prints_b21_l ..)) fun n => (rfl)
theorem md_prints_b21_e (σ : gM) : md_prints_b21 σ =
  (some (gW σ 119 126 (w32 ((σ 119 126) + 1)), 0)) := Lm.eqn (md_prints_b21_l ..) .cst fun n => (rfl)
def k_md_defines : List gC := [(0, 1, .iload_n 2, [], none), (1, 1, .iconst 4, [], none), (2, 3, .if_icmp .eq 11, [(0, 13)], none), (5, 1, .aload_n 0, [], none),
  (6, 2, .bipush 11, [], none), (8, 1, .iload_n 1, [], none), (9, 3, .invokevirtual 726, [], none), (12, 1, .athrow, [], none),
  (13, 1, .aload_n 0, [], none), (14, 1, .aload_n 0, [], none), (15, 1, .lload_n 3, [], none), (16, 3, .invokevirtual 392, [], none),
  (19, 3, .putfield 420, [], none), (22, 1, .iconst 0, [], none), (23, 2, .istore 5, [], none), (25, 2, .iload 5, [], some [true, true, false, true, false, true, false]),
  (27, 1, .aload_n 0, [], none), (28, 3, .getfield 420, [], none), (31, 3, .if_icmp .ge 24, [(0, 55)], none), (34, 1, .aload_n 0, [], none),
  (35, 3, .getfield 61, [], none), (38, 2, .iload 5, [], none), (40, 1, .aload_n 0, [], none), (41, 1, .lload_n 3, [], none),
  (42, 2, .iload 5, [], none), (44, 3, .invokevirtual 857, [], none), (47, 1, .i2b, [], none), (48, 1, .bastore, [], none),
  (49, 3, .iinc 5 1, [], none), (52, 3, .goto (-27), [(0, 25)], none), (55, 1, .iconst 1, [], none), (56, 2, .istore 5, [], none),
  (58, 1, .aload_n 0, [], none), (59, 3, .invokevirtual 922, [], none), (62, 3, .goto 8, [(0, 70)], none), (65, 2, .astore 6, [], none),
  (67, 1, .iconst 0, [], none), (68, 2, .istore 5, [], none), (70, 2, .iload 5, [], some [true, true, false, false, false, true, false]), (72, 3, .ifCond .ne 11, [(0, 83)], none),
  (75, 1, .aload_n 0, [], none), (76, 2, .bipush 11, [], none), (78, 1, .iload_n 1, [], none), (79, 3, .invokevirtual 726, [], none),
  (82, 1, .athrow, [], none), (83, 1, .aload_n 0, [], none), (84, 3, .getfield 564, [], none), (87, 1, .aload_n 0, [], none),
  (88, 3, .getfield 485, [], none), (91, 1, .iadd, [], none), (92, 2, .bipush 60, [], none), (94, 3, .if_icmp .le 11, [(0, 105)], none),
  (97, 1, .aload_n 0, [], none), (98, 2, .bipush 9, [], none), (100, 1, .iload_n 1, [], none), (101, 3, .invokevirtual 726, [], none),
  (104, 1, .athrow, [], none), (105, 1, .aload_n 0, [], none), (106, 3, .invokevirtual 925, [], none), (109, 1, .return_, [], none)]
def e_md_defines (m : Nat) : gE := (k_md_defines, f_md, c_md, [(726, 3, 20, 2, .inl (fn_md_error m)), (392, 2, 20, 0, .inl (fn_md_sizeOf m)), (857, 3, 20, 0, .inl (fn_md_letter m)), (922, 1, 20, 5, .inr (fn_md_readText m)), (925, 1, 20, 5, .inl (fn_md_define m))], [(58, 62, 65)], (m, 886432158879606650072941603715657148527734148733122236748029852677296833303503684710297502955365352876241504724075070652138242627207624245836368481255193614647653021174040887296), 5)
theorem ok_md_defines : gchk cX10_defines 7 k_md_defines = true := by decide +kernel
def fn_md_defines (m : Nat) : gFt := gG (e_md_defines m) 7
theorem mo_md_defines (m : Nat) : gMo (.inr (fn_md_defines m)) := gG_mo (E := e_md_defines m) ⟨mo_md_error m, ⟨mo_md_sizeOf m, ⟨mo_md_letter m, ⟨mo_md_readText m, ⟨mo_md_define m, trivial⟩⟩⟩⟩⟩
noncomputable def md_defines (σ : gM) (x1 x2 x3 : Int) : Option (gM × Option Int) := lim (fun n => fn_md_defines 227 n [(2, 119), (0, x1), (0, x2), (1, x3)] σ)
theorem md_defines_l (σ : gM) (x1 x2 x3 : Int) : Lm (fun n => fn_md_defines 227 n [(2, 119), (0, x1), (0, x2), (1, x3)] σ) (md_defines σ x1 x2 x3) := .of fun n => mo_md_defines 227 n [(2, 119), (0, x1), (0, x2), (1, x3)] σ
theorem mb_md_defines : gMos (e_md_defines 227).2.2.2.1 := ⟨mo_md_error 227, ⟨mo_md_sizeOf 227, ⟨mo_md_letter 227, ⟨mo_md_readText 227, ⟨mo_md_define 227, trivial⟩⟩⟩⟩⟩
noncomputable def md_defines_b25 (σ : gM) (x1 x3 x5 : Int) : Option (gM × Option Int) := lim (fun n => gB (e_md_defines 227) rG gthr n 25 [(2, 119), (0, x1), (9, 0), (1, x3), (9, 0), (0, x5), (9, 0)] [] σ)
theorem md_defines_b25_l (σ : gM) (x1 x3 x5 : Int) : Lm (fun n => gB (e_md_defines 227) rG gthr n 25 [(2, 119), (0, x1), (9, 0), (1, x3), (9, 0), (0, x5), (9, 0)] [] σ) (md_defines_b25 σ x1 x3 x5) := .of fun n => gB_le (gMos_spec (mb_md_defines)) n _ _ _ σ
noncomputable def md_defines_b70 (σ : gM) (x1 x5 : Int) : Option (gM × Option Int) := lim (fun n => gB (e_md_defines 227) rG gthr n 70 [(2, 119), (0, x1), (9, 0), (9, 0), (9, 0), (0, x5), (9, 0)] [] σ)
theorem md_defines_b70_l (σ : gM) (x1 x5 : Int) : Lm (fun n => gB (e_md_defines 227) rG gthr n 70 [(2, 119), (0, x1), (9, 0), (9, 0), (9, 0), (0, x5), (9, 0)] [] σ) (md_defines_b70 σ x1 x5) := .of fun n => gB_le (gMos_spec (mb_md_defines)) n _ _ _ σ
theorem md_defines_e (σ : gM) (x1 x2 x3 : Int) : md_defines σ x1 x2 x3 =
  (if x2 = 4 then
  ((md_sizeOf σ x3).bind fun p1 =>
    md_defines_b25 (gW p1.1 119 23 p1.2) x1 x3 0)
  else
  ((md_error σ 11 x1).bind fun p2 =>
    gthr p2.1 p2.2)) := Lm.eqn (md_defines_l ..) (.ite (.bind (md_sizeOf_l ..) fun p1 => (md_defines_b25_l ..)) (.bind (md_error_l ..) fun p2 => .cst)) fun n => (rfl)
theorem md_defines_b25_e (σ : gM) (x1 x3 x5 : Int) : md_defines_b25 σ x1 x3 x5 =
  (if x5 < σ 119 23 then
  ((md_letter σ x3 x5).bind fun p3 =>
    if 0 ≤ x5 ∧ x5 < 4000 then
    (md_defines_b25 (gW p3.1 134 x5 (w8 (w8 p3.2))) x1 x3 (w32 (x5 + 1)))
    else none)
  else
  ((md_readText σ).bind fun p1 => gtry p1.2 (fun v2 =>
    md_defines_b70 p1.1 x1 1)
    (md_defines_b70 p1.1 x1 0))) := Lm.eqn (md_defines_b25_l ..) (.ite (.bind (md_letter_l ..) fun p3 => (.ite (md_defines_b25_l ..) .cst)) (.bind (md_readText_l ..) fun p1 => .xtry (fun v2 => (md_defines_b70_l ..)) (md_defines_b70_l ..))) fun n => (rfl)
theorem md_defines_b70_e (σ : gM) (x1 x5 : Int) : md_defines_b70 σ x1 x5 =
  (if x5 = 0 then
  ((md_error σ 11 x1).bind fun p3 =>
    gthr p3.1 p3.2)
  else
  (if 60 < w32 ((σ 119 55) + (σ 119 54)) then
    ((md_error σ 9 x1).bind fun p2 =>
      gthr p2.1 p2.2)
    else
    ((md_define σ).bind fun p1 =>
      some (p1.1, some 0)))) := Lm.eqn (md_defines_b70_l ..) (.ite (.bind (md_error_l ..) fun p3 => .cst) (.ite (.bind (md_error_l ..) fun p2 => .cst) (.bind (md_define_l ..) fun p1 => .cst))) fun n => (rfl)
def k_md_calls : List gC := [(0, 1, .aload_n 0, [], none), (1, 3, .getfield 326, [], none), (4, 1, .iload_n 1, [], none), (5, 1, .iaload, [], none),
  (6, 1, .istore_n 3, [], none), (7, 1, .aload_n 0, [], none), (8, 3, .getfield 326, [], none), (11, 1, .iload_n 1, [], none),
  (12, 1, .dup2, [], none), (13, 1, .iaload, [], none), (14, 1, .iconst 1, [], none), (15, 1, .iadd, [], none),
  (16, 1, .iastore, [], none), (17, 1, .iload_n 3, [], none), (18, 3, .ifCond .ne 34, [(0, 52)], none), (21, 1, .aload_n 0, [], none),
  (22, 3, .getfield 329, [], none), (25, 1, .iload_n 1, [], none), (26, 1, .aload_n 0, [], none), (27, 3, .getfield 173, [], none),
  (30, 1, .iload_n 2, [], none), (31, 1, .iaload, [], none), (32, 1, .iastore, [], none), (33, 1, .aload_n 0, [], none),
  (34, 3, .getfield 323, [], none), (37, 1, .iload_n 1, [], none), (38, 1, .iload_n 2, [], none), (39, 1, .iastore, [], none),
  (40, 1, .aload_n 0, [], none), (41, 1, .aload_n 0, [], none), (42, 3, .getfield 170, [], none), (45, 1, .iload_n 2, [], none),
  (46, 1, .iaload, [], none), (47, 1, .iconst (-1), [], none), (48, 3, .invokevirtual 746, [], none), (51, 1, .return_, [], none),
  (52, 1, .aload_n 0, [], none), (53, 3, .getfield 329, [], none), (56, 1, .iload_n 1, [], none), (57, 1, .iaload, [], none),
  (58, 2, .istore 4, [], none), (60, 2, .iload 4, [], none), (62, 1, .iconst (-1), [], none), (63, 3, .if_icmp .eq 24, [(0, 87)], none),
  (66, 1, .aload_n 0, [], none), (67, 3, .getfield 329, [], none), (70, 1, .iload_n 1, [], none), (71, 1, .aload_n 0, [], none),
  (72, 3, .getfield 179, [], none), (75, 2, .iload 4, [], none), (77, 1, .iaload, [], none), (78, 1, .iastore, [], none),
  (79, 1, .aload_n 0, [], none), (80, 2, .iload 4, [], none), (82, 1, .iconst (-1), [], none), (83, 3, .invokevirtual 746, [], none),
  (86, 1, .return_, [], none), (87, 1, .iload_n 3, [], none), (88, 1, .iconst 1, [], none), (89, 1, .isub, [], none),
  (90, 2, .istore 5, [], none), (92, 1, .aload_n 0, [], none), (93, 3, .getfield 707, [], none), (96, 1, .iconst 1, [], none),
  (97, 1, .isub, [], none), (98, 2, .iload 5, [], none), (100, 1, .isub, [], none), (101, 2, .istore 6, [], none),
  (103, 1, .aload_n 0, [], none), (104, 3, .getfield 332, [], none), (107, 2, .iload 6, [], none), (109, 1, .iaload, [], none),
  (110, 1, .iconst 5, [], none), (111, 3, .if_icmp .eq 11, [(0, 122)], none), (114, 1, .aload_n 0, [], none), (115, 2, .bipush 6, [], none),
  (117, 1, .iload_n 2, [], none), (118, 3, .invokevirtual 726, [], none), (121, 1, .athrow, [], none), (122, 1, .aload_n 0, [], none),
  (123, 3, .getfield 128, [], none), (126, 1, .aload_n 0, [], none), (127, 3, .getfield 335, [], none), (130, 2, .iload 6, [], none),
  (132, 1, .laload, [], none), (133, 1, .l2i, [], none), (134, 1, .iaload, [], none), (135, 2, .istore 7, [], none),
  (137, 2, .iload 7, [], none), (139, 3, .ifCond .ge 10, [(0, 149)], none), (142, 1, .aload_n 0, [], none), (143, 1, .iconst 3, [], none),
  (144, 1, .iload_n 2, [], none), (145, 3, .invokevirtual 726, [], none), (148, 1, .athrow, [], none), (149, 1, .aload_n 0, [], none),
  (150, 3, .getfield 685, [], none), (153, 2, .bipush 59, [], none), (155, 3, .if_icmp .ne 11, [(0, 166)], none), (158, 1, .aload_n 0, [], none),
  (159, 2, .bipush 7, [], none), (161, 1, .iload_n 2, [], none), (162, 3, .invokevirtual 726, [], none), (165, 1, .athrow, [], none),
  (166, 1, .aload_n 0, [], none), (167, 1, .iload_n 2, [], none), (168, 2, .iload 7, [], none), (170, 1, .iconst 0, [], none),
  (171, 1, .iconst 0, [], none), (172, 1, .iconst 2, [], none), (173, 3, .invokevirtual 891, [], none), (176, 2, .iload 7, [], none),
  (178, 1, .iconst 3, [], none), (179, 3, .if_icmp .le 15, [(0, 194)], none), (182, 1, .aload_n 0, [], none), (183, 2, .iload 7, [], none),
  (185, 2, .iload 6, [], none), (187, 2, .iload 5, [], none), (189, 1, .iload_n 2, [], none), (190, 3, .invokevirtual 906, [], none),
  (193, 1, .return_, [], none), (194, 1, .aload_n 0, [], none), (195, 3, .getfield 341, [], none), (198, 2, .bipush 14, [], none),
  (200, 1, .aload_n 0, [], none), (201, 3, .getfield 341, [], none), (204, 2, .bipush 14, [], none), (206, 1, .iaload, [], none),
  (207, 3, .invokestatic 679, [], none), (210, 1, .iastore, [], none), (211, 2, .iload 5, [], none), (213, 3, .ifCond .le 15, [(0, 228)], none),
  (216, 1, .aload_n 0, [], none), (217, 3, .getfield 332, [], none), (220, 2, .iload 6, [], none), (222, 1, .iconst 1, [], none),
  (223, 1, .iadd, [], none), (224, 1, .iaload, [], none), (225, 3, .goto 4, [(0, 229)], none), (228, 1, .iconst 0, [], none),
  (229, 2, .istore 8, [], some [true, false, true, false, false, true, true, true, false, false, false, false, false, false, false]), (231, 2, .iload 5, [], none), (233, 3, .ifCond .le 15, [(0, 248)], none), (236, 1, .aload_n 0, [], none),
  (237, 3, .getfield 335, [], none), (240, 2, .iload 6, [], none), (242, 1, .iconst 1, [], none), (243, 1, .iadd, [], none),
  (244, 1, .laload, [], none), (245, 3, .goto 4, [(0, 249)], none), (248, 1, .lconst 0, [], none), (249, 2, .lstore 9, [], some [true, false, true, false, false, false, true, true, true, false, false, false, false, false, false]),
  (251, 1, .iconst 0, [], none), (252, 2, .istore 11, [], none), (254, 1, .lconst 0, [], none), (255, 2, .lstore 12, [], none),
  (257, 2, .iload 7, [], none), (259, 3, .ifCond .ne 69, [(0, 328)], none), (262, 1, .aload_n 0, [], none), (263, 1, .iconst 0, [], none),
  (264, 3, .putfield 854, [], none), (267, 1, .aload_n 0, [], none), (268, 2, .iload 8, [], none), (270, 2, .lload 9, [], none),
  (272, 3, .invokevirtual 868, [], none), (275, 1, .aload_n 0, [], none), (276, 3, .getfield 344, [], none), (279, 1, .aload_n 0, [], none),
  (280, 3, .getfield 854, [], none), (283, 2, .bipush 10, [], none), (285, 1, .bastore, [], none), (286, 1, .aload_n 0, [], none),
  (287, 1, .dup, [], none), (288, 3, .getfield 854, [], none), (291, 1, .iconst 1, [], none), (292, 1, .iadd, [], none),
  (293, 3, .putfield 854, [], none), (296, 1, .iconst 0, [], none), (297, 2, .istore 14, [], none), (299, 2, .iload 14, [], some [true, false, false, false, false, false, true, false, false, false, false, true, true, false, true]),
  (301, 1, .aload_n 0, [], none), (302, 3, .getfield 854, [], none), (305, 3, .if_icmp .ge 20, [(0, 325)], none), (308, 1, .aload_n 0, [], none),
  (309, 1, .aload_n 0, [], none), (310, 3, .getfield 344, [], none), (313, 2, .iload 14, [], none), (315, 1, .baload, [], none),
  (316, 3, .invokevirtual 910, [], none), (319, 3, .iinc 14 1, [], none), (322, 3, .goto (-23), [(0, 299)], none), (325, 3, .goto 91, [(0, 416)], none),
  (328, 2, .iload 7, [], none), (330, 1, .iconst 1, [], none), (331, 3, .if_icmp .ne 55, [(0, 386)], none), (334, 1, .aload_n 0, [], none),
  (335, 3, .getfield 913, [], none), (338, 3, .sipush 400, [], none), (341, 3, .if_icmp .ne 11, [(0, 352)], none), (344, 1, .aload_n 0, [], none),
  (345, 2, .bipush 9, [], none), (347, 1, .iload_n 2, [], none), (348, 3, .invokevirtual 726, [], none), (351, 1, .athrow, [], none),
  (352, 1, .aload_n 0, [], none), (353, 3, .getfield 240, [], none), (356, 1, .aload_n 0, [], none), (357, 3, .getfield 913, [], none),
  (360, 1, .iconst 0, [], none), (361, 1, .iastore, [], none), (362, 2, .bipush 6, [], none), (364, 2, .istore 11, [], none),
  (366, 1, .aload_n 0, [], none), (367, 3, .getfield 913, [], none), (370, 1, .i2l, [], none), (371, 2, .lstore 12, [], none),
  (373, 1, .aload_n 0, [], none), (374, 1, .dup, [], none), (375, 3, .getfield 913, [], none), (378, 1, .iconst 1, [], none),
  (379, 1, .iadd, [], none), (380, 3, .putfield 913, [], none), (383, 3, .goto 33, [(0, 416)], none), (386, 2, .iload 7, [], none),
  (388, 1, .iconst 2, [], none), (389, 3, .if_icmp .ne 18, [(0, 407)], none), (392, 1, .iconst 4, [], none), (393, 2, .istore 11, [], none),
  (395, 1, .aload_n 0, [], none), (396, 3, .getfield 222, [], none), (399, 2, .iload 8, [], none), (401, 1, .laload, [], none),
  (402, 2, .lstore 12, [], none), (404, 3, .goto 12, [(0, 416)], none), (407, 1, .aload_n 0, [], none), (408, 1, .iload_n 2, [], none),
  (409, 2, .iload 8, [], none), (411, 2, .lload 9, [], none), (413, 3, .invokevirtual 916, [], none), (416, 1, .aload_n 0, [], some [true, false, false, false, false, false, true, false, false, false, false, true, true, false, false]),
  (417, 2, .iload 6, [], none), (419, 3, .putfield 707, [], none), (422, 1, .aload_n 0, [], none), (423, 2, .iload 11, [], none),
  (425, 2, .lload 12, [], none), (427, 3, .invokevirtual 762, [], none), (430, 1, .aload_n 0, [], none), (431, 1, .dup, [], none),
  (432, 3, .getfield 710, [], none), (435, 1, .iconst 1, [], none), (436, 1, .isub, [], none), (437, 3, .putfield 710, [], none),
  (440, 1, .aload_n 0, [], none), (441, 3, .invokevirtual 775, [], none), (444, 1, .return_, [], none)]
def e_md_calls (m : Nat) : gE := (k_md_calls, f_md, c_md, [(746, 3, 20, 5, .inl (fn_md_task m)), (726, 3, 20, 2, .inl (fn_md_error m)), (891, 6, 20, 5, .inl (fn_md_enter m)), (906, 5, 20, 5, .inl (fn_md_activate m)), (679, 1, 0, 0, .inl (fn_md_more m)), (868, 3, 20, 5, .inl (fn_md_show m)), (910, 2, 20, 5, .inl (fn_md_prints m)), (916, 4, 20, 5, .inr (fn_md_defines m)), (762, 3, 20, 5, .inl (fn_md_push m)), (775, 1, 20, 5, .inl (fn_md_falls m))], [], (m, 1062276934392954263180554177532933829260898805620260179344860692483328487387953061480235710222406226558146275946359805896154268594141462616546960870711931040310519645148869351610253312), 5)
theorem ok_md_calls : gchk cX10_calls 15 k_md_calls = true := by decide +kernel
def fn_md_calls (m : Nat) : gFt := gG (e_md_calls m) 15
theorem mo_md_calls (m : Nat) : gMo (.inr (fn_md_calls m)) := gG_mo (E := e_md_calls m) ⟨mo_md_task m, ⟨mo_md_error m, ⟨mo_md_enter m, ⟨mo_md_activate m, ⟨mo_md_more m, ⟨mo_md_show m, ⟨mo_md_prints m, ⟨mo_md_defines m, ⟨mo_md_push m, ⟨mo_md_falls m, trivial⟩⟩⟩⟩⟩⟩⟩⟩⟩⟩
noncomputable def md_calls (σ : gM) (x1 x2 : Int) : Option (gM × Option Int) := lim (fun n => fn_md_calls 227 n [(2, 119), (0, x1), (0, x2)] σ)
theorem md_calls_l (σ : gM) (x1 x2 : Int) : Lm (fun n => fn_md_calls 227 n [(2, 119), (0, x1), (0, x2)] σ) (md_calls σ x1 x2) := .of fun n => mo_md_calls 227 n [(2, 119), (0, x1), (0, x2)] σ
theorem mb_md_calls : gMos (e_md_calls 227).2.2.2.1 := ⟨mo_md_task 227, ⟨mo_md_error 227, ⟨mo_md_enter 227, ⟨mo_md_activate 227, ⟨mo_md_more 227, ⟨mo_md_show 227, ⟨mo_md_prints 227, ⟨mo_md_defines 227, ⟨mo_md_push 227, ⟨mo_md_falls 227, trivial⟩⟩⟩⟩⟩⟩⟩⟩⟩⟩
noncomputable def md_calls_b229 (σ : gM) (x2 x5 x6 x7 y0 : Int) : Option (gM × Option Int) := lim (fun n => gB (e_md_calls 227) rG gthr n 229 [(2, 119), (9, 0), (0, x2), (9, 0), (9, 0), (0, x5), (0, x6), (0, x7), (9, 0), (9, 0), (9, 0), (9, 0), (9, 0), (9, 0), (9, 0)] [(0, y0)] σ)
theorem md_calls_b229_l (σ : gM) (x2 x5 x6 x7 y0 : Int) : Lm (fun n => gB (e_md_calls 227) rG gthr n 229 [(2, 119), (9, 0), (0, x2), (9, 0), (9, 0), (0, x5), (0, x6), (0, x7), (9, 0), (9, 0), (9, 0), (9, 0), (9, 0), (9, 0), (9, 0)] [(0, y0)] σ) (md_calls_b229 σ x2 x5 x6 x7 y0) := .of fun n => gB_le (gMos_spec (mb_md_calls)) n _ _ _ σ
noncomputable def md_calls_b249 (σ : gM) (x2 x6 x7 x8 y0 : Int) : Option (gM × Option Int) := lim (fun n => gB (e_md_calls 227) rG gthr n 249 [(2, 119), (9, 0), (0, x2), (9, 0), (9, 0), (9, 0), (0, x6), (0, x7), (0, x8), (9, 0), (9, 0), (9, 0), (9, 0), (9, 0), (9, 0)] [(1, y0)] σ)
theorem md_calls_b249_l (σ : gM) (x2 x6 x7 x8 y0 : Int) : Lm (fun n => gB (e_md_calls 227) rG gthr n 249 [(2, 119), (9, 0), (0, x2), (9, 0), (9, 0), (9, 0), (0, x6), (0, x7), (0, x8), (9, 0), (9, 0), (9, 0), (9, 0), (9, 0), (9, 0)] [(1, y0)] σ) (md_calls_b249 σ x2 x6 x7 x8 y0) := .of fun n => gB_le (gMos_spec (mb_md_calls)) n _ _ _ σ
noncomputable def md_calls_b299 (σ : gM) (x6 x11 x12 x14 : Int) : Option (gM × Option Int) := lim (fun n => gB (e_md_calls 227) rG gthr n 299 [(2, 119), (9, 0), (9, 0), (9, 0), (9, 0), (9, 0), (0, x6), (9, 0), (9, 0), (9, 0), (9, 0), (0, x11), (1, x12), (9, 0), (0, x14)] [] σ)
theorem md_calls_b299_l (σ : gM) (x6 x11 x12 x14 : Int) : Lm (fun n => gB (e_md_calls 227) rG gthr n 299 [(2, 119), (9, 0), (9, 0), (9, 0), (9, 0), (9, 0), (0, x6), (9, 0), (9, 0), (9, 0), (9, 0), (0, x11), (1, x12), (9, 0), (0, x14)] [] σ) (md_calls_b299 σ x6 x11 x12 x14) := .of fun n => gB_le (gMos_spec (mb_md_calls)) n _ _ _ σ
noncomputable def md_calls_b416 (σ : gM) (x6 x11 x12 : Int) : Option (gM × Option Int) := lim (fun n => gB (e_md_calls 227) rG gthr n 416 [(2, 119), (9, 0), (9, 0), (9, 0), (9, 0), (9, 0), (0, x6), (9, 0), (9, 0), (9, 0), (9, 0), (0, x11), (1, x12), (9, 0), (9, 0)] [] σ)
theorem md_calls_b416_l (σ : gM) (x6 x11 x12 : Int) : Lm (fun n => gB (e_md_calls 227) rG gthr n 416 [(2, 119), (9, 0), (9, 0), (9, 0), (9, 0), (9, 0), (0, x6), (9, 0), (9, 0), (9, 0), (9, 0), (0, x11), (1, x12), (9, 0), (9, 0)] [] σ) (md_calls_b416 σ x6 x11 x12) := .of fun n => gB_le (gMos_spec (mb_md_calls)) n _ _ _ σ
theorem md_calls_e (σ : gM) (x1 x2 : Int) : md_calls σ x1 x2 =
  (if 0 ≤ x1 ∧ x1 < 42000 then
  (if 0 ≤ x1 ∧ x1 < 42000 then
    (if 0 ≤ x1 ∧ x1 < 42000 then
      (if σ 219 x1 = 0 then
        (if 0 ≤ x2 ∧ x2 < 20000 then
          (if 0 ≤ x1 ∧ x1 < 42000 then
            (if 0 ≤ x1 ∧ x1 < 42000 then
              (if 0 ≤ x2 ∧ x2 < 20000 then
                ((md_task (gW (gW (gW σ 219 x1 (w32 ((σ 219 x1) + 1))) 220 x1 (σ 171 x2)) 218 x1 x2) (σ 170 x2) (-1)).bind fun p8 =>
                  some (p8.1, some 0))
                else none)
              else none)
            else none)
          else none)
        else
        (if 0 ≤ x1 ∧ x1 < 42000 then
          (if σ 220 x1 = (-1) then
            (if 0 ≤ w32 ((w32 ((σ 119 125) - 1)) - (w32 ((σ 219 x1) - 1))) ∧ w32 ((w32 ((σ 119 125) - 1)) - (w32 ((σ 219 x1) - 1))) < 24000 then
              (if σ 221 (w32 ((w32 ((σ 119 125) - 1)) - (w32 ((σ 219 x1) - 1)))) = 5 then
                (if 0 ≤ w32 ((w32 ((σ 119 125) - 1)) - (w32 ((σ 219 x1) - 1))) ∧ w32 ((w32 ((σ 119 125) - 1)) - (w32 ((σ 219 x1) - 1))) < 24000 then
                  (if 0 ≤ w32 (σ 222 (w32 ((w32 ((σ 119 125) - 1)) - (w32 ((σ 219 x1) - 1))))) ∧ w32 (σ 222 (w32 ((w32 ((σ 119 125) - 1)) - (w32 ((σ 219 x1) - 1))))) < 9000 then
                    (if σ 156 (w32 (σ 222 (w32 ((w32 ((σ 119 125) - 1)) - (w32 ((σ 219 x1) - 1)))))) < 0 then
                      ((md_error (gW σ 219 x1 (w32 ((σ 219 x1) + 1))) 3 x2).bind fun p5 =>
                        gthr p5.1 p5.2)
                      else
                      (if σ 119 121 = 59 then
                        ((md_error (gW σ 219 x1 (w32 ((σ 219 x1) + 1))) 7 x2).bind fun p4 =>
                          gthr p4.1 p4.2)
                        else
                        ((md_enter (gW σ 219 x1 (w32 ((σ 219 x1) + 1))) x2 (σ 156 (w32 (σ 222 (w32 ((w32 ((σ 119 125) - 1)) - (w32 ((σ 219 x1) - 1))))))) 0 0 2).bind fun p1 =>
                          if 3 < σ 156 (w32 (σ 222 (w32 ((w32 ((σ 119 125) - 1)) - (w32 ((σ 219 x1) - 1)))))) then
                          ((md_activate p1.1 (σ 156 (w32 (σ 222 (w32 ((w32 ((σ 119 125) - 1)) - (w32 ((σ 219 x1) - 1))))))) (w32 ((w32 ((σ 119 125) - 1)) - (w32 ((σ 219 x1) - 1)))) (w32 ((σ 219 x1) - 1)) x2).bind fun p3 =>
                            some (p3.1, some 0))
                          else
                          (if (0 : Int) ≤ 14 ∧ (14 : Int) < 16 then
                            ((md_more p1.1 (p1.1 224 14)).bind fun p2 =>
                              if (0 : Int) ≤ 14 ∧ (14 : Int) < 16 then
                              (if 0 < w32 ((σ 219 x1) - 1) then
                                (if 0 ≤ w32 ((w32 ((w32 ((σ 119 125) - 1)) - (w32 ((σ 219 x1) - 1)))) + 1) ∧ w32 ((w32 ((w32 ((σ 119 125) - 1)) - (w32 ((σ 219 x1) - 1)))) + 1) < 24000 then
                                  (md_calls_b229 (gW p2.1 224 14 p2.2) x2 (w32 ((σ 219 x1) - 1)) (w32 ((w32 ((σ 119 125) - 1)) - (w32 ((σ 219 x1) - 1)))) (σ 156 (w32 (σ 222 (w32 ((w32 ((σ 119 125) - 1)) - (w32 ((σ 219 x1) - 1))))))) (p2.1 221 (w32 ((w32 ((w32 ((σ 119 125) - 1)) - (w32 ((σ 219 x1) - 1)))) + 1))))
                                  else none)
                                else
                                (md_calls_b229 (gW p2.1 224 14 p2.2) x2 (w32 ((σ 219 x1) - 1)) (w32 ((w32 ((σ 119 125) - 1)) - (w32 ((σ 219 x1) - 1)))) (σ 156 (w32 (σ 222 (w32 ((w32 ((σ 119 125) - 1)) - (w32 ((σ 219 x1) - 1))))))) 0))
                              else none)
                            else none))))
                    else none)
                  else none)
                else
                ((md_error (gW σ 219 x1 (w32 ((σ 219 x1) + 1))) 6 x2).bind fun p6 =>
                  gthr p6.1 p6.2))
              else none)
            else
            (if 0 ≤ σ 220 x1 ∧ σ 220 x1 < 20000 then
              (if 0 ≤ x1 ∧ x1 < 42000 then
                ((md_task (gW (gW σ 219 x1 (w32 ((σ 219 x1) + 1))) 220 x1 (σ 173 (σ 220 x1))) (σ 220 x1) (-1)).bind fun p7 =>
                  some (p7.1, some 0))
                else none)
              else none))
          else none))
      else none)
    else none)
  else none) := Lm.eqn (md_calls_l ..) (.ite (.ite (.ite (.ite (.ite (.ite (.ite (.ite (.bind (md_task_l ..) fun p8 => .cst) .cst) .cst) .cst) .cst) (.ite (.ite (.ite (.ite (.ite (.ite (.ite (.bind (md_error_l ..) fun p5 => .cst) (.ite (.bind (md_error_l ..) fun p4 => .cst) (.bind (md_enter_l ..) fun p1 => (.ite (.bind (md_activate_l ..) fun p3 => .cst) (.ite (.bind (md_more_l ..) fun p2 => (.ite (.ite (.ite (md_calls_b229_l ..) .cst) (md_calls_b229_l ..)) .cst)) .cst))))) .cst) .cst) (.bind (md_error_l ..) fun p6 => .cst)) .cst) (.ite (.ite (.bind (md_task_l ..) fun p7 => .cst) .cst) .cst)) .cst)) .cst) .cst) .cst) fun n => (rfl)
theorem md_calls_b229_e (σ : gM) (x2 x5 x6 x7 y0 : Int) : md_calls_b229 σ x2 x5 x6 x7 y0 =
  (if 0 < x5 then
  (if 0 ≤ w32 (x6 + 1) ∧ w32 (x6 + 1) < 24000 then
    (md_calls_b249 σ x2 x6 x7 y0 (σ 222 (w32 (x6 + 1))))
    else none)
  else
  (md_calls_b249 σ x2 x6 x7 y0 0)) := Lm.eqn (md_calls_b229_l ..) (.ite (.ite (md_calls_b249_l ..) .cst) (md_calls_b249_l ..)) fun n => (rfl)
theorem md_calls_b249_e (σ : gM) (x2 x6 x7 x8 y0 : Int) : md_calls_b249 σ x2 x6 x7 x8 y0 =
  (if x7 = 0 then
  ((md_show (gW σ 119 151 0) x8 y0).bind fun p4 =>
    if 0 ≤ p4.1 119 151 ∧ p4.1 119 151 < 420 then
    (md_calls_b299 (gW (gW p4.1 225 (p4.1 119 151) (w8 10)) 119 151 (w32 ((p4.1 119 151) + 1))) x6 0 0 0)
    else none)
  else
  (if x7 = 1 then
    (if σ 119 95 = 400 then
      ((md_error σ 9 x2).bind fun p3 =>
        gthr p3.1 p3.2)
      else
      (if 0 ≤ σ 119 95 ∧ σ 119 95 < 400 then
        (md_calls_b416 (gW (gW σ 193 (σ 119 95) 0) 119 95 (w32 ((σ 119 95) + 1))) x6 6 (σ 119 95))
        else none))
    else
    (if x7 = 2 then
      (if 0 ≤ x8 ∧ x8 < 7 then
        (md_calls_b416 σ x6 4 (σ 187 x8))
        else none)
      else
      ((md_defines σ x2 x8 y0).bind fun p1 => gtry p1.2 (fun v2 =>
        md_calls_b416 p1.1 x6 0 0)
        (some (p1.1, none)))))) := Lm.eqn (md_calls_b249_l ..) (.ite (.bind (md_show_l ..) fun p4 => (.ite (md_calls_b299_l ..) .cst)) (.ite (.ite (.bind (md_error_l ..) fun p3 => .cst) (.ite (md_calls_b416_l ..) .cst)) (.ite (.ite (md_calls_b416_l ..) .cst) (.bind (md_defines_l ..) fun p1 => .xtry (fun v2 => (md_calls_b416_l ..)) .cst)))) fun n => (rfl)
theorem md_calls_b299_e (σ : gM) (x6 x11 x12 x14 : Int) : md_calls_b299 σ x6 x11 x12 x14 =
  (if x14 < σ 119 151 then
  (if 0 ≤ x14 ∧ x14 < 420 then
    ((md_prints σ (σ 225 x14)).bind fun p1 =>
      md_calls_b299 p1.1 x6 x11 x12 (w32 (x14 + 1)))
    else none)
  else
  (md_calls_b416 σ x6 x11 x12)) := Lm.eqn (md_calls_b299_l ..) (.ite (.ite (.bind (md_prints_l ..) fun p1 => (md_calls_b299_l ..)) .cst) (md_calls_b416_l ..)) fun n => (rfl)
theorem md_calls_b416_e (σ : gM) (x6 x11 x12 : Int) : md_calls_b416 σ x6 x11 x12 =
  ((md_push (gW σ 119 125 x6) x11 x12).bind fun p1 =>
  (md_falls (gW p1.1 119 124 (w32 ((p1.1 119 124) - 1)))).bind fun p2 =>
  some (p2.1, some 0)) := Lm.eqn (md_calls_b416_l ..) (.bind (md_push_l ..) fun p1 => (.bind (md_falls_l ..) fun p2 => .cst)) fun n => (rfl)
def k_md_choice : List gC := [(0, 1, .aload_n 0, [], none), (1, 1, .iload_n 1, [], none), (2, 3, .invokevirtual 808, [], none), (5, 1, .istore_n 2, [], none),
  (6, 1, .iload_n 2, [], none), (7, 3, .ifCond .eq 7, [(0, 14)], none), (10, 1, .iconst 1, [], none), (11, 3, .goto 4, [(0, 15)], none),
  (14, 1, .iconst 2, [], none), (15, 1, .istore_n 3, [], some [true, true, true, false]), (16, 1, .aload_n 0, [], none), (17, 1, .iload_n 1, [], none),
  (18, 1, .iload_n 3, [], none), (19, 3, .invokevirtual 749, [], none), (22, 3, .ifCond .ne 10, [(0, 32)], none), (25, 1, .aload_n 0, [], none),
  (26, 1, .iload_n 1, [], none), (27, 1, .iload_n 3, [], none), (28, 1, .iconst 0, [], none), (29, 3, .invokevirtual 758, [], none),
  (32, 1, .iload_n 2, [], none), (33, 1, .ireturn, [], none)]
def e_md_choice (m : Nat) : gE := (k_md_choice, f_md, c_md, [(808, 2, 20, 0, .inr (fn_md_truth m)), (749, 3, 20, 0, .inl (fn_md_has m)), (758, 4, 20, 5, .inl (fn_md_settle m))], [], (m, 906218590997455012797681237015987304288721263106840181445127037524375432790332761312039293488394516841885868131915184614784929383900388229643095441625447881301050852705979858944), 6)
theorem ok_md_choice : gchk cX10_choice 4 k_md_choice = true := by decide +kernel
def fn_md_choice (m : Nat) : gFt := gG (e_md_choice m) 4
theorem mo_md_choice (m : Nat) : gMo (.inr (fn_md_choice m)) := gG_mo (E := e_md_choice m) ⟨mo_md_truth m, ⟨mo_md_has m, ⟨mo_md_settle m, trivial⟩⟩⟩
noncomputable def md_choice (σ : gM) (x1 : Int) : Option (gM × Option Int) := lim (fun n => fn_md_choice 227 n [(2, 119), (0, x1)] σ)
theorem md_choice_l (σ : gM) (x1 : Int) : Lm (fun n => fn_md_choice 227 n [(2, 119), (0, x1)] σ) (md_choice σ x1) := .of fun n => mo_md_choice 227 n [(2, 119), (0, x1)] σ
theorem mb_md_choice : gMos (e_md_choice 227).2.2.2.1 := ⟨mo_md_truth 227, ⟨mo_md_has 227, ⟨mo_md_settle 227, trivial⟩⟩⟩
noncomputable def md_choice_b15 (σ : gM) (x1 x2 y0 : Int) : Option (gM × Option Int) := lim (fun n => gB (e_md_choice 227) rG gthr n 15 [(2, 119), (0, x1), (0, x2), (9, 0)] [(0, y0)] σ)
theorem md_choice_b15_l (σ : gM) (x1 x2 y0 : Int) : Lm (fun n => gB (e_md_choice 227) rG gthr n 15 [(2, 119), (0, x1), (0, x2), (9, 0)] [(0, y0)] σ) (md_choice_b15 σ x1 x2 y0) := .of fun n => gB_le (gMos_spec (mb_md_choice)) n _ _ _ σ
theorem md_choice_e (σ : gM) (x1 : Int) : md_choice σ x1 =
  ((md_truth σ x1).bind fun p1 => gtry p1.2 (fun v2 =>
  if v2 = 0 then
    (md_choice_b15 p1.1 x1 v2 2)
    else
    (md_choice_b15 p1.1 x1 v2 1))
  (some (p1.1, none))) := Lm.eqn (md_choice_l ..) (.bind (md_truth_l ..) fun p1 => .xtry (fun v2 => (.ite (md_choice_b15_l ..) (md_choice_b15_l ..))) .cst) fun n => (rfl)
theorem md_choice_b15_e (σ : gM) (x1 x2 y0 : Int) : md_choice_b15 σ x1 x2 y0 =
  ((md_has σ x1 y0).bind fun p1 =>
  if p1.2 = 0 then
  ((md_settle p1.1 x1 y0 0).bind fun p2 =>
    g01 x2 (some (p2.1, some x2)))
  else
  (g01 x2 (some (p1.1, some x2)))) := Lm.eqn (md_choice_b15_l ..) (.bind (md_has_l ..) fun p1 => (.ite (.bind (md_settle_l ..) fun p2 => .cst) .cst)) fun n => (rfl)
def k_md_repeats : List gC := [(0, 1, .aload_n 0, [], none), (1, 3, .getfield 326, [], none), (4, 1, .iload_n 1, [], none), (5, 1, .iaload, [], none),
  (6, 1, .iconst 2, [], none), (7, 3, .if_icmp .ne 47, [(0, 54)], none), (10, 1, .aload_n 0, [], none), (11, 1, .iload_n 2, [], none),
  (12, 3, .invokevirtual 787, [], none), (15, 3, .ifCond .ne 4, [(0, 19)], none), (18, 1, .return_, [], none), (19, 1, .aload_n 0, [], none),
  (20, 3, .invokevirtual 775, [], none), (23, 1, .aload_n 0, [], none), (24, 3, .getfield 685, [], none), (27, 1, .iconst 1, [], none),
  (28, 1, .isub, [], none), (29, 1, .istore_n 3, [], none), (30, 1, .aload_n 0, [], none), (31, 3, .getfield 295, [], none),
  (34, 1, .iload_n 3, [], none), (35, 1, .iaload, [], none), (36, 3, .ifCond .ge 18, [(0, 54)], none), (39, 1, .aload_n 0, [], none),
  (40, 1, .aload_n 0, [], none), (41, 3, .getfield 292, [], none), (44, 1, .iload_n 3, [], none), (45, 1, .iaload, [], none),
  (46, 3, .invokevirtual 736, [], none), (49, 1, .aload_n 0, [], none), (50, 1, .iload_n 3, [], none), (51, 3, .invokevirtual 739, [], none),
  (54, 1, .aload_n 0, [], some [true, true, true, false]), (55, 3, .getfield 326, [], none), (58, 1, .iload_n 1, [], none), (59, 1, .iaload, [], none),
  (60, 1, .iconst 1, [], none), (61, 3, .if_icmp .eq 22, [(0, 83)], none), (64, 1, .aload_n 0, [], none), (65, 3, .getfield 326, [], none),
  (68, 1, .iload_n 1, [], none), (69, 1, .iconst 1, [], none), (70, 1, .iastore, [], none), (71, 1, .aload_n 0, [], none),
  (72, 1, .aload_n 0, [], none), (73, 3, .getfield 170, [], none), (76, 1, .iload_n 2, [], none), (77, 1, .iaload, [], none),
  (78, 1, .iconst (-1), [], none), (79, 3, .invokevirtual 746, [], none), (82, 1, .return_, [], none), (83, 1, .aload_n 0, [], none),
  (84, 1, .iload_n 2, [], none), (85, 3, .invokevirtual 819, [], none), (88, 3, .ifCond .eq 25, [(0, 113)], none), (91, 1, .aload_n 0, [], none),
  (92, 3, .getfield 326, [], none), (95, 1, .iload_n 1, [], none), (96, 1, .iconst 2, [], none), (97, 1, .iastore, [], none),
  (98, 1, .aload_n 0, [], none), (99, 2, .bipush (-2), [], none), (101, 1, .aload_n 0, [], none), (102, 3, .getfield 173, [], none),
  (105, 1, .iload_n 2, [], none), (106, 1, .iaload, [], none), (107, 3, .invokevirtual 746, [], none), (110, 3, .goto 13, [(0, 123)], none),
  (113, 1, .aload_n 0, [], none), (114, 1, .dup, [], none), (115, 3, .getfield 710, [], none), (118, 1, .iconst 1, [], none),
  (119, 1, .isub, [], none), (120, 3, .putfield 710, [], none), (123, 1, .return_, [], none)]
def e_md_repeats (m : Nat) : gE := (k_md_repeats, f_md, c_md, [(787, 2, 20, 0, .inr (fn_md_step m)), (775, 1, 20, 5, .inl (fn_md_falls m)), (736, 2, 20, 5, .inl (fn_md_heat m)), (739, 2, 20, 5, .inl (fn_md_enterCode m)), (746, 3, 20, 5, .inl (fn_md_task m)), (819, 2, 20, 0, .inr (fn_md_choice m))], [], (m, 977820742224149119794477328505975065375485310942815137592705350394883938143991462941976271774584713249502913224581685105610448210963291896571442277282408365496312490627170304000), 5)
theorem ok_md_repeats : gchk cX10_repeats 4 k_md_repeats = true := by decide +kernel
def fn_md_repeats (m : Nat) : gFt := gG (e_md_repeats m) 4
theorem mo_md_repeats (m : Nat) : gMo (.inr (fn_md_repeats m)) := gG_mo (E := e_md_repeats m) ⟨mo_md_step m, ⟨mo_md_falls m, ⟨mo_md_heat m, ⟨mo_md_enterCode m, ⟨mo_md_task m, ⟨mo_md_choice m, trivial⟩⟩⟩⟩⟩⟩
noncomputable def md_repeats (σ : gM) (x1 x2 : Int) : Option (gM × Option Int) := lim (fun n => fn_md_repeats 227 n [(2, 119), (0, x1), (0, x2)] σ)
theorem md_repeats_l (σ : gM) (x1 x2 : Int) : Lm (fun n => fn_md_repeats 227 n [(2, 119), (0, x1), (0, x2)] σ) (md_repeats σ x1 x2) := .of fun n => mo_md_repeats 227 n [(2, 119), (0, x1), (0, x2)] σ
theorem mb_md_repeats : gMos (e_md_repeats 227).2.2.2.1 := ⟨mo_md_step 227, ⟨mo_md_falls 227, ⟨mo_md_heat 227, ⟨mo_md_enterCode 227, ⟨mo_md_task 227, ⟨mo_md_choice 227, trivial⟩⟩⟩⟩⟩⟩
noncomputable def md_repeats_b54 (σ : gM) (x1 x2 : Int) : Option (gM × Option Int) := lim (fun n => gB (e_md_repeats 227) rG gthr n 54 [(2, 119), (0, x1), (0, x2), (9, 0)] [] σ)
theorem md_repeats_b54_l (σ : gM) (x1 x2 : Int) : Lm (fun n => gB (e_md_repeats 227) rG gthr n 54 [(2, 119), (0, x1), (0, x2), (9, 0)] [] σ) (md_repeats_b54 σ x1 x2) := .of fun n => gB_le (gMos_spec (mb_md_repeats)) n _ _ _ σ
theorem md_repeats_e (σ : gM) (x1 x2 : Int) : md_repeats σ x1 x2 =
  (if 0 ≤ x1 ∧ x1 < 42000 then
  (if σ 219 x1 = 2 then
    ((md_step σ x2).bind fun p1 => gtry p1.2 (fun v2 =>
      if v2 = 0 then
        (some (p1.1, some 0))
        else
        ((md_falls p1.1).bind fun p3 =>
          if 0 ≤ w32 ((p3.1 119 121) - 1) ∧ w32 ((p3.1 119 121) - 1) < 60 then
          (if p3.1 209 (w32 ((p3.1 119 121) - 1)) < 0 then
            (if 0 ≤ w32 ((p3.1 119 121) - 1) ∧ w32 ((p3.1 119 121) - 1) < 60 then
              ((md_heat p3.1 (p3.1 208 (w32 ((p3.1 119 121) - 1)))).bind fun p4 =>
                (md_enterCode p4.1 (w32 ((p3.1 119 121) - 1))).bind fun p5 =>
                md_repeats_b54 p5.1 x1 x2)
              else none)
            else
            (md_repeats_b54 p3.1 x1 x2))
          else none))
      (some (p1.1, none)))
    else
    (md_repeats_b54 σ x1 x2))
  else none) := Lm.eqn (md_repeats_l ..) (.ite (.ite (.bind (md_step_l ..) fun p1 => .xtry (fun v2 => (.ite .cst (.bind (md_falls_l ..) fun p3 => (.ite (.ite (.ite (.bind (md_heat_l ..) fun p4 => (.bind (md_enterCode_l ..) fun p5 => (md_repeats_b54_l ..))) .cst) (md_repeats_b54_l ..)) .cst)))) .cst) (md_repeats_b54_l ..)) .cst) fun n => (rfl)
theorem md_repeats_b54_e (σ : gM) (x1 x2 : Int) : md_repeats_b54 σ x1 x2 =
  (if 0 ≤ x1 ∧ x1 < 42000 then
  (if σ 219 x1 = 1 then
    ((md_choice σ x2).bind fun p1 => gtry p1.2 (fun v2 =>
      if v2 = 0 then
        (some (gW p1.1 119 124 (w32 ((p1.1 119 124) - 1)), some 0))
        else
        (if 0 ≤ x1 ∧ x1 < 42000 then
          (if 0 ≤ x2 ∧ x2 < 20000 then
            ((md_task (gW p1.1 219 x1 2) (-2) (p1.1 171 x2)).bind fun p3 =>
              some (p3.1, some 0))
            else none)
          else none))
      (some (p1.1, none)))
    else
    (if 0 ≤ x1 ∧ x1 < 42000 then
      (if 0 ≤ x2 ∧ x2 < 20000 then
        ((md_task (gW σ 219 x1 1) (σ 170 x2) (-1)).bind fun p4 =>
          some (p4.1, some 0))
        else none)
      else none))
  else none) := Lm.eqn (md_repeats_b54_l ..) (.ite (.ite (.bind (md_choice_l ..) fun p1 => .xtry (fun v2 => (.ite .cst (.ite (.ite (.bind (md_task_l ..) fun p3 => .cst) .cst) .cst))) .cst) (.ite (.ite (.bind (md_task_l ..) fun p4 => .cst) .cst) .cst)) .cst) fun n => (rfl)
def k_md_works : List gC := [(0, 1, .iload_n 3, [], none), (1, 2, .bipush 8, [], none), (3, 3, .if_icmp .lt 106, [(0, 109)], none), (6, 1, .iload_n 3, [], none),
  (7, 2, .bipush 17, [], none), (9, 3, .if_icmp .gt 100, [(0, 109)], none), (12, 1, .aload_n 0, [], none), (13, 3, .getfield 326, [], none),
  (16, 1, .iload_n 1, [], none), (17, 1, .iaload, [], none), (18, 2, .istore 4, [], none), (20, 1, .aload_n 0, [], none),
  (21, 3, .getfield 326, [], none), (24, 1, .iload_n 1, [], none), (25, 1, .dup2, [], none), (26, 1, .iaload, [], none),
  (27, 1, .iconst 1, [], none), (28, 1, .iadd, [], none), (29, 1, .iastore, [], none), (30, 2, .iload 4, [], none),
  (32, 1, .iconst 2, [], none), (33, 3, .if_icmp .ge 29, [(0, 62)], none), (36, 1, .aload_n 0, [], none), (37, 2, .iload 4, [], none),
  (39, 3, .ifCond .ne 12, [(0, 51)], none), (42, 1, .aload_n 0, [], none), (43, 3, .getfield 170, [], none), (46, 1, .iload_n 2, [], none),
  (47, 1, .iaload, [], none), (48, 3, .goto 9, [(0, 57)], none), (51, 1, .aload_n 0, [], none), (52, 3, .getfield 173, [], none),
  (55, 1, .iload_n 2, [], none), (56, 1, .iaload, [], none), (57, 1, .iconst (-1), [], some [false, false, false, false, false]), (58, 3, .invokevirtual 746, [], none),
  (61, 1, .return_, [], none), (62, 1, .iload_n 3, [], none), (63, 2, .bipush 11, [], none), (65, 3, .if_icmp .gt 12, [(0, 77)], none),
  (68, 1, .aload_n 0, [], none), (69, 1, .iload_n 2, [], none), (70, 1, .iload_n 3, [], none), (71, 3, .invokevirtual 790, [], none),
  (74, 3, .goto 24, [(0, 98)], none), (77, 1, .iload_n 3, [], none), (78, 2, .bipush 15, [], none), (80, 3, .if_icmp .gt 12, [(0, 92)], none),
  (83, 1, .aload_n 0, [], none), (84, 1, .iload_n 2, [], none), (85, 1, .iload_n 3, [], none), (86, 3, .invokevirtual 793, [], none),
  (89, 3, .goto 9, [(0, 98)], none), (92, 1, .aload_n 0, [], none), (93, 1, .iload_n 2, [], none), (94, 1, .iload_n 3, [], none),
  (95, 3, .invokevirtual 796, [], none), (98, 1, .aload_n 0, [], some [true, false, false, false, false]), (99, 1, .dup, [], none), (100, 3, .getfield 710, [], none),
  (103, 1, .iconst 1, [], none), (104, 1, .isub, [], none), (105, 3, .putfield 710, [], none), (108, 1, .return_, [], none),
  (109, 1, .iload_n 3, [], some [true, true, true, true, false]), (110, 110, .tableswitch 466 5 28 #[110, 128, 466, 466, 466, 466, 466, 466, 466, 466, 466, 466, 466, 182, 182, 192, 241, 250, 259, 268, 328, 337, 399, 399], [(0, 576), (5, 220), (6, 238), (18, 292), (19, 292), (20, 302), (21, 351), (22, 360), (23, 369), (24, 378), (25, 438), (26, 447), (27, 509), (28, 509)], none), (220, 1, .aload_n 0, [], none), (221, 1, .iload_n 2, [], none),
  (222, 3, .invokevirtual 799, [], none), (225, 1, .aload_n 0, [], none), (226, 1, .dup, [], none), (227, 3, .getfield 710, [], none),
  (230, 1, .iconst 1, [], none), (231, 1, .isub, [], none), (232, 3, .putfield 710, [], none), (235, 3, .goto 367, [(0, 602)], none),
  (238, 1, .aload_n 0, [], none), (239, 1, .iload_n 1, [], none), (240, 1, .aload_n 0, [], none), (241, 3, .getfield 170, [], none),
  (244, 1, .iload_n 2, [], none), (245, 1, .iaload, [], none), (246, 3, .invokevirtual 802, [], none), (249, 3, .ifCond .eq 353, [(0, 602)], none),
  (252, 1, .aload_n 0, [], none), (253, 1, .iload_n 2, [], none), (254, 1, .aload_n 0, [], none), (255, 3, .getfield 332, [], none),
  (258, 1, .aload_n 0, [], none), (259, 3, .getfield 707, [], none), (262, 1, .iconst 1, [], none), (263, 1, .isub, [], none),
  (264, 1, .iaload, [], none), (265, 1, .aload_n 0, [], none), (266, 3, .getfield 335, [], none), (269, 1, .aload_n 0, [], none),
  (270, 3, .getfield 707, [], none), (273, 1, .iconst 1, [], none), (274, 1, .isub, [], none), (275, 1, .laload, [], none),
  (276, 3, .invokevirtual 742, [], none), (279, 1, .aload_n 0, [], none), (280, 1, .dup, [], none), (281, 3, .getfield 710, [], none),
  (284, 1, .iconst 1, [], none), (285, 1, .isub, [], none), (286, 3, .putfield 710, [], none), (289, 3, .goto 313, [(0, 602)], none),
  (292, 1, .aload_n 0, [], none), (293, 1, .iload_n 1, [], none), (294, 1, .iload_n 2, [], none), (295, 1, .iload_n 3, [], none),
  (296, 3, .invokevirtual 805, [], none), (299, 3, .goto 303, [(0, 602)], none), (302, 1, .aload_n 0, [], none), (303, 1, .iload_n 1, [], none),
  (304, 1, .aload_n 0, [], none), (305, 3, .getfield 170, [], none), (308, 1, .iload_n 2, [], none), (309, 1, .iaload, [], none),
  (310, 3, .invokevirtual 802, [], none), (313, 3, .ifCond .eq 289, [(0, 602)], none), (316, 1, .aload_n 0, [], none), (317, 1, .iload_n 2, [], none),
  (318, 3, .invokevirtual 808, [], none), (321, 2, .istore 4, [], none), (323, 1, .aload_n 0, [], none), (324, 1, .iconst 1, [], none),
  (325, 2, .iload 4, [], none), (327, 3, .ifCond .eq 7, [(0, 334)], none), (330, 1, .lconst 0, [], none), (331, 3, .goto 4, [(0, 335)], none),
  (334, 1, .lconst 1, [], none), (335, 3, .invokevirtual 762, [], some [true, false, false, false, false]), (338, 1, .aload_n 0, [], none), (339, 1, .dup, [], none),
  (340, 3, .getfield 710, [], none), (343, 1, .iconst 1, [], none), (344, 1, .isub, [], none), (345, 3, .putfield 710, [], none),
  (348, 3, .goto 254, [(0, 602)], none), (351, 1, .aload_n 0, [], none), (352, 1, .iload_n 1, [], none), (353, 1, .iload_n 2, [], none),
  (354, 3, .invokevirtual 810, [], none), (357, 3, .goto 245, [(0, 602)], none), (360, 1, .aload_n 0, [], none), (361, 1, .iload_n 1, [], none),
  (362, 1, .iload_n 2, [], none), (363, 3, .invokevirtual 813, [], none), (366, 3, .goto 236, [(0, 602)], none), (369, 1, .aload_n 0, [], none),
  (370, 1, .iload_n 1, [], none), (371, 1, .iload_n 2, [], none), (372, 3, .invokevirtual 816, [], none), (375, 3, .goto 227, [(0, 602)], none),
  (378, 1, .aload_n 0, [], none), (379, 1, .iload_n 1, [], none), (380, 1, .aload_n 0, [], none), (381, 3, .getfield 170, [], none),
  (384, 1, .iload_n 2, [], none), (385, 1, .iaload, [], none), (386, 3, .invokevirtual 802, [], none), (389, 3, .ifCond .eq 213, [(0, 602)], none),
  (392, 1, .aload_n 0, [], none), (393, 1, .iload_n 2, [], none), (394, 3, .invokevirtual 819, [], none), (397, 3, .ifCond .eq 12, [(0, 409)], none),
  (400, 1, .aload_n 0, [], none), (401, 3, .getfield 173, [], none), (404, 1, .iload_n 2, [], none), (405, 1, .iaload, [], none),
  (406, 3, .goto 9, [(0, 415)], none), (409, 1, .aload_n 0, [], none), (410, 3, .getfield 176, [], none), (413, 1, .iload_n 2, [], none),
  (414, 1, .iaload, [], none), (415, 2, .istore 4, [], some [true, false, false, false, false]), (417, 1, .aload_n 0, [], none), (418, 1, .dup, [], none),
  (419, 3, .getfield 710, [], none), (422, 1, .iconst 1, [], none), (423, 1, .isub, [], none), (424, 3, .putfield 710, [], none),
  (427, 1, .aload_n 0, [], none), (428, 2, .bipush (-2), [], none), (430, 2, .iload 4, [], none), (432, 3, .invokevirtual 746, [], none),
  (435, 3, .goto 167, [(0, 602)], none), (438, 1, .aload_n 0, [], none), (439, 1, .iload_n 1, [], none), (440, 1, .iload_n 2, [], none),
  (441, 3, .invokevirtual 822, [], none), (444, 3, .goto 158, [(0, 602)], none), (447, 1, .aload_n 0, [], none), (448, 3, .getfield 170, [], none),
  (451, 1, .iload_n 2, [], none), (452, 1, .iaload, [], none), (453, 1, .iconst (-1), [], none), (454, 3, .if_icmp .ne 12, [(0, 466)], none),
  (457, 1, .aload_n 0, [], none), (458, 1, .iconst 0, [], none), (459, 1, .lconst 0, [], none), (460, 3, .invokevirtual 784, [], none),
  (463, 3, .goto 139, [(0, 602)], none), (466, 1, .aload_n 0, [], none), (467, 1, .iload_n 1, [], none), (468, 1, .aload_n 0, [], none),
  (469, 3, .getfield 170, [], none), (472, 1, .iload_n 2, [], none), (473, 1, .iaload, [], none), (474, 3, .invokevirtual 802, [], none),
  (477, 3, .ifCond .eq 125, [(0, 602)], none), (480, 1, .aload_n 0, [], none), (481, 1, .aload_n 0, [], none), (482, 3, .getfield 332, [], none),
  (485, 1, .aload_n 0, [], none), (486, 3, .getfield 707, [], none), (489, 1, .iconst 1, [], none), (490, 1, .isub, [], none),
  (491, 1, .iaload, [], none), (492, 1, .aload_n 0, [], none), (493, 3, .getfield 335, [], none), (496, 1, .aload_n 0, [], none),
  (497, 3, .getfield 707, [], none), (500, 1, .iconst 1, [], none), (501, 1, .isub, [], none), (502, 1, .laload, [], none),
  (503, 3, .invokevirtual 784, [], none), (506, 3, .goto 96, [(0, 602)], none), (509, 1, .aload_n 0, [], some [true, false, false, true, false]), (510, 3, .getfield 323, [], none),
  (513, 1, .aload_n 0, [], none), (514, 3, .getfield 710, [], none), (517, 1, .iconst 1, [], none), (518, 1, .isub, [], none),
  (519, 1, .iaload, [], none), (520, 3, .ifCond .lt 24, [(0, 544)], none), (523, 1, .aload_n 0, [], none), (524, 3, .getfield 164, [], none),
  (527, 1, .aload_n 0, [], none), (528, 3, .getfield 323, [], none), (531, 1, .aload_n 0, [], none), (532, 3, .getfield 710, [], none),
  (535, 1, .iconst 1, [], none), (536, 1, .isub, [], none), (537, 1, .iaload, [], none), (538, 1, .iaload, [], none),
  (539, 2, .bipush 25, [], none), (541, 3, .if_icmp .eq 16, [(0, 557)], none), (544, 1, .aload_n 0, [], some [true, false, false, true, false]), (545, 1, .dup, [], none),
  (546, 3, .getfield 710, [], none), (549, 1, .iconst 1, [], none), (550, 1, .isub, [], none), (551, 3, .putfield 710, [], none),
  (554, 3, .goto (-45), [(0, 509)], none), (557, 1, .iload_n 3, [], none), (558, 2, .bipush 27, [], none), (560, 3, .if_icmp .ne 42, [(0, 602)], none),
  (563, 1, .aload_n 0, [], none), (564, 1, .dup, [], none), (565, 3, .getfield 710, [], none), (568, 1, .iconst 1, [], none),
  (569, 1, .isub, [], none), (570, 3, .putfield 710, [], none), (573, 3, .goto 29, [(0, 602)], none), (576, 1, .aload_n 0, [], none),
  (577, 1, .aload_n 0, [], none), (578, 3, .getfield 188, [], none), (581, 1, .iload_n 2, [], none), (582, 1, .iaload, [], none),
  (583, 1, .aload_n 0, [], none), (584, 3, .getfield 191, [], none), (587, 1, .iload_n 2, [], none), (588, 1, .laload, [], none),
  (589, 3, .invokevirtual 762, [], none), (592, 1, .aload_n 0, [], none), (593, 1, .dup, [], none), (594, 3, .getfield 710, [], none),
  (597, 1, .iconst 1, [], none), (598, 1, .isub, [], none), (599, 3, .putfield 710, [], none), (602, 1, .return_, [], none)]
def e_md_works (m : Nat) : gE := (k_md_works, f_md, c_md, [(746, 3, 20, 5, .inl (fn_md_task m)), (790, 3, 20, 5, .inr (fn_md_reckons m)), (793, 3, 20, 5, .inr (fn_md_orders m)), (796, 3, 20, 5, .inl (fn_md_compares m)), (799, 2, 20, 5, .inl (fn_md_reads m)), (802, 3, 20, 0, .inl (fn_md_begun m)), (742, 4, 20, 5, .inl (fn_md_sets m)), (805, 4, 20, 5, .inr (fn_md_eitherOrBoth m)), (808, 2, 20, 0, .inr (fn_md_truth m)), (762, 3, 20, 5, .inl (fn_md_push m)), (810, 3, 20, 5, .inr (fn_md_gets m)), (813, 3, 20, 5, .inr (fn_md_puts m)), (816, 3, 20, 5, .inr (fn_md_calls m)), (819, 2, 20, 0, .inr (fn_md_choice m)), (822, 3, 20, 5, .inr (fn_md_repeats m)), (784, 3, 20, 5, .inl (fn_md_comesBack m))], [], (m, 1460630492754940574261459347521383046168972890143396542775251013871930095817591906660324580786219022306741124725324011047047762964441938338833147037006011939006981326516817629122920448), 5)
theorem ok_md_works : gchk cX10_works 5 k_md_works = true := by decide +kernel
def fn_md_works (m : Nat) : gFt := gG (e_md_works m) 5
theorem mo_md_works (m : Nat) : gMo (.inr (fn_md_works m)) := gG_mo (E := e_md_works m) ⟨mo_md_task m, ⟨mo_md_reckons m, ⟨mo_md_orders m, ⟨mo_md_compares m, ⟨mo_md_reads m, ⟨mo_md_begun m, ⟨mo_md_sets m, ⟨mo_md_eitherOrBoth m, ⟨mo_md_truth m, ⟨mo_md_push m, ⟨mo_md_gets m, ⟨mo_md_puts m, ⟨mo_md_calls m, ⟨mo_md_choice m, ⟨mo_md_repeats m, ⟨mo_md_comesBack m, trivial⟩⟩⟩⟩⟩⟩⟩⟩⟩⟩⟩⟩⟩⟩⟩⟩
noncomputable def md_works (σ : gM) (x1 x2 x3 : Int) : Option (gM × Option Int) := lim (fun n => fn_md_works 227 n [(2, 119), (0, x1), (0, x2), (0, x3)] σ)
theorem md_works_l (σ : gM) (x1 x2 x3 : Int) : Lm (fun n => fn_md_works 227 n [(2, 119), (0, x1), (0, x2), (0, x3)] σ) (md_works σ x1 x2 x3) := .of fun n => mo_md_works 227 n [(2, 119), (0, x1), (0, x2), (0, x3)] σ
theorem mb_md_works : gMos (e_md_works 227).2.2.2.1 := ⟨mo_md_task 227, ⟨mo_md_reckons 227, ⟨mo_md_orders 227, ⟨mo_md_compares 227, ⟨mo_md_reads 227, ⟨mo_md_begun 227, ⟨mo_md_sets 227, ⟨mo_md_eitherOrBoth 227, ⟨mo_md_truth 227, ⟨mo_md_push 227, ⟨mo_md_gets 227, ⟨mo_md_puts 227, ⟨mo_md_calls 227, ⟨mo_md_choice 227, ⟨mo_md_repeats 227, ⟨mo_md_comesBack 227, trivial⟩⟩⟩⟩⟩⟩⟩⟩⟩⟩⟩⟩⟩⟩⟩⟩
noncomputable def md_works_b57 (σ : gM) (y0 : Int) : Option (gM × Option Int) := lim (fun n => gB (e_md_works 227) rG gthr n 57 [(9, 0), (9, 0), (9, 0), (9, 0), (9, 0)] [(0, y0), (2, 119)] σ)
theorem md_works_b57_l (σ : gM) (y0 : Int) : Lm (fun n => gB (e_md_works 227) rG gthr n 57 [(9, 0), (9, 0), (9, 0), (9, 0), (9, 0)] [(0, y0), (2, 119)] σ) (md_works_b57 σ y0) := .of fun n => gB_le (gMos_spec (mb_md_works)) n _ _ _ σ
noncomputable def md_works_b98 (σ : gM) : Option (gM × Option Int) := lim (fun n => gB (e_md_works 227) rG gthr n 98 [(2, 119), (9, 0), (9, 0), (9, 0), (9, 0)] [] σ)
theorem md_works_b98_l (σ : gM) : Lm (fun n => gB (e_md_works 227) rG gthr n 98 [(2, 119), (9, 0), (9, 0), (9, 0), (9, 0)] [] σ) (md_works_b98 σ) := .of fun n => gB_le (gMos_spec (mb_md_works)) n _ _ _ σ
noncomputable def md_works_b109 (σ : gM) (x1 x2 x3 : Int) : Option (gM × Option Int) := lim (fun n => gB (e_md_works 227) rG gthr n 109 [(2, 119), (0, x1), (0, x2), (0, x3), (9, 0)] [] σ)
theorem md_works_b109_l (σ : gM) (x1 x2 x3 : Int) : Lm (fun n => gB (e_md_works 227) rG gthr n 109 [(2, 119), (0, x1), (0, x2), (0, x3), (9, 0)] [] σ) (md_works_b109 σ x1 x2 x3) := .of fun n => gB_le (gMos_spec (mb_md_works)) n _ _ _ σ
noncomputable def md_works_b335 (σ : gM) (y0 y1 : Int) : Option (gM × Option Int) := lim (fun n => gB (e_md_works 227) rG gthr n 335 [(2, 119), (9, 0), (9, 0), (9, 0), (9, 0)] [(1, y0), (0, y1), (2, 119)] σ)
theorem md_works_b335_l (σ : gM) (y0 y1 : Int) : Lm (fun n => gB (e_md_works 227) rG gthr n 335 [(2, 119), (9, 0), (9, 0), (9, 0), (9, 0)] [(1, y0), (0, y1), (2, 119)] σ) (md_works_b335 σ y0 y1) := .of fun n => gB_le (gMos_spec (mb_md_works)) n _ _ _ σ
noncomputable def md_works_b415 (σ : gM) (y0 : Int) : Option (gM × Option Int) := lim (fun n => gB (e_md_works 227) rG gthr n 415 [(2, 119), (9, 0), (9, 0), (9, 0), (9, 0)] [(0, y0)] σ)
theorem md_works_b415_l (σ : gM) (y0 : Int) : Lm (fun n => gB (e_md_works 227) rG gthr n 415 [(2, 119), (9, 0), (9, 0), (9, 0), (9, 0)] [(0, y0)] σ) (md_works_b415 σ y0) := .of fun n => gB_le (gMos_spec (mb_md_works)) n _ _ _ σ
noncomputable def md_works_b509 (σ : gM) (x3 : Int) : Option (gM × Option Int) := lim (fun n => gB (e_md_works 227) rG gthr n 509 [(2, 119), (9, 0), (9, 0), (0, x3), (9, 0)] [] σ)
theorem md_works_b509_l (σ : gM) (x3 : Int) : Lm (fun n => gB (e_md_works 227) rG gthr n 509 [(2, 119), (9, 0), (9, 0), (0, x3), (9, 0)] [] σ) (md_works_b509 σ x3) := .of fun n => gB_le (gMos_spec (mb_md_works)) n _ _ _ σ
noncomputable def md_works_b544 (σ : gM) (x3 : Int) : Option (gM × Option Int) := lim (fun n => gB (e_md_works 227) rG gthr n 544 [(2, 119), (9, 0), (9, 0), (0, x3), (9, 0)] [] σ)
theorem md_works_b544_l (σ : gM) (x3 : Int) : Lm (fun n => gB (e_md_works 227) rG gthr n 544 [(2, 119), (9, 0), (9, 0), (0, x3), (9, 0)] [] σ) (md_works_b544 σ x3) := .of fun n => gB_le (gMos_spec (mb_md_works)) n _ _ _ σ
theorem md_works_e (σ : gM) (x1 x2 x3 : Int) : md_works σ x1 x2 x3 =
  (if x3 < 8 then
  (md_works_b109 σ x1 x2 x3)
  else
  (if 17 < x3 then
    (md_works_b109 σ x1 x2 x3)
    else
    (if 0 ≤ x1 ∧ x1 < 42000 then
      (if 0 ≤ x1 ∧ x1 < 42000 then
        (if 0 ≤ x1 ∧ x1 < 42000 then
          (if σ 219 x1 < 2 then
            (if σ 219 x1 = 0 then
              (if 0 ≤ x2 ∧ x2 < 20000 then
                (md_works_b57 (gW σ 219 x1 (w32 ((σ 219 x1) + 1))) (σ 170 x2))
                else none)
              else
              (if 0 ≤ x2 ∧ x2 < 20000 then
                (md_works_b57 (gW σ 219 x1 (w32 ((σ 219 x1) + 1))) (σ 171 x2))
                else none))
            else
            (if 11 < x3 then
              (if 15 < x3 then
                ((md_compares (gW σ 219 x1 (w32 ((σ 219 x1) + 1))) x2 x3).bind fun p1 =>
                  md_works_b98 p1.1)
                else
                ((md_orders (gW σ 219 x1 (w32 ((σ 219 x1) + 1))) x2 x3).bind fun p2 => gtry p2.2 (fun v3 =>
                  md_works_b98 p2.1)
                  (some (p2.1, none))))
              else
              ((md_reckons (gW σ 219 x1 (w32 ((σ 219 x1) + 1))) x2 x3).bind fun p4 => gtry p4.2 (fun v5 =>
                md_works_b98 p4.1)
                (some (p4.1, none)))))
          else none)
        else none)
      else none))) := Lm.eqn (md_works_l ..) (.ite (md_works_b109_l ..) (.ite (md_works_b109_l ..) (.ite (.ite (.ite (.ite (.ite (.ite (md_works_b57_l ..) .cst) (.ite (md_works_b57_l ..) .cst)) (.ite (.ite (.bind (md_compares_l ..) fun p1 => (md_works_b98_l ..)) (.bind (md_orders_l ..) fun p2 => .xtry (fun v3 => (md_works_b98_l ..)) .cst)) (.bind (md_reckons_l ..) fun p4 => .xtry (fun v5 => (md_works_b98_l ..)) .cst))) .cst) .cst) .cst))) fun n => (rfl)
theorem md_works_b57_e (σ : gM) (y0 : Int) : md_works_b57 σ y0 =
  ((md_task σ y0 (-1)).bind fun p1 =>
  some (p1.1, some 0)) := Lm.eqn (md_works_b57_l ..) (.bind (md_task_l ..) fun p1 => .cst) fun n => (rfl)
theorem md_works_b98_e (σ : gM) : md_works_b98 σ =
  (some (gW σ 119 124 (w32 ((σ 119 124) - 1)), some 0)) := Lm.eqn (md_works_b98_l ..) .cst fun n => (rfl)
theorem md_works_b109_e (σ : gM) (x1 x2 x3 : Int) : md_works_b109 σ x1 x2 x3 =
  (if x3 = 5 then
  ((md_reads σ x2).bind fun p1 =>
    some (gW p1.1 119 124 (w32 ((p1.1 119 124) - 1)), some 0))
  else if x3 = 6 then
  (if 0 ≤ x2 ∧ x2 < 20000 then
    ((md_begun σ x1 (σ 170 x2)).bind fun p2 =>
      if p2.2 = 0 then
      (some (p2.1, some 0))
      else
      (if 0 ≤ w32 ((p2.1 119 125) - 1) ∧ w32 ((p2.1 119 125) - 1) < 24000 then
        (if 0 ≤ w32 ((p2.1 119 125) - 1) ∧ w32 ((p2.1 119 125) - 1) < 24000 then
          ((md_sets p2.1 x2 (p2.1 221 (w32 ((p2.1 119 125) - 1))) (p2.1 222 (w32 ((p2.1 119 125) - 1)))).bind fun p3 =>
            some (gW p3.1 119 124 (w32 ((p3.1 119 124) - 1)), some 0))
          else none)
        else none))
    else none)
  else if x3 = 18 then
  ((md_eitherOrBoth σ x1 x2 x3).bind fun p4 => gtry p4.2 (fun v5 =>
    some (p4.1, some 0))
    (some (p4.1, none)))
  else if x3 = 19 then
  ((md_eitherOrBoth σ x1 x2 x3).bind fun p6 => gtry p6.2 (fun v7 =>
    some (p6.1, some 0))
    (some (p6.1, none)))
  else if x3 = 20 then
  (if 0 ≤ x2 ∧ x2 < 20000 then
    ((md_begun σ x1 (σ 170 x2)).bind fun p8 =>
      if p8.2 = 0 then
      (some (p8.1, some 0))
      else
      ((md_truth p8.1 x2).bind fun p9 => gtry p9.2 (fun v10 =>
        if v10 = 0 then
          (md_works_b335 p9.1 1 1)
          else
          (md_works_b335 p9.1 0 1))
        (some (p9.1, none))))
    else none)
  else if x3 = 21 then
  ((md_gets σ x1 x2).bind fun p11 => gtry p11.2 (fun v12 =>
    some (p11.1, some 0))
    (some (p11.1, none)))
  else if x3 = 22 then
  ((md_puts σ x1 x2).bind fun p13 => gtry p13.2 (fun v14 =>
    some (p13.1, some 0))
    (some (p13.1, none)))
  else if x3 = 23 then
  ((md_calls σ x1 x2).bind fun p15 => gtry p15.2 (fun v16 =>
    some (p15.1, some 0))
    (some (p15.1, none)))
  else if x3 = 24 then
  (if 0 ≤ x2 ∧ x2 < 20000 then
    ((md_begun σ x1 (σ 170 x2)).bind fun p17 =>
      if p17.2 = 0 then
      (some (p17.1, some 0))
      else
      ((md_choice p17.1 x2).bind fun p18 => gtry p18.2 (fun v19 =>
        if v19 = 0 then
          (if 0 ≤ x2 ∧ x2 < 20000 then
            (md_works_b415 p18.1 (p18.1 172 x2))
            else none)
          else
          (if 0 ≤ x2 ∧ x2 < 20000 then
            (md_works_b415 p18.1 (p18.1 171 x2))
            else none))
        (some (p18.1, none))))
    else none)
  else if x3 = 25 then
  ((md_repeats σ x1 x2).bind fun p20 => gtry p20.2 (fun v21 =>
    some (p20.1, some 0))
    (some (p20.1, none)))
  else if x3 = 26 then
  (if 0 ≤ x2 ∧ x2 < 20000 then
    (if σ 170 x2 = (-1) then
      ((md_comesBack σ 0 0).bind fun p24 =>
        some (p24.1, some 0))
      else
      (if 0 ≤ x2 ∧ x2 < 20000 then
        ((md_begun σ x1 (σ 170 x2)).bind fun p22 =>
          if p22.2 = 0 then
          (some (p22.1, some 0))
          else
          (if 0 ≤ w32 ((p22.1 119 125) - 1) ∧ w32 ((p22.1 119 125) - 1) < 24000 then
            (if 0 ≤ w32 ((p22.1 119 125) - 1) ∧ w32 ((p22.1 119 125) - 1) < 24000 then
              ((md_comesBack p22.1 (p22.1 221 (w32 ((p22.1 119 125) - 1))) (p22.1 222 (w32 ((p22.1 119 125) - 1)))).bind fun p23 =>
                some (p23.1, some 0))
              else none)
            else none))
        else none))
    else none)
  else if x3 = 27 then
  (md_works_b509 σ x3)
  else if x3 = 28 then
  (md_works_b509 σ x3)
  else (if 0 ≤ x2 ∧ x2 < 20000 then
    (if 0 ≤ x2 ∧ x2 < 20000 then
      ((md_push σ (σ 176 x2) (σ 177 x2)).bind fun p25 =>
        some (gW p25.1 119 124 (w32 ((p25.1 119 124) - 1)), some 0))
      else none)
    else none)) := Lm.eqn (md_works_b109_l ..) (.ite (.bind (md_reads_l ..) fun p1 => .cst) (.ite (.ite (.bind (md_begun_l ..) fun p2 => (.ite .cst (.ite (.ite (.bind (md_sets_l ..) fun p3 => .cst) .cst) .cst))) .cst) (.ite (.bind (md_eitherOrBoth_l ..) fun p4 => .xtry (fun v5 => .cst) .cst) (.ite (.bind (md_eitherOrBoth_l ..) fun p6 => .xtry (fun v7 => .cst) .cst) (.ite (.ite (.bind (md_begun_l ..) fun p8 => (.ite .cst (.bind (md_truth_l ..) fun p9 => .xtry (fun v10 => (.ite (md_works_b335_l ..) (md_works_b335_l ..))) .cst))) .cst) (.ite (.bind (md_gets_l ..) fun p11 => .xtry (fun v12 => .cst) .cst) (.ite (.bind (md_puts_l ..) fun p13 => .xtry (fun v14 => .cst) .cst) (.ite (.bind (md_calls_l ..) fun p15 => .xtry (fun v16 => .cst) .cst) (.ite (.ite (.bind (md_begun_l ..) fun p17 => (.ite .cst (.bind (md_choice_l ..) fun p18 => .xtry (fun v19 => (.ite (.ite (md_works_b415_l ..) .cst) (.ite (md_works_b415_l ..) .cst))) .cst))) .cst) (.ite (.bind (md_repeats_l ..) fun p20 => .xtry (fun v21 => .cst) .cst) (.ite (.ite (.ite (.bind (md_comesBack_l ..) fun p24 => .cst) (.ite (.bind (md_begun_l ..) fun p22 => (.ite .cst (.ite (.ite (.bind (md_comesBack_l ..) fun p23 => .cst) .cst) .cst))) .cst)) .cst) (.ite (md_works_b509_l ..) (.ite (md_works_b509_l ..) (.ite (.ite (.bind (md_push_l ..) fun p25 => .cst) .cst) .cst)))))))))))))) fun n => (rfl)
theorem md_works_b335_e (σ : gM) (y0 y1 : Int) : md_works_b335 σ y0 y1 =
  ((md_push σ y1 y0).bind fun p1 =>
  some (gW p1.1 119 124 (w32 ((p1.1 119 124) - 1)), some 0)) := Lm.eqn (md_works_b335_l ..) (.bind (md_push_l ..) fun p1 => .cst) fun n => (rfl)
theorem md_works_b415_e (σ : gM) (y0 : Int) : md_works_b415 σ y0 =
  ((md_task (gW σ 119 124 (w32 ((σ 119 124) - 1))) (-2) y0).bind fun p1 =>
  some (p1.1, some 0)) := Lm.eqn (md_works_b415_l ..) (.bind (md_task_l ..) fun p1 => .cst) fun n => (rfl)
theorem md_works_b509_e (σ : gM) (x3 : Int) : md_works_b509 σ x3 =
  (if 0 ≤ w32 ((σ 119 124) - 1) ∧ w32 ((σ 119 124) - 1) < 42000 then
  (if σ 218 (w32 ((σ 119 124) - 1)) < 0 then
    (md_works_b544 σ x3)
    else
    (if 0 ≤ w32 ((σ 119 124) - 1) ∧ w32 ((σ 119 124) - 1) < 42000 then
      (if 0 ≤ σ 218 (w32 ((σ 119 124) - 1)) ∧ σ 218 (w32 ((σ 119 124) - 1)) < 20000 then
        (if σ 168 (σ 218 (w32 ((σ 119 124) - 1))) = 25 then
          (if x3 = 27 then
            (some (gW σ 119 124 (w32 ((σ 119 124) - 1)), some 0))
            else
            (some (σ, some 0)))
          else
          (md_works_b544 σ x3))
        else none)
      else none))
  else none) := Lm.eqn (md_works_b509_l ..) (.ite (.ite (md_works_b544_l ..) (.ite (.ite (.ite (.ite .cst .cst) (md_works_b544_l ..)) .cst) .cst)) .cst) fun n => (rfl)
theorem md_works_b544_e (σ : gM) (x3 : Int) : md_works_b544 σ x3 =
  (md_works_b509 (gW σ 119 124 (w32 ((σ 119 124) - 1))) x3) := Lm.eqn (md_works_b544_l ..) (md_works_b509_l ..) fun n => (rfl)
def k_md_work : List gC := [(0, 1, .aload_n 0, [], none), (1, 3, .getfield 710, [], none), (4, 1, .iconst 1, [], none), (5, 1, .isub, [], none),
  (6, 1, .istore_n 1, [], none), (7, 1, .aload_n 0, [], none), (8, 3, .getfield 323, [], none), (11, 1, .iload_n 1, [], none),
  (12, 1, .iaload, [], none), (13, 1, .istore_n 2, [], none), (14, 1, .iload_n 2, [], none), (15, 1, .iconst (-1), [], none),
  (16, 3, .if_icmp .ne 26, [(0, 42)], none), (19, 1, .aload_n 0, [], none), (20, 1, .dup, [], none), (21, 3, .getfield 707, [], none),
  (24, 1, .iconst 1, [], none), (25, 1, .isub, [], none), (26, 3, .putfield 707, [], none), (29, 1, .aload_n 0, [], none),
  (30, 1, .dup, [], none), (31, 3, .getfield 710, [], none), (34, 1, .iconst 1, [], none), (35, 1, .isub, [], none),
  (36, 3, .putfield 710, [], none), (39, 3, .goto 29, [(0, 68)], none), (42, 1, .iload_n 2, [], none), (43, 2, .bipush (-2), [], none),
  (45, 3, .if_icmp .ne 11, [(0, 56)], none), (48, 1, .aload_n 0, [], none), (49, 1, .iload_n 1, [], none), (50, 3, .invokevirtual 778, [], none),
  (53, 3, .goto 15, [(0, 68)], none), (56, 1, .aload_n 0, [], none), (57, 1, .iload_n 1, [], none), (58, 1, .iload_n 2, [], none),
  (59, 1, .aload_n 0, [], none), (60, 3, .getfield 164, [], none), (63, 1, .iload_n 2, [], none), (64, 1, .iaload, [], none),
  (65, 3, .invokevirtual 781, [], none), (68, 1, .return_, [], none)]
def e_md_work (m : Nat) : gE := (k_md_work, f_md, c_md, [(778, 2, 20, 5, .inr (fn_md_row m)), (781, 4, 20, 5, .inr (fn_md_works m))], [], (m, 1460630492754940574261459347521383046168972890143396542775251013871930095817591906660324580786219022306741124725324011047047762964441938338833147037006011939006981326516817629122920448), 5)
theorem ok_md_work : gchk cX10_work 3 k_md_work = true := by decide +kernel
def fn_md_work (m : Nat) : gFt := gG (e_md_work m) 3
theorem mo_md_work (m : Nat) : gMo (.inr (fn_md_work m)) := gG_mo (E := e_md_work m) ⟨mo_md_row m, ⟨mo_md_works m, trivial⟩⟩
noncomputable def md_work (σ : gM) : Option (gM × Option Int) := lim (fun n => fn_md_work 227 n [(2, 119)] σ)
theorem md_work_l (σ : gM) : Lm (fun n => fn_md_work 227 n [(2, 119)] σ) (md_work σ) := .of fun n => mo_md_work 227 n [(2, 119)] σ
theorem md_work_e (σ : gM) : md_work σ =
  (if 0 ≤ w32 ((σ 119 124) - 1) ∧ w32 ((σ 119 124) - 1) < 42000 then
  (if σ 218 (w32 ((σ 119 124) - 1)) = (-1) then
    (some (gW (gW σ 119 125 (w32 ((σ 119 125) - 1))) 119 124 (w32 ((σ 119 124) - 1)), some 0))
    else
    (if σ 218 (w32 ((σ 119 124) - 1)) = (-2) then
      ((md_row σ (w32 ((σ 119 124) - 1))).bind fun p3 => gtry p3.2 (fun v4 =>
        some (p3.1, some 0))
        (some (p3.1, none)))
      else
      (if 0 ≤ σ 218 (w32 ((σ 119 124) - 1)) ∧ σ 218 (w32 ((σ 119 124) - 1)) < 20000 then
        ((md_works σ (w32 ((σ 119 124) - 1)) (σ 218 (w32 ((σ 119 124) - 1))) (σ 168 (σ 218 (w32 ((σ 119 124) - 1))))).bind fun p1 => gtry p1.2 (fun v2 =>
          some (p1.1, some 0))
          (some (p1.1, none)))
        else none)))
  else none) := Lm.eqn (md_work_l ..) (.ite (.ite .cst (.ite (.bind (md_row_l ..) fun p3 => .xtry (fun v4 => .cst) .cst) (.ite (.bind (md_works_l ..) fun p1 => .xtry (fun v2 => .cst) .cst) .cst))) .cst) fun n => (rfl)
def k_md_goOn : List gC := [(0, 1, .aload_n 0, [], none), (1, 1, .iconst 0, [], none), (2, 3, .putfield 713, [], none), (5, 1, .aload_n 0, [], none),
  (6, 1, .iload_n 1, [], none), (7, 3, .putfield 716, [], none), (10, 1, .aload_n 0, [], none), (11, 1, .iconst 0, [], none),
  (12, 3, .putfield 719, [], none), (15, 1, .aload_n 0, [], some [true, false, false]), (16, 3, .getfield 772, [], none), (19, 1, .iconst 1, [], none),
  (20, 3, .if_icmp .ne 17, [(0, 37)], none), (23, 1, .aload_n 0, [], none), (24, 3, .getfield 719, [], none), (27, 3, .ifCond .ne 10, [(0, 37)], none),
  (30, 1, .aload_n 0, [], none), (31, 3, .invokevirtual 941, [], none), (34, 3, .goto (-19), [(0, 15)], none), (37, 3, .goto 9, [(0, 46)], some [true, false, false]),
  (40, 1, .astore_n 2, [], none), (41, 1, .aload_n 0, [], none), (42, 1, .iconst 3, [], none), (43, 3, .putfield 772, [], none),
  (46, 1, .aload_n 0, [], some [true, false, false]), (47, 3, .getfield 772, [], none), (50, 1, .iconst 1, [], none), (51, 3, .if_icmp .eq 8, [(0, 59)], none),
  (54, 1, .aload_n 0, [], none), (55, 1, .iconst 0, [], none), (56, 3, .putfield 685, [], none), (59, 1, .return_, [], none)]
def e_md_goOn (m : Nat) : gE := (k_md_goOn, f_md, c_md, [(941, 1, 20, 5, .inr (fn_md_work m))], [(15, 37, 40)], (m, 1460630493249601377207668415642388088208267270213659240977674693700056208003386356873388315126851824429227214704519353899080041643144668407446649456941104249210767662350031173420318720), 5)
theorem ok_md_goOn : gchk cX10_goOn 3 k_md_goOn = true := by decide +kernel
def fn_md_goOn (m : Nat) : gFn := gF (e_md_goOn m) 3
theorem mo_md_goOn (m : Nat) : gMo (.inl (fn_md_goOn m)) := gF_mo (E := e_md_goOn m) ⟨mo_md_work m, trivial⟩
noncomputable def md_goOn (σ : gM) (x1 : Int) : Option (gM × Int) := lim (fun n => fn_md_goOn 227 n [(2, 119), (0, x1)] σ)
theorem md_goOn_l (σ : gM) (x1 : Int) : Lm (fun n => fn_md_goOn 227 n [(2, 119), (0, x1)] σ) (md_goOn σ x1) := .of fun n => mo_md_goOn 227 n [(2, 119), (0, x1)] σ
theorem mb_md_goOn : gMos (e_md_goOn 227).2.2.2.1 := ⟨mo_md_work 227, trivial⟩
noncomputable def md_goOn_b15 (σ : gM) : Option (gM × Int) := lim (fun n => gB (e_md_goOn 227) rF tF n 15 [(2, 119), (9, 0), (9, 0)] [] σ)
theorem md_goOn_b15_l (σ : gM) : Lm (fun n => gB (e_md_goOn 227) rF tF n 15 [(2, 119), (9, 0), (9, 0)] [] σ) (md_goOn_b15 σ) := .of fun n => gB_le (gMos_spec (mb_md_goOn)) n _ _ _ σ
noncomputable def md_goOn_b37 (σ : gM) : Option (gM × Int) := lim (fun n => gB (e_md_goOn 227) rF tF n 37 [(2, 119), (9, 0), (9, 0)] [] σ)
theorem md_goOn_b37_l (σ : gM) : Lm (fun n => gB (e_md_goOn 227) rF tF n 37 [(2, 119), (9, 0), (9, 0)] [] σ) (md_goOn_b37 σ) := .of fun n => gB_le (gMos_spec (mb_md_goOn)) n _ _ _ σ
noncomputable def md_goOn_b46 (σ : gM) : Option (gM × Int) := lim (fun n => gB (e_md_goOn 227) rF tF n 46 [(2, 119), (9, 0), (9, 0)] [] σ)
theorem md_goOn_b46_l (σ : gM) : Lm (fun n => gB (e_md_goOn 227) rF tF n 46 [(2, 119), (9, 0), (9, 0)] [] σ) (md_goOn_b46 σ) := .of fun n => gB_le (gMos_spec (mb_md_goOn)) n _ _ _ σ
theorem md_goOn_e (σ : gM) (x1 : Int) : md_goOn σ x1 =
  (md_goOn_b15 (gW (gW (gW σ 119 119 0) 119 120 x1) 119 127 0)) := Lm.eqn (md_goOn_l ..) (md_goOn_b15_l ..) fun n => (rfl)
theorem md_goOn_b15_e (σ : gM) : md_goOn_b15 σ =
  (if σ 119 117 = 1 then
  (if σ 119 127 = 0 then
    ((md_work σ).bind fun p1 => gtry p1.2 (fun v2 =>
      md_goOn_b15 p1.1)
      (md_goOn_b46 (gW p1.1 119 117 3)))
    else
    (md_goOn_b37 σ))
  else
  (md_goOn_b37 σ)) := Lm.eqn (md_goOn_b15_l ..) (.ite (.ite (.bind (md_work_l ..) fun p1 => .xtry (fun v2 => (md_goOn_b15_l ..)) (md_goOn_b46_l ..)) (md_goOn_b37_l ..)) (md_goOn_b37_l ..)) fun n => (rfl)
theorem md_goOn_b37_e (σ : gM) : md_goOn_b37 σ =
  (md_goOn_b46 σ) := Lm.eqn (md_goOn_b37_l ..) (md_goOn_b46_l ..) fun n => (rfl)
theorem md_goOn_b46_e (σ : gM) : md_goOn_b46 σ =
  (if σ 119 117 = 1 then
  (some (σ, 0))
  else
  (some (gW σ 119 121 0, 0))) := Lm.eqn (md_goOn_b46_l ..) (.ite .cst .cst) fun n => (rfl)
def k_md_start : List gC := [(0, 1, .aload_n 0, [], none), (1, 1, .aload_n 0, [], none), (2, 3, .ldc_w 936, [], none), (5, 3, .invokevirtual 586, [], none),
  (8, 3, .invokevirtual 589, [], none), (11, 2, .istore 5, [], none), (13, 1, .aload_n 0, [], none), (14, 3, .getfield 128, [], none),
  (17, 2, .iload 5, [], none), (19, 1, .iaload, [], none), (20, 3, .ifCond .ge 5, [(0, 25)], none), (23, 1, .iconst 0, [], none),
  (24, 1, .ireturn, [], none), (25, 1, .aload_n 0, [], none), (26, 3, .invokevirtual 930, [], none), (29, 1, .aload_n 0, [], none),
  (30, 1, .iconst 1, [], none), (31, 3, .putfield 772, [], none), (34, 1, .aload_n 0, [], none), (35, 1, .iconst 0, [], none),
  (36, 3, .putfield 710, [], none), (39, 1, .aload_n 0, [], none), (40, 1, .iconst 0, [], none), (41, 3, .putfield 707, [], none),
  (44, 1, .aload_n 0, [], none), (45, 1, .iconst 0, [], none), (46, 3, .putfield 688, [], none), (49, 1, .aload_n 0, [], none),
  (50, 1, .iconst 0, [], none), (51, 3, .putfield 844, [], none), (54, 1, .aload_n 0, [], none), (55, 2, .ldc 206, [], none),
  (57, 3, .putfield 389, [], none), (60, 1, .aload_n 0, [], none), (61, 1, .iconst 0, [], none), (62, 3, .putfield 386, [], none),
  (65, 1, .iconst 0, [], none), (66, 2, .istore 6, [], none), (68, 2, .iload 6, [], some [true, true, false, true, false, true, true]), (70, 3, .sipush 16384, [], none),
  (73, 3, .if_icmp .ge 17, [(0, 90)], none), (76, 1, .aload_n 0, [], none), (77, 3, .getfield 38, [], none), (80, 2, .iload 6, [], none),
  (82, 1, .iconst (-1), [], none), (83, 1, .iastore, [], none), (84, 3, .iinc 6 1, [], none), (87, 3, .goto (-19), [(0, 68)], none),
  (90, 1, .aload_n 0, [], none), (91, 3, .sipush 2000, [], none), (94, 3, .putfield 851, [], none), (97, 1, .aload_n 0, [], none),
  (98, 1, .iconst 5, [], none), (99, 2, .iload 5, [], none), (101, 1, .i2l, [], none), (102, 3, .invokevirtual 762, [], none),
  (105, 1, .aload_n 0, [], none), (106, 1, .iconst 2, [], none), (107, 1, .lload_n 1, [], none), (108, 3, .invokevirtual 762, [], none),
  (111, 1, .aload_n 0, [], none), (112, 1, .iconst 2, [], none), (113, 1, .lload_n 3, [], none), (114, 3, .invokevirtual 762, [], none),
  (117, 1, .aload_n 0, [], none), (118, 1, .aload_n 0, [], none), (119, 3, .getfield 128, [], none), (122, 2, .iload 5, [], none),
  (124, 1, .iaload, [], none), (125, 1, .iconst 0, [], none), (126, 1, .iconst 2, [], none), (127, 1, .iconst (-1), [], none),
  (128, 3, .invokevirtual 906, [], none), (131, 1, .aload_n 0, [], none), (132, 1, .iconst 0, [], none), (133, 3, .invokevirtual 938, [], none),
  (136, 1, .iconst 1, [], none), (137, 1, .ireturn, [], none)]
def e_md_start (m : Nat) : gE := (k_md_start, f_md, c_md, [(586, 2, 20, 0, .inl (fn_md_keep m)), (589, 2, 20, 0, .inl (fn_md_functionOf m)), (930, 1, 20, 5, .inl (fn_md_noRun m)), (762, 3, 20, 5, .inl (fn_md_push m)), (906, 5, 20, 5, .inl (fn_md_activate m)), (938, 2, 20, 5, .inl (fn_md_goOn m))], [], (m, 1460630493249601377207668415642388088208267270213659240977674693700056208003386356873388315126851824429227214704519353899080041643144668407446649456941104249210767662350031173420318720), 6)
theorem ok_md_start : gchk cX10_start 7 k_md_start = true := by decide +kernel
def fn_md_start (m : Nat) : gFn := gF (e_md_start m) 7
theorem mo_md_start (m : Nat) : gMo (.inl (fn_md_start m)) := gF_mo (E := e_md_start m) ⟨mo_md_keep m, ⟨mo_md_functionOf m, ⟨mo_md_noRun m, ⟨mo_md_push m, ⟨mo_md_activate m, ⟨mo_md_goOn m, trivial⟩⟩⟩⟩⟩⟩
noncomputable def md_start (σ : gM) (x1 x3 : Int) : Option (gM × Int) := lim (fun n => fn_md_start 227 n [(2, 119), (1, x1), (1, x3)] σ)
theorem md_start_l (σ : gM) (x1 x3 : Int) : Lm (fun n => fn_md_start 227 n [(2, 119), (1, x1), (1, x3)] σ) (md_start σ x1 x3) := .of fun n => mo_md_start 227 n [(2, 119), (1, x1), (1, x3)] σ
theorem mb_md_start : gMos (e_md_start 227).2.2.2.1 := ⟨mo_md_keep 227, ⟨mo_md_functionOf 227, ⟨mo_md_noRun 227, ⟨mo_md_push 227, ⟨mo_md_activate 227, ⟨mo_md_goOn 227, trivial⟩⟩⟩⟩⟩⟩
noncomputable def md_start_b68 (σ : gM) (x1 x3 x5 x6 : Int) : Option (gM × Int) := lim (fun n => gB (e_md_start 227) rF tF n 68 [(2, 119), (1, x1), (9, 0), (1, x3), (9, 0), (0, x5), (0, x6)] [] σ)
theorem md_start_b68_l (σ : gM) (x1 x3 x5 x6 : Int) : Lm (fun n => gB (e_md_start 227) rF tF n 68 [(2, 119), (1, x1), (9, 0), (1, x3), (9, 0), (0, x5), (0, x6)] [] σ) (md_start_b68 σ x1 x3 x5 x6) := .of fun n => gB_le (gMos_spec (mb_md_start)) n _ _ _ σ
theorem md_start_e (σ : gM) (x1 x3 : Int) : md_start σ x1 x3 =
  ((md_keep σ 0).bind fun p1 =>
  (md_functionOf p1.1 p1.2).bind fun p2 =>
  if 0 ≤ p2.2 ∧ p2.2 < 9000 then
  (if p2.1 156 p2.2 < 0 then
    (some (p2.1, 0))
    else
    ((md_noRun p2.1).bind fun p3 =>
      md_start_b68 (gW (gW (gW (gW (gW (gW (gW p3.1 119 117 1) 119 124 0) 119 125 0) 119 123 0) 119 11 0) 119 12 60000) 119 13 0) x1 x3 p2.2 0))
  else none) := Lm.eqn (md_start_l ..) (.bind (md_keep_l ..) fun p1 => (.bind (md_functionOf_l ..) fun p2 => (.ite (.ite .cst (.bind (md_noRun_l ..) fun p3 => (md_start_b68_l ..))) .cst))) fun n => (rfl)
theorem md_start_b68_e (σ : gM) (x1 x3 x5 x6 : Int) : md_start_b68 σ x1 x3 x5 x6 =
  (if x6 < 16384 then
  (if 0 ≤ x6 ∧ x6 < 16384 then
    (md_start_b68 (gW σ 127 x6 (-1)) x1 x3 x5 (w32 (x6 + 1)))
    else none)
  else
  ((md_push (gW σ 119 16 2000) 5 x5).bind fun p1 =>
    (md_push p1.1 2 x1).bind fun p2 =>
    (md_push p2.1 2 x3).bind fun p3 =>
    if 0 ≤ x5 ∧ x5 < 9000 then
    ((md_activate p3.1 (p3.1 156 x5) 0 2 (-1)).bind fun p4 =>
      (md_goOn p4.1 0).bind fun p5 =>
      some (p5.1, 1))
    else none)) := Lm.eqn (md_start_b68_l ..) (.ite (.ite (md_start_b68_l ..) .cst) (.bind (md_push_l ..) fun p1 => (.bind (md_push_l ..) fun p2 => (.bind (md_push_l ..) fun p3 => (.ite (.bind (md_activate_l ..) fun p4 => (.bind (md_goOn_l ..) fun p5 => .cst)) .cst))))) fun n => (rfl)
def k_md_run : List gC := [(0, 1, .aload_n 0, [], none), (1, 3, .getfield 772, [], none), (4, 1, .iconst 1, [], none), (5, 3, .if_icmp .ne 8, [(0, 13)], none),
  (8, 1, .iload_n 1, [], none), (9, 1, .iconst 1, [], none), (10, 3, .if_icmp .ge 5, [(0, 15)], none), (13, 1, .iconst 0, [], none),
  (14, 1, .ireturn, [], none), (15, 1, .aload_n 0, [], none), (16, 1, .iload_n 1, [], none), (17, 3, .invokevirtual 938, [], none),
  (20, 1, .aload_n 0, [], none), (21, 3, .getfield 713, [], none), (24, 1, .ireturn, [], none)]
def e_md_run (m : Nat) : gE := (k_md_run, f_md, c_md, [(938, 2, 20, 5, .inl (fn_md_goOn m))], [], (m, 1460630493249601377207668415642388088208267270213659240977674693700056208003386356873388315126851824429227214704519353899080041643144668407446649456941104249210767662350031173420318720), 0)
theorem ok_md_run : gchk cX10_run 2 k_md_run = true := by decide +kernel
def fn_md_run (m : Nat) : gFn := gF (e_md_run m) 2
theorem mo_md_run (m : Nat) : gMo (.inl (fn_md_run m)) := gF_mo (E := e_md_run m) ⟨mo_md_goOn m, trivial⟩
noncomputable def md_run (σ : gM) (x1 : Int) : Option (gM × Int) := lim (fun n => fn_md_run 227 n [(2, 119), (0, x1)] σ)
theorem md_run_l (σ : gM) (x1 : Int) : Lm (fun n => fn_md_run 227 n [(2, 119), (0, x1)] σ) (md_run σ x1) := .of fun n => mo_md_run 227 n [(2, 119), (0, x1)] σ
theorem md_run_e (σ : gM) (x1 : Int) : md_run σ x1 =
  (if σ 119 117 = 1 then
  (if x1 < 1 then
    (some (σ, 0))
    else
    ((md_goOn σ x1).bind fun p1 =>
      some (p1.1, p1.1 119 119)))
  else
  (some (σ, 0))) := Lm.eqn (md_run_l ..) (.ite (.ite .cst (.bind (md_goOn_l ..) fun p1 => .cst)) .cst) fun n => (rfl)
def k_md_state : List gC := [(0, 1, .aload_n 0, [], none), (1, 3, .getfield 772, [], none), (4, 1, .ireturn, [], none)]
def e_md_state (m : Nat) : gE := (k_md_state, f_md, c_md, [], [], (m, 0), 0)
theorem ok_md_state : gchk cX10_state 1 k_md_state = true := by decide +kernel
def fn_md_state (m : Nat) : gFn := gF (e_md_state m) 1
theorem mo_md_state (m : Nat) : gMo (.inl (fn_md_state m)) := gF_mo (E := e_md_state m) trivial
noncomputable def md_state (σ : gM) : Option (gM × Int) := lim (fun n => fn_md_state 227 n [(2, 119)] σ)
theorem md_state_l (σ : gM) : Lm (fun n => fn_md_state 227 n [(2, 119)] σ) (md_state σ) := .of fun n => mo_md_state 227 n [(2, 119)] σ
theorem md_state_e (σ : gM) : md_state σ =
  (some (σ, σ 119 117)) := Lm.eqn (md_state_l ..) .cst fun n => (rfl)
def k_md_error_2 : List gC := [(0, 1, .aload_n 0, [], none), (1, 3, .getfield 772, [], none), (4, 1, .iconst 3, [], none), (5, 3, .if_icmp .eq 7, [(0, 12)], none),
  (8, 1, .iconst (-1), [], none), (9, 3, .goto 39, [(0, 48)], none), (12, 1, .iload_n 1, [], none), (13, 3, .ifCond .ne 10, [(0, 23)], none),
  (16, 1, .aload_n 0, [], none), (17, 3, .getfield 704, [], none), (20, 3, .goto 28, [(0, 48)], none), (23, 1, .iload_n 1, [], none),
  (24, 1, .iconst 1, [], none), (25, 3, .if_icmp .ne 10, [(0, 35)], none), (28, 1, .aload_n 0, [], none), (29, 3, .getfield 285, [], none),
  (32, 3, .goto 16, [(0, 48)], none), (35, 1, .iload_n 1, [], none), (36, 1, .iconst 2, [], none), (37, 3, .if_icmp .ne 10, [(0, 47)], none),
  (40, 1, .aload_n 0, [], none), (41, 3, .getfield 289, [], none), (44, 3, .goto 4, [(0, 48)], none), (47, 1, .iconst (-1), [], none),
  (48, 1, .ireturn, [], none)]
def e_md_error_2 (m : Nat) : gE := (k_md_error_2, f_md, c_md, [], [], (m, 0), 0)
theorem ok_md_error_2 : gchk cX10_error_2 2 k_md_error_2 = true := by decide +kernel
def fn_md_error_2 (m : Nat) : gFn := gF (e_md_error_2 m) 2
theorem mo_md_error_2 (m : Nat) : gMo (.inl (fn_md_error_2 m)) := gF_mo (E := e_md_error_2 m) trivial
noncomputable def md_error_2 (σ : gM) (x1 : Int) : Option (gM × Int) := lim (fun n => fn_md_error_2 227 n [(2, 119), (0, x1)] σ)
theorem md_error_2_l (σ : gM) (x1 : Int) : Lm (fun n => fn_md_error_2 227 n [(2, 119), (0, x1)] σ) (md_error_2 σ x1) := .of fun n => mo_md_error_2 227 n [(2, 119), (0, x1)] σ
theorem md_error_2_e (σ : gM) (x1 : Int) : md_error_2 σ x1 =
  (if σ 119 117 = 3 then
  (if x1 = 0 then
    (some (σ, σ 119 128))
    else
    (if x1 = 1 then
      (some (σ, σ 119 129))
      else
      (if x1 = 2 then
        (some (σ, σ 119 130))
        else
        (some (σ, (-1))))))
  else
  (some (σ, (-1)))) := Lm.eqn (md_error_2_l ..) (.ite (.ite .cst (.ite .cst (.ite .cst .cst))) .cst) fun n => (rfl)
def k_md_result : List gC := [(0, 1, .aload_n 0, [], none), (1, 3, .getfield 772, [], none), (4, 1, .iconst 2, [], none), (5, 3, .if_icmp .eq 5, [(0, 10)], none),
  (8, 1, .iconst (-1), [], none), (9, 1, .ireturn, [], none), (10, 1, .aload_n 0, [], none), (11, 1, .iconst 0, [], none),
  (12, 3, .putfield 854, [], none), (15, 1, .aload_n 0, [], none), (16, 1, .aload_n 0, [], none), (17, 3, .getfield 766, [], none),
  (20, 1, .aload_n 0, [], none), (21, 3, .getfield 769, [], none), (24, 3, .invokevirtual 868, [], none), (27, 1, .iload_n 1, [], none),
  (28, 3, .ifCond .lt 20, [(0, 48)], none), (31, 1, .iload_n 1, [], none), (32, 1, .aload_n 0, [], none), (33, 3, .getfield 854, [], none),
  (36, 3, .if_icmp .ge 12, [(0, 48)], none), (39, 1, .aload_n 0, [], none), (40, 3, .getfield 344, [], none), (43, 1, .iload_n 1, [], none),
  (44, 1, .baload, [], none), (45, 3, .goto 4, [(0, 49)], none), (48, 1, .iconst (-1), [], none), (49, 1, .ireturn, [], none)]
def e_md_result (m : Nat) : gE := (k_md_result, f_md, c_md, [(868, 3, 20, 5, .inl (fn_md_show m))], [], (m, 1062275985633534197379176413104937254659186235454063846398888276400807119721704485478325004530458571337778658972493055950586492976585003812849216038488723503807288403063393235893223424), 0)
theorem ok_md_result : gchk cX10_result 2 k_md_result = true := by decide +kernel
def fn_md_result (m : Nat) : gFn := gF (e_md_result m) 2
theorem mo_md_result (m : Nat) : gMo (.inl (fn_md_result m)) := gF_mo (E := e_md_result m) ⟨mo_md_show m, trivial⟩
noncomputable def md_result (σ : gM) (x1 : Int) : Option (gM × Int) := lim (fun n => fn_md_result 227 n [(2, 119), (0, x1)] σ)
theorem md_result_l (σ : gM) (x1 : Int) : Lm (fun n => fn_md_result 227 n [(2, 119), (0, x1)] σ) (md_result σ x1) := .of fun n => mo_md_result 227 n [(2, 119), (0, x1)] σ
theorem md_result_e (σ : gM) (x1 : Int) : md_result σ x1 =
  (if σ 119 117 = 2 then
  ((md_show (gW σ 119 151 0) (σ 119 148) (σ 119 149)).bind fun p1 =>
    if x1 < 0 then
    (some (p1.1, (-1)))
    else
    (if x1 < p1.1 119 151 then
      (if 0 ≤ x1 ∧ x1 < 420 then
        (some (p1.1, p1.1 225 x1))
        else none)
      else
      (some (p1.1, (-1)))))
  else
  (some (σ, (-1)))) := Lm.eqn (md_result_l ..) (.ite (.bind (md_show_l ..) fun p1 => (.ite .cst (.ite (.ite .cst .cst) .cst))) .cst) fun n => (rfl)
def k_md_out : List gC := [(0, 1, .iload_n 1, [], none), (1, 3, .ifCond .lt 27, [(0, 28)], none), (4, 1, .iload_n 1, [], none), (5, 1, .aload_n 0, [], none),
  (6, 3, .getfield 919, [], none), (9, 3, .if_icmp .ge 19, [(0, 28)], none), (12, 1, .iload_n 1, [], none), (13, 3, .sipush 2000, [], none),
  (16, 3, .if_icmp .ge 12, [(0, 28)], none), (19, 1, .aload_n 0, [], none), (20, 3, .getfield 338, [], none), (23, 1, .iload_n 1, [], none),
  (24, 1, .baload, [], none), (25, 3, .goto 4, [(0, 29)], none), (28, 1, .iconst (-1), [], none), (29, 1, .ireturn, [], none)]
def e_md_out (m : Nat) : gE := (k_md_out, f_md, c_md, [], [], (m, 0), 0)
theorem ok_md_out : gchk cX10_out 2 k_md_out = true := by decide +kernel
def fn_md_out (m : Nat) : gFn := gF (e_md_out m) 2
theorem mo_md_out (m : Nat) : gMo (.inl (fn_md_out m)) := gF_mo (E := e_md_out m) trivial
noncomputable def md_out (σ : gM) (x1 : Int) : Option (gM × Int) := lim (fun n => fn_md_out 227 n [(2, 119), (0, x1)] σ)
theorem md_out_l (σ : gM) (x1 : Int) : Lm (fun n => fn_md_out 227 n [(2, 119), (0, x1)] σ) (md_out σ x1) := .of fun n => mo_md_out 227 n [(2, 119), (0, x1)] σ
theorem md_out_e (σ : gM) (x1 : Int) : md_out σ x1 =
  (if x1 < 0 then
  (some (σ, (-1)))
  else
  (if x1 < σ 119 126 then
    (if x1 < 2000 then
      (if 0 ≤ x1 ∧ x1 < 2000 then
        (some (σ, σ 223 x1))
        else none)
      else
      (some (σ, (-1))))
    else
    (some (σ, (-1))))) := Lm.eqn (md_out_l ..) (.ite .cst (.ite (.ite (.ite .cst .cst) .cst) .cst)) fun n => (rfl)
def k_md_root : List gC := [(0, 1, .iload_n 1, [], none), (1, 3, .ifCond .lt 11, [(0, 12)], none), (4, 1, .iload_n 1, [], none), (5, 1, .aload_n 0, [], none),
  (6, 3, .getfield 564, [], none), (9, 3, .if_icmp .lt 5, [(0, 14)], none), (12, 1, .iconst (-1), [], none), (13, 1, .ireturn, [], none),
  (14, 1, .iload_n 2, [], none), (15, 2, .bipush 9, [], none), (17, 3, .if_icmp .le 41, [(0, 58)], none), (20, 1, .iload_n 2, [], none),
  (21, 2, .bipush 22, [], none), (23, 3, .if_icmp .ge 35, [(0, 58)], none), (26, 1, .iload_n 2, [], none), (27, 2, .bipush 10, [], none),
  (29, 1, .isub, [], none), (30, 1, .aload_n 0, [], none), (31, 3, .getfield 143, [], none), (34, 1, .iload_n 1, [], none),
  (35, 1, .iaload, [], none), (36, 3, .if_icmp .ge 20, [(0, 56)], none), (39, 1, .aload_n 0, [], none), (40, 3, .getfield 161, [], none),
  (43, 2, .bipush 12, [], none), (45, 1, .iload_n 1, [], none), (46, 1, .imul, [], none), (47, 1, .iload_n 2, [], none),
  (48, 1, .iadd, [], none), (49, 2, .bipush 10, [], none), (51, 1, .isub, [], none), (52, 1, .iaload, [], none),
  (53, 3, .goto 4, [(0, 57)], none), (56, 1, .iconst (-1), [], none), (57, 1, .ireturn, [], none), (58, 1, .iload_n 2, [], some [true, true, true, false]),
  (59, 2, .bipush 29, [], none), (61, 3, .if_icmp .le 24, [(0, 85)], none), (64, 1, .aload_n 0, [], none), (65, 1, .aload_n 0, [], none),
  (66, 3, .getfield 125, [], none), (69, 1, .aload_n 0, [], none), (70, 3, .getfield 131, [], none), (73, 1, .iload_n 1, [], none),
  (74, 1, .iaload, [], none), (75, 1, .iaload, [], none), (76, 1, .i2l, [], none), (77, 1, .iload_n 2, [], none),
  (78, 2, .bipush 30, [], none), (80, 1, .isub, [], none), (81, 3, .invokevirtual 857, [], none), (84, 1, .ireturn, [], none),
  (85, 1, .iload_n 2, [], none), (86, 46, .tableswitch 132 0 7 #[46, 53, 60, 67, 74, 81, 111, 125], [(0, 218), (0, 132), (1, 139), (2, 146), (3, 153), (4, 160), (5, 167), (6, 197), (7, 211)], none), (132, 1, .aload_n 0, [], none), (133, 3, .getfield 137, [], none),
  (136, 1, .iload_n 1, [], none), (137, 1, .iaload, [], none), (138, 1, .ireturn, [], none), (139, 1, .aload_n 0, [], none),
  (140, 3, .getfield 143, [], none), (143, 1, .iload_n 1, [], none), (144, 1, .iaload, [], none), (145, 1, .ireturn, [], none),
  (146, 1, .aload_n 0, [], none), (147, 3, .getfield 149, [], none), (150, 1, .iload_n 1, [], none), (151, 1, .iaload, [], none),
  (152, 1, .ireturn, [], none), (153, 1, .aload_n 0, [], none), (154, 3, .getfield 152, [], none), (157, 1, .iload_n 1, [], none),
  (158, 1, .iaload, [], none), (159, 1, .ireturn, [], none), (160, 1, .aload_n 0, [], none), (161, 3, .getfield 155, [], none),
  (164, 1, .iload_n 1, [], none), (165, 1, .iaload, [], none), (166, 1, .ireturn, [], none), (167, 1, .iconst 0, [], none),
  (168, 1, .istore_n 3, [], none), (169, 1, .iload_n 3, [], some [true, true, false, true]), (170, 1, .aload_n 0, [], none), (171, 3, .getfield 570, [], none),
  (174, 3, .if_icmp .ge 21, [(0, 195)], none), (177, 1, .aload_n 0, [], none), (178, 3, .getfield 216, [], none), (181, 1, .iload_n 3, [], none),
  (182, 1, .iaload, [], none), (183, 1, .iload_n 1, [], none), (184, 3, .if_icmp .ne 5, [(0, 189)], none), (187, 1, .iload_n 3, [], none),
  (188, 1, .ireturn, [], none), (189, 3, .iinc 3 1, [], none), (192, 3, .goto (-23), [(0, 169)], none), (195, 1, .iconst (-1), [], none),
  (196, 1, .ireturn, [], none), (197, 1, .aload_n 0, [], none), (198, 1, .iload_n 1, [], none), (199, 3, .invokevirtual 665, [], none),
  (202, 3, .ifCond .eq 7, [(0, 209)], none), (205, 1, .iconst 1, [], none), (206, 3, .goto 4, [(0, 210)], none), (209, 1, .iconst 0, [], none),
  (210, 1, .ireturn, [], none), (211, 1, .aload_n 0, [], none), (212, 3, .getfield 158, [], none), (215, 1, .iload_n 1, [], none),
  (216, 1, .iaload, [], none), (217, 1, .ireturn, [], none), (218, 1, .iconst (-1), [], none), (219, 1, .ireturn, [], none)]
def e_md_root (m : Nat) : gE := (k_md_root, f_md, c_md, [(857, 3, 20, 0, .inl (fn_md_letter m)), (665, 2, 20, 0, .inl (fn_md_isNewest m))], [], (m, 0), 0)
theorem ok_md_root : gchk cX10_root 4 k_md_root = true := by decide +kernel
def fn_md_root (m : Nat) : gFn := gF (e_md_root m) 4
theorem mo_md_root (m : Nat) : gMo (.inl (fn_md_root m)) := gF_mo (E := e_md_root m) ⟨mo_md_letter m, ⟨mo_md_isNewest m, trivial⟩⟩
noncomputable def md_root (σ : gM) (x1 x2 : Int) : Option (gM × Int) := lim (fun n => fn_md_root 227 n [(2, 119), (0, x1), (0, x2)] σ)
theorem md_root_l (σ : gM) (x1 x2 : Int) : Lm (fun n => fn_md_root 227 n [(2, 119), (0, x1), (0, x2)] σ) (md_root σ x1 x2) := .of fun n => mo_md_root 227 n [(2, 119), (0, x1), (0, x2)] σ
theorem mb_md_root : gMos (e_md_root 227).2.2.2.1 := ⟨mo_md_letter 227, ⟨mo_md_isNewest 227, trivial⟩⟩
noncomputable def md_root_b58 (σ : gM) (x1 x2 : Int) : Option (gM × Int) := lim (fun n => gB (e_md_root 227) rF tF n 58 [(2, 119), (0, x1), (0, x2), (9, 0)] [] σ)
theorem md_root_b58_l (σ : gM) (x1 x2 : Int) : Lm (fun n => gB (e_md_root 227) rF tF n 58 [(2, 119), (0, x1), (0, x2), (9, 0)] [] σ) (md_root_b58 σ x1 x2) := .of fun n => gB_le (gMos_spec (mb_md_root)) n _ _ _ σ
noncomputable def md_root_b169 (σ : gM) (x1 x3 : Int) : Option (gM × Int) := lim (fun n => gB (e_md_root 227) rF tF n 169 [(2, 119), (0, x1), (9, 0), (0, x3)] [] σ)
theorem md_root_b169_l (σ : gM) (x1 x3 : Int) : Lm (fun n => gB (e_md_root 227) rF tF n 169 [(2, 119), (0, x1), (9, 0), (0, x3)] [] σ) (md_root_b169 σ x1 x3) := .of fun n => gB_le (gMos_spec (mb_md_root)) n _ _ _ σ
theorem md_root_e (σ : gM) (x1 x2 : Int) : md_root σ x1 x2 =
  (if x1 < 0 then
  (some (σ, (-1)))
  else
  (if x1 < σ 119 55 then
    (if 9 < x2 then
      (if x2 < 22 then
        (if 0 ≤ x1 ∧ x1 < 60 then
          (if w32 (x2 - 10) < σ 161 x1 then
            (if 0 ≤ w32 ((w32 ((w32 (12 * x1)) + x2)) - 10) ∧ w32 ((w32 ((w32 (12 * x1)) + x2)) - 10) < 720 then
              (some (σ, σ 167 (w32 ((w32 ((w32 (12 * x1)) + x2)) - 10))))
              else none)
            else
            (some (σ, (-1))))
          else none)
        else
        (md_root_b58 σ x1 x2))
      else
      (md_root_b58 σ x1 x2))
    else
    (some (σ, (-1))))) := Lm.eqn (md_root_l ..) (.ite .cst (.ite (.ite (.ite (.ite (.ite (.ite .cst .cst) .cst) .cst) (md_root_b58_l ..)) (md_root_b58_l ..)) .cst)) fun n => (rfl)
theorem md_root_b58_e (σ : gM) (x1 x2 : Int) : md_root_b58 σ x1 x2 =
  (if 29 < x2 then
  (if 0 ≤ x1 ∧ x1 < 60 then
    (if 0 ≤ σ 157 x1 ∧ σ 157 x1 < 9000 then
      ((md_letter σ (σ 155 (σ 157 x1)) (w32 (x2 - 30))).bind fun p2 =>
        some (p2.1, p2.2))
      else none)
    else none)
  else
  (if x2 = 0 then
    (if 0 ≤ x1 ∧ x1 < 60 then
      (some (σ, σ 159 x1))
      else none)
    else if x2 = 1 then
    (if 0 ≤ x1 ∧ x1 < 60 then
      (some (σ, σ 161 x1))
      else none)
    else if x2 = 2 then
    (if 0 ≤ x1 ∧ x1 < 60 then
      (some (σ, σ 163 x1))
      else none)
    else if x2 = 3 then
    (if 0 ≤ x1 ∧ x1 < 60 then
      (some (σ, σ 164 x1))
      else none)
    else if x2 = 4 then
    (if 0 ≤ x1 ∧ x1 < 60 then
      (some (σ, σ 165 x1))
      else none)
    else if x2 = 5 then
    (md_root_b169 σ x1 0)
    else if x2 = 6 then
    ((md_isNewest σ x1).bind fun p1 =>
      if p1.2 = 0 then
      (some (p1.1, 0))
      else
      (some (p1.1, 1)))
    else if x2 = 7 then
    (if 0 ≤ x1 ∧ x1 < 60 then
      (some (σ, σ 166 x1))
      else none)
    else (some (σ, (-1))))) := Lm.eqn (md_root_b58_l ..) (.ite (.ite (.ite (.bind (md_letter_l ..) fun p2 => .cst) .cst) .cst) (.ite (.ite .cst .cst) (.ite (.ite .cst .cst) (.ite (.ite .cst .cst) (.ite (.ite .cst .cst) (.ite (.ite .cst .cst) (.ite (md_root_b169_l ..) (.ite (.bind (md_isNewest_l ..) fun p1 => (.ite .cst .cst)) (.ite (.ite .cst .cst) .cst))))))))) fun n => (rfl)
theorem md_root_b169_e (σ : gM) (x1 x3 : Int) : md_root_b169 σ x1 x3 =
  (if x3 < σ 119 89 then
  (if 0 ≤ x3 ∧ x3 < 60 then
    (if σ 185 x3 = x1 then
      (some (σ, x3))
      else
      (md_root_b169 σ x1 (w32 (x3 + 1))))
    else none)
  else
  (some (σ, (-1)))) := Lm.eqn (md_root_b169_l ..) (.ite (.ite (.ite .cst (md_root_b169_l ..)) .cst) .cst) fun n => (rfl)
def k_md_node : List gC := [(0, 1, .iload_n 1, [], none), (1, 3, .ifCond .lt 25, [(0, 26)], none), (4, 1, .iload_n 1, [], none), (5, 1, .aload_n 0, [], none),
  (6, 3, .getfield 564, [], none), (9, 3, .if_icmp .ge 17, [(0, 26)], none), (12, 1, .iload_n 2, [], none), (13, 3, .ifCond .lt 13, [(0, 26)], none),
  (16, 1, .iload_n 2, [], none), (17, 1, .aload_n 0, [], none), (18, 3, .getfield 137, [], none), (21, 1, .iload_n 1, [], none),
  (22, 1, .iaload, [], none), (23, 3, .if_icmp .lt 5, [(0, 28)], none), (26, 1, .iconst (-1), [], none), (27, 1, .ireturn, [], none),
  (28, 1, .aload_n 0, [], none), (29, 3, .getfield 134, [], none), (32, 1, .iload_n 1, [], none), (33, 1, .iaload, [], none),
  (34, 1, .iload_n 2, [], none), (35, 1, .iadd, [], none), (36, 2, .istore 4, [], none), (38, 1, .aload_n 0, [], none),
  (39, 3, .getfield 164, [], none), (42, 2, .iload 4, [], none), (44, 1, .iaload, [], none), (45, 2, .bipush 21, [], none),
  (47, 3, .if_icmp .eq 27, [(0, 74)], none), (50, 1, .aload_n 0, [], none), (51, 3, .getfield 164, [], none), (54, 2, .iload 4, [], none),
  (56, 1, .iaload, [], none), (57, 2, .bipush 22, [], none), (59, 3, .if_icmp .eq 15, [(0, 74)], none), (62, 1, .aload_n 0, [], none),
  (63, 3, .getfield 164, [], none), (66, 2, .iload 4, [], none), (68, 1, .iaload, [], none), (69, 2, .bipush 23, [], none),
  (71, 3, .if_icmp .ne 7, [(0, 78)], none), (74, 1, .iconst 1, [], some [true, false, false, true, true, false]), (75, 3, .goto 4, [(0, 79)], none), (78, 1, .iconst 0, [], none),
  (79, 2, .istore 5, [], some [true, false, false, true, true, false]), (81, 1, .iload_n 3, [], none), (82, 1, .iconst 4, [], none), (83, 3, .if_icmp .le 45, [(0, 128)], none),
  (86, 1, .iload_n 3, [], none), (87, 2, .bipush 8, [], none), (89, 3, .if_icmp .ge 39, [(0, 128)], none), (92, 2, .iload 5, [], none),
  (94, 3, .ifCond .eq 32, [(0, 126)], none), (97, 1, .iload_n 3, [], none), (98, 1, .iconst 5, [], none), (99, 1, .isub, [], none),
  (100, 1, .aload_n 0, [], none), (101, 3, .getfield 203, [], none), (104, 2, .iload 4, [], none), (106, 1, .iaload, [], none),
  (107, 3, .if_icmp .ge 19, [(0, 126)], none), (110, 1, .aload_n 0, [], none), (111, 3, .getfield 207, [], none), (114, 1, .iconst 3, [], none),
  (115, 2, .iload 4, [], none), (117, 1, .imul, [], none), (118, 1, .iload_n 3, [], none), (119, 1, .iadd, [], none),
  (120, 1, .iconst 5, [], none), (121, 1, .isub, [], none), (122, 1, .iaload, [], none), (123, 3, .goto 4, [(0, 127)], none),
  (126, 1, .iconst (-1), [], none), (127, 1, .ireturn, [], none), (128, 1, .iload_n 3, [], some [true, false, false, true, true, true]), (129, 2, .bipush 7, [], none),
  (131, 3, .if_icmp .le 54, [(0, 185)], none), (134, 1, .iload_n 3, [], none), (135, 2, .bipush 11, [], none), (137, 3, .if_icmp .ge 48, [(0, 185)], none),
  (140, 1, .aload_n 0, [], none), (141, 3, .getfield 164, [], none), (144, 2, .iload 4, [], none), (146, 1, .iaload, [], none),
  (147, 2, .bipush 22, [], none), (149, 3, .if_icmp .ne 34, [(0, 183)], none), (152, 1, .iload_n 3, [], none), (153, 2, .bipush 8, [], none),
  (155, 1, .isub, [], none), (156, 1, .aload_n 0, [], none), (157, 3, .getfield 203, [], none), (160, 2, .iload 4, [], none),
  (162, 1, .iaload, [], none), (163, 3, .if_icmp .ge 20, [(0, 183)], none), (166, 1, .aload_n 0, [], none), (167, 3, .getfield 213, [], none),
  (170, 1, .iconst 3, [], none), (171, 2, .iload 4, [], none), (173, 1, .imul, [], none), (174, 1, .iload_n 3, [], none),
  (175, 1, .iadd, [], none), (176, 2, .bipush 8, [], none), (178, 1, .isub, [], none), (179, 1, .iaload, [], none),
  (180, 3, .goto 4, [(0, 184)], none), (183, 1, .iconst (-1), [], none), (184, 1, .ireturn, [], none), (185, 1, .iload_n 3, [], some [true, false, false, true, true, true]),
  (186, 62, .tableswitch 119 0 11 #[62, 70, 78, 86, 94, 119, 119, 119, 119, 119, 119, 111], [(0, 305), (0, 248), (1, 256), (2, 264), (3, 272), (4, 280), (11, 297)], none), (248, 1, .aload_n 0, [], none), (249, 3, .getfield 164, [], none), (252, 2, .iload 4, [], none),
  (254, 1, .iaload, [], none), (255, 1, .ireturn, [], none), (256, 1, .aload_n 0, [], none), (257, 3, .getfield 167, [], none),
  (260, 2, .iload 4, [], none), (262, 1, .iaload, [], none), (263, 1, .ireturn, [], none), (264, 1, .aload_n 0, [], none),
  (265, 3, .getfield 194, [], none), (268, 2, .iload 4, [], none), (270, 1, .iaload, [], none), (271, 1, .ireturn, [], none),
  (272, 1, .aload_n 0, [], none), (273, 3, .getfield 200, [], none), (276, 2, .iload 4, [], none), (278, 1, .iaload, [], none),
  (279, 1, .ireturn, [], none), (280, 2, .iload 5, [], none), (282, 3, .ifCond .eq 13, [(0, 295)], none), (285, 1, .aload_n 0, [], none),
  (286, 3, .getfield 203, [], none), (289, 2, .iload 4, [], none), (291, 1, .iaload, [], none), (292, 3, .goto 4, [(0, 296)], none),
  (295, 1, .iconst (-1), [], none), (296, 1, .ireturn, [], none), (297, 1, .aload_n 0, [], none), (298, 3, .getfield 185, [], none),
  (301, 2, .iload 4, [], none), (303, 1, .iaload, [], none), (304, 1, .ireturn, [], none), (305, 1, .iconst (-1), [], none),
  (306, 1, .ireturn, [], none)]
def e_md_node (m : Nat) : gE := (k_md_node, f_md, c_md, [], [], (m, 0), 0)
theorem ok_md_node : gchk cX10_node 6 k_md_node = true := by decide +kernel
def fn_md_node (m : Nat) : gFn := gF (e_md_node m) 6
theorem mo_md_node (m : Nat) : gMo (.inl (fn_md_node m)) := gF_mo (E := e_md_node m) trivial
noncomputable def md_node (σ : gM) (x1 x2 x3 : Int) : Option (gM × Int) := lim (fun n => fn_md_node 227 n [(2, 119), (0, x1), (0, x2), (0, x3)] σ)
theorem md_node_l (σ : gM) (x1 x2 x3 : Int) : Lm (fun n => fn_md_node 227 n [(2, 119), (0, x1), (0, x2), (0, x3)] σ) (md_node σ x1 x2 x3) := .of fun n => mo_md_node 227 n [(2, 119), (0, x1), (0, x2), (0, x3)] σ
theorem mb_md_node : gMos (e_md_node 227).2.2.2.1 := trivial
noncomputable def md_node_b74 (σ : gM) (x3 x4 : Int) : Option (gM × Int) := lim (fun n => gB (e_md_node 227) rF tF n 74 [(2, 119), (9, 0), (9, 0), (0, x3), (0, x4), (9, 0)] [] σ)
theorem md_node_b74_l (σ : gM) (x3 x4 : Int) : Lm (fun n => gB (e_md_node 227) rF tF n 74 [(2, 119), (9, 0), (9, 0), (0, x3), (0, x4), (9, 0)] [] σ) (md_node_b74 σ x3 x4) := .of fun n => gB_le (gMos_spec (mb_md_node)) n _ _ _ σ
noncomputable def md_node_b79 (σ : gM) (x3 x4 y0 : Int) : Option (gM × Int) := lim (fun n => gB (e_md_node 227) rF tF n 79 [(2, 119), (9, 0), (9, 0), (0, x3), (0, x4), (9, 0)] [(0, y0)] σ)
theorem md_node_b79_l (σ : gM) (x3 x4 y0 : Int) : Lm (fun n => gB (e_md_node 227) rF tF n 79 [(2, 119), (9, 0), (9, 0), (0, x3), (0, x4), (9, 0)] [(0, y0)] σ) (md_node_b79 σ x3 x4 y0) := .of fun n => gB_le (gMos_spec (mb_md_node)) n _ _ _ σ
noncomputable def md_node_b128 (σ : gM) (x3 x4 x5 : Int) : Option (gM × Int) := lim (fun n => gB (e_md_node 227) rF tF n 128 [(2, 119), (9, 0), (9, 0), (0, x3), (0, x4), (0, x5)] [] σ)
theorem md_node_b128_l (σ : gM) (x3 x4 x5 : Int) : Lm (fun n => gB (e_md_node 227) rF tF n 128 [(2, 119), (9, 0), (9, 0), (0, x3), (0, x4), (0, x5)] [] σ) (md_node_b128 σ x3 x4 x5) := .of fun n => gB_le (gMos_spec (mb_md_node)) n _ _ _ σ
noncomputable def md_node_b185 (σ : gM) (x3 x4 x5 : Int) : Option (gM × Int) := lim (fun n => gB (e_md_node 227) rF tF n 185 [(2, 119), (9, 0), (9, 0), (0, x3), (0, x4), (0, x5)] [] σ)
theorem md_node_b185_l (σ : gM) (x3 x4 x5 : Int) : Lm (fun n => gB (e_md_node 227) rF tF n 185 [(2, 119), (9, 0), (9, 0), (0, x3), (0, x4), (0, x5)] [] σ) (md_node_b185 σ x3 x4 x5) := .of fun n => gB_le (gMos_spec (mb_md_node)) n _ _ _ σ
theorem md_node_e (σ : gM) (x1 x2 x3 : Int) : md_node σ x1 x2 x3 =
  (if x1 < 0 then
  (some (σ, (-1)))
  else
  (if x1 < σ 119 55 then
    (if x2 < 0 then
      (some (σ, (-1)))
      else
      (if 0 ≤ x1 ∧ x1 < 60 then
        (if x2 < σ 159 x1 then
          (if 0 ≤ x1 ∧ x1 < 60 then
            (if 0 ≤ w32 ((σ 158 x1) + x2) ∧ w32 ((σ 158 x1) + x2) < 20000 then
              (if σ 168 (w32 ((σ 158 x1) + x2)) = 21 then
                (md_node_b74 σ x3 (w32 ((σ 158 x1) + x2)))
                else
                (if 0 ≤ w32 ((σ 158 x1) + x2) ∧ w32 ((σ 158 x1) + x2) < 20000 then
                  (if σ 168 (w32 ((σ 158 x1) + x2)) = 22 then
                    (md_node_b74 σ x3 (w32 ((σ 158 x1) + x2)))
                    else
                    (if 0 ≤ w32 ((σ 158 x1) + x2) ∧ w32 ((σ 158 x1) + x2) < 20000 then
                      (if σ 168 (w32 ((σ 158 x1) + x2)) = 23 then
                        (md_node_b74 σ x3 (w32 ((σ 158 x1) + x2)))
                        else
                        (md_node_b79 σ x3 (w32 ((σ 158 x1) + x2)) 0))
                      else none))
                  else none))
              else none)
            else none)
          else
          (some (σ, (-1))))
        else none))
    else
    (some (σ, (-1))))) := Lm.eqn (md_node_l ..) (.ite .cst (.ite (.ite .cst (.ite (.ite (.ite (.ite (.ite (md_node_b74_l ..) (.ite (.ite (md_node_b74_l ..) (.ite (.ite (md_node_b74_l ..) (md_node_b79_l ..)) .cst)) .cst)) .cst) .cst) .cst) .cst)) .cst)) fun n => (rfl)
theorem md_node_b74_e (σ : gM) (x3 x4 : Int) : md_node_b74 σ x3 x4 =
  (md_node_b79 σ x3 x4 1) := Lm.eqn (md_node_b74_l ..) (md_node_b79_l ..) fun n => (rfl)
theorem md_node_b79_e (σ : gM) (x3 x4 y0 : Int) : md_node_b79 σ x3 x4 y0 =
  (if 4 < x3 then
  (if x3 < 8 then
    (if y0 = 0 then
      (some (σ, (-1)))
      else
      (if 0 ≤ x4 ∧ x4 < 20000 then
        (if w32 (x3 - 5) < σ 181 x4 then
          (if 0 ≤ w32 ((w32 ((w32 (3 * x4)) + x3)) - 5) ∧ w32 ((w32 ((w32 (3 * x4)) + x3)) - 5) < 60000 then
            (some (σ, σ 182 (w32 ((w32 ((w32 (3 * x4)) + x3)) - 5))))
            else none)
          else
          (some (σ, (-1))))
        else none))
    else
    (md_node_b128 σ x3 x4 y0))
  else
  (md_node_b128 σ x3 x4 y0)) := Lm.eqn (md_node_b79_l ..) (.ite (.ite (.ite .cst (.ite (.ite (.ite .cst .cst) .cst) .cst)) (md_node_b128_l ..)) (md_node_b128_l ..)) fun n => (rfl)
theorem md_node_b128_e (σ : gM) (x3 x4 x5 : Int) : md_node_b128 σ x3 x4 x5 =
  (if 7 < x3 then
  (if x3 < 11 then
    (if 0 ≤ x4 ∧ x4 < 20000 then
      (if σ 168 x4 = 22 then
        (if 0 ≤ x4 ∧ x4 < 20000 then
          (if w32 (x3 - 8) < σ 181 x4 then
            (if 0 ≤ w32 ((w32 ((w32 (3 * x4)) + x3)) - 8) ∧ w32 ((w32 ((w32 (3 * x4)) + x3)) - 8) < 60000 then
              (some (σ, σ 184 (w32 ((w32 ((w32 (3 * x4)) + x3)) - 8))))
              else none)
            else
            (some (σ, (-1))))
          else none)
        else
        (some (σ, (-1))))
      else none)
    else
    (md_node_b185 σ x3 x4 x5))
  else
  (md_node_b185 σ x3 x4 x5)) := Lm.eqn (md_node_b128_l ..) (.ite (.ite (.ite (.ite (.ite (.ite (.ite .cst .cst) .cst) .cst) .cst) .cst) (md_node_b185_l ..)) (md_node_b185_l ..)) fun n => (rfl)
theorem md_node_b185_e (σ : gM) (x3 x4 x5 : Int) : md_node_b185 σ x3 x4 x5 =
  (if x3 = 0 then
  (if 0 ≤ x4 ∧ x4 < 20000 then
    (some (σ, σ 168 x4))
    else none)
  else if x3 = 1 then
  (if 0 ≤ x4 ∧ x4 < 20000 then
    (some (σ, σ 169 x4))
    else none)
  else if x3 = 2 then
  (if 0 ≤ x4 ∧ x4 < 20000 then
    (some (σ, σ 178 x4))
    else none)
  else if x3 = 3 then
  (if 0 ≤ x4 ∧ x4 < 20000 then
    (some (σ, σ 180 x4))
    else none)
  else if x3 = 4 then
  (if x5 = 0 then
    (some (σ, (-1)))
    else
    (if 0 ≤ x4 ∧ x4 < 20000 then
      (some (σ, σ 181 x4))
      else none))
  else if x3 = 11 then
  (if 0 ≤ x4 ∧ x4 < 20000 then
    (some (σ, σ 175 x4))
    else none)
  else (some (σ, (-1)))) := Lm.eqn (md_node_b185_l ..) (.ite (.ite .cst .cst) (.ite (.ite .cst .cst) (.ite (.ite .cst .cst) (.ite (.ite .cst .cst) (.ite (.ite .cst (.ite .cst .cst)) (.ite (.ite .cst .cst) .cst)))))) fun n => (rfl)
def k_md_shape : List gC := [(0, 1, .iload_n 1, [], none), (1, 3, .ifCond .lt 11, [(0, 12)], none), (4, 1, .iload_n 1, [], none), (5, 1, .aload_n 0, [], none),
  (6, 3, .getfield 573, [], none), (9, 3, .if_icmp .lt 5, [(0, 14)], none), (12, 1, .iconst (-1), [], none), (13, 1, .ireturn, [], none),
  (14, 1, .iload_n 2, [], none), (15, 1, .iconst 3, [], none), (16, 3, .if_icmp .le 26, [(0, 42)], none), (19, 1, .iload_n 1, [], none),
  (20, 3, .ifCond .le 20, [(0, 40)], none), (23, 1, .aload_n 0, [], none), (24, 1, .aload_n 0, [], none), (25, 3, .getfield 237, [], none),
  (28, 1, .iload_n 1, [], none), (29, 1, .iaload, [], none), (30, 1, .i2l, [], none), (31, 1, .iload_n 2, [], none),
  (32, 1, .iconst 4, [], none), (33, 1, .isub, [], none), (34, 3, .invokevirtual 857, [], none), (37, 3, .goto 4, [(0, 41)], none),
  (40, 1, .iconst (-1), [], none), (41, 1, .ireturn, [], none), (42, 1, .iload_n 2, [], none), (43, 29, .tableswitch 65 0 3 #[29, 36, 51, 58], [(0, 108), (0, 72), (1, 79), (2, 94), (3, 101)], none),
  (72, 1, .aload_n 0, [], none), (73, 3, .getfield 225, [], none), (76, 1, .iload_n 1, [], none), (77, 1, .iaload, [], none),
  (78, 1, .ireturn, [], none), (79, 1, .iload_n 1, [], none), (80, 3, .ifCond .le 12, [(0, 92)], none), (83, 1, .aload_n 0, [], none),
  (84, 3, .getfield 228, [], none), (87, 1, .iload_n 1, [], none), (88, 1, .iaload, [], none), (89, 3, .goto 4, [(0, 93)], none),
  (92, 1, .iconst (-1), [], none), (93, 1, .ireturn, [], none), (94, 1, .aload_n 0, [], none), (95, 3, .getfield 231, [], none),
  (98, 1, .iload_n 1, [], none), (99, 1, .iaload, [], none), (100, 1, .ireturn, [], none), (101, 1, .aload_n 0, [], none),
  (102, 3, .getfield 234, [], none), (105, 1, .iload_n 1, [], none), (106, 1, .iaload, [], none), (107, 1, .ireturn, [], none),
  (108, 1, .iconst (-1), [], none), (109, 1, .ireturn, [], none)]
def e_md_shape (m : Nat) : gE := (k_md_shape, f_md, c_md, [(857, 3, 20, 0, .inl (fn_md_letter m))], [], (m, 0), 0)
theorem ok_md_shape : gchk cX10_shape 3 k_md_shape = true := by decide +kernel
def fn_md_shape (m : Nat) : gFn := gF (e_md_shape m) 3
theorem mo_md_shape (m : Nat) : gMo (.inl (fn_md_shape m)) := gF_mo (E := e_md_shape m) ⟨mo_md_letter m, trivial⟩
noncomputable def md_shape (σ : gM) (x1 x2 : Int) : Option (gM × Int) := lim (fun n => fn_md_shape 227 n [(2, 119), (0, x1), (0, x2)] σ)
theorem md_shape_l (σ : gM) (x1 x2 : Int) : Lm (fun n => fn_md_shape 227 n [(2, 119), (0, x1), (0, x2)] σ) (md_shape σ x1 x2) := .of fun n => mo_md_shape 227 n [(2, 119), (0, x1), (0, x2)] σ
theorem md_shape_e (σ : gM) (x1 x2 : Int) : md_shape σ x1 x2 =
  (if x1 < 0 then
  (some (σ, (-1)))
  else
  (if x1 < σ 119 94 then
    (if 3 < x2 then
      (if 0 < x1 then
        (if 0 ≤ x1 ∧ x1 < 200 then
          ((md_letter σ (σ 192 x1) (w32 (x2 - 4))).bind fun p1 =>
            some (p1.1, p1.2))
          else none)
        else
        (some (σ, (-1))))
      else
      (if x2 = 0 then
        (if 0 ≤ x1 ∧ x1 < 200 then
          (some (σ, σ 188 x1))
          else none)
        else if x2 = 1 then
        (if 0 < x1 then
          (if 0 ≤ x1 ∧ x1 < 200 then
            (some (σ, σ 189 x1))
            else none)
          else
          (some (σ, (-1))))
        else if x2 = 2 then
        (if 0 ≤ x1 ∧ x1 < 200 then
          (some (σ, σ 190 x1))
          else none)
        else if x2 = 3 then
        (if 0 ≤ x1 ∧ x1 < 200 then
          (some (σ, σ 191 x1))
          else none)
        else (some (σ, (-1)))))
    else
    (some (σ, (-1))))) := Lm.eqn (md_shape_l ..) (.ite .cst (.ite (.ite (.ite (.ite (.bind (md_letter_l ..) fun p1 => .cst) .cst) .cst) (.ite (.ite .cst .cst) (.ite (.ite (.ite .cst .cst) .cst) (.ite (.ite .cst .cst) (.ite (.ite .cst .cst) .cst))))) .cst)) fun n => (rfl)
def k_md_code : List gC := [(0, 1, .iload_n 1, [], none), (1, 3, .ifCond .lt 11, [(0, 12)], none), (4, 1, .iload_n 1, [], none), (5, 1, .aload_n 0, [], none),
  (6, 3, .getfield 576, [], none), (9, 3, .if_icmp .lt 5, [(0, 14)], none), (12, 1, .iconst (-1), [], none), (13, 1, .ireturn, [], none),
  (14, 1, .iload_n 2, [], none), (15, 2, .bipush 9, [], none), (17, 3, .if_icmp .le 35, [(0, 52)], none), (20, 1, .iload_n 2, [], none),
  (21, 2, .bipush 10, [], none), (23, 1, .isub, [], none), (24, 1, .aload_n 0, [], none), (25, 3, .getfield 252, [], none),
  (28, 1, .iload_n 1, [], none), (29, 1, .iaload, [], none), (30, 3, .if_icmp .ge 20, [(0, 50)], none), (33, 1, .aload_n 0, [], none),
  (34, 3, .getfield 273, [], none), (37, 1, .aload_n 0, [], none), (38, 1, .iload_n 1, [], none), (39, 1, .iload_n 2, [], none),
  (40, 2, .bipush 10, [], none), (42, 1, .isub, [], none), (43, 3, .invokevirtual 655, [], none), (46, 1, .iaload, [], none),
  (47, 3, .goto 4, [(0, 51)], none), (50, 1, .iconst (-1), [], none), (51, 1, .ireturn, [], none), (52, 1, .iload_n 2, [], none),
  (53, 47, .tableswitch 111 0 7 #[47, 54, 69, 76, 83, 90, 97, 104], [(0, 164), (0, 100), (1, 107), (2, 122), (3, 129), (4, 136), (5, 143), (6, 150), (7, 157)], none), (100, 1, .aload_n 0, [], none), (101, 3, .getfield 249, [], none), (104, 1, .iload_n 1, [], none),
  (105, 1, .iaload, [], none), (106, 1, .ireturn, [], none), (107, 1, .aload_n 0, [], none), (108, 3, .getfield 270, [], none),
  (111, 1, .iload_n 1, [], none), (112, 1, .baload, [], none), (113, 3, .ifCond .eq 7, [(0, 120)], none), (116, 1, .iconst 1, [], none),
  (117, 3, .goto 4, [(0, 121)], none), (120, 1, .iconst 0, [], none), (121, 1, .ireturn, [], none), (122, 1, .aload_n 0, [], none),
  (123, 3, .getfield 252, [], none), (126, 1, .iload_n 1, [], none), (127, 1, .iaload, [], none), (128, 1, .ireturn, [], none),
  (129, 1, .aload_n 0, [], none), (130, 3, .getfield 255, [], none), (133, 1, .iload_n 1, [], none), (134, 1, .iaload, [], none),
  (135, 1, .ireturn, [], none), (136, 1, .aload_n 0, [], none), (137, 3, .getfield 258, [], none), (140, 1, .iload_n 1, [], none),
  (141, 1, .iaload, [], none), (142, 1, .ireturn, [], none), (143, 1, .aload_n 0, [], none), (144, 3, .getfield 261, [], none),
  (147, 1, .iload_n 1, [], none), (148, 1, .iaload, [], none), (149, 1, .ireturn, [], none), (150, 1, .aload_n 0, [], none),
  (151, 3, .getfield 264, [], none), (154, 1, .iload_n 1, [], none), (155, 1, .iaload, [], none), (156, 1, .ireturn, [], none),
  (157, 1, .aload_n 0, [], none), (158, 3, .getfield 267, [], none), (161, 1, .iload_n 1, [], none), (162, 1, .iaload, [], none),
  (163, 1, .ireturn, [], none), (164, 1, .iconst (-1), [], none), (165, 1, .ireturn, [], none)]
def e_md_code (m : Nat) : gE := (k_md_code, f_md, c_md, [(655, 3, 20, 0, .inl (fn_md_unit m))], [], (m, 0), 0)
theorem ok_md_code : gchk cX10_code 3 k_md_code = true := by decide +kernel
def fn_md_code (m : Nat) : gFn := gF (e_md_code m) 3
theorem mo_md_code (m : Nat) : gMo (.inl (fn_md_code m)) := gF_mo (E := e_md_code m) ⟨mo_md_unit m, trivial⟩
noncomputable def md_code (σ : gM) (x1 x2 : Int) : Option (gM × Int) := lim (fun n => fn_md_code 227 n [(2, 119), (0, x1), (0, x2)] σ)
theorem md_code_l (σ : gM) (x1 x2 : Int) : Lm (fun n => fn_md_code 227 n [(2, 119), (0, x1), (0, x2)] σ) (md_code σ x1 x2) := .of fun n => mo_md_code 227 n [(2, 119), (0, x1), (0, x2)] σ
theorem md_code_e (σ : gM) (x1 x2 : Int) : md_code σ x1 x2 =
  (if x1 < 0 then
  (some (σ, (-1)))
  else
  (if x1 < σ 119 104 then
    (if 9 < x2 then
      (if 0 ≤ x1 ∧ x1 < 100 then
        (if w32 (x2 - 10) < σ 197 x1 then
          ((md_unit σ x1 (w32 (x2 - 10))).bind fun p1 =>
            if 0 ≤ p1.2 ∧ p1.2 < 15200 then
            (some (p1.1, p1.1 204 p1.2))
            else none)
          else
          (some (σ, (-1))))
        else none)
      else
      (if x2 = 0 then
        (if 0 ≤ x1 ∧ x1 < 100 then
          (some (σ, σ 196 x1))
          else none)
        else if x2 = 1 then
        (if 0 ≤ x1 ∧ x1 < 100 then
          (if σ 203 x1 = 0 then
            (some (σ, 0))
            else
            (some (σ, 1)))
          else none)
        else if x2 = 2 then
        (if 0 ≤ x1 ∧ x1 < 100 then
          (some (σ, σ 197 x1))
          else none)
        else if x2 = 3 then
        (if 0 ≤ x1 ∧ x1 < 100 then
          (some (σ, σ 198 x1))
          else none)
        else if x2 = 4 then
        (if 0 ≤ x1 ∧ x1 < 100 then
          (some (σ, σ 199 x1))
          else none)
        else if x2 = 5 then
        (if 0 ≤ x1 ∧ x1 < 100 then
          (some (σ, σ 200 x1))
          else none)
        else if x2 = 6 then
        (if 0 ≤ x1 ∧ x1 < 100 then
          (some (σ, σ 201 x1))
          else none)
        else if x2 = 7 then
        (if 0 ≤ x1 ∧ x1 < 100 then
          (some (σ, σ 202 x1))
          else none)
        else (some (σ, (-1)))))
    else
    (some (σ, (-1))))) := Lm.eqn (md_code_l ..) (.ite .cst (.ite (.ite (.ite (.ite (.bind (md_unit_l ..) fun p1 => (.ite .cst .cst)) .cst) .cst) (.ite (.ite .cst .cst) (.ite (.ite (.ite .cst .cst) .cst) (.ite (.ite .cst .cst) (.ite (.ite .cst .cst) (.ite (.ite .cst .cst) (.ite (.ite .cst .cst) (.ite (.ite .cst .cst) (.ite (.ite .cst .cst) .cst))))))))) .cst)) fun n => (rfl)
def k_md_frame : List gC := [(0, 1, .aload_n 0, [], none), (1, 3, .getfield 772, [], none), (4, 1, .iconst 1, [], none), (5, 3, .if_icmp .ne 15, [(0, 20)], none),
  (8, 1, .iload_n 1, [], none), (9, 3, .ifCond .lt 11, [(0, 20)], none), (12, 1, .iload_n 1, [], none), (13, 1, .aload_n 0, [], none),
  (14, 3, .getfield 685, [], none), (17, 3, .if_icmp .lt 5, [(0, 22)], none), (20, 1, .iconst (-1), [], none), (21, 1, .ireturn, [], none),
  (22, 1, .aload_n 0, [], none), (23, 3, .getfield 685, [], none), (26, 1, .iconst 1, [], none), (27, 1, .isub, [], none),
  (28, 1, .iload_n 1, [], none), (29, 1, .isub, [], none), (30, 1, .istore_n 3, [], none), (31, 1, .iload_n 2, [], none),
  (32, 2, .bipush 9, [], none), (34, 3, .if_icmp .le 46, [(0, 80)], none), (37, 1, .iload_n 2, [], none), (38, 2, .bipush 22, [], none),
  (40, 3, .if_icmp .ge 40, [(0, 80)], none), (43, 1, .iload_n 2, [], none), (44, 2, .bipush 10, [], none), (46, 1, .isub, [], none),
  (47, 1, .aload_n 0, [], none), (48, 3, .getfield 143, [], none), (51, 1, .aload_n 0, [], none), (52, 3, .getfield 292, [], none),
  (55, 1, .iload_n 3, [], none), (56, 1, .iaload, [], none), (57, 1, .iaload, [], none), (58, 3, .if_icmp .ge 20, [(0, 78)], none),
  (61, 1, .aload_n 0, [], none), (62, 3, .getfield 313, [], none), (65, 2, .bipush 12, [], none), (67, 1, .iload_n 3, [], none),
  (68, 1, .imul, [], none), (69, 1, .iload_n 2, [], none), (70, 1, .iadd, [], none), (71, 2, .bipush 10, [], none),
  (73, 1, .isub, [], none), (74, 1, .iaload, [], none), (75, 3, .goto 4, [(0, 79)], none), (78, 1, .iconst (-1), [], none),
  (79, 1, .ireturn, [], none), (80, 1, .iload_n 2, [], some [true, false, true, true]), (81, 31, .tableswitch 67 0 3 #[31, 38, 45, 52], [(0, 148), (0, 112), (1, 119), (2, 126), (3, 133)], none), (112, 1, .aload_n 0, [], none),
  (113, 3, .getfield 292, [], none), (116, 1, .iload_n 3, [], none), (117, 1, .iaload, [], none), (118, 1, .ireturn, [], none),
  (119, 1, .aload_n 0, [], none), (120, 3, .getfield 295, [], none), (123, 1, .iload_n 3, [], none), (124, 1, .iaload, [], none),
  (125, 1, .ireturn, [], none), (126, 1, .aload_n 0, [], none), (127, 3, .getfield 298, [], none), (130, 1, .iload_n 3, [], none),
  (131, 1, .iaload, [], none), (132, 1, .ireturn, [], none), (133, 1, .aload_n 0, [], none), (134, 3, .getfield 310, [], none),
  (137, 1, .iload_n 3, [], none), (138, 1, .baload, [], none), (139, 3, .ifCond .eq 7, [(0, 146)], none), (142, 1, .iconst 1, [], none),
  (143, 3, .goto 4, [(0, 147)], none), (146, 1, .iconst 0, [], none), (147, 1, .ireturn, [], none), (148, 1, .iconst (-1), [], none),
  (149, 1, .ireturn, [], none)]
def e_md_frame (m : Nat) : gE := (k_md_frame, f_md, c_md, [], [], (m, 0), 0)
theorem ok_md_frame : gchk cX10_frame 4 k_md_frame = true := by decide +kernel
def fn_md_frame (m : Nat) : gFn := gF (e_md_frame m) 4
theorem mo_md_frame (m : Nat) : gMo (.inl (fn_md_frame m)) := gF_mo (E := e_md_frame m) trivial
noncomputable def md_frame (σ : gM) (x1 x2 : Int) : Option (gM × Int) := lim (fun n => fn_md_frame 227 n [(2, 119), (0, x1), (0, x2)] σ)
theorem md_frame_l (σ : gM) (x1 x2 : Int) : Lm (fun n => fn_md_frame 227 n [(2, 119), (0, x1), (0, x2)] σ) (md_frame σ x1 x2) := .of fun n => mo_md_frame 227 n [(2, 119), (0, x1), (0, x2)] σ
theorem mb_md_frame : gMos (e_md_frame 227).2.2.2.1 := trivial
noncomputable def md_frame_b80 (σ : gM) (x2 x3 : Int) : Option (gM × Int) := lim (fun n => gB (e_md_frame 227) rF tF n 80 [(2, 119), (9, 0), (0, x2), (0, x3)] [] σ)
theorem md_frame_b80_l (σ : gM) (x2 x3 : Int) : Lm (fun n => gB (e_md_frame 227) rF tF n 80 [(2, 119), (9, 0), (0, x2), (0, x3)] [] σ) (md_frame_b80 σ x2 x3) := .of fun n => gB_le (gMos_spec (mb_md_frame)) n _ _ _ σ
theorem md_frame_e (σ : gM) (x1 x2 : Int) : md_frame σ x1 x2 =
  (if σ 119 117 = 1 then
  (if x1 < 0 then
    (some (σ, (-1)))
    else
    (if x1 < σ 119 121 then
      (if 9 < x2 then
        (if x2 < 22 then
          (if 0 ≤ w32 ((w32 ((σ 119 121) - 1)) - x1) ∧ w32 ((w32 ((σ 119 121) - 1)) - x1) < 60 then
            (if 0 ≤ σ 208 (w32 ((w32 ((σ 119 121) - 1)) - x1)) ∧ σ 208 (w32 ((w32 ((σ 119 121) - 1)) - x1)) < 60 then
              (if w32 (x2 - 10) < σ 161 (σ 208 (w32 ((w32 ((σ 119 121) - 1)) - x1))) then
                (if 0 ≤ w32 ((w32 ((w32 (12 * (w32 ((w32 ((σ 119 121) - 1)) - x1)))) + x2)) - 10) ∧ w32 ((w32 ((w32 (12 * (w32 ((w32 ((σ 119 121) - 1)) - x1)))) + x2)) - 10) < 720 then
                  (some (σ, σ 215 (w32 ((w32 ((w32 (12 * (w32 ((w32 ((σ 119 121) - 1)) - x1)))) + x2)) - 10))))
                  else none)
                else
                (some (σ, (-1))))
              else none)
            else none)
          else
          (md_frame_b80 σ x2 (w32 ((w32 ((σ 119 121) - 1)) - x1))))
        else
        (md_frame_b80 σ x2 (w32 ((w32 ((σ 119 121) - 1)) - x1))))
      else
      (some (σ, (-1)))))
  else
  (some (σ, (-1)))) := Lm.eqn (md_frame_l ..) (.ite (.ite .cst (.ite (.ite (.ite (.ite (.ite (.ite (.ite .cst .cst) .cst) .cst) .cst) (md_frame_b80_l ..)) (md_frame_b80_l ..)) .cst)) .cst) fun n => (rfl)
theorem md_frame_b80_e (σ : gM) (x2 x3 : Int) : md_frame_b80 σ x2 x3 =
  (if x2 = 0 then
  (if 0 ≤ x3 ∧ x3 < 60 then
    (some (σ, σ 208 x3))
    else none)
  else if x2 = 1 then
  (if 0 ≤ x3 ∧ x3 < 60 then
    (some (σ, σ 209 x3))
    else none)
  else if x2 = 2 then
  (if 0 ≤ x3 ∧ x3 < 60 then
    (some (σ, σ 210 x3))
    else none)
  else if x2 = 3 then
  (if 0 ≤ x3 ∧ x3 < 60 then
    (if σ 214 x3 = 0 then
      (some (σ, 0))
      else
      (some (σ, 1)))
    else none)
  else (some (σ, (-1)))) := Lm.eqn (md_frame_b80_l ..) (.ite (.ite .cst .cst) (.ite (.ite .cst .cst) (.ite (.ite .cst .cst) (.ite (.ite (.ite .cst .cst) .cst) .cst)))) fun n => (rfl)
def k_md_total : List gC := [(0, 1, .iload_n 1, [], none), (1, 51, .tableswitch 96 0 8 #[51, 56, 61, 66, 71, 76, 81, 86, 91], [(0, 97), (0, 52), (1, 57), (2, 62), (3, 67), (4, 72), (5, 77), (6, 82), (7, 87), (8, 92)], none), (52, 1, .aload_n 0, [], none), (53, 3, .getfield 723, [], none),
  (56, 1, .ireturn, [], none), (57, 1, .aload_n 0, [], none), (58, 3, .getfield 685, [], none), (61, 1, .ireturn, [], none),
  (62, 1, .aload_n 0, [], none), (63, 3, .getfield 729, [], none), (66, 1, .ireturn, [], none), (67, 1, .aload_n 0, [], none),
  (68, 3, .getfield 913, [], none), (71, 1, .ireturn, [], none), (72, 1, .aload_n 0, [], none), (73, 3, .getfield 919, [], none),
  (76, 1, .ireturn, [], none), (77, 1, .aload_n 0, [], none), (78, 3, .getfield 564, [], none), (81, 1, .ireturn, [], none),
  (82, 1, .aload_n 0, [], none), (83, 3, .getfield 573, [], none), (86, 1, .ireturn, [], none), (87, 1, .aload_n 0, [], none),
  (88, 3, .getfield 576, [], none), (91, 1, .ireturn, [], none), (92, 1, .aload_n 0, [], none), (93, 3, .getfield 570, [], none),
  (96, 1, .ireturn, [], none), (97, 1, .iload_n 1, [], none), (98, 2, .bipush 8, [], none), (100, 3, .if_icmp .le 18, [(0, 118)], none),
  (103, 1, .iload_n 1, [], none), (104, 2, .bipush 16, [], none), (106, 3, .if_icmp .ge 12, [(0, 118)], none), (109, 1, .aload_n 0, [], none),
  (110, 3, .getfield 341, [], none), (113, 1, .iload_n 1, [], none), (114, 1, .iaload, [], none), (115, 3, .goto 4, [(0, 119)], none),
  (118, 1, .iconst (-1), [], none), (119, 1, .ireturn, [], none)]
def e_md_total (m : Nat) : gE := (k_md_total, f_md, c_md, [], [], (m, 0), 0)
theorem ok_md_total : gchk cX10_total 2 k_md_total = true := by decide +kernel
def fn_md_total (m : Nat) : gFn := gF (e_md_total m) 2
theorem mo_md_total (m : Nat) : gMo (.inl (fn_md_total m)) := gF_mo (E := e_md_total m) trivial
noncomputable def md_total (σ : gM) (x1 : Int) : Option (gM × Int) := lim (fun n => fn_md_total 227 n [(2, 119), (0, x1)] σ)
theorem md_total_l (σ : gM) (x1 : Int) : Lm (fun n => fn_md_total 227 n [(2, 119), (0, x1)] σ) (md_total σ x1) := .of fun n => mo_md_total 227 n [(2, 119), (0, x1)] σ
theorem md_total_e (σ : gM) (x1 : Int) : md_total σ x1 =
  (if x1 = 0 then
  (some (σ, σ 119 118))
  else if x1 = 1 then
  (some (σ, σ 119 121))
  else if x1 = 2 then
  (some (σ, σ 119 122))
  else if x1 = 3 then
  (some (σ, σ 119 95))
  else if x1 = 4 then
  (some (σ, σ 119 126))
  else if x1 = 5 then
  (some (σ, σ 119 55))
  else if x1 = 6 then
  (some (σ, σ 119 94))
  else if x1 = 7 then
  (some (σ, σ 119 104))
  else if x1 = 8 then
  (some (σ, σ 119 89))
  else (if 8 < x1 then
    (if x1 < 16 then
      (if 0 ≤ x1 ∧ x1 < 16 then
        (some (σ, σ 224 x1))
        else none)
      else
      (some (σ, (-1))))
    else
    (some (σ, (-1))))) := Lm.eqn (md_total_l ..) (.ite .cst (.ite .cst (.ite .cst (.ite .cst (.ite .cst (.ite .cst (.ite .cst (.ite .cst (.ite .cst (.ite (.ite (.ite .cst .cst) .cst) .cst)))))))))) fun n => (rfl)
