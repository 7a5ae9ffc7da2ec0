set_option maxRecDepth 100000
def k_md_define : List gC := [(0, 1, .iconst 0, [], none), (1, 1, .istore_n 1, [], none), (2, 1, .iload_n 1, [], some [true, true, false, false, false]), (3, 1, .aload_n 0, [], none),
  (4, 3, .getfield 485, [], none), (7, 3, .if_icmp .ge 226, [(0, 233)], none), (10, 1, .aload_n 0, [], none), (11, 3, .getfield 564, [], none),
  (14, 1, .istore_n 2, [], none), (15, 1, .aload_n 0, [], none), (16, 3, .getfield 134, [], none), (19, 1, .iload_n 2, [], none),
  (20, 1, .aload_n 0, [], none), (21, 3, .getfield 567, [], none), (24, 1, .iastore, [], none), (25, 1, .aload_n 0, [], none),
  (26, 3, .getfield 137, [], none), (29, 1, .iload_n 2, [], none), (30, 1, .aload_n 0, [], none), (31, 3, .getfield 107, [], none),
  (34, 1, .iload_n 1, [], none), (35, 1, .iaload, [], none), (36, 1, .aload_n 0, [], none), (37, 3, .getfield 104, [], none),
  (40, 1, .iload_n 1, [], none), (41, 1, .iaload, [], none), (42, 1, .isub, [], none), (43, 1, .iastore, [], none),
  (44, 1, .aload_n 0, [], none), (45, 3, .getfield 140, [], none), (48, 1, .iload_n 2, [], none), (49, 1, .aload_n 0, [], none),
  (50, 3, .getfield 110, [], none), (53, 1, .iload_n 1, [], none), (54, 1, .iaload, [], none), (55, 1, .iastore, [], none),
  (56, 1, .aload_n 0, [], none), (57, 3, .getfield 143, [], none), (60, 1, .iload_n 2, [], none), (61, 1, .aload_n 0, [], none),
  (62, 3, .getfield 116, [], none), (65, 1, .iload_n 1, [], none), (66, 1, .iaload, [], none), (67, 1, .iastore, [], none),
  (68, 1, .aload_n 0, [], none), (69, 3, .getfield 567, [], none), (72, 1, .istore_n 3, [], none), (73, 1, .iconst 0, [], none),
  (74, 2, .istore 4, [], none), (76, 2, .iload 4, [], some [true, true, true, true, true]), (78, 1, .aload_n 0, [], none), (79, 3, .getfield 110, [], none),
  (82, 1, .iload_n 1, [], none), (83, 1, .iaload, [], none), (84, 3, .if_icmp .ge 22, [(0, 106)], none), (87, 1, .aload_n 0, [], none),
  (88, 1, .aload_n 0, [], none), (89, 3, .getfield 104, [], none), (92, 1, .iload_n 1, [], none), (93, 1, .iaload, [], none),
  (94, 2, .iload 4, [], none), (96, 1, .iadd, [], none), (97, 3, .invokevirtual 619, [], none), (100, 3, .iinc 4 1, [], none),
  (103, 3, .goto (-27), [(0, 76)], none), (106, 1, .aload_n 0, [], none), (107, 3, .getfield 113, [], none), (110, 1, .iload_n 1, [], none),
  (111, 1, .iaload, [], none), (112, 2, .istore 4, [], none), (114, 2, .iload 4, [], some [true, true, true, true, true]), (116, 1, .iconst (-1), [], none),
  (117, 3, .if_icmp .eq 21, [(0, 138)], none), (120, 1, .aload_n 0, [], none), (121, 2, .iload 4, [], none), (123, 3, .invokevirtual 619, [], none),
  (126, 1, .aload_n 0, [], none), (127, 3, .getfield 82, [], none), (130, 2, .iload 4, [], none), (132, 1, .iaload, [], none),
  (133, 2, .istore 4, [], none), (135, 3, .goto (-21), [(0, 114)], none), (138, 1, .aload_n 0, [], none), (139, 3, .getfield 104, [], none),
  (142, 1, .iload_n 1, [], none), (143, 1, .iaload, [], none), (144, 2, .istore 4, [], none), (146, 2, .iload 4, [], some [true, true, true, true, true]),
  (148, 1, .aload_n 0, [], none), (149, 3, .getfield 107, [], none), (152, 1, .iload_n 1, [], none), (153, 1, .iaload, [], none),
  (154, 3, .if_icmp .ge 17, [(0, 171)], none), (157, 1, .aload_n 0, [], none), (158, 1, .iload_n 1, [], none), (159, 2, .iload 4, [], none),
  (161, 1, .iload_n 2, [], none), (162, 3, .invokevirtual 621, [], none), (165, 3, .iinc 4 1, [], none), (168, 3, .goto (-22), [(0, 146)], none),
  (171, 1, .aload_n 0, [], none), (172, 3, .getfield 146, [], none), (175, 1, .iload_n 2, [], none), (176, 1, .aload_n 0, [], none),
  (177, 1, .aload_n 0, [], none), (178, 3, .getfield 113, [], none), (181, 1, .iload_n 1, [], none), (182, 1, .iaload, [], none),
  (183, 3, .invokevirtual 625, [], none), (186, 1, .iastore, [], none), (187, 1, .aload_n 0, [], none), (188, 1, .iload_n 3, [], none),
  (189, 1, .aload_n 0, [], none), (190, 3, .getfield 137, [], none), (193, 1, .iload_n 2, [], none), (194, 1, .iaload, [], none),
  (195, 1, .iadd, [], none), (196, 3, .putfield 567, [], none), (199, 1, .aload_n 0, [], none), (200, 1, .aload_n 0, [], none),
  (201, 1, .aload_n 0, [], none), (202, 1, .aload_n 0, [], none), (203, 3, .getfield 61, [], none), (206, 1, .aload_n 0, [], none),
  (207, 3, .getfield 98, [], none), (210, 1, .iload_n 1, [], none), (211, 1, .iaload, [], none), (212, 1, .aload_n 0, [], none),
  (213, 3, .getfield 101, [], none), (216, 1, .iload_n 1, [], none), (217, 1, .iaload, [], none), (218, 3, .invokevirtual 383, [], none),
  (221, 3, .invokevirtual 589, [], none), (224, 3, .invokevirtual 592, [], none), (227, 3, .iinc 1 1, [], none), (230, 3, .goto (-228), [(0, 2)], none),
  (233, 1, .return_, [], none)]
def e_md_define (m : Nat) : gE := (k_md_define, f_md, c_md, [(619, 2, 20, 5, .inl (rec_md_number m 320 0)), (621, 4, 20, 5, .inl (fn_md_lay m)), (625, 2, 20, 0, .inl (fn_md_numberOf m)), (383, 4, 20, 0, .inl (fn_md_keep_2 m)), (589, 2, 20, 0, .inl (fn_md_functionOf m)), (592, 2, 20, 5, .inl (fn_md_rootComes m))], [], (m, 93854655509610945636524472074812905742355325279210544908442283198527175085288687474484514392390411811189478354761292385255533367090313920928343887250980864), 5)
theorem ok_md_define : gchk cX10_define 5 k_md_define = true := by decide +kernel
def fn_md_define (m : Nat) : gFn := gF (e_md_define m) 5
theorem mo_md_define (m : Nat) : gMo (.inl (fn_md_define m)) := gF_mo (E := e_md_define m) ⟨mo_rec_md_number m 320 0, ⟨mo_md_lay m, ⟨mo_md_numberOf m, ⟨mo_md_keep_2 m, ⟨mo_md_functionOf m, ⟨mo_md_rootComes m, trivial⟩⟩⟩⟩⟩⟩
noncomputable def md_define (σ : gM) : Option (gM × Int) := lim (fun n => fn_md_define 227 n [(2, 119)] σ)
theorem md_define_l (σ : gM) : Lm (fun n => fn_md_define 227 n [(2, 119)] σ) (md_define σ) := .of fun n => mo_md_define 227 n [(2, 119)] σ
theorem mb_md_define : gMos (e_md_define 227).2.2.2.1 := ⟨mo_rec_md_number 227 320 0, ⟨mo_md_lay 227, ⟨mo_md_numberOf 227, ⟨mo_md_keep_2 227, ⟨mo_md_functionOf 227, ⟨mo_md_rootComes 227, trivial⟩⟩⟩⟩⟩⟩
noncomputable def md_define_b2 (σ : gM) (x1 : Int) : Option (gM × Int) := lim (fun n => gB (e_md_define 227) rF tF n 2 [(2, 119), (0, x1), (9, 0), (9, 0), (9, 0)] [] σ)
theorem md_define_b2_l (σ : gM) (x1 : Int) : Lm (fun n => gB (e_md_define 227) rF tF n 2 [(2, 119), (0, x1), (9, 0), (9, 0), (9, 0)] [] σ) (md_define_b2 σ x1) := .of fun n => gB_le (gMos_spec (mb_md_define)) n _ _ _ σ
noncomputable def md_define_b76 (σ : gM) (x1 x2 x3 x4 : Int) : Option (gM × Int) := lim (fun n => gB (e_md_define 227) rF tF n 76 [(2, 119), (0, x1), (0, x2), (0, x3), (0, x4)] [] σ)
theorem md_define_b76_l (σ : gM) (x1 x2 x3 x4 : Int) : Lm (fun n => gB (e_md_define 227) rF tF n 76 [(2, 119), (0, x1), (0, x2), (0, x3), (0, x4)] [] σ) (md_define_b76 σ x1 x2 x3 x4) := .of fun n => gB_le (gMos_spec (mb_md_define)) n _ _ _ σ
noncomputable def md_define_b114 (σ : gM) (x1 x2 x3 x4 : Int) : Option (gM × Int) := lim (fun n => gB (e_md_define 227) rF tF n 114 [(2, 119), (0, x1), (0, x2), (0, x3), (0, x4)] [] σ)
theorem md_define_b114_l (σ : gM) (x1 x2 x3 x4 : Int) : Lm (fun n => gB (e_md_define 227) rF tF n 114 [(2, 119), (0, x1), (0, x2), (0, x3), (0, x4)] [] σ) (md_define_b114 σ x1 x2 x3 x4) := .of fun n => gB_le (gMos_spec (mb_md_define)) n _ _ _ σ
noncomputable def md_define_b146 (σ : gM) (x1 x2 x3 x4 : Int) : Option (gM × Int) := lim (fun n => gB (e_md_define 227) rF tF n 146 [(2, 119), (0, x1), (0, x2), (0, x3), (0, x4)] [] σ)
theorem md_define_b146_l (σ : gM) (x1 x2 x3 x4 : Int) : Lm (fun n => gB (e_md_define 227) rF tF n 146 [(2, 119), (0, x1), (0, x2), (0, x3), (0, x4)] [] σ) (md_define_b146 σ x1 x2 x3 x4) := .of fun n => gB_le (gMos_spec (mb_md_define)) n _ _ _ σ
theorem md_define_e (σ : gM) : md_define σ =
  (md_define_b2 σ 0) := Lm.eqn (md_define_l ..) (md_define_b2_l ..) fun n => (rfl)
theorem md_define_b2_e (σ : gM) (x1 : Int) : md_define_b2 σ x1 =
  (if x1 < σ 119 54 then
  (if 0 ≤ σ 119 55 ∧ σ 119 55 < 60 then
    (if 0 ≤ x1 ∧ x1 < 51 then
      (if 0 ≤ x1 ∧ x1 < 51 then
        (if 0 ≤ σ 119 55 ∧ σ 119 55 < 60 then
          (if 0 ≤ x1 ∧ x1 < 51 then
            (if 0 ≤ σ 119 55 ∧ σ 119 55 < 60 then
              (if 0 ≤ x1 ∧ x1 < 51 then
                (if 0 ≤ σ 119 55 ∧ σ 119 55 < 60 then
                  (md_define_b76 (gW (gW (gW (gW σ 158 (σ 119 55) (σ 119 57)) 159 (σ 119 55) (w32 ((σ 149 x1) - (σ 148 x1)))) 160 (σ 119 55) (σ 150 x1)) 161 (σ 119 55) (σ 152 x1)) x1 (σ 119 55) (σ 119 57) 0)
                  else none)
                else none)
              else none)
            else none)
          else none)
        else none)
      else none)
    else none)
  else
  (some (σ, 0))) := Lm.eqn (md_define_b2_l ..) (.ite (.ite (.ite (.ite (.ite (.ite (.ite (.ite (.ite (md_define_b76_l ..) .cst) .cst) .cst) .cst) .cst) .cst) .cst) .cst) .cst) fun n => (rfl)
theorem md_define_b76_e (σ : gM) (x1 x2 x3 x4 : Int) : md_define_b76 σ x1 x2 x3 x4 =
  (if 0 ≤ x1 ∧ x1 < 51 then
  (if x4 < σ 150 x1 then
    (if 0 ≤ x1 ∧ x1 < 51 then
      ((md_number 320 σ (w32 ((σ 148 x1) + x4))).bind fun p1 =>
        md_define_b76 p1.1 x1 x2 x3 (w32 (x4 + 1)))
      else none)
    else
    (if 0 ≤ x1 ∧ x1 < 51 then
      (md_define_b114 σ x1 x2 x3 (σ 151 x1))
      else none))
  else none) := Lm.eqn (md_define_b76_l ..) (.ite (.ite (.ite (.bind (md_number_l ..) fun p1 => (md_define_b76_l ..)) .cst) (.ite (md_define_b114_l ..) .cst)) .cst) fun n => (rfl)
theorem md_define_b114_e (σ : gM) (x1 x2 x3 x4 : Int) : md_define_b114 σ x1 x2 x3 x4 =
  (if x4 = (-1) then
  (if 0 ≤ x1 ∧ x1 < 51 then
    (md_define_b146 σ x1 x2 x3 (σ 148 x1))
    else none)
  else
  ((md_number 320 σ x4).bind fun p1 =>
    if 0 ≤ x4 ∧ x4 < 4004 then
    (md_define_b114 p1.1 x1 x2 x3 (p1.1 141 x4))
    else none)) := Lm.eqn (md_define_b114_l ..) (.ite (.ite (md_define_b146_l ..) .cst) (.bind (md_number_l ..) fun p1 => (.ite (md_define_b114_l ..) .cst))) fun n => (rfl)
theorem md_define_b146_e (σ : gM) (x1 x2 x3 x4 : Int) : md_define_b146 σ x1 x2 x3 x4 =
  (if 0 ≤ x1 ∧ x1 < 51 then
  (if x4 < σ 149 x1 then
    ((md_lay σ x1 x4 x2).bind fun p5 =>
      md_define_b146 p5.1 x1 x2 x3 (w32 (x4 + 1)))
    else
    (if 0 ≤ x1 ∧ x1 < 51 then
      ((md_numberOf σ (σ 151 x1)).bind fun p1 =>
        if 0 ≤ x2 ∧ x2 < 60 then
        (if 0 ≤ x2 ∧ x2 < 60 then
          (if 0 ≤ x1 ∧ x1 < 51 then
            (if 0 ≤ x1 ∧ x1 < 51 then
              ((md_keep_2 (gW (gW p1.1 162 x2 p1.2) 119 57 (w32 (x3 + (p1.1 159 x2)))) 134 (p1.1 146 x1) (p1.1 147 x1)).bind fun p2 =>
                (md_functionOf p2.1 p2.2).bind fun p3 =>
                (md_rootComes p3.1 p3.2).bind fun p4 =>
                md_define_b2 p4.1 (w32 (x1 + 1)))
              else none)
            else none)
          else none)
        else none)
      else none))
  else none) := Lm.eqn (md_define_b146_l ..) (.ite (.ite (.bind (md_lay_l ..) fun p5 => (md_define_b146_l ..)) (.ite (.bind (md_numberOf_l ..) fun p1 => (.ite (.ite (.ite (.ite (.bind (md_keep_2_l ..) fun p2 => (.bind (md_functionOf_l ..) fun p3 => (.bind (md_rootComes_l ..) fun p4 => (md_define_b2_l ..)))) .cst) .cst) .cst) .cst)) .cst)) .cst) fun n => (rfl)
def k_md_load : List gC := [(0, 1, .iload_n 1, [], none), (1, 3, .ifCond .lt 11, [(0, 12)], none), (4, 1, .iload_n 1, [], none), (5, 1, .aload_n 0, [], none),
  (6, 3, .getfield 927, [], none), (9, 3, .if_icmp .le 6, [(0, 15)], none), (12, 2, .bipush (-2), [], none), (14, 1, .ireturn, [], none),
  (15, 1, .aload_n 0, [], none), (16, 1, .iload_n 1, [], none), (17, 3, .putfield 420, [], none), (20, 1, .iconst 0, [], none),
  (21, 1, .istore_n 2, [], none), (22, 1, .iload_n 2, [], some [true, true, true]), (23, 1, .iload_n 1, [], none), (24, 3, .if_icmp .ge 21, [(0, 45)], none),
  (27, 1, .aload_n 0, [], none), (28, 3, .getfield 61, [], none), (31, 1, .iload_n 2, [], none), (32, 1, .aload_n 0, [], none),
  (33, 3, .getfield 347, [], none), (36, 1, .iload_n 2, [], none), (37, 1, .baload, [], none), (38, 1, .bastore, [], none),
  (39, 3, .iinc 2 1, [], none), (42, 3, .goto (-20), [(0, 22)], none), (45, 1, .aload_n 0, [], none), (46, 1, .iconst 0, [], none),
  (47, 3, .putfield 927, [], none), (50, 1, .aload_n 0, [], none), (51, 3, .invokevirtual 930, [], none), (54, 1, .aload_n 0, [], none),
  (55, 3, .invokevirtual 922, [], none), (58, 3, .goto 22, [(0, 80)], none), (61, 1, .astore_n 2, [], none), (62, 1, .aload_n 0, [], none),
  (63, 1, .aload_n 0, [], none), (64, 3, .getfield 414, [], none), (67, 3, .putfield 933, [], none), (70, 1, .aload_n 0, [], none),
  (71, 1, .aload_n 0, [], none), (72, 3, .getfield 417, [], none), (75, 3, .putfield 350, [], none), (78, 1, .iconst (-1), [], none),
  (79, 1, .ireturn, [], none), (80, 1, .aload_n 0, [], none), (81, 1, .iconst 0, [], none), (82, 3, .putfield 933, [], none),
  (85, 1, .aload_n 0, [], none), (86, 1, .iconst (-1), [], none), (87, 3, .putfield 350, [], none), (90, 1, .aload_n 0, [], none),
  (91, 3, .invokevirtual 356, [], none), (94, 1, .aload_n 0, [], none), (95, 3, .invokevirtual 925, [], none), (98, 1, .aload_n 0, [], none),
  (99, 3, .getfield 564, [], none), (102, 1, .ireturn, [], none)]
def e_md_load (m : Nat) : gE := (k_md_load, f_md, c_md, [(930, 1, 20, 5, .inl (fn_md_noRun m)), (922, 1, 20, 5, .inr (fn_md_readText m)), (356, 1, 20, 5, .inl (fn_md_houseBegins m)), (925, 1, 20, 5, .inl (fn_md_define m))], [(54, 58, 61)], (m, 29743728518982877989359573191932291393526715257246650464198663375341717852378244745334326105446082228647085123625540836178030800893201283435258862882293575054224723252352548327112310784), 0)
theorem ok_md_load : gchk cX10_load 3 k_md_load = true := by decide +kernel
def fn_md_load (m : Nat) : gFn := gF (e_md_load m) 3
theorem mo_md_load (m : Nat) : gMo (.inl (fn_md_load m)) := gF_mo (E := e_md_load m) ⟨mo_md_noRun m, ⟨mo_md_readText m, ⟨mo_md_houseBegins m, ⟨mo_md_define m, trivial⟩⟩⟩⟩
noncomputable def md_load (σ : gM) (x1 : Int) : Option (gM × Int) := lim (fun n => fn_md_load 227 n [(2, 119), (0, x1)] σ)
theorem md_load_l (σ : gM) (x1 : Int) : Lm (fun n => fn_md_load 227 n [(2, 119), (0, x1)] σ) (md_load σ x1) := .of fun n => mo_md_load 227 n [(2, 119), (0, x1)] σ
theorem mb_md_load : gMos (e_md_load 227).2.2.2.1 := ⟨mo_md_noRun 227, ⟨mo_md_readText 227, ⟨mo_md_houseBegins 227, ⟨mo_md_define 227, trivial⟩⟩⟩⟩
noncomputable def md_load_b22 (σ : gM) (x1 x2 : Int) : Option (gM × Int) := lim (fun n => gB (e_md_load 227) rF tF n 22 [(2, 119), (0, x1), (0, x2)] [] σ)
theorem md_load_b22_l (σ : gM) (x1 x2 : Int) : Lm (fun n => gB (e_md_load 227) rF tF n 22 [(2, 119), (0, x1), (0, x2)] [] σ) (md_load_b22 σ x1 x2) := .of fun n => gB_le (gMos_spec (mb_md_load)) n _ _ _ σ
theorem md_load_e (σ : gM) (x1 : Int) : md_load σ x1 =
  (if x1 < 0 then
  (some (σ, (-2)))
  else
  (if σ 119 153 < x1 then
    (some (σ, (-2)))
    else
    (md_load_b22 (gW σ 119 23 x1) x1 0))) := Lm.eqn (md_load_l ..) (.ite .cst (.ite .cst (md_load_b22_l ..))) fun n => (rfl)
theorem md_load_b22_e (σ : gM) (x1 x2 : Int) : md_load_b22 σ x1 x2 =
  (if x2 < x1 then
  (if 0 ≤ x2 ∧ x2 < 4000 then
    (if 0 ≤ x2 ∧ x2 < 4000 then
      (md_load_b22 (gW σ 134 x2 (w8 (σ 226 x2))) x1 (w32 (x2 + 1)))
      else none)
    else none)
  else
  ((md_noRun (gW σ 119 153 0)).bind fun p1 =>
    (md_readText p1.1).bind fun p2 => gtry p2.2 (fun v3 =>
    (md_houseBegins (gW (gW p2.1 119 154 0) 119 155 (-1))).bind fun p4 =>
      (md_define p4.1).bind fun p5 =>
      some (p5.1, p5.1 119 55))
    (some (gW (gW p2.1 119 154 (p2.1 119 30)) 119 155 (p2.1 119 31), (-1))))) := Lm.eqn (md_load_b22_l ..) (.ite (.ite (.ite (md_load_b22_l ..) .cst) .cst) (.bind (md_noRun_l ..) fun p1 => (.bind (md_readText_l ..) fun p2 => .xtry (fun v3 => (.bind (md_houseBegins_l ..) fun p4 => (.bind (md_define_l ..) fun p5 => .cst))) .cst))) fun n => (rfl)
def k_md_fault : List gC := [(0, 1, .iload_n 1, [], none), (1, 3, .ifCond .ne 10, [(0, 11)], none), (4, 1, .aload_n 0, [], none), (5, 3, .getfield 933, [], none),
  (8, 3, .goto 16, [(0, 24)], none), (11, 1, .iload_n 1, [], none), (12, 1, .iconst 1, [], none), (13, 3, .if_icmp .ne 10, [(0, 23)], none),
  (16, 1, .aload_n 0, [], none), (17, 3, .getfield 350, [], none), (20, 3, .goto 4, [(0, 24)], none), (23, 1, .iconst (-1), [], none),
  (24, 1, .ireturn, [], none)]
def e_md_fault (m : Nat) : gE := (k_md_fault, f_md, c_md, [], [], (m, 0), 0)
theorem ok_md_fault : gchk cX10_fault 2 k_md_fault = true := by decide +kernel
def fn_md_fault (m : Nat) : gFn := gF (e_md_fault m) 2
theorem mo_md_fault (m : Nat) : gMo (.inl (fn_md_fault m)) := gF_mo (E := e_md_fault m) trivial
noncomputable def md_fault (σ : gM) (x1 : Int) : Option (gM × Int) := lim (fun n => fn_md_fault 227 n [(2, 119), (0, x1)] σ)
theorem md_fault_l (σ : gM) (x1 : Int) : Lm (fun n => fn_md_fault 227 n [(2, 119), (0, x1)] σ) (md_fault σ x1) := .of fun n => mo_md_fault 227 n [(2, 119), (0, x1)] σ
theorem md_fault_e (σ : gM) (x1 : Int) : md_fault σ x1 =
  (if x1 = 0 then
  (some (σ, σ 119 154))
  else
  (if x1 = 1 then
    (some (σ, σ 119 155))
    else
    (some (σ, (-1))))) := Lm.eqn (md_fault_l ..) (.ite .cst (.ite .cst .cst)) fun n => (rfl)
def k_md_push : List gC := [(0, 1, .aload_n 0, [], none), (1, 3, .getfield 332, [], none), (4, 1, .aload_n 0, [], none), (5, 3, .getfield 707, [], none),
  (8, 1, .iload_n 1, [], none), (9, 1, .iastore, [], none), (10, 1, .aload_n 0, [], none), (11, 3, .getfield 335, [], none),
  (14, 1, .aload_n 0, [], none), (15, 3, .getfield 707, [], none), (18, 1, .lload_n 2, [], none), (19, 1, .lastore, [], none),
  (20, 1, .aload_n 0, [], none), (21, 1, .dup, [], none), (22, 3, .getfield 707, [], none), (25, 1, .iconst 1, [], none),
  (26, 1, .iadd, [], none), (27, 3, .putfield 707, [], none), (30, 1, .return_, [], none)]
def e_md_push (m : Nat) : gE := (k_md_push, f_md, c_md, [], [], (m, 15829145694278690179872161345257420162248406342477557754500035589945422406818039498900249667919554879334250981375012917899977285195762735070284456540450321199377513831370588160), 5)
theorem ok_md_push : gchk cX10_push 4 k_md_push = true := by decide +kernel
def fn_md_push (m : Nat) : gFn := gF (e_md_push m) 4
theorem mo_md_push (m : Nat) : gMo (.inl (fn_md_push m)) := gF_mo (E := e_md_push m) trivial
noncomputable def md_push (σ : gM) (x1 x2 : Int) : Option (gM × Int) := lim (fun n => fn_md_push 227 n [(2, 119), (0, x1), (1, x2)] σ)
theorem md_push_l (σ : gM) (x1 x2 : Int) : Lm (fun n => fn_md_push 227 n [(2, 119), (0, x1), (1, x2)] σ) (md_push σ x1 x2) := .of fun n => mo_md_push 227 n [(2, 119), (0, x1), (1, x2)] σ
theorem md_push_e (σ : gM) (x1 x2 : Int) : md_push σ x1 x2 =
  (if 0 ≤ σ 119 125 ∧ σ 119 125 < 24000 then
  (if 0 ≤ σ 119 125 ∧ σ 119 125 < 24000 then
    (some (gW (gW (gW σ 221 (σ 119 125) x1) 222 (σ 119 125) x2) 119 125 (w32 ((σ 119 125) + 1)), 0))
    else none)
  else none) := Lm.eqn (md_push_l ..) (.ite (.ite .cst .cst) .cst) fun n => (rfl)
def k_md_more : List gC := [(0, 1, .iload_n 0, [], none), (1, 3, .ldc_w 406, [], none), (4, 3, .if_icmp .ge 9, [(0, 13)], none), (7, 1, .iload_n 0, [], none),
  (8, 1, .iconst 1, [], none), (9, 1, .iadd, [], none), (10, 3, .goto 4, [(0, 14)], none), (13, 1, .iload_n 0, [], none),
  (14, 1, .ireturn, [], none)]
def e_md_more (m : Nat) : gE := (k_md_more, f_md, c_md, [], [], (m, 0), 0)
theorem ok_md_more : gchk cX10_more 1 k_md_more = true := by decide +kernel
def fn_md_more (m : Nat) : gFn := gF (e_md_more m) 1
theorem mo_md_more (m : Nat) : gMo (.inl (fn_md_more m)) := gF_mo (E := e_md_more m) trivial
noncomputable def md_more (σ : gM) (x0 : Int) : Option (gM × Int) := lim (fun n => fn_md_more 227 n [(0, x0)] σ)
theorem md_more_l (σ : gM) (x0 : Int) : Lm (fun n => fn_md_more 227 n [(0, x0)] σ) (md_more σ x0) := .of fun n => mo_md_more 227 n [(0, x0)] σ
theorem md_more_e (σ : gM) (x0 : Int) : md_more σ x0 =
  (if x0 < 1000000000 then
  (some (σ, w32 (x0 + 1)))
  else
  (some (σ, x0))) := Lm.eqn (md_more_l ..) (.ite .cst .cst) fun n => (rfl)
def k_md_unitAt : List gC := [(0, 1, .iconst 1, [], none), (1, 2, .istore 4, [], none), (3, 2, .iload 4, [], some [true, true, true, true, true]), (5, 1, .aload_n 0, [], none),
  (6, 3, .getfield 252, [], none), (9, 1, .iload_n 1, [], none), (10, 1, .iaload, [], none), (11, 3, .if_icmp .ge 44, [(0, 55)], none),
  (14, 1, .aload_n 0, [], none), (15, 3, .getfield 276, [], none), (18, 1, .aload_n 0, [], none), (19, 1, .iload_n 1, [], none),
  (20, 2, .iload 4, [], none), (22, 3, .invokevirtual 655, [], none), (25, 1, .iaload, [], none), (26, 1, .iload_n 2, [], none),
  (27, 3, .if_icmp .ne 22, [(0, 49)], none), (30, 1, .aload_n 0, [], none), (31, 3, .getfield 279, [], none), (34, 1, .aload_n 0, [], none),
  (35, 1, .iload_n 1, [], none), (36, 2, .iload 4, [], none), (38, 3, .invokevirtual 655, [], none), (41, 1, .iaload, [], none),
  (42, 1, .iload_n 3, [], none), (43, 3, .if_icmp .ne 6, [(0, 49)], none), (46, 2, .iload 4, [], none), (48, 1, .ireturn, [], none),
  (49, 3, .iinc 4 1, [], some [true, true, true, true, true]), (52, 3, .goto (-49), [(0, 3)], none), (55, 1, .iconst (-1), [], none), (56, 1, .ireturn, [], none)]
def e_md_unitAt (m : Nat) : gE := (k_md_unitAt, f_md, c_md, [(655, 3, 20, 0, .inl (fn_md_unit m))], [], (m, 0), 0)
theorem ok_md_unitAt : gchk cX10_unitAt 5 k_md_unitAt = true := by decide +kernel
def fn_md_unitAt (m : Nat) : gFn := gF (e_md_unitAt m) 5
theorem mo_md_unitAt (m : Nat) : gMo (.inl (fn_md_unitAt m)) := gF_mo (E := e_md_unitAt m) ⟨mo_md_unit m, trivial⟩
noncomputable def md_unitAt (σ : gM) (x1 x2 x3 : Int) : Option (gM × Int) := lim (fun n => fn_md_unitAt 227 n [(2, 119), (0, x1), (0, x2), (0, x3)] σ)
theorem md_unitAt_l (σ : gM) (x1 x2 x3 : Int) : Lm (fun n => fn_md_unitAt 227 n [(2, 119), (0, x1), (0, x2), (0, x3)] σ) (md_unitAt σ x1 x2 x3) := .of fun n => mo_md_unitAt 227 n [(2, 119), (0, x1), (0, x2), (0, x3)] σ
theorem mb_md_unitAt : gMos (e_md_unitAt 227).2.2.2.1 := ⟨mo_md_unit 227, trivial⟩
noncomputable def md_unitAt_b3 (σ : gM) (x1 x2 x3 x4 : Int) : Option (gM × Int) := lim (fun n => gB (e_md_unitAt 227) rF tF n 3 [(2, 119), (0, x1), (0, x2), (0, x3), (0, x4)] [] σ)
theorem md_unitAt_b3_l (σ : gM) (x1 x2 x3 x4 : Int) : Lm (fun n => gB (e_md_unitAt 227) rF tF n 3 [(2, 119), (0, x1), (0, x2), (0, x3), (0, x4)] [] σ) (md_unitAt_b3 σ x1 x2 x3 x4) := .of fun n => gB_le (gMos_spec (mb_md_unitAt)) n _ _ _ σ
noncomputable def md_unitAt_b49 (σ : gM) (x1 x2 x3 x4 : Int) : Option (gM × Int) := lim (fun n => gB (e_md_unitAt 227) rF tF n 49 [(2, 119), (0, x1), (0, x2), (0, x3), (0, x4)] [] σ)
theorem md_unitAt_b49_l (σ : gM) (x1 x2 x3 x4 : Int) : Lm (fun n => gB (e_md_unitAt 227) rF tF n 49 [(2, 119), (0, x1), (0, x2), (0, x3), (0, x4)] [] σ) (md_unitAt_b49 σ x1 x2 x3 x4) := .of fun n => gB_le (gMos_spec (mb_md_unitAt)) n _ _ _ σ
theorem md_unitAt_e (σ : gM) (x1 x2 x3 : Int) : md_unitAt σ x1 x2 x3 =
  (md_unitAt_b3 σ x1 x2 x3 1) := Lm.eqn (md_unitAt_l ..) (md_unitAt_b3_l ..) fun n => (rfl)
theorem md_unitAt_b3_e (σ : gM) (x1 x2 x3 x4 : Int) : md_unitAt_b3 σ x1 x2 x3 x4 =
  (if 0 ≤ x1 ∧ x1 < 100 then
  (if x4 < σ 197 x1 then
    ((md_unit σ x1 x4).bind fun p1 =>
      if 0 ≤ p1.2 ∧ p1.2 < 15200 then
      (if p1.1 205 p1.2 = x2 then
        ((md_unit p1.1 x1 x4).bind fun p2 =>
          if 0 ≤ p2.2 ∧ p2.2 < 15200 then
          (if p2.1 206 p2.2 = x3 then
            (some (p2.1, x4))
            else
            (md_unitAt_b49 p2.1 x1 x2 x3 x4))
          else none)
        else
        (md_unitAt_b49 p1.1 x1 x2 x3 x4))
      else none)
    else
    (some (σ, (-1))))
  else none) := Lm.eqn (md_unitAt_b3_l ..) (.ite (.ite (.bind (md_unit_l ..) fun p1 => (.ite (.ite (.bind (md_unit_l ..) fun p2 => (.ite (.ite .cst (md_unitAt_b49_l ..)) .cst)) (md_unitAt_b49_l ..)) .cst)) .cst) .cst) fun n => (rfl)
theorem md_unitAt_b49_e (σ : gM) (x1 x2 x3 x4 : Int) : md_unitAt_b49 σ x1 x2 x3 x4 =
  (md_unitAt_b3 σ x1 x2 x3 (w32 (x4 + 1))) := Lm.eqn (md_unitAt_b49_l ..) (md_unitAt_b3_l ..) fun n => (rfl)
def k_md_heat : List gC := [(0, 1, .aload_n 0, [], none), (1, 3, .getfield 149, [], none), (4, 1, .iload_n 1, [], none), (5, 1, .aload_n 0, [], none),
  (6, 3, .getfield 149, [], none), (9, 1, .iload_n 1, [], none), (10, 1, .iaload, [], none), (11, 3, .invokestatic 679, [], none),
  (14, 1, .iastore, [], none), (15, 1, .aload_n 0, [], none), (16, 3, .getfield 149, [], none), (19, 1, .iload_n 1, [], none),
  (20, 1, .iaload, [], none), (21, 1, .aload_n 0, [], none), (22, 3, .getfield 353, [], none), (25, 3, .if_icmp .lt 31, [(0, 56)], none),
  (28, 1, .aload_n 0, [], none), (29, 3, .getfield 152, [], none), (32, 1, .iload_n 1, [], none), (33, 1, .iaload, [], none),
  (34, 3, .ifCond .ge 22, [(0, 56)], none), (37, 1, .aload_n 0, [], none), (38, 3, .getfield 155, [], none), (41, 1, .iload_n 1, [], none),
  (42, 1, .iaload, [], none), (43, 2, .bipush 8, [], none), (45, 3, .if_icmp .eq 11, [(0, 56)], none), (48, 1, .aload_n 0, [], none),
  (49, 1, .iload_n 1, [], none), (50, 3, .invokevirtual 665, [], none), (53, 3, .ifCond .ne 4, [(0, 57)], none), (56, 1, .return_, [], none),
  (57, 1, .iconst 0, [], none), (58, 1, .istore_n 2, [], none), (59, 1, .iload_n 2, [], some [true, true, true]), (60, 1, .aload_n 0, [], none),
  (61, 3, .getfield 570, [], none), (64, 3, .if_icmp .ge 20, [(0, 84)], none), (67, 1, .aload_n 0, [], none), (68, 3, .getfield 216, [], none),
  (71, 1, .iload_n 2, [], none), (72, 1, .iaload, [], none), (73, 1, .iload_n 1, [], none), (74, 3, .if_icmp .ne 4, [(0, 78)], none),
  (77, 1, .return_, [], none), (78, 3, .iinc 2 1, [], none), (81, 3, .goto (-22), [(0, 59)], none), (84, 1, .aload_n 0, [], none),
  (85, 3, .getfield 216, [], none), (88, 1, .aload_n 0, [], none), (89, 3, .getfield 570, [], none), (92, 1, .iload_n 1, [], none),
  (93, 1, .iastore, [], none), (94, 1, .aload_n 0, [], none), (95, 1, .dup, [], none), (96, 3, .getfield 570, [], none),
  (99, 1, .iconst 1, [], none), (100, 1, .iadd, [], none), (101, 3, .putfield 570, [], none), (104, 1, .return_, [], none)]
def e_md_heat (m : Nat) : gE := (k_md_heat, f_md, c_md, [(679, 1, 0, 0, .inl (fn_md_more m)), (665, 2, 20, 0, .inl (fn_md_isNewest m))], [], (m, 230344386280611654799899571593522271174128492457058131614758685317726084130380178960334883128519211886075950673476138830029805336731758642365791583324105546718511104), 5)
theorem ok_md_heat : gchk cX10_heat 3 k_md_heat = true := by decide +kernel
def fn_md_heat (m : Nat) : gFn := gF (e_md_heat m) 3
theorem mo_md_heat (m : Nat) : gMo (.inl (fn_md_heat m)) := gF_mo (E := e_md_heat m) ⟨mo_md_more m, ⟨mo_md_isNewest m, trivial⟩⟩
noncomputable def md_heat (σ : gM) (x1 : Int) : Option (gM × Int) := lim (fun n => fn_md_heat 227 n [(2, 119), (0, x1)] σ)
theorem md_heat_l (σ : gM) (x1 : Int) : Lm (fun n => fn_md_heat 227 n [(2, 119), (0, x1)] σ) (md_heat σ x1) := .of fun n => mo_md_heat 227 n [(2, 119), (0, x1)] σ
theorem mb_md_heat : gMos (e_md_heat 227).2.2.2.1 := ⟨mo_md_more 227, ⟨mo_md_isNewest 227, trivial⟩⟩
noncomputable def md_heat_b59 (σ : gM) (x1 x2 : Int) : Option (gM × Int) := lim (fun n => gB (e_md_heat 227) rF tF n 59 [(2, 119), (0, x1), (0, x2)] [] σ)
theorem md_heat_b59_l (σ : gM) (x1 x2 : Int) : Lm (fun n => gB (e_md_heat 227) rF tF n 59 [(2, 119), (0, x1), (0, x2)] [] σ) (md_heat_b59 σ x1 x2) := .of fun n => gB_le (gMos_spec (mb_md_heat)) n _ _ _ σ
theorem md_heat_e (σ : gM) (x1 : Int) : md_heat σ x1 =
  (if 0 ≤ x1 ∧ x1 < 60 then
  ((md_more σ (σ 163 x1)).bind fun p1 =>
    if 0 ≤ x1 ∧ x1 < 60 then
    (if 0 ≤ x1 ∧ x1 < 60 then
      (if (gW p1.1 163 x1 p1.2) 163 x1 < p1.1 119 1 then
        (some (gW p1.1 163 x1 p1.2, 0))
        else
        (if 0 ≤ x1 ∧ x1 < 60 then
          (if p1.1 164 x1 < 0 then
            (if 0 ≤ x1 ∧ x1 < 60 then
              (if p1.1 165 x1 = 8 then
                (some (gW p1.1 163 x1 p1.2, 0))
                else
                ((md_isNewest (gW p1.1 163 x1 p1.2) x1).bind fun p2 =>
                  if p2.2 = 0 then
                  (some (p2.1, 0))
                  else
                  (md_heat_b59 p2.1 x1 0)))
              else none)
            else
            (some (gW p1.1 163 x1 p1.2, 0)))
          else none))
      else none)
    else none)
  else none) := Lm.eqn (md_heat_l ..) (.ite (.bind (md_more_l ..) fun p1 => (.ite (.ite (.ite .cst (.ite (.ite (.ite (.ite .cst (.bind (md_isNewest_l ..) fun p2 => (.ite .cst (md_heat_b59_l ..)))) .cst) .cst) .cst)) .cst) .cst)) .cst) fun n => (rfl)
theorem md_heat_b59_e (σ : gM) (x1 x2 : Int) : md_heat_b59 σ x1 x2 =
  (if x2 < σ 119 89 then
  (if 0 ≤ x2 ∧ x2 < 60 then
    (if σ 185 x2 = x1 then
      (some (σ, 0))
      else
      (md_heat_b59 σ x1 (w32 (x2 + 1))))
    else none)
  else
  (if 0 ≤ σ 119 89 ∧ σ 119 89 < 60 then
    (some (gW (gW σ 185 (σ 119 89) x1) 119 89 (w32 ((σ 119 89) + 1)), 0))
    else none)) := Lm.eqn (md_heat_b59_l ..) (.ite (.ite (.ite .cst (md_heat_b59_l ..)) .cst) (.ite .cst .cst)) fun n => (rfl)
def k_md_enterCode : List gC := [(0, 1, .aload_n 0, [], none), (1, 3, .getfield 152, [], none), (4, 1, .aload_n 0, [], none), (5, 3, .getfield 292, [], none),
  (8, 1, .iload_n 1, [], none), (9, 1, .iaload, [], none), (10, 1, .iaload, [], none), (11, 1, .istore_n 2, [], none),
  (12, 1, .iload_n 2, [], none), (13, 3, .ifCond .ge 4, [(0, 17)], none), (16, 1, .return_, [], none), (17, 1, .aload_n 0, [], none),
  (18, 3, .getfield 295, [], none), (21, 1, .iload_n 1, [], none), (22, 1, .iload_n 2, [], none), (23, 1, .iastore, [], none),
  (24, 1, .aload_n 0, [], none), (25, 3, .getfield 298, [], none), (28, 1, .iload_n 1, [], none), (29, 1, .iconst 0, [], none),
  (30, 1, .iastore, [], none), (31, 1, .aload_n 0, [], none), (32, 3, .getfield 261, [], none), (35, 1, .iload_n 2, [], none),
  (36, 1, .aload_n 0, [], none), (37, 3, .getfield 261, [], none), (40, 1, .iload_n 2, [], none), (41, 1, .iaload, [], none),
  (42, 3, .invokestatic 679, [], none), (45, 1, .iastore, [], none), (46, 1, .aload_n 0, [], none), (47, 3, .getfield 341, [], none),
  (50, 2, .bipush 10, [], none), (52, 1, .aload_n 0, [], none), (53, 3, .getfield 341, [], none), (56, 2, .bipush 10, [], none),
  (58, 1, .iaload, [], none), (59, 3, .invokestatic 679, [], none), (62, 1, .iastore, [], none), (63, 1, .return_, [], none)]
def e_md_enterCode (m : Nat) : gE := (k_md_enterCode, f_md, c_md, [(679, 1, 0, 0, .inl (fn_md_more m))], [], (m, 26962416530924665862720523082755559040557221048542016633691468464128), 5)
theorem ok_md_enterCode : gchk cX10_enterCode 3 k_md_enterCode = true := by decide +kernel
def fn_md_enterCode (m : Nat) : gFn := gF (e_md_enterCode m) 3
theorem mo_md_enterCode (m : Nat) : gMo (.inl (fn_md_enterCode m)) := gF_mo (E := e_md_enterCode m) ⟨mo_md_more m, trivial⟩
noncomputable def md_enterCode (σ : gM) (x1 : Int) : Option (gM × Int) := lim (fun n => fn_md_enterCode 227 n [(2, 119), (0, x1)] σ)
theorem md_enterCode_l (σ : gM) (x1 : Int) : Lm (fun n => fn_md_enterCode 227 n [(2, 119), (0, x1)] σ) (md_enterCode σ x1) := .of fun n => mo_md_enterCode 227 n [(2, 119), (0, x1)] σ
theorem md_enterCode_e (σ : gM) (x1 : Int) : md_enterCode σ x1 =
  (if 0 ≤ x1 ∧ x1 < 60 then
  (if 0 ≤ σ 208 x1 ∧ σ 208 x1 < 60 then
    (if σ 164 (σ 208 x1) < 0 then
      (some (σ, 0))
      else
      (if 0 ≤ x1 ∧ x1 < 60 then
        (if 0 ≤ x1 ∧ x1 < 60 then
          (if 0 ≤ σ 164 (σ 208 x1) ∧ σ 164 (σ 208 x1) < 100 then
            ((md_more (gW (gW σ 209 x1 (σ 164 (σ 208 x1))) 210 x1 0) (σ 200 (σ 164 (σ 208 x1)))).bind fun p1 =>
              if 0 ≤ σ 164 (σ 208 x1) ∧ σ 164 (σ 208 x1) < 100 then
              (if (0 : Int) ≤ 10 ∧ (10 : Int) < 16 then
                ((md_more (gW p1.1 200 (σ 164 (σ 208 x1)) p1.2) (p1.1 224 10)).bind fun p2 =>
                  if (0 : Int) ≤ 10 ∧ (10 : Int) < 16 then
                  (some (gW p2.1 224 10 p2.2, 0))
                  else none)
                else none)
              else none)
            else none)
          else none)
        else none))
    else none)
  else none) := Lm.eqn (md_enterCode_l ..) (.ite (.ite (.ite .cst (.ite (.ite (.ite (.bind (md_more_l ..) fun p1 => (.ite (.ite (.bind (md_more_l ..) fun p2 => (.ite .cst .cst)) .cst) .cst)) .cst) .cst) .cst)) .cst) .cst) fun n => (rfl)
def k_md_has : List gC := [(0, 1, .aload_n 0, [], none), (1, 3, .getfield 194, [], none), (4, 1, .iload_n 1, [], none), (5, 1, .iaload, [], none),
  (6, 1, .iload_n 2, [], none), (7, 1, .iand, [], none), (8, 3, .ifCond .eq 7, [(0, 15)], none), (11, 1, .iconst 1, [], none),
  (12, 3, .goto 4, [(0, 16)], none), (15, 1, .iconst 0, [], none), (16, 1, .ireturn, [], none)]
def e_md_has (m : Nat) : gE := (k_md_has, f_md, c_md, [], [], (m, 0), 6)
theorem ok_md_has : gchk cX10_has 3 k_md_has = true := by decide +kernel
def fn_md_has (m : Nat) : gFn := gF (e_md_has m) 3
theorem mo_md_has (m : Nat) : gMo (.inl (fn_md_has m)) := gF_mo (E := e_md_has m) trivial
noncomputable def md_has (σ : gM) (x1 x2 : Int) : Option (gM × Int) := lim (fun n => fn_md_has 227 n [(2, 119), (0, x1), (0, x2)] σ)
theorem md_has_l (σ : gM) (x1 x2 : Int) : Lm (fun n => fn_md_has 227 n [(2, 119), (0, x1), (0, x2)] σ) (md_has σ x1 x2) := .of fun n => mo_md_has 227 n [(2, 119), (0, x1), (0, x2)] σ
theorem md_has_e (σ : gM) (x1 x2 : Int) : md_has σ x1 x2 =
  (if 0 ≤ x1 ∧ x1 < 20000 then
  (if i_and (σ 178 x1) x2 = 0 then
    (some (σ, 0))
    else
    (some (σ, 1)))
  else none) := Lm.eqn (md_has_l ..) (.ite (.ite .cst .cst) .cst) fun n => (rfl)
def k_md_may : List gC := [(0, 1, .aload_n 0, [], none), (1, 3, .getfield 197, [], none), (4, 1, .iload_n 1, [], none), (5, 1, .iaload, [], none),
  (6, 1, .iload_n 2, [], none), (7, 1, .iand, [], none), (8, 3, .ifCond .ne 7, [(0, 15)], none), (11, 1, .iconst 1, [], none),
  (12, 3, .goto 4, [(0, 16)], none), (15, 1, .iconst 0, [], none), (16, 1, .ireturn, [], none)]
def e_md_may (m : Nat) : gE := (k_md_may, f_md, c_md, [], [], (m, 0), 6)
theorem ok_md_may : gchk cX10_may 3 k_md_may = true := by decide +kernel
def fn_md_may (m : Nat) : gFn := gF (e_md_may m) 3
theorem mo_md_may (m : Nat) : gMo (.inl (fn_md_may m)) := gF_mo (E := e_md_may m) trivial
noncomputable def md_may (σ : gM) (x1 x2 : Int) : Option (gM × Int) := lim (fun n => fn_md_may 227 n [(2, 119), (0, x1), (0, x2)] σ)
theorem md_may_l (σ : gM) (x1 x2 : Int) : Lm (fun n => fn_md_may 227 n [(2, 119), (0, x1), (0, x2)] σ) (md_may σ x1 x2) := .of fun n => mo_md_may 227 n [(2, 119), (0, x1), (0, x2)] σ
theorem md_may_e (σ : gM) (x1 x2 : Int) : md_may σ x1 x2 =
  (if 0 ≤ x1 ∧ x1 < 20000 then
  (if i_and (σ 179 x1) x2 = 0 then
    (some (σ, 1))
    else
    (some (σ, 0)))
  else none) := Lm.eqn (md_may_l ..) (.ite (.ite .cst .cst) .cst) fun n => (rfl)
def k_md_leave : List gC := [(0, 1, .iconst 0, [], none), (1, 1, .istore_n 2, [], none), (2, 1, .iload_n 2, [], some [true, true, true]), (3, 1, .aload_n 0, [], none),
  (4, 3, .getfield 685, [], none), (7, 3, .if_icmp .ge 63, [(0, 70)], none), (10, 1, .aload_n 0, [], none), (11, 3, .getfield 301, [], none),
  (14, 1, .iload_n 2, [], none), (15, 1, .iaload, [], none), (16, 1, .iload_n 1, [], none), (17, 3, .if_icmp .eq 6, [(0, 23)], none),
  (20, 3, .goto 44, [(0, 64)], none), (23, 1, .aload_n 0, [], none), (24, 3, .getfield 295, [], none), (27, 1, .iload_n 2, [], none),
  (28, 1, .iconst (-1), [], none), (29, 1, .iastore, [], none), (30, 1, .aload_n 0, [], none), (31, 3, .getfield 298, [], none),
  (34, 1, .iload_n 2, [], none), (35, 1, .iconst (-1), [], none), (36, 1, .iastore, [], none), (37, 1, .aload_n 0, [], none),
  (38, 3, .getfield 310, [], none), (41, 1, .iload_n 2, [], none), (42, 1, .iconst 0, [], none), (43, 1, .bastore, [], none),
  (44, 1, .aload_n 0, [], none), (45, 1, .dup, [], none), (46, 3, .getfield 688, [], none), (49, 1, .iconst 1, [], none),
  (50, 1, .iadd, [], none), (51, 3, .putfield 688, [], none), (54, 1, .aload_n 0, [], none), (55, 3, .getfield 301, [], none),
  (58, 1, .iload_n 2, [], none), (59, 1, .aload_n 0, [], none), (60, 3, .getfield 688, [], none), (63, 1, .iastore, [], none),
  (64, 3, .iinc 2 1, [], some [true, true, true]), (67, 3, .goto (-65), [(0, 2)], none), (70, 1, .return_, [], none)]
def e_md_leave (m : Nat) : gE := (k_md_leave, f_md, c_md, [], [], (m, 3957286423569672544968040336314355040562101585619389438625008897486355601704509874725062416979888719833562742848345568297385358370929918419349073328793640066520515689677062144), 5)
theorem ok_md_leave : gchk cX10_leave 3 k_md_leave = true := by decide +kernel
def fn_md_leave (m : Nat) : gFn := gF (e_md_leave m) 3
theorem mo_md_leave (m : Nat) : gMo (.inl (fn_md_leave m)) := gF_mo (E := e_md_leave m) trivial
noncomputable def md_leave (σ : gM) (x1 : Int) : Option (gM × Int) := lim (fun n => fn_md_leave 227 n [(2, 119), (0, x1)] σ)
theorem md_leave_l (σ : gM) (x1 : Int) : Lm (fun n => fn_md_leave 227 n [(2, 119), (0, x1)] σ) (md_leave σ x1) := .of fun n => mo_md_leave 227 n [(2, 119), (0, x1)] σ
theorem mb_md_leave : gMos (e_md_leave 227).2.2.2.1 := trivial
noncomputable def md_leave_b2 (σ : gM) (x1 x2 : Int) : Option (gM × Int) := lim (fun n => gB (e_md_leave 227) rF tF n 2 [(2, 119), (0, x1), (0, x2)] [] σ)
theorem md_leave_b2_l (σ : gM) (x1 x2 : Int) : Lm (fun n => gB (e_md_leave 227) rF tF n 2 [(2, 119), (0, x1), (0, x2)] [] σ) (md_leave_b2 σ x1 x2) := .of fun n => gB_le (gMos_spec (mb_md_leave)) n _ _ _ σ
noncomputable def md_leave_b64 (σ : gM) (x1 x2 : Int) : Option (gM × Int) := lim (fun n => gB (e_md_leave 227) rF tF n 64 [(2, 119), (0, x1), (0, x2)] [] σ)
theorem md_leave_b64_l (σ : gM) (x1 x2 : Int) : Lm (fun n => gB (e_md_leave 227) rF tF n 64 [(2, 119), (0, x1), (0, x2)] [] σ) (md_leave_b64 σ x1 x2) := .of fun n => gB_le (gMos_spec (mb_md_leave)) n _ _ _ σ
theorem md_leave_e (σ : gM) (x1 : Int) : md_leave σ x1 =
  (md_leave_b2 σ x1 0) := Lm.eqn (md_leave_l ..) (md_leave_b2_l ..) fun n => (rfl)
theorem md_leave_b2_e (σ : gM) (x1 x2 : Int) : md_leave_b2 σ x1 x2 =
  (if x2 < σ 119 121 then
  (if 0 ≤ x2 ∧ x2 < 60 then
    (if σ 211 x2 = x1 then
      (if 0 ≤ x2 ∧ x2 < 60 then
        (if 0 ≤ x2 ∧ x2 < 60 then
          (if 0 ≤ x2 ∧ x2 < 60 then
            (if 0 ≤ x2 ∧ x2 < 60 then
              (md_leave_b64 (gW (gW (gW (gW (gW σ 209 x2 (-1)) 210 x2 (-1)) 214 x2 0) 119 123 (w32 ((σ 119 123) + 1))) 211 x2 (w32 ((σ 119 123) + 1))) x1 x2)
              else none)
            else none)
          else none)
        else none)
      else
      (md_leave_b64 σ x1 x2))
    else none)
  else
  (some (σ, 0))) := Lm.eqn (md_leave_b2_l ..) (.ite (.ite (.ite (.ite (.ite (.ite (.ite (md_leave_b64_l ..) .cst) .cst) .cst) .cst) (md_leave_b64_l ..)) .cst) .cst) fun n => (rfl)
theorem md_leave_b64_e (σ : gM) (x1 x2 : Int) : md_leave_b64 σ x1 x2 =
  (md_leave_b2 σ x1 (w32 (x2 + 1))) := Lm.eqn (md_leave_b64_l ..) (md_leave_b2_l ..) fun n => (rfl)
def k_md_endCodesOfRoot : List gC := [(0, 1, .iconst 0, [], none), (1, 1, .istore_n 2, [], none), (2, 1, .iload_n 2, [], some [true, true, true, false, false]), (3, 1, .aload_n 0, [], none),
  (4, 3, .getfield 576, [], none), (7, 3, .if_icmp .ge 75, [(0, 82)], none), (10, 1, .iconst 0, [], none), (11, 1, .istore_n 3, [], none),
  (12, 1, .iconst 0, [], none), (13, 2, .istore 4, [], none), (15, 2, .iload 4, [], some [true, true, true, true, true]), (17, 1, .aload_n 0, [], none),
  (18, 3, .getfield 252, [], none), (21, 1, .iload_n 2, [], none), (22, 1, .iaload, [], none), (23, 3, .if_icmp .ge 44, [(0, 67)], none),
  (26, 1, .aload_n 0, [], none), (27, 3, .getfield 270, [], none), (30, 1, .iload_n 2, [], none), (31, 1, .baload, [], none),
  (32, 3, .ifCond .eq 35, [(0, 67)], none), (35, 1, .iload_n 3, [], none), (36, 3, .ifCond .ne 19, [(0, 55)], none), (39, 1, .aload_n 0, [], none),
  (40, 3, .getfield 273, [], none), (43, 1, .aload_n 0, [], none), (44, 1, .iload_n 2, [], none), (45, 2, .iload 4, [], none),
  (47, 3, .invokevirtual 655, [], none), (50, 1, .iaload, [], none), (51, 1, .iload_n 1, [], none), (52, 3, .if_icmp .ne 7, [(0, 59)], none),
  (55, 1, .iconst 1, [], some [true, true, true, false, true]), (56, 3, .goto 4, [(0, 60)], none), (59, 1, .iconst 0, [], none), (60, 1, .istore_n 3, [], some [true, true, true, false, true]),
  (61, 3, .iinc 4 1, [], none), (64, 3, .goto (-49), [(0, 15)], none), (67, 1, .iload_n 3, [], some [true, true, true, true, false]), (68, 3, .ifCond .eq 8, [(0, 76)], none),
  (71, 1, .aload_n 0, [], none), (72, 1, .iload_n 2, [], none), (73, 3, .invokevirtual 676, [], none), (76, 3, .iinc 2 1, [], some [true, true, true, false, false]),
  (79, 3, .goto (-77), [(0, 2)], none), (82, 1, .return_, [], none)]
def e_md_endCodesOfRoot (m : Nat) : gE := (k_md_endCodesOfRoot, f_md, c_md, [(655, 3, 20, 0, .inl (fn_md_unit m)), (676, 2, 20, 5, .inl (fn_md_endCode m))], [], (m, 12855504354106998243631638408766189256162814742734085063442432), 5)
theorem ok_md_endCodesOfRoot : gchk cX10_endCodesOfRoot 5 k_md_endCodesOfRoot = true := by decide +kernel
def fn_md_endCodesOfRoot (m : Nat) : gFn := gF (e_md_endCodesOfRoot m) 5
theorem mo_md_endCodesOfRoot (m : Nat) : gMo (.inl (fn_md_endCodesOfRoot m)) := gF_mo (E := e_md_endCodesOfRoot m) ⟨mo_md_unit m, ⟨mo_md_endCode m, trivial⟩⟩
noncomputable def md_endCodesOfRoot (σ : gM) (x1 : Int) : Option (gM × Int) := lim (fun n => fn_md_endCodesOfRoot 227 n [(2, 119), (0, x1)] σ)
theorem md_endCodesOfRoot_l (σ : gM) (x1 : Int) : Lm (fun n => fn_md_endCodesOfRoot 227 n [(2, 119), (0, x1)] σ) (md_endCodesOfRoot σ x1) := .of fun n => mo_md_endCodesOfRoot 227 n [(2, 119), (0, x1)] σ
theorem mb_md_endCodesOfRoot : gMos (e_md_endCodesOfRoot 227).2.2.2.1 := ⟨mo_md_unit 227, ⟨mo_md_endCode 227, trivial⟩⟩
noncomputable def md_endCodesOfRoot_b2 (σ : gM) (x1 x2 : Int) : Option (gM × Int) := lim (fun n => gB (e_md_endCodesOfRoot 227) rF tF n 2 [(2, 119), (0, x1), (0, x2), (9, 0), (9, 0)] [] σ)
theorem md_endCodesOfRoot_b2_l (σ : gM) (x1 x2 : Int) : Lm (fun n => gB (e_md_endCodesOfRoot 227) rF tF n 2 [(2, 119), (0, x1), (0, x2), (9, 0), (9, 0)] [] σ) (md_endCodesOfRoot_b2 σ x1 x2) := .of fun n => gB_le (gMos_spec (mb_md_endCodesOfRoot)) n _ _ _ σ
noncomputable def md_endCodesOfRoot_b15 (σ : gM) (x1 x2 x3 x4 : Int) : Option (gM × Int) := lim (fun n => gB (e_md_endCodesOfRoot 227) rF tF n 15 [(2, 119), (0, x1), (0, x2), (0, x3), (0, x4)] [] σ)
theorem md_endCodesOfRoot_b15_l (σ : gM) (x1 x2 x3 x4 : Int) : Lm (fun n => gB (e_md_endCodesOfRoot 227) rF tF n 15 [(2, 119), (0, x1), (0, x2), (0, x3), (0, x4)] [] σ) (md_endCodesOfRoot_b15 σ x1 x2 x3 x4) := .of fun n => gB_le (gMos_spec (mb_md_endCodesOfRoot)) n _ _ _ σ
noncomputable def md_endCodesOfRoot_b55 (σ : gM) (x1 x2 x4 : Int) : Option (gM × Int) := lim (fun n => gB (e_md_endCodesOfRoot 227) rF tF n 55 [(2, 119), (0, x1), (0, x2), (9, 0), (0, x4)] [] σ)
theorem md_endCodesOfRoot_b55_l (σ : gM) (x1 x2 x4 : Int) : Lm (fun n => gB (e_md_endCodesOfRoot 227) rF tF n 55 [(2, 119), (0, x1), (0, x2), (9, 0), (0, x4)] [] σ) (md_endCodesOfRoot_b55 σ x1 x2 x4) := .of fun n => gB_le (gMos_spec (mb_md_endCodesOfRoot)) n _ _ _ σ
noncomputable def md_endCodesOfRoot_b60 (σ : gM) (x1 x2 x4 y0 : Int) : Option (gM × Int) := lim (fun n => gB (e_md_endCodesOfRoot 227) rF tF n 60 [(2, 119), (0, x1), (0, x2), (9, 0), (0, x4)] [(0, y0)] σ)
theorem md_endCodesOfRoot_b60_l (σ : gM) (x1 x2 x4 y0 : Int) : Lm (fun n => gB (e_md_endCodesOfRoot 227) rF tF n 60 [(2, 119), (0, x1), (0, x2), (9, 0), (0, x4)] [(0, y0)] σ) (md_endCodesOfRoot_b60 σ x1 x2 x4 y0) := .of fun n => gB_le (gMos_spec (mb_md_endCodesOfRoot)) n _ _ _ σ
noncomputable def md_endCodesOfRoot_b67 (σ : gM) (x1 x2 x3 : Int) : Option (gM × Int) := lim (fun n => gB (e_md_endCodesOfRoot 227) rF tF n 67 [(2, 119), (0, x1), (0, x2), (0, x3), (9, 0)] [] σ)
theorem md_endCodesOfRoot_b67_l (σ : gM) (x1 x2 x3 : Int) : Lm (fun n => gB (e_md_endCodesOfRoot 227) rF tF n 67 [(2, 119), (0, x1), (0, x2), (0, x3), (9, 0)] [] σ) (md_endCodesOfRoot_b67 σ x1 x2 x3) := .of fun n => gB_le (gMos_spec (mb_md_endCodesOfRoot)) n _ _ _ σ
noncomputable def md_endCodesOfRoot_b76 (σ : gM) (x1 x2 : Int) : Option (gM × Int) := lim (fun n => gB (e_md_endCodesOfRoot 227) rF tF n 76 [(2, 119), (0, x1), (0, x2), (9, 0), (9, 0)] [] σ)
theorem md_endCodesOfRoot_b76_l (σ : gM) (x1 x2 : Int) : Lm (fun n => gB (e_md_endCodesOfRoot 227) rF tF n 76 [(2, 119), (0, x1), (0, x2), (9, 0), (9, 0)] [] σ) (md_endCodesOfRoot_b76 σ x1 x2) := .of fun n => gB_le (gMos_spec (mb_md_endCodesOfRoot)) n _ _ _ σ
theorem md_endCodesOfRoot_e (σ : gM) (x1 : Int) : md_endCodesOfRoot σ x1 =
  (md_endCodesOfRoot_b2 σ x1 0) := Lm.eqn (md_endCodesOfRoot_l ..) (md_endCodesOfRoot_b2_l ..) fun n => (rfl)
theorem md_endCodesOfRoot_b2_e (σ : gM) (x1 x2 : Int) : md_endCodesOfRoot_b2 σ x1 x2 =
  (if x2 < σ 119 104 then
  (md_endCodesOfRoot_b15 σ x1 x2 0 0)
  else
  (some (σ, 0))) := Lm.eqn (md_endCodesOfRoot_b2_l ..) (.ite (md_endCodesOfRoot_b15_l ..) .cst) fun n => (rfl)
theorem md_endCodesOfRoot_b15_e (σ : gM) (x1 x2 x3 x4 : Int) : md_endCodesOfRoot_b15 σ x1 x2 x3 x4 =
  (if 0 ≤ x2 ∧ x2 < 100 then
  (if x4 < σ 197 x2 then
    (if 0 ≤ x2 ∧ x2 < 100 then
      (if σ 203 x2 = 0 then
        (md_endCodesOfRoot_b67 σ x1 x2 x3)
        else
        (if x3 = 0 then
          ((md_unit σ x2 x4).bind fun p1 =>
            if 0 ≤ p1.2 ∧ p1.2 < 15200 then
            (if p1.1 204 p1.2 = x1 then
              (md_endCodesOfRoot_b55 p1.1 x1 x2 x4)
              else
              (md_endCodesOfRoot_b60 p1.1 x1 x2 x4 0))
            else none)
          else
          (md_endCodesOfRoot_b55 σ x1 x2 x4)))
      else none)
    else
    (md_endCodesOfRoot_b67 σ x1 x2 x3))
  else none) := Lm.eqn (md_endCodesOfRoot_b15_l ..) (.ite (.ite (.ite (.ite (md_endCodesOfRoot_b67_l ..) (.ite (.bind (md_unit_l ..) fun p1 => (.ite (.ite (md_endCodesOfRoot_b55_l ..) (md_endCodesOfRoot_b60_l ..)) .cst)) (md_endCodesOfRoot_b55_l ..))) .cst) (md_endCodesOfRoot_b67_l ..)) .cst) fun n => (rfl)
theorem md_endCodesOfRoot_b55_e (σ : gM) (x1 x2 x4 : Int) : md_endCodesOfRoot_b55 σ x1 x2 x4 =
  (md_endCodesOfRoot_b60 σ x1 x2 x4 1) := Lm.eqn (md_endCodesOfRoot_b55_l ..) (md_endCodesOfRoot_b60_l ..) fun n => (rfl)
theorem md_endCodesOfRoot_b60_e (σ : gM) (x1 x2 x4 y0 : Int) : md_endCodesOfRoot_b60 σ x1 x2 x4 y0 =
  (md_endCodesOfRoot_b15 σ x1 x2 y0 (w32 (x4 + 1))) := Lm.eqn (md_endCodesOfRoot_b60_l ..) (md_endCodesOfRoot_b15_l ..) fun n => (rfl)
theorem md_endCodesOfRoot_b67_e (σ : gM) (x1 x2 x3 : Int) : md_endCodesOfRoot_b67 σ x1 x2 x3 =
  (if x3 = 0 then
  (md_endCodesOfRoot_b76 σ x1 x2)
  else
  ((md_endCode σ x2).bind fun p1 =>
    md_endCodesOfRoot_b76 p1.1 x1 x2)) := Lm.eqn (md_endCodesOfRoot_b67_l ..) (.ite (md_endCodesOfRoot_b76_l ..) (.bind (md_endCode_l ..) fun p1 => (md_endCodesOfRoot_b76_l ..))) fun n => (rfl)
theorem md_endCodesOfRoot_b76_e (σ : gM) (x1 x2 : Int) : md_endCodesOfRoot_b76 σ x1 x2 =
  (md_endCodesOfRoot_b2 σ x1 (w32 (x2 + 1))) := Lm.eqn (md_endCodesOfRoot_b76_l ..) (md_endCodesOfRoot_b2_l ..) fun n => (rfl)
def k_md_changing : List gC := [(0, 1, .aload_n 0, [], none), (1, 3, .getfield 685, [], none), (4, 1, .iconst 1, [], none), (5, 1, .isub, [], none),
  (6, 1, .istore_n 2, [], none), (7, 1, .aload_n 0, [], none), (8, 3, .getfield 295, [], none), (11, 1, .iload_n 2, [], none),
  (12, 1, .iaload, [], none), (13, 3, .ifCond .lt 39, [(0, 52)], none), (16, 1, .aload_n 0, [], none), (17, 3, .getfield 264, [], none),
  (20, 1, .aload_n 0, [], none), (21, 3, .getfield 295, [], none), (24, 1, .iload_n 2, [], none), (25, 1, .iaload, [], none),
  (26, 1, .dup2, [], none), (27, 1, .iaload, [], none), (28, 1, .iconst 1, [], none), (29, 1, .iadd, [], none),
  (30, 1, .iastore, [], none), (31, 1, .aload_n 0, [], none), (32, 3, .getfield 341, [], none), (35, 2, .bipush 11, [], none),
  (37, 1, .dup2, [], none), (38, 1, .iaload, [], none), (39, 1, .iconst 1, [], none), (40, 1, .iadd, [], none),
  (41, 1, .iastore, [], none), (42, 1, .aload_n 0, [], none), (43, 1, .aload_n 0, [], none), (44, 3, .getfield 301, [], none),
  (47, 1, .iload_n 2, [], none), (48, 1, .iaload, [], none), (49, 3, .invokevirtual 691, [], none), (52, 1, .aload_n 0, [], some [true, true, false]),
  (53, 3, .getfield 200, [], none), (56, 1, .iload_n 1, [], none), (57, 1, .dup2, [], none), (58, 1, .iaload, [], none),
  (59, 1, .iconst 1, [], none), (60, 1, .iadd, [], none), (61, 1, .iastore, [], none), (62, 1, .aload_n 0, [], none),
  (63, 3, .getfield 158, [], none), (66, 1, .aload_n 0, [], none), (67, 3, .getfield 182, [], none), (70, 1, .iload_n 1, [], none),
  (71, 1, .iaload, [], none), (72, 1, .dup2, [], none), (73, 1, .iaload, [], none), (74, 1, .iconst 1, [], none),
  (75, 1, .iadd, [], none), (76, 1, .iastore, [], none), (77, 1, .aload_n 0, [], none), (78, 3, .getfield 341, [], none),
  (81, 2, .bipush 9, [], none), (83, 1, .dup2, [], none), (84, 1, .iaload, [], none), (85, 1, .iconst 1, [], none),
  (86, 1, .iadd, [], none), (87, 1, .iastore, [], none), (88, 1, .aload_n 0, [], none), (89, 1, .aload_n 0, [], none),
  (90, 3, .getfield 182, [], none), (93, 1, .iload_n 1, [], none), (94, 1, .iaload, [], none), (95, 3, .invokevirtual 694, [], none),
  (98, 1, .return_, [], none)]
def e_md_changing (m : Nat) : gE := (k_md_changing, f_md, c_md, [(691, 2, 20, 5, .inl (fn_md_leave m)), (694, 2, 20, 5, .inl (fn_md_endCodesOfRoot m))], [], (m, 3957286423569672544968040336314355040562101585619389438625008897486355601704509874725062416979888719833562769808308304830000367093710399037718307543378872853555293565887709184), 5)
theorem ok_md_changing : gchk cX10_changing 3 k_md_changing = true := by decide +kernel
def fn_md_changing (m : Nat) : gFn := gF (e_md_changing m) 3
theorem mo_md_changing (m : Nat) : gMo (.inl (fn_md_changing m)) := gF_mo (E := e_md_changing m) ⟨mo_md_leave m, ⟨mo_md_endCodesOfRoot m, trivial⟩⟩
noncomputable def md_changing (σ : gM) (x1 : Int) : Option (gM × Int) := lim (fun n => fn_md_changing 227 n [(2, 119), (0, x1)] σ)
theorem md_changing_l (σ : gM) (x1 : Int) : Lm (fun n => fn_md_changing 227 n [(2, 119), (0, x1)] σ) (md_changing σ x1) := .of fun n => mo_md_changing 227 n [(2, 119), (0, x1)] σ
theorem mb_md_changing : gMos (e_md_changing 227).2.2.2.1 := ⟨mo_md_leave 227, ⟨mo_md_endCodesOfRoot 227, trivial⟩⟩
noncomputable def md_changing_b52 (σ : gM) (x1 : Int) : Option (gM × Int) := lim (fun n => gB (e_md_changing 227) rF tF n 52 [(2, 119), (0, x1), (9, 0)] [] σ)
theorem md_changing_b52_l (σ : gM) (x1 : Int) : Lm (fun n => gB (e_md_changing 227) rF tF n 52 [(2, 119), (0, x1), (9, 0)] [] σ) (md_changing_b52 σ x1) := .of fun n => gB_le (gMos_spec (mb_md_changing)) n _ _ _ σ
theorem md_changing_e (σ : gM) (x1 : Int) : md_changing σ x1 =
  (if 0 ≤ w32 ((σ 119 121) - 1) ∧ w32 ((σ 119 121) - 1) < 60 then
  (if σ 209 (w32 ((σ 119 121) - 1)) < 0 then
    (md_changing_b52 σ x1)
    else
    (if 0 ≤ w32 ((σ 119 121) - 1) ∧ w32 ((σ 119 121) - 1) < 60 then
      (if 0 ≤ σ 209 (w32 ((σ 119 121) - 1)) ∧ σ 209 (w32 ((σ 119 121) - 1)) < 100 then
        (if 0 ≤ σ 209 (w32 ((σ 119 121) - 1)) ∧ σ 209 (w32 ((σ 119 121) - 1)) < 100 then
          (if (0 : Int) ≤ 11 ∧ (11 : Int) < 16 then
            (if (0 : Int) ≤ 11 ∧ (11 : Int) < 16 then
              (if 0 ≤ w32 ((σ 119 121) - 1) ∧ w32 ((σ 119 121) - 1) < 60 then
                ((md_leave (gW (gW σ 201 (σ 209 (w32 ((σ 119 121) - 1))) (w32 ((σ 201 (σ 209 (w32 ((σ 119 121) - 1)))) + 1))) 224 11 (w32 ((σ 224 11) + 1))) (σ 211 (w32 ((σ 119 121) - 1)))).bind fun p1 =>
                  md_changing_b52 p1.1 x1)
                else none)
              else none)
            else none)
          else none)
        else none)
      else none))
  else none) := Lm.eqn (md_changing_l ..) (.ite (.ite (md_changing_b52_l ..) (.ite (.ite (.ite (.ite (.ite (.ite (.bind (md_leave_l ..) fun p1 => (md_changing_b52_l ..)) .cst) .cst) .cst) .cst) .cst) .cst)) .cst) fun n => (rfl)
theorem md_changing_b52_e (σ : gM) (x1 : Int) : md_changing_b52 σ x1 =
  (if 0 ≤ x1 ∧ x1 < 20000 then
  (if 0 ≤ x1 ∧ x1 < 20000 then
    (if 0 ≤ x1 ∧ x1 < 20000 then
      (if 0 ≤ σ 174 x1 ∧ σ 174 x1 < 60 then
        (if 0 ≤ σ 174 x1 ∧ σ 174 x1 < 60 then
          (if (0 : Int) ≤ 9 ∧ (9 : Int) < 16 then
            (if (0 : Int) ≤ 9 ∧ (9 : Int) < 16 then
              (if 0 ≤ x1 ∧ x1 < 20000 then
                ((md_endCodesOfRoot (gW (gW (gW σ 180 x1 (w32 ((σ 180 x1) + 1))) 166 (σ 174 x1) (w32 ((σ 166 (σ 174 x1)) + 1))) 224 9 (w32 ((σ 224 9) + 1))) (σ 174 x1)).bind fun p1 =>
                  some (p1.1, 0))
                else none)
              else none)
            else none)
          else none)
        else none)
      else none)
    else none)
  else none) := Lm.eqn (md_changing_b52_l ..) (.ite (.ite (.ite (.ite (.ite (.ite (.ite (.ite (.bind (md_endCodesOfRoot_l ..) fun p1 => .cst) .cst) .cst) .cst) .cst) .cst) .cst) .cst) .cst) fun n => (rfl)
def k_md_settle : List gC := [(0, 1, .aload_n 0, [], none), (1, 1, .iload_n 1, [], none), (2, 3, .invokevirtual 697, [], none), (5, 1, .iload_n 3, [], none),
  (6, 3, .ifCond .eq 29, [(0, 35)], none), (9, 1, .aload_n 0, [], none), (10, 3, .getfield 197, [], none), (13, 1, .iload_n 1, [], none),
  (14, 1, .dup2, [], none), (15, 1, .iaload, [], none), (16, 1, .iload_n 2, [], none), (17, 1, .iconst 1, [], none),
  (18, 1, .isub, [], none), (19, 1, .ior, [], none), (20, 1, .iastore, [], none), (21, 1, .aload_n 0, [], none),
  (22, 3, .getfield 194, [], none), (25, 1, .iload_n 1, [], none), (26, 1, .dup2, [], none), (27, 1, .iaload, [], none),
  (28, 1, .iload_n 2, [], none), (29, 1, .iconst 1, [], none), (30, 1, .isub, [], none), (31, 1, .iconst (-1), [], none),
  (32, 1, .ixor, [], none), (33, 1, .iand, [], none), (34, 1, .iastore, [], none), (35, 1, .aload_n 0, [], some [true, true, true, false]),
  (36, 3, .getfield 194, [], none), (39, 1, .iload_n 1, [], none), (40, 1, .dup2, [], none), (41, 1, .iaload, [], none),
  (42, 1, .iload_n 2, [], none), (43, 1, .ior, [], none), (44, 1, .iastore, [], none), (45, 1, .return_, [], none)]
def e_md_settle (m : Nat) : gE := (k_md_settle, f_md, c_md, [(697, 2, 20, 5, .inl (fn_md_changing m))], [], (m, 3957286423569672544968040336314355040562101585619389438625008897486355601704509874725062416979888719833562769808308304831149738749359815681487067813741604741269347907525410816), 5)
theorem ok_md_settle : gchk cX10_settle 4 k_md_settle = true := by decide +kernel
def fn_md_settle (m : Nat) : gFn := gF (e_md_settle m) 4
theorem mo_md_settle (m : Nat) : gMo (.inl (fn_md_settle m)) := gF_mo (E := e_md_settle m) ⟨mo_md_changing m, trivial⟩
noncomputable def md_settle (σ : gM) (x1 x2 x3 : Int) : Option (gM × Int) := lim (fun n => fn_md_settle 227 n [(2, 119), (0, x1), (0, x2), (0, x3)] σ)
theorem md_settle_l (σ : gM) (x1 x2 x3 : Int) : Lm (fun n => fn_md_settle 227 n [(2, 119), (0, x1), (0, x2), (0, x3)] σ) (md_settle σ x1 x2 x3) := .of fun n => mo_md_settle 227 n [(2, 119), (0, x1), (0, x2), (0, x3)] σ
theorem mb_md_settle : gMos (e_md_settle 227).2.2.2.1 := ⟨mo_md_changing 227, trivial⟩
noncomputable def md_settle_b35 (σ : gM) (x1 x2 : Int) : Option (gM × Int) := lim (fun n => gB (e_md_settle 227) rF tF n 35 [(2, 119), (0, x1), (0, x2), (9, 0)] [] σ)
theorem md_settle_b35_l (σ : gM) (x1 x2 : Int) : Lm (fun n => gB (e_md_settle 227) rF tF n 35 [(2, 119), (0, x1), (0, x2), (9, 0)] [] σ) (md_settle_b35 σ x1 x2) := .of fun n => gB_le (gMos_spec (mb_md_settle)) n _ _ _ σ
theorem md_settle_e (σ : gM) (x1 x2 x3 : Int) : md_settle σ x1 x2 x3 =
  ((md_changing σ x1).bind fun p1 =>
  if x3 = 0 then
  (md_settle_b35 p1.1 x1 x2)
  else
  (if 0 ≤ x1 ∧ x1 < 20000 then
    (if 0 ≤ x1 ∧ x1 < 20000 then
      (if 0 ≤ x1 ∧ x1 < 20000 then
        (if 0 ≤ x1 ∧ x1 < 20000 then
          (md_settle_b35 (gW (gW p1.1 179 x1 (i_or (p1.1 179 x1) (w32 (x2 - 1)))) 178 x1 (i_and (p1.1 178 x1) (i_xor (w32 (x2 - 1)) (-1)))) x1 x2)
          else none)
        else none)
      else none)
    else none)) := Lm.eqn (md_settle_l ..) (.bind (md_changing_l ..) fun p1 => (.ite (md_settle_b35_l ..) (.ite (.ite (.ite (.ite (md_settle_b35_l ..) .cst) .cst) .cst) .cst))) fun n => (rfl)
theorem md_settle_b35_e (σ : gM) (x1 x2 : Int) : md_settle_b35 σ x1 x2 =
  (if 0 ≤ x1 ∧ x1 < 20000 then
  (if 0 ≤ x1 ∧ x1 < 20000 then
    (some (gW σ 178 x1 (i_or (σ 178 x1) x2), 0))
    else none)
  else none) := Lm.eqn (md_settle_b35_l ..) (.ite (.ite .cst .cst) .cst) fun n => (rfl)
def k_md_setsAnew : List gC := [(0, 1, .aload_n 0, [], none), (1, 3, .getfield 161, [], none), (4, 1, .iload_n 3, [], none), (5, 1, .iaload, [], none),
  (6, 2, .istore 4, [], none), (8, 1, .iload_n 2, [], none), (9, 1, .iconst 2, [], none), (10, 3, .if_icmp .ne 27, [(0, 37)], none),
  (13, 2, .iload 4, [], none), (15, 3, .ifCond .eq 9, [(0, 24)], none), (18, 2, .iload 4, [], none), (20, 1, .iconst 1, [], none),
  (21, 3, .if_icmp .ne 16, [(0, 37)], none), (24, 1, .aload_n 0, [], some [true, true, true, true, true, false]), (25, 1, .iload_n 1, [], none), (26, 1, .iconst 1, [], none),
  (27, 3, .invokevirtual 755, [], none), (30, 3, .ifCond .eq 7, [(0, 37)], none), (33, 1, .iconst 1, [], none), (34, 3, .goto 33, [(0, 67)], none),
  (37, 1, .iload_n 2, [], some [true, true, true, true, true, false]), (38, 1, .iconst 1, [], none), (39, 3, .if_icmp .ne 27, [(0, 66)], none), (42, 2, .iload 4, [], none),
  (44, 3, .ifCond .eq 9, [(0, 53)], none), (47, 2, .iload 4, [], none), (49, 1, .iconst 2, [], none), (50, 3, .if_icmp .ne 16, [(0, 66)], none),
  (53, 1, .aload_n 0, [], some [true, true, false, true, false, false]), (54, 1, .iload_n 1, [], none), (55, 1, .iconst 2, [], none), (56, 3, .invokevirtual 755, [], none),
  (59, 3, .ifCond .eq 7, [(0, 66)], none), (62, 1, .iconst 2, [], none), (63, 3, .goto 4, [(0, 67)], none), (66, 1, .iconst 4, [], some [true, true, false, true, false, false]),
  (67, 2, .istore 5, [], some [true, true, false, true, false, false]), (69, 1, .aload_n 0, [], none), (70, 1, .iload_n 1, [], none), (71, 2, .iload 5, [], none),
  (73, 2, .iload 5, [], none), (75, 1, .iconst 4, [], none), (76, 3, .if_icmp .ne 7, [(0, 83)], none), (79, 1, .iconst 1, [], none),
  (80, 3, .goto 4, [(0, 84)], none), (83, 1, .iconst 0, [], none), (84, 3, .invokevirtual 758, [], some [true, false, false, true, false, true]), (87, 1, .aload_n 0, [], none),
  (88, 3, .getfield 161, [], none), (91, 1, .iload_n 3, [], none), (92, 2, .iload 5, [], none), (94, 1, .iconst 4, [], none),
  (95, 3, .if_icmp .ne 7, [(0, 102)], none), (98, 1, .iconst 3, [], none), (99, 3, .goto 5, [(0, 104)], none), (102, 2, .iload 5, [], none),
  (104, 1, .iastore, [], some [false, false, false, false, false, true]), (105, 2, .iload 5, [], none), (107, 1, .ireturn, [], none)]
def e_md_setsAnew (m : Nat) : gE := (k_md_setsAnew, f_md, c_md, [(755, 3, 20, 0, .inl (fn_md_may m)), (758, 4, 20, 5, .inl (fn_md_settle m))], [], (m, 3957286423569672544968040336314355040562101585619389438625008897486355601704509874725062416979888719833562769808308304831149925821569394037060597885400192425495863866890911744), 0)
theorem ok_md_setsAnew : gchk cX10_setsAnew 6 k_md_setsAnew = true := by decide +kernel
def fn_md_setsAnew (m : Nat) : gFn := gF (e_md_setsAnew m) 6
theorem mo_md_setsAnew (m : Nat) : gMo (.inl (fn_md_setsAnew m)) := gF_mo (E := e_md_setsAnew m) ⟨mo_md_may m, ⟨mo_md_settle m, trivial⟩⟩
noncomputable def md_setsAnew (σ : gM) (x1 x2 x3 : Int) : Option (gM × Int) := lim (fun n => fn_md_setsAnew 227 n [(2, 119), (0, x1), (0, x2), (0, x3)] σ)
theorem md_setsAnew_l (σ : gM) (x1 x2 x3 : Int) : Lm (fun n => fn_md_setsAnew 227 n [(2, 119), (0, x1), (0, x2), (0, x3)] σ) (md_setsAnew σ x1 x2 x3) := .of fun n => mo_md_setsAnew 227 n [(2, 119), (0, x1), (0, x2), (0, x3)] σ
theorem mb_md_setsAnew : gMos (e_md_setsAnew 227).2.2.2.1 := ⟨mo_md_may 227, ⟨mo_md_settle 227, trivial⟩⟩
noncomputable def md_setsAnew_b24 (σ : gM) (x1 x2 x3 x4 : Int) : Option (gM × Int) := lim (fun n => gB (e_md_setsAnew 227) rF tF n 24 [(2, 119), (0, x1), (0, x2), (0, x3), (0, x4), (9, 0)] [] σ)
theorem md_setsAnew_b24_l (σ : gM) (x1 x2 x3 x4 : Int) : Lm (fun n => gB (e_md_setsAnew 227) rF tF n 24 [(2, 119), (0, x1), (0, x2), (0, x3), (0, x4), (9, 0)] [] σ) (md_setsAnew_b24 σ x1 x2 x3 x4) := .of fun n => gB_le (gMos_spec (mb_md_setsAnew)) n _ _ _ σ
noncomputable def md_setsAnew_b37 (σ : gM) (x1 x2 x3 x4 : Int) : Option (gM × Int) := lim (fun n => gB (e_md_setsAnew 227) rF tF n 37 [(2, 119), (0, x1), (0, x2), (0, x3), (0, x4), (9, 0)] [] σ)
theorem md_setsAnew_b37_l (σ : gM) (x1 x2 x3 x4 : Int) : Lm (fun n => gB (e_md_setsAnew 227) rF tF n 37 [(2, 119), (0, x1), (0, x2), (0, x3), (0, x4), (9, 0)] [] σ) (md_setsAnew_b37 σ x1 x2 x3 x4) := .of fun n => gB_le (gMos_spec (mb_md_setsAnew)) n _ _ _ σ
noncomputable def md_setsAnew_b53 (σ : gM) (x1 x3 : Int) : Option (gM × Int) := lim (fun n => gB (e_md_setsAnew 227) rF tF n 53 [(2, 119), (0, x1), (9, 0), (0, x3), (9, 0), (9, 0)] [] σ)
theorem md_setsAnew_b53_l (σ : gM) (x1 x3 : Int) : Lm (fun n => gB (e_md_setsAnew 227) rF tF n 53 [(2, 119), (0, x1), (9, 0), (0, x3), (9, 0), (9, 0)] [] σ) (md_setsAnew_b53 σ x1 x3) := .of fun n => gB_le (gMos_spec (mb_md_setsAnew)) n _ _ _ σ
noncomputable def md_setsAnew_b66 (σ : gM) (x1 x3 : Int) : Option (gM × Int) := lim (fun n => gB (e_md_setsAnew 227) rF tF n 66 [(2, 119), (0, x1), (9, 0), (0, x3), (9, 0), (9, 0)] [] σ)
theorem md_setsAnew_b66_l (σ : gM) (x1 x3 : Int) : Lm (fun n => gB (e_md_setsAnew 227) rF tF n 66 [(2, 119), (0, x1), (9, 0), (0, x3), (9, 0), (9, 0)] [] σ) (md_setsAnew_b66 σ x1 x3) := .of fun n => gB_le (gMos_spec (mb_md_setsAnew)) n _ _ _ σ
noncomputable def md_setsAnew_b67 (σ : gM) (x1 x3 y0 : Int) : Option (gM × Int) := lim (fun n => gB (e_md_setsAnew 227) rF tF n 67 [(2, 119), (0, x1), (9, 0), (0, x3), (9, 0), (9, 0)] [(0, y0)] σ)
theorem md_setsAnew_b67_l (σ : gM) (x1 x3 y0 : Int) : Lm (fun n => gB (e_md_setsAnew 227) rF tF n 67 [(2, 119), (0, x1), (9, 0), (0, x3), (9, 0), (9, 0)] [(0, y0)] σ) (md_setsAnew_b67 σ x1 x3 y0) := .of fun n => gB_le (gMos_spec (mb_md_setsAnew)) n _ _ _ σ
noncomputable def md_setsAnew_b84 (σ : gM) (x3 x5 y0 y1 y2 : Int) : Option (gM × Int) := lim (fun n => gB (e_md_setsAnew 227) rF tF n 84 [(2, 119), (9, 0), (9, 0), (0, x3), (9, 0), (0, x5)] [(0, y0), (0, y1), (0, y2), (2, 119)] σ)
theorem md_setsAnew_b84_l (σ : gM) (x3 x5 y0 y1 y2 : Int) : Lm (fun n => gB (e_md_setsAnew 227) rF tF n 84 [(2, 119), (9, 0), (9, 0), (0, x3), (9, 0), (0, x5)] [(0, y0), (0, y1), (0, y2), (2, 119)] σ) (md_setsAnew_b84 σ x3 x5 y0 y1 y2) := .of fun n => gB_le (gMos_spec (mb_md_setsAnew)) n _ _ _ σ
noncomputable def md_setsAnew_b104 (σ : gM) (x5 y0 y1 : Int) : Option (gM × Int) := lim (fun n => gB (e_md_setsAnew 227) rF tF n 104 [(9, 0), (9, 0), (9, 0), (9, 0), (9, 0), (0, x5)] [(0, y0), (0, y1), (2, 167)] σ)
theorem md_setsAnew_b104_l (σ : gM) (x5 y0 y1 : Int) : Lm (fun n => gB (e_md_setsAnew 227) rF tF n 104 [(9, 0), (9, 0), (9, 0), (9, 0), (9, 0), (0, x5)] [(0, y0), (0, y1), (2, 167)] σ) (md_setsAnew_b104 σ x5 y0 y1) := .of fun n => gB_le (gMos_spec (mb_md_setsAnew)) n _ _ _ σ
theorem md_setsAnew_e (σ : gM) (x1 x2 x3 : Int) : md_setsAnew σ x1 x2 x3 =
  (if 0 ≤ x3 ∧ x3 < 720 then
  (if x2 = 2 then
    (if σ 167 x3 = 0 then
      (md_setsAnew_b24 σ x1 x2 x3 (σ 167 x3))
      else
      (if σ 167 x3 = 1 then
        (md_setsAnew_b24 σ x1 x2 x3 (σ 167 x3))
        else
        (md_setsAnew_b37 σ x1 x2 x3 (σ 167 x3))))
    else
    (md_setsAnew_b37 σ x1 x2 x3 (σ 167 x3)))
  else none) := Lm.eqn (md_setsAnew_l ..) (.ite (.ite (.ite (md_setsAnew_b24_l ..) (.ite (md_setsAnew_b24_l ..) (md_setsAnew_b37_l ..))) (md_setsAnew_b37_l ..)) .cst) fun n => (rfl)
theorem md_setsAnew_b24_e (σ : gM) (x1 x2 x3 x4 : Int) : md_setsAnew_b24 σ x1 x2 x3 x4 =
  ((md_may σ x1 1).bind fun p1 =>
  if p1.2 = 0 then
  (md_setsAnew_b37 p1.1 x1 x2 x3 x4)
  else
  (md_setsAnew_b67 p1.1 x1 x3 1)) := Lm.eqn (md_setsAnew_b24_l ..) (.bind (md_may_l ..) fun p1 => (.ite (md_setsAnew_b37_l ..) (md_setsAnew_b67_l ..))) fun n => (rfl)
theorem md_setsAnew_b37_e (σ : gM) (x1 x2 x3 x4 : Int) : md_setsAnew_b37 σ x1 x2 x3 x4 =
  (if x2 = 1 then
  (if x4 = 0 then
    (md_setsAnew_b53 σ x1 x3)
    else
    (if x4 = 2 then
      (md_setsAnew_b53 σ x1 x3)
      else
      (md_setsAnew_b66 σ x1 x3)))
  else
  (md_setsAnew_b66 σ x1 x3)) := Lm.eqn (md_setsAnew_b37_l ..) (.ite (.ite (md_setsAnew_b53_l ..) (.ite (md_setsAnew_b53_l ..) (md_setsAnew_b66_l ..))) (md_setsAnew_b66_l ..)) fun n => (rfl)
theorem md_setsAnew_b53_e (σ : gM) (x1 x3 : Int) : md_setsAnew_b53 σ x1 x3 =
  ((md_may σ x1 2).bind fun p1 =>
  if p1.2 = 0 then
  (md_setsAnew_b66 p1.1 x1 x3)
  else
  (md_setsAnew_b67 p1.1 x1 x3 2)) := Lm.eqn (md_setsAnew_b53_l ..) (.bind (md_may_l ..) fun p1 => (.ite (md_setsAnew_b66_l ..) (md_setsAnew_b67_l ..))) fun n => (rfl)
theorem md_setsAnew_b66_e (σ : gM) (x1 x3 : Int) : md_setsAnew_b66 σ x1 x3 =
  (md_setsAnew_b67 σ x1 x3 4) := Lm.eqn (md_setsAnew_b66_l ..) (md_setsAnew_b67_l ..) fun n => (rfl)
theorem md_setsAnew_b67_e (σ : gM) (x1 x3 y0 : Int) : md_setsAnew_b67 σ x1 x3 y0 =
  (if y0 = 4 then
  (md_setsAnew_b84 σ x3 y0 1 y0 x1)
  else
  (md_setsAnew_b84 σ x3 y0 0 y0 x1)) := Lm.eqn (md_setsAnew_b67_l ..) (.ite (md_setsAnew_b84_l ..) (md_setsAnew_b84_l ..)) fun n => (rfl)
theorem md_setsAnew_b84_e (σ : gM) (x3 x5 y0 y1 y2 : Int) : md_setsAnew_b84 σ x3 x5 y0 y1 y2 =
  ((md_settle σ y2 y1 y0).bind fun p1 =>
  if x5 = 4 then
  (md_setsAnew_b104 p1.1 x5 3 x3)
  else
  (md_setsAnew_b104 p1.1 x5 x5 x3)) := Lm.eqn (md_setsAnew_b84_l ..) (.bind (md_settle_l ..) fun p1 => (.ite (md_setsAnew_b104_l ..) (md_setsAnew_b104_l ..))) fun n => (rfl)
theorem md_setsAnew_b104_e (σ : gM) (x5 y0 y1 : Int) : md_setsAnew_b104 σ x5 y0 y1 =
  (if 0 ≤ y1 ∧ y1 < 720 then
  (some (gW σ 167 y1 y0, x5))
  else none) := Lm.eqn (md_setsAnew_b104_l ..) (.ite .cst .cst) fun n => (rfl)
def k_md_sets : List gC := [(0, 1, .aload_n 0, [], none), (1, 3, .getfield 185, [], none), (4, 1, .iload_n 1, [], none), (5, 1, .iaload, [], none),
  (6, 2, .istore 5, [], none), (8, 2, .bipush 12, [], none), (10, 1, .aload_n 0, [], none), (11, 3, .getfield 182, [], none),
  (14, 1, .iload_n 1, [], none), (15, 1, .iaload, [], none), (16, 1, .imul, [], none), (17, 2, .iload 5, [], none),
  (19, 1, .iadd, [], none), (20, 2, .istore 6, [], none), (22, 1, .aload_n 0, [], none), (23, 1, .iload_n 1, [], none),
  (24, 1, .iconst 1, [], none), (25, 3, .invokevirtual 749, [], none), (28, 3, .ifCond .eq 25, [(0, 53)], none), (31, 1, .iload_n 2, [], none),
  (32, 1, .iconst 2, [], none), (33, 3, .if_icmp .ne 20, [(0, 53)], none), (36, 1, .aload_n 0, [], none), (37, 3, .getfield 161, [], none),
  (40, 2, .iload 6, [], none), (42, 1, .iaload, [], none), (43, 1, .iconst 1, [], none), (44, 3, .if_icmp .ne 9, [(0, 53)], none),
  (47, 1, .iconst 1, [], none), (48, 2, .istore 7, [], none), (50, 3, .goto 59, [(0, 109)], none), (53, 1, .aload_n 0, [], some [true, true, true, true, false, true, true, false, false]),
  (54, 1, .iload_n 1, [], none), (55, 1, .iconst 2, [], none), (56, 3, .invokevirtual 749, [], none), (59, 3, .ifCond .eq 25, [(0, 84)], none),
  (62, 1, .iload_n 2, [], none), (63, 1, .iconst 1, [], none), (64, 3, .if_icmp .ne 20, [(0, 84)], none), (67, 1, .aload_n 0, [], none),
  (68, 3, .getfield 161, [], none), (71, 2, .iload 6, [], none), (73, 1, .iaload, [], none), (74, 1, .iconst 2, [], none),
  (75, 3, .if_icmp .ne 9, [(0, 84)], none), (78, 1, .iconst 2, [], none), (79, 2, .istore 7, [], none), (81, 3, .goto 28, [(0, 109)], none),
  (84, 1, .aload_n 0, [], some [true, true, true, true, false, true, true, false, false]), (85, 1, .iload_n 1, [], none), (86, 1, .iconst 4, [], none), (87, 3, .invokevirtual 749, [], none),
  (90, 3, .ifCond .eq 9, [(0, 99)], none), (93, 1, .iconst 4, [], none), (94, 2, .istore 7, [], none), (96, 3, .goto 13, [(0, 109)], none),
  (99, 1, .aload_n 0, [], none), (100, 1, .iload_n 1, [], none), (101, 1, .iload_n 2, [], none), (102, 2, .iload 6, [], none),
  (104, 3, .invokevirtual 752, [], none), (107, 2, .istore 7, [], none), (109, 2, .bipush 12, [], some [true, false, true, true, false, true, false, true, false]), (111, 1, .aload_n 0, [], none),
  (112, 3, .getfield 685, [], none), (115, 1, .iconst 1, [], none), (116, 1, .isub, [], none), (117, 1, .imul, [], none),
  (118, 2, .iload 5, [], none), (120, 1, .iadd, [], none), (121, 2, .istore 8, [], none), (123, 1, .aload_n 0, [], none),
  (124, 3, .getfield 313, [], none), (127, 2, .iload 8, [], none), (129, 2, .iload 7, [], none), (131, 1, .iconst 4, [], none),
  (132, 3, .if_icmp .ne 7, [(0, 139)], none), (135, 1, .iconst 3, [], none), (136, 3, .goto 5, [(0, 141)], none), (139, 2, .iload 7, [], none),
  (141, 1, .iastore, [], some [true, false, true, true, false, false, false, false, true]), (142, 1, .aload_n 0, [], none), (143, 3, .getfield 316, [], none), (146, 2, .iload 8, [], none),
  (148, 1, .iload_n 2, [], none), (149, 1, .iastore, [], none), (150, 1, .aload_n 0, [], none), (151, 3, .getfield 319, [], none),
  (154, 2, .iload 8, [], none), (156, 1, .lload_n 3, [], none), (157, 1, .lastore, [], none), (158, 1, .return_, [], none)]
def e_md_sets (m : Nat) : gE := (k_md_sets, f_md, c_md, [(749, 3, 20, 0, .inl (fn_md_has m)), (752, 4, 20, 0, .inl (fn_md_setsAnew m))], [], (m, 3957286423569672544968040336314355040562101585619389438625008897486355601704509874725062416979888719833562770176901325671100079264282490929907111001533026327417753256979333120), 5)
theorem ok_md_sets : gchk cX10_sets 9 k_md_sets = true := by decide +kernel
def fn_md_sets (m : Nat) : gFn := gF (e_md_sets m) 9
theorem mo_md_sets (m : Nat) : gMo (.inl (fn_md_sets m)) := gF_mo (E := e_md_sets m) ⟨mo_md_has m, ⟨mo_md_setsAnew m, trivial⟩⟩
noncomputable def md_sets (σ : gM) (x1 x2 x3 : Int) : Option (gM × Int) := lim (fun n => fn_md_sets 227 n [(2, 119), (0, x1), (0, x2), (1, x3)] σ)
theorem md_sets_l (σ : gM) (x1 x2 x3 : Int) : Lm (fun n => fn_md_sets 227 n [(2, 119), (0, x1), (0, x2), (1, x3)] σ) (md_sets σ x1 x2 x3) := .of fun n => mo_md_sets 227 n [(2, 119), (0, x1), (0, x2), (1, x3)] σ
theorem mb_md_sets : gMos (e_md_sets 227).2.2.2.1 := ⟨mo_md_has 227, ⟨mo_md_setsAnew 227, trivial⟩⟩
noncomputable def md_sets_b53 (σ : gM) (x1 x2 x3 x5 x6 : Int) : Option (gM × Int) := lim (fun n => gB (e_md_sets 227) rF tF n 53 [(2, 119), (0, x1), (0, x2), (1, x3), (9, 0), (0, x5), (0, x6), (9, 0), (9, 0)] [] σ)
theorem md_sets_b53_l (σ : gM) (x1 x2 x3 x5 x6 : Int) : Lm (fun n => gB (e_md_sets 227) rF tF n 53 [(2, 119), (0, x1), (0, x2), (1, x3), (9, 0), (0, x5), (0, x6), (9, 0), (9, 0)] [] σ) (md_sets_b53 σ x1 x2 x3 x5 x6) := .of fun n => gB_le (gMos_spec (mb_md_sets)) n _ _ _ σ
noncomputable def md_sets_b84 (σ : gM) (x1 x2 x3 x5 x6 : Int) : Option (gM × Int) := lim (fun n => gB (e_md_sets 227) rF tF n 84 [(2, 119), (0, x1), (0, x2), (1, x3), (9, 0), (0, x5), (0, x6), (9, 0), (9, 0)] [] σ)
theorem md_sets_b84_l (σ : gM) (x1 x2 x3 x5 x6 : Int) : Lm (fun n => gB (e_md_sets 227) rF tF n 84 [(2, 119), (0, x1), (0, x2), (1, x3), (9, 0), (0, x5), (0, x6), (9, 0), (9, 0)] [] σ) (md_sets_b84 σ x1 x2 x3 x5 x6) := .of fun n => gB_le (gMos_spec (mb_md_sets)) n _ _ _ σ
noncomputable def md_sets_b109 (σ : gM) (x2 x3 x5 x7 : Int) : Option (gM × Int) := lim (fun n => gB (e_md_sets 227) rF tF n 109 [(2, 119), (9, 0), (0, x2), (1, x3), (9, 0), (0, x5), (9, 0), (0, x7), (9, 0)] [] σ)
theorem md_sets_b109_l (σ : gM) (x2 x3 x5 x7 : Int) : Lm (fun n => gB (e_md_sets 227) rF tF n 109 [(2, 119), (9, 0), (0, x2), (1, x3), (9, 0), (0, x5), (9, 0), (0, x7), (9, 0)] [] σ) (md_sets_b109 σ x2 x3 x5 x7) := .of fun n => gB_le (gMos_spec (mb_md_sets)) n _ _ _ σ
noncomputable def md_sets_b141 (σ : gM) (x2 x3 x8 y0 y1 : Int) : Option (gM × Int) := lim (fun n => gB (e_md_sets 227) rF tF n 141 [(2, 119), (9, 0), (0, x2), (1, x3), (9, 0), (9, 0), (9, 0), (9, 0), (0, x8)] [(0, y0), (0, y1), (2, 215)] σ)
theorem md_sets_b141_l (σ : gM) (x2 x3 x8 y0 y1 : Int) : Lm (fun n => gB (e_md_sets 227) rF tF n 141 [(2, 119), (9, 0), (0, x2), (1, x3), (9, 0), (9, 0), (9, 0), (9, 0), (0, x8)] [(0, y0), (0, y1), (2, 215)] σ) (md_sets_b141 σ x2 x3 x8 y0 y1) := .of fun n => gB_le (gMos_spec (mb_md_sets)) n _ _ _ σ
theorem md_sets_e (σ : gM) (x1 x2 x3 : Int) : md_sets σ x1 x2 x3 =
  (if 0 ≤ x1 ∧ x1 < 20000 then
  (if 0 ≤ x1 ∧ x1 < 20000 then
    ((md_has σ x1 1).bind fun p1 =>
      if p1.2 = 0 then
      (md_sets_b53 p1.1 x1 x2 x3 (σ 175 x1) (w32 ((w32 (12 * (σ 174 x1))) + (σ 175 x1))))
      else
      (if x2 = 2 then
        (if 0 ≤ w32 ((w32 (12 * (σ 174 x1))) + (σ 175 x1)) ∧ w32 ((w32 (12 * (σ 174 x1))) + (σ 175 x1)) < 720 then
          (if p1.1 167 (w32 ((w32 (12 * (σ 174 x1))) + (σ 175 x1))) = 1 then
            (md_sets_b109 p1.1 x2 x3 (σ 175 x1) 1)
            else
            (md_sets_b53 p1.1 x1 x2 x3 (σ 175 x1) (w32 ((w32 (12 * (σ 174 x1))) + (σ 175 x1)))))
          else none)
        else
        (md_sets_b53 p1.1 x1 x2 x3 (σ 175 x1) (w32 ((w32 (12 * (σ 174 x1))) + (σ 175 x1))))))
    else none)
  else none) := Lm.eqn (md_sets_l ..) (.ite (.ite (.bind (md_has_l ..) fun p1 => (.ite (md_sets_b53_l ..) (.ite (.ite (.ite (md_sets_b109_l ..) (md_sets_b53_l ..)) .cst) (md_sets_b53_l ..)))) .cst) .cst) fun n => (rfl)
theorem md_sets_b53_e (σ : gM) (x1 x2 x3 x5 x6 : Int) : md_sets_b53 σ x1 x2 x3 x5 x6 =
  ((md_has σ x1 2).bind fun p1 =>
  if p1.2 = 0 then
  (md_sets_b84 p1.1 x1 x2 x3 x5 x6)
  else
  (if x2 = 1 then
    (if 0 ≤ x6 ∧ x6 < 720 then
      (if p1.1 167 x6 = 2 then
        (md_sets_b109 p1.1 x2 x3 x5 2)
        else
        (md_sets_b84 p1.1 x1 x2 x3 x5 x6))
      else none)
    else
    (md_sets_b84 p1.1 x1 x2 x3 x5 x6))) := Lm.eqn (md_sets_b53_l ..) (.bind (md_has_l ..) fun p1 => (.ite (md_sets_b84_l ..) (.ite (.ite (.ite (md_sets_b109_l ..) (md_sets_b84_l ..)) .cst) (md_sets_b84_l ..)))) fun n => (rfl)
theorem md_sets_b84_e (σ : gM) (x1 x2 x3 x5 x6 : Int) : md_sets_b84 σ x1 x2 x3 x5 x6 =
  ((md_has σ x1 4).bind fun p1 =>
  if p1.2 = 0 then
  ((md_setsAnew p1.1 x1 x2 x6).bind fun p2 =>
    md_sets_b109 p2.1 x2 x3 x5 p2.2)
  else
  (md_sets_b109 p1.1 x2 x3 x5 4)) := Lm.eqn (md_sets_b84_l ..) (.bind (md_has_l ..) fun p1 => (.ite (.bind (md_setsAnew_l ..) fun p2 => (md_sets_b109_l ..)) (md_sets_b109_l ..))) fun n => (rfl)
theorem md_sets_b109_e (σ : gM) (x2 x3 x5 x7 : Int) : md_sets_b109 σ x2 x3 x5 x7 =
  (if x7 = 4 then
  (md_sets_b141 σ x2 x3 (w32 ((w32 (12 * (w32 ((σ 119 121) - 1)))) + x5)) 3 (w32 ((w32 (12 * (w32 ((σ 119 121) - 1)))) + x5)))
  else
  (md_sets_b141 σ x2 x3 (w32 ((w32 (12 * (w32 ((σ 119 121) - 1)))) + x5)) x7 (w32 ((w32 (12 * (w32 ((σ 119 121) - 1)))) + x5)))) := Lm.eqn (md_sets_b109_l ..) (.ite (md_sets_b141_l ..) (md_sets_b141_l ..)) fun n => (rfl)
theorem md_sets_b141_e (σ : gM) (x2 x3 x8 y0 y1 : Int) : md_sets_b141 σ x2 x3 x8 y0 y1 =
  (if 0 ≤ y1 ∧ y1 < 720 then
  (if 0 ≤ x8 ∧ x8 < 720 then
    (if 0 ≤ x8 ∧ x8 < 720 then
      (some (gW (gW (gW σ 215 y1 y0) 216 x8 x2) 217 x8 x3, 0))
      else none)
    else none)
  else none) := Lm.eqn (md_sets_b141_l ..) (.ite (.ite (.ite .cst .cst) .cst) .cst) fun n => (rfl)
def k_md_task : List gC := [(0, 1, .aload_n 0, [], none), (1, 3, .getfield 323, [], none), (4, 1, .aload_n 0, [], none), (5, 3, .getfield 710, [], none),
  (8, 1, .iload_n 1, [], none), (9, 1, .iastore, [], none), (10, 1, .aload_n 0, [], none), (11, 3, .getfield 326, [], none),
  (14, 1, .aload_n 0, [], none), (15, 3, .getfield 710, [], none), (18, 1, .iconst 0, [], none), (19, 1, .iastore, [], none),
  (20, 1, .aload_n 0, [], none), (21, 3, .getfield 329, [], none), (24, 1, .aload_n 0, [], none), (25, 3, .getfield 710, [], none),
  (28, 1, .iload_n 2, [], none), (29, 1, .iastore, [], none), (30, 1, .aload_n 0, [], none), (31, 1, .dup, [], none),
  (32, 3, .getfield 710, [], none), (35, 1, .iconst 1, [], none), (36, 1, .iadd, [], none), (37, 3, .putfield 710, [], none),
  (40, 1, .return_, [], none)]
def e_md_task (m : Nat) : gE := (k_md_task, f_md, c_md, [], [], (m, 7914572847139345089936080672628710081124203171238778877250017794972711203409019749450124833959777439667125488581260625578844908639520813861733581892323252588706531829465743360), 5)
theorem ok_md_task : gchk cX10_task 3 k_md_task = true := by decide +kernel
def fn_md_task (m : Nat) : gFn := gF (e_md_task m) 3
theorem mo_md_task (m : Nat) : gMo (.inl (fn_md_task m)) := gF_mo (E := e_md_task m) trivial
noncomputable def md_task (σ : gM) (x1 x2 : Int) : Option (gM × Int) := lim (fun n => fn_md_task 227 n [(2, 119), (0, x1), (0, x2)] σ)
theorem md_task_l (σ : gM) (x1 x2 : Int) : Lm (fun n => fn_md_task 227 n [(2, 119), (0, x1), (0, x2)] σ) (md_task σ x1 x2) := .of fun n => mo_md_task 227 n [(2, 119), (0, x1), (0, x2)] σ
theorem md_task_e (σ : gM) (x1 x2 : Int) : md_task σ x1 x2 =
  (if 0 ≤ σ 119 124 ∧ σ 119 124 < 42000 then
  (if 0 ≤ σ 119 124 ∧ σ 119 124 < 42000 then
    (if 0 ≤ σ 119 124 ∧ σ 119 124 < 42000 then
      (some (gW (gW (gW (gW σ 218 (σ 119 124) x1) 219 (σ 119 124) 0) 220 (σ 119 124) x2) 119 124 (w32 ((σ 119 124) + 1)), 0))
      else none)
    else none)
  else none) := Lm.eqn (md_task_l ..) (.ite (.ite (.ite .cst .cst) .cst) .cst) fun n => (rfl)
def k_md_activate : List gC := [(0, 1, .aload_n 0, [], none), (1, 3, .getfield 685, [], none), (4, 2, .istore 5, [], none), (6, 1, .aload_n 0, [], none),
  (7, 1, .dup, [], none), (8, 3, .getfield 685, [], none), (11, 1, .iconst 1, [], none), (12, 1, .iadd, [], none),
  (13, 3, .putfield 685, [], none), (16, 1, .aload_n 0, [], none), (17, 3, .getfield 341, [], none), (20, 2, .bipush 14, [], none),
  (22, 1, .aload_n 0, [], none), (23, 3, .getfield 341, [], none), (26, 2, .bipush 14, [], none), (28, 1, .iaload, [], none),
  (29, 3, .invokestatic 679, [], none), (32, 1, .iastore, [], none), (33, 1, .aload_n 0, [], none), (34, 1, .aload_n 0, [], none),
  (35, 3, .getfield 729, [], none), (38, 1, .aload_n 0, [], none), (39, 3, .getfield 685, [], none), (42, 3, .invokestatic 671, [], none),
  (45, 3, .putfield 729, [], none), (48, 1, .aload_n 0, [], none), (49, 3, .getfield 292, [], none), (52, 2, .iload 5, [], none),
  (54, 1, .iload_n 1, [], none), (55, 1, .iastore, [], none), (56, 1, .aload_n 0, [], none), (57, 3, .getfield 304, [], none),
  (60, 2, .iload 5, [], none), (62, 1, .aload_n 0, [], none), (63, 3, .getfield 710, [], none), (66, 1, .iastore, [], none),
  (67, 1, .aload_n 0, [], none), (68, 3, .getfield 307, [], none), (71, 2, .iload 5, [], none), (73, 1, .iload_n 2, [], none),
  (74, 1, .iastore, [], none), (75, 1, .aload_n 0, [], none), (76, 3, .getfield 295, [], none), (79, 2, .iload 5, [], none),
  (81, 1, .iconst (-1), [], none), (82, 1, .iastore, [], none), (83, 1, .aload_n 0, [], none), (84, 3, .getfield 298, [], none),
  (87, 2, .iload 5, [], none), (89, 1, .iconst (-1), [], none), (90, 1, .iastore, [], none), (91, 1, .aload_n 0, [], none),
  (92, 3, .getfield 310, [], none), (95, 2, .iload 5, [], none), (97, 1, .iconst 0, [], none), (98, 1, .bastore, [], none),
  (99, 2, .iload 5, [], none), (101, 3, .ifCond .eq 15, [(0, 116)], none), (104, 1, .aload_n 0, [], none), (105, 3, .getfield 295, [], none),
  (108, 2, .iload 5, [], none), (110, 1, .iconst 1, [], none), (111, 1, .isub, [], none), (112, 1, .iaload, [], none),
  (113, 3, .ifCond .ge 7, [(0, 120)], none), (116, 1, .iconst (-1), [], some [true, true, true, true, false, true, false, false, false]), (117, 3, .goto 27, [(0, 144)], none), (120, 1, .aload_n 0, [], none),
  (121, 1, .aload_n 0, [], none), (122, 3, .getfield 295, [], none), (125, 2, .iload 5, [], none), (127, 1, .iconst 1, [], none),
  (128, 1, .isub, [], none), (129, 1, .iaload, [], none), (130, 1, .aload_n 0, [], none), (131, 3, .getfield 298, [], none),
  (134, 2, .iload 5, [], none), (136, 1, .iconst 1, [], none), (137, 1, .isub, [], none), (138, 1, .iaload, [], none),
  (139, 2, .iload 4, [], none), (141, 3, .invokevirtual 732, [], none), (144, 2, .istore 6, [], some [true, true, true, true, false, true, false, false, false]), (146, 2, .iload 6, [], none),
  (148, 3, .ifCond .lt 72, [(0, 220)], none), (151, 1, .aload_n 0, [], none), (152, 3, .getfield 295, [], none), (155, 2, .iload 5, [], none),
  (157, 1, .aload_n 0, [], none), (158, 3, .getfield 295, [], none), (161, 2, .iload 5, [], none), (163, 1, .iconst 1, [], none),
  (164, 1, .isub, [], none), (165, 1, .iaload, [], none), (166, 1, .iastore, [], none), (167, 1, .aload_n 0, [], none),
  (168, 3, .getfield 298, [], none), (171, 2, .iload 5, [], none), (173, 2, .iload 6, [], none), (175, 1, .iastore, [], none),
  (176, 1, .aload_n 0, [], none), (177, 3, .getfield 310, [], none), (180, 2, .iload 5, [], none), (182, 1, .iconst 1, [], none),
  (183, 1, .bastore, [], none), (184, 1, .aload_n 0, [], none), (185, 3, .getfield 301, [], none), (188, 2, .iload 5, [], none),
  (190, 1, .aload_n 0, [], none), (191, 3, .getfield 301, [], none), (194, 2, .iload 5, [], none), (196, 1, .iconst 1, [], none),
  (197, 1, .isub, [], none), (198, 1, .iaload, [], none), (199, 1, .iastore, [], none), (200, 1, .aload_n 0, [], none),
  (201, 3, .getfield 341, [], none), (204, 2, .bipush 15, [], none), (206, 1, .aload_n 0, [], none), (207, 3, .getfield 341, [], none),
  (210, 2, .bipush 15, [], none), (212, 1, .iaload, [], none), (213, 3, .invokestatic 679, [], none), (216, 1, .iastore, [], none),
  (217, 3, .goto 35, [(0, 252)], none), (220, 1, .aload_n 0, [], none), (221, 1, .dup, [], none), (222, 3, .getfield 688, [], none),
  (225, 1, .iconst 1, [], none), (226, 1, .iadd, [], none), (227, 3, .putfield 688, [], none), (230, 1, .aload_n 0, [], none),
  (231, 3, .getfield 301, [], none), (234, 2, .iload 5, [], none), (236, 1, .aload_n 0, [], none), (237, 3, .getfield 688, [], none),
  (240, 1, .iastore, [], none), (241, 1, .aload_n 0, [], none), (242, 1, .iload_n 1, [], none), (243, 3, .invokevirtual 736, [], none),
  (246, 1, .aload_n 0, [], none), (247, 2, .iload 5, [], none), (249, 3, .invokevirtual 739, [], none), (252, 1, .iconst 0, [], some [true, true, true, true, false, true, false, false, false]),
  (253, 2, .istore 7, [], none), (255, 2, .iload 7, [], some [true, true, true, true, false, true, false, true, false]), (257, 1, .aload_n 0, [], none), (258, 3, .getfield 143, [], none),
  (261, 1, .iload_n 1, [], none), (262, 1, .iaload, [], none), (263, 3, .if_icmp .ge 51, [(0, 314)], none), (266, 1, .aload_n 0, [], none),
  (267, 3, .getfield 313, [], none), (270, 2, .bipush 12, [], none), (272, 2, .iload 5, [], none), (274, 1, .imul, [], none),
  (275, 2, .iload 7, [], none), (277, 1, .iadd, [], none), (278, 1, .iconst 3, [], none), (279, 1, .iastore, [], none),
  (280, 1, .aload_n 0, [], none), (281, 3, .getfield 316, [], none), (284, 2, .bipush 12, [], none), (286, 2, .iload 5, [], none),
  (288, 1, .imul, [], none), (289, 2, .iload 7, [], none), (291, 1, .iadd, [], none), (292, 1, .iconst 0, [], none),
  (293, 1, .iastore, [], none), (294, 1, .aload_n 0, [], none), (295, 3, .getfield 319, [], none), (298, 2, .bipush 12, [], none),
  (300, 2, .iload 5, [], none), (302, 1, .imul, [], none), (303, 2, .iload 7, [], none), (305, 1, .iadd, [], none),
  (306, 1, .lconst 0, [], none), (307, 1, .lastore, [], none), (308, 3, .iinc 7 1, [], none), (311, 3, .goto (-56), [(0, 255)], none),
  (314, 1, .iconst 0, [], none), (315, 2, .istore 7, [], none), (317, 2, .iload 7, [], some [true, true, true, true, false, false, false, true, false]), (319, 1, .aload_n 0, [], none),
  (320, 3, .getfield 140, [], none), (323, 1, .iload_n 1, [], none), (324, 1, .iaload, [], none), (325, 3, .if_icmp .ge 75, [(0, 400)], none),
  (328, 2, .iload 7, [], none), (330, 1, .iload_n 3, [], none), (331, 3, .if_icmp .ge 7, [(0, 338)], none), (334, 1, .iconst 1, [], none),
  (335, 3, .goto 4, [(0, 339)], none), (338, 1, .iconst 0, [], none), (339, 2, .istore 8, [], some [true, true, true, true, false, false, false, true, false]), (341, 1, .aload_n 0, [], none),
  (342, 1, .aload_n 0, [], none), (343, 3, .getfield 134, [], none), (346, 1, .iload_n 1, [], none), (347, 1, .iaload, [], none),
  (348, 2, .iload 7, [], none), (350, 1, .iadd, [], none), (351, 2, .iload 8, [], none), (353, 3, .ifCond .eq 17, [(0, 370)], none),
  (356, 1, .aload_n 0, [], none), (357, 3, .getfield 332, [], none), (360, 1, .iload_n 2, [], none), (361, 1, .iconst 1, [], none),
  (362, 1, .iadd, [], none), (363, 2, .iload 7, [], none), (365, 1, .iadd, [], none), (366, 1, .iaload, [], none),
  (367, 3, .goto 4, [(0, 371)], none), (370, 1, .iconst 0, [], none), (371, 2, .iload 8, [], some [true, true, true, true, false, false, false, true, true]), (373, 3, .ifCond .eq 17, [(0, 390)], none),
  (376, 1, .aload_n 0, [], none), (377, 3, .getfield 335, [], none), (380, 1, .iload_n 2, [], none), (381, 1, .iconst 1, [], none),
  (382, 1, .iadd, [], none), (383, 2, .iload 7, [], none), (385, 1, .iadd, [], none), (386, 1, .laload, [], none),
  (387, 3, .goto 4, [(0, 391)], none), (390, 1, .lconst 0, [], none), (391, 3, .invokevirtual 742, [], some [true, true, true, true, false, false, false, true, false]), (394, 3, .iinc 7 1, [], none),
  (397, 3, .goto (-80), [(0, 317)], none), (400, 1, .aload_n 0, [], none), (401, 2, .bipush (-2), [], none), (403, 1, .aload_n 0, [], none),
  (404, 3, .getfield 146, [], none), (407, 1, .iload_n 1, [], none), (408, 1, .iaload, [], none), (409, 3, .invokevirtual 746, [], none),
  (412, 1, .aload_n 0, [], none), (413, 3, .getfield 326, [], none), (416, 1, .aload_n 0, [], none), (417, 3, .getfield 710, [], none),
  (420, 1, .iconst 1, [], none), (421, 1, .isub, [], none), (422, 1, .iconst 1, [], none), (423, 1, .iastore, [], none),
  (424, 1, .return_, [], none)]
def e_md_activate (m : Nat) : gE := (k_md_activate, f_md, c_md, [(679, 1, 0, 0, .inl (fn_md_more m)), (671, 2, 0, 0, .inl (fn_jm_max 0)), (732, 4, 20, 0, .inl (fn_md_unitAt m)), (736, 2, 20, 5, .inl (fn_md_heat m)), (739, 2, 20, 5, .inl (fn_md_enterCode m)), (742, 4, 20, 5, .inl (fn_md_sets m)), (746, 3, 20, 5, .inl (fn_md_task m))], [], (m, 14839824088616616429910762915978730973701403217246838887300841497188592191709638114349364242634917582504379527776590611760866528460174940449179544616607163341188650770343395328), 5)
theorem ok_md_activate : gchk cX10_activate 9 k_md_activate = true := by decide +kernel
def fn_md_activate (m : Nat) : gFn := gF (e_md_activate m) 9
theorem mo_md_activate (m : Nat) : gMo (.inl (fn_md_activate m)) := gF_mo (E := e_md_activate m) ⟨mo_md_more m, ⟨mo_jm_max 0, ⟨mo_md_unitAt m, ⟨mo_md_heat m, ⟨mo_md_enterCode m, ⟨mo_md_sets m, ⟨mo_md_task m, trivial⟩⟩⟩⟩⟩⟩⟩
noncomputable def md_activate (σ : gM) (x1 x2 x3 x4 : Int) : Option (gM × Int) := lim (fun n => fn_md_activate 227 n [(2, 119), (0, x1), (0, x2), (0, x3), (0, x4)] σ)
theorem md_activate_l (σ : gM) (x1 x2 x3 x4 : Int) : Lm (fun n => fn_md_activate 227 n [(2, 119), (0, x1), (0, x2), (0, x3), (0, x4)] σ) (md_activate σ x1 x2 x3 x4) := .of fun n => mo_md_activate 227 n [(2, 119), (0, x1), (0, x2), (0, x3), (0, x4)] σ
theorem mb_md_activate : gMos (e_md_activate 227).2.2.2.1 := ⟨mo_md_more 227, ⟨mo_jm_max 0, ⟨mo_md_unitAt 227, ⟨mo_md_heat 227, ⟨mo_md_enterCode 227, ⟨mo_md_sets 227, ⟨mo_md_task 227, trivial⟩⟩⟩⟩⟩⟩⟩
noncomputable def md_activate_b116 (σ : gM) (x1 x2 x3 x5 : Int) : Option (gM × Int) := lim (fun n => gB (e_md_activate 227) rF tF n 116 [(2, 119), (0, x1), (0, x2), (0, x3), (9, 0), (0, x5), (9, 0), (9, 0), (9, 0)] [] σ)
theorem md_activate_b116_l (σ : gM) (x1 x2 x3 x5 : Int) : Lm (fun n => gB (e_md_activate 227) rF tF n 116 [(2, 119), (0, x1), (0, x2), (0, x3), (9, 0), (0, x5), (9, 0), (9, 0), (9, 0)] [] σ) (md_activate_b116 σ x1 x2 x3 x5) := .of fun n => gB_le (gMos_spec (mb_md_activate)) n _ _ _ σ
noncomputable def md_activate_b144 (σ : gM) (x1 x2 x3 x5 y0 : Int) : Option (gM × Int) := lim (fun n => gB (e_md_activate 227) rF tF n 144 [(2, 119), (0, x1), (0, x2), (0, x3), (9, 0), (0, x5), (9, 0), (9, 0), (9, 0)] [(0, y0)] σ)
theorem md_activate_b144_l (σ : gM) (x1 x2 x3 x5 y0 : Int) : Lm (fun n => gB (e_md_activate 227) rF tF n 144 [(2, 119), (0, x1), (0, x2), (0, x3), (9, 0), (0, x5), (9, 0), (9, 0), (9, 0)] [(0, y0)] σ) (md_activate_b144 σ x1 x2 x3 x5 y0) := .of fun n => gB_le (gMos_spec (mb_md_activate)) n _ _ _ σ
noncomputable def md_activate_b252 (σ : gM) (x1 x2 x3 x5 : Int) : Option (gM × Int) := lim (fun n => gB (e_md_activate 227) rF tF n 252 [(2, 119), (0, x1), (0, x2), (0, x3), (9, 0), (0, x5), (9, 0), (9, 0), (9, 0)] [] σ)
theorem md_activate_b252_l (σ : gM) (x1 x2 x3 x5 : Int) : Lm (fun n => gB (e_md_activate 227) rF tF n 252 [(2, 119), (0, x1), (0, x2), (0, x3), (9, 0), (0, x5), (9, 0), (9, 0), (9, 0)] [] σ) (md_activate_b252 σ x1 x2 x3 x5) := .of fun n => gB_le (gMos_spec (mb_md_activate)) n _ _ _ σ
noncomputable def md_activate_b255 (σ : gM) (x1 x2 x3 x5 x7 : Int) : Option (gM × Int) := lim (fun n => gB (e_md_activate 227) rF tF n 255 [(2, 119), (0, x1), (0, x2), (0, x3), (9, 0), (0, x5), (9, 0), (0, x7), (9, 0)] [] σ)
theorem md_activate_b255_l (σ : gM) (x1 x2 x3 x5 x7 : Int) : Lm (fun n => gB (e_md_activate 227) rF tF n 255 [(2, 119), (0, x1), (0, x2), (0, x3), (9, 0), (0, x5), (9, 0), (0, x7), (9, 0)] [] σ) (md_activate_b255 σ x1 x2 x3 x5 x7) := .of fun n => gB_le (gMos_spec (mb_md_activate)) n _ _ _ σ
noncomputable def md_activate_b317 (σ : gM) (x1 x2 x3 x7 : Int) : Option (gM × Int) := lim (fun n => gB (e_md_activate 227) rF tF n 317 [(2, 119), (0, x1), (0, x2), (0, x3), (9, 0), (9, 0), (9, 0), (0, x7), (9, 0)] [] σ)
theorem md_activate_b317_l (σ : gM) (x1 x2 x3 x7 : Int) : Lm (fun n => gB (e_md_activate 227) rF tF n 317 [(2, 119), (0, x1), (0, x2), (0, x3), (9, 0), (9, 0), (9, 0), (0, x7), (9, 0)] [] σ) (md_activate_b317 σ x1 x2 x3 x7) := .of fun n => gB_le (gMos_spec (mb_md_activate)) n _ _ _ σ
noncomputable def md_activate_b339 (σ : gM) (x1 x2 x3 x7 y0 : Int) : Option (gM × Int) := lim (fun n => gB (e_md_activate 227) rF tF n 339 [(2, 119), (0, x1), (0, x2), (0, x3), (9, 0), (9, 0), (9, 0), (0, x7), (9, 0)] [(0, y0)] σ)
theorem md_activate_b339_l (σ : gM) (x1 x2 x3 x7 y0 : Int) : Lm (fun n => gB (e_md_activate 227) rF tF n 339 [(2, 119), (0, x1), (0, x2), (0, x3), (9, 0), (9, 0), (9, 0), (0, x7), (9, 0)] [(0, y0)] σ) (md_activate_b339 σ x1 x2 x3 x7 y0) := .of fun n => gB_le (gMos_spec (mb_md_activate)) n _ _ _ σ
noncomputable def md_activate_b371 (σ : gM) (x1 x2 x3 x7 x8 y0 y1 : Int) : Option (gM × Int) := lim (fun n => gB (e_md_activate 227) rF tF n 371 [(2, 119), (0, x1), (0, x2), (0, x3), (9, 0), (9, 0), (9, 0), (0, x7), (0, x8)] [(0, y0), (0, y1), (2, 119)] σ)
theorem md_activate_b371_l (σ : gM) (x1 x2 x3 x7 x8 y0 y1 : Int) : Lm (fun n => gB (e_md_activate 227) rF tF n 371 [(2, 119), (0, x1), (0, x2), (0, x3), (9, 0), (9, 0), (9, 0), (0, x7), (0, x8)] [(0, y0), (0, y1), (2, 119)] σ) (md_activate_b371 σ x1 x2 x3 x7 x8 y0 y1) := .of fun n => gB_le (gMos_spec (mb_md_activate)) n _ _ _ σ
noncomputable def md_activate_b391 (σ : gM) (x1 x2 x3 x7 y0 y1 y2 : Int) : Option (gM × Int) := lim (fun n => gB (e_md_activate 227) rF tF n 391 [(2, 119), (0, x1), (0, x2), (0, x3), (9, 0), (9, 0), (9, 0), (0, x7), (9, 0)] [(1, y0), (0, y1), (0, y2), (2, 119)] σ)
theorem md_activate_b391_l (σ : gM) (x1 x2 x3 x7 y0 y1 y2 : Int) : Lm (fun n => gB (e_md_activate 227) rF tF n 391 [(2, 119), (0, x1), (0, x2), (0, x3), (9, 0), (9, 0), (9, 0), (0, x7), (9, 0)] [(1, y0), (0, y1), (0, y2), (2, 119)] σ) (md_activate_b391 σ x1 x2 x3 x7 y0 y1 y2) := .of fun n => gB_le (gMos_spec (mb_md_activate)) n _ _ _ σ
theorem md_activate_e (σ : gM) (x1 x2 x3 x4 : Int) : md_activate σ x1 x2 x3 x4 =
  (if (0 : Int) ≤ 14 ∧ (14 : Int) < 16 then
  ((md_more (gW σ 119 121 (w32 ((σ 119 121) + 1))) (σ 224 14)).bind fun p1 =>
    if (0 : Int) ≤ 14 ∧ (14 : Int) < 16 then
    ((jm_max (gW p1.1 224 14 p1.2) (p1.1 119 122) (p1.1 119 121)).bind fun p2 =>
      if 0 ≤ σ 119 121 ∧ σ 119 121 < 60 then
      (if 0 ≤ σ 119 121 ∧ σ 119 121 < 60 then
        (if 0 ≤ σ 119 121 ∧ σ 119 121 < 60 then
          (if 0 ≤ σ 119 121 ∧ σ 119 121 < 60 then
            (if 0 ≤ σ 119 121 ∧ σ 119 121 < 60 then
              (if 0 ≤ σ 119 121 ∧ σ 119 121 < 60 then
                (if σ 119 121 = 0 then
                  (md_activate_b116 (gW (gW (gW (gW (gW (gW (gW p2.1 119 122 p2.2) 208 (σ 119 121) x1) 212 (σ 119 121) (p2.1 119 124)) 213 (σ 119 121) x2) 209 (σ 119 121) (-1)) 210 (σ 119 121) (-1)) 214 (σ 119 121) 0) x1 x2 x3 (σ 119 121))
                  else
                  (if 0 ≤ w32 ((σ 119 121) - 1) ∧ w32 ((σ 119 121) - 1) < 60 then
                    (if (gW (gW (gW (gW (gW p2.1 119 122 p2.2) 208 (σ 119 121) x1) 212 (σ 119 121) (p2.1 119 124)) 213 (σ 119 121) x2) 209 (σ 119 121) (-1)) 209 (w32 ((σ 119 121) - 1)) < 0 then
                      (md_activate_b116 (gW (gW (gW (gW (gW (gW (gW p2.1 119 122 p2.2) 208 (σ 119 121) x1) 212 (σ 119 121) (p2.1 119 124)) 213 (σ 119 121) x2) 209 (σ 119 121) (-1)) 210 (σ 119 121) (-1)) 214 (σ 119 121) 0) x1 x2 x3 (σ 119 121))
                      else
                      (if 0 ≤ w32 ((σ 119 121) - 1) ∧ w32 ((σ 119 121) - 1) < 60 then
                        (if 0 ≤ w32 ((σ 119 121) - 1) ∧ w32 ((σ 119 121) - 1) < 60 then
                          ((md_unitAt (gW (gW (gW (gW (gW (gW (gW p2.1 119 122 p2.2) 208 (σ 119 121) x1) 212 (σ 119 121) (p2.1 119 124)) 213 (σ 119 121) x2) 209 (σ 119 121) (-1)) 210 (σ 119 121) (-1)) 214 (σ 119 121) 0) ((gW (gW (gW (gW (gW p2.1 119 122 p2.2) 208 (σ 119 121) x1) 212 (σ 119 121) (p2.1 119 124)) 213 (σ 119 121) x2) 209 (σ 119 121) (-1)) 209 (w32 ((σ 119 121) - 1))) ((gW (gW (gW (gW (gW (gW p2.1 119 122 p2.2) 208 (σ 119 121) x1) 212 (σ 119 121) (p2.1 119 124)) 213 (σ 119 121) x2) 209 (σ 119 121) (-1)) 210 (σ 119 121) (-1)) 210 (w32 ((σ 119 121) - 1))) x4).bind fun p3 =>
                            md_activate_b144 p3.1 x1 x2 x3 (σ 119 121) p3.2)
                          else none)
                        else none))
                    else none))
                else none)
              else none)
            else none)
          else none)
        else none)
      else none)
    else none)
  else none) := Lm.eqn (md_activate_l ..) (.ite (.bind (md_more_l ..) fun p1 => (.ite (.bind (jm_max_l ..) fun p2 => (.ite (.ite (.ite (.ite (.ite (.ite (.ite (md_activate_b116_l ..) (.ite (.ite (md_activate_b116_l ..) (.ite (.ite (.bind (md_unitAt_l ..) fun p3 => (md_activate_b144_l ..)) .cst) .cst)) .cst)) .cst) .cst) .cst) .cst) .cst) .cst)) .cst)) .cst) fun n => (rfl)
theorem md_activate_b116_e (σ : gM) (x1 x2 x3 x5 : Int) : md_activate_b116 σ x1 x2 x3 x5 =
  (md_activate_b144 σ x1 x2 x3 x5 (-1)) := Lm.eqn (md_activate_b116_l ..) (md_activate_b144_l ..) fun n => (rfl)
theorem md_activate_b144_e (σ : gM) (x1 x2 x3 x5 y0 : Int) : md_activate_b144 σ x1 x2 x3 x5 y0 =
  (if y0 < 0 then
  (if 0 ≤ x5 ∧ x5 < 60 then
    ((md_heat (gW (gW σ 119 123 (w32 ((σ 119 123) + 1))) 211 x5 (w32 ((σ 119 123) + 1))) x1).bind fun p1 =>
      (md_enterCode p1.1 x5).bind fun p2 =>
      md_activate_b252 p2.1 x1 x2 x3 x5)
    else none)
  else
  (if 0 ≤ w32 (x5 - 1) ∧ w32 (x5 - 1) < 60 then
    (if 0 ≤ x5 ∧ x5 < 60 then
      (if 0 ≤ x5 ∧ x5 < 60 then
        (if 0 ≤ x5 ∧ x5 < 60 then
          (if 0 ≤ w32 (x5 - 1) ∧ w32 (x5 - 1) < 60 then
            (if 0 ≤ x5 ∧ x5 < 60 then
              (if (0 : Int) ≤ 15 ∧ (15 : Int) < 16 then
                ((md_more (gW (gW (gW (gW σ 209 x5 (σ 209 (w32 (x5 - 1)))) 210 x5 y0) 214 x5 1) 211 x5 (σ 211 (w32 (x5 - 1)))) (σ 224 15)).bind fun p3 =>
                  if (0 : Int) ≤ 15 ∧ (15 : Int) < 16 then
                  (md_activate_b252 (gW p3.1 224 15 p3.2) x1 x2 x3 x5)
                  else none)
                else none)
              else none)
            else none)
          else none)
        else none)
      else none)
    else none)) := Lm.eqn (md_activate_b144_l ..) (.ite (.ite (.bind (md_heat_l ..) fun p1 => (.bind (md_enterCode_l ..) fun p2 => (md_activate_b252_l ..))) .cst) (.ite (.ite (.ite (.ite (.ite (.ite (.ite (.bind (md_more_l ..) fun p3 => (.ite (md_activate_b252_l ..) .cst)) .cst) .cst) .cst) .cst) .cst) .cst) .cst)) fun n => (rfl)
theorem md_activate_b252_e (σ : gM) (x1 x2 x3 x5 : Int) : md_activate_b252 σ x1 x2 x3 x5 =
  (md_activate_b255 σ x1 x2 x3 x5 0) := Lm.eqn (md_activate_b252_l ..) (md_activate_b255_l ..) fun n => (rfl)
theorem md_activate_b255_e (σ : gM) (x1 x2 x3 x5 x7 : Int) : md_activate_b255 σ x1 x2 x3 x5 x7 =
  (if 0 ≤ x1 ∧ x1 < 60 then
  (if x7 < σ 161 x1 then
    (if 0 ≤ w32 ((w32 (12 * x5)) + x7) ∧ w32 ((w32 (12 * x5)) + x7) < 720 then
      (if 0 ≤ w32 ((w32 (12 * x5)) + x7) ∧ w32 ((w32 (12 * x5)) + x7) < 720 then
        (if 0 ≤ w32 ((w32 (12 * x5)) + x7) ∧ w32 ((w32 (12 * x5)) + x7) < 720 then
          (md_activate_b255 (gW (gW (gW σ 215 (w32 ((w32 (12 * x5)) + x7)) 3) 216 (w32 ((w32 (12 * x5)) + x7)) 0) 217 (w32 ((w32 (12 * x5)) + x7)) 0) x1 x2 x3 x5 (w32 (x7 + 1)))
          else none)
        else none)
      else none)
    else
    (md_activate_b317 σ x1 x2 x3 0))
  else none) := Lm.eqn (md_activate_b255_l ..) (.ite (.ite (.ite (.ite (.ite (md_activate_b255_l ..) .cst) .cst) .cst) (md_activate_b317_l ..)) .cst) fun n => (rfl)
theorem md_activate_b317_e (σ : gM) (x1 x2 x3 x7 : Int) : md_activate_b317 σ x1 x2 x3 x7 =
  (if 0 ≤ x1 ∧ x1 < 60 then
  (if x7 < σ 160 x1 then
    (if x7 < x3 then
      (md_activate_b339 σ x1 x2 x3 x7 1)
      else
      (md_activate_b339 σ x1 x2 x3 x7 0))
    else
    (if 0 ≤ x1 ∧ x1 < 60 then
      ((md_task σ (-2) (σ 162 x1)).bind fun p1 =>
        if 0 ≤ w32 ((p1.1 119 124) - 1) ∧ w32 ((p1.1 119 124) - 1) < 42000 then
        (some (gW p1.1 219 (w32 ((p1.1 119 124) - 1)) 1, 0))
        else none)
      else none))
  else none) := Lm.eqn (md_activate_b317_l ..) (.ite (.ite (.ite (md_activate_b339_l ..) (md_activate_b339_l ..)) (.ite (.bind (md_task_l ..) fun p1 => (.ite .cst .cst)) .cst)) .cst) fun n => (rfl)
theorem md_activate_b339_e (σ : gM) (x1 x2 x3 x7 y0 : Int) : md_activate_b339 σ x1 x2 x3 x7 y0 =
  (if 0 ≤ x1 ∧ x1 < 60 then
  (if y0 = 0 then
    (md_activate_b371 σ x1 x2 x3 x7 y0 0 (w32 ((σ 158 x1) + x7)))
    else
    (if 0 ≤ w32 ((w32 (x2 + 1)) + x7) ∧ w32 ((w32 (x2 + 1)) + x7) < 24000 then
      (md_activate_b371 σ x1 x2 x3 x7 y0 (σ 221 (w32 ((w32 (x2 + 1)) + x7))) (w32 ((σ 158 x1) + x7)))
      else none))
  else none) := Lm.eqn (md_activate_b339_l ..) (.ite (.ite (md_activate_b371_l ..) (.ite (md_activate_b371_l ..) .cst)) .cst) fun n => (rfl)
theorem md_activate_b371_e (σ : gM) (x1 x2 x3 x7 x8 y0 y1 : Int) : md_activate_b371 σ x1 x2 x3 x7 x8 y0 y1 =
  (if x8 = 0 then
  (md_activate_b391 σ x1 x2 x3 x7 0 y0 y1)
  else
  (if 0 ≤ w32 ((w32 (x2 + 1)) + x7) ∧ w32 ((w32 (x2 + 1)) + x7) < 24000 then
    (md_activate_b391 σ x1 x2 x3 x7 (σ 222 (w32 ((w32 (x2 + 1)) + x7))) y0 y1)
    else none)) := Lm.eqn (md_activate_b371_l ..) (.ite (md_activate_b391_l ..) (.ite (md_activate_b391_l ..) .cst)) fun n => (rfl)
theorem md_activate_b391_e (σ : gM) (x1 x2 x3 x7 y0 y1 y2 : Int) : md_activate_b391 σ x1 x2 x3 x7 y0 y1 y2 =
  ((md_sets σ y2 y1 y0).bind fun p1 =>
  md_activate_b317 p1.1 x1 x2 x3 (w32 (x7 + 1))) := Lm.eqn (md_activate_b391_l ..) (.bind (md_sets_l ..) fun p1 => (md_activate_b317_l ..)) fun n => (rfl)
def k_md_falls : List gC := [(0, 1, .aload_n 0, [], none), (1, 3, .getfield 685, [], none), (4, 1, .iconst 1, [], none), (5, 1, .isub, [], none),
  (6, 1, .istore_n 1, [], none), (7, 1, .aload_n 0, [], none), (8, 3, .getfield 295, [], none), (11, 1, .iload_n 1, [], none),
  (12, 1, .iaload, [], none), (13, 3, .ifCond .lt 17, [(0, 30)], none), (16, 1, .aload_n 0, [], none), (17, 3, .getfield 270, [], none),
  (20, 1, .aload_n 0, [], none), (21, 3, .getfield 295, [], none), (24, 1, .iload_n 1, [], none), (25, 1, .iaload, [], none),
  (26, 1, .baload, [], none), (27, 3, .ifCond .eq 4, [(0, 31)], none), (30, 1, .return_, [], none), (31, 1, .aload_n 0, [], none),
  (32, 3, .getfield 267, [], none), (35, 1, .aload_n 0, [], none), (36, 3, .getfield 295, [], none), (39, 1, .iload_n 1, [], none),
  (40, 1, .iaload, [], none), (41, 1, .dup2, [], none), (42, 1, .iaload, [], none), (43, 1, .iconst 1, [], none),
  (44, 1, .iadd, [], none), (45, 1, .iastore, [], none), (46, 1, .aload_n 0, [], none), (47, 3, .getfield 341, [], none),
  (50, 2, .bipush 12, [], none), (52, 1, .dup2, [], none), (53, 1, .iaload, [], none), (54, 1, .iconst 1, [], none),
  (55, 1, .iadd, [], none), (56, 1, .iastore, [], none), (57, 1, .aload_n 0, [], none), (58, 1, .aload_n 0, [], none),
  (59, 3, .getfield 301, [], none), (62, 1, .iload_n 1, [], none), (63, 1, .iaload, [], none), (64, 3, .invokevirtual 691, [], none),
  (67, 1, .return_, [], none)]
def e_md_falls (m : Nat) : gE := (k_md_falls, f_md, c_md, [(691, 2, 20, 5, .inl (fn_md_leave m))], [], (m, 3957286423569672544968040336314355040562101585619389438625008897486355601704509874725062416979888719833562769808298663200202188999047173287349111616348151419068127964628516864), 5)
theorem ok_md_falls : gchk cX10_falls 2 k_md_falls = true := by decide +kernel
def fn_md_falls (m : Nat) : gFn := gF (e_md_falls m) 2
theorem mo_md_falls (m : Nat) : gMo (.inl (fn_md_falls m)) := gF_mo (E := e_md_falls m) ⟨mo_md_leave m, trivial⟩
noncomputable def md_falls (σ : gM) : Option (gM × Int) := lim (fun n => fn_md_falls 227 n [(2, 119)] σ)
theorem md_falls_l (σ : gM) : Lm (fun n => fn_md_falls 227 n [(2, 119)] σ) (md_falls σ) := .of fun n => mo_md_falls 227 n [(2, 119)] σ
theorem md_falls_e (σ : gM) : md_falls σ =
  (if 0 ≤ w32 ((σ 119 121) - 1) ∧ w32 ((σ 119 121) - 1) < 60 then
  (if σ 209 (w32 ((σ 119 121) - 1)) < 0 then
    (some (σ, 0))
    else
    (if 0 ≤ w32 ((σ 119 121) - 1) ∧ w32 ((σ 119 121) - 1) < 60 then
      (if 0 ≤ σ 209 (w32 ((σ 119 121) - 1)) ∧ σ 209 (w32 ((σ 119 121) - 1)) < 100 then
        (if σ 203 (σ 209 (w32 ((σ 119 121) - 1))) = 0 then
          (if 0 ≤ w32 ((σ 119 121) - 1) ∧ w32 ((σ 119 121) - 1) < 60 then
            (if 0 ≤ σ 209 (w32 ((σ 119 121) - 1)) ∧ σ 209 (w32 ((σ 119 121) - 1)) < 100 then
              (if 0 ≤ σ 209 (w32 ((σ 119 121) - 1)) ∧ σ 209 (w32 ((σ 119 121) - 1)) < 100 then
                (if (0 : Int) ≤ 12 ∧ (12 : Int) < 16 then
                  (if (0 : Int) ≤ 12 ∧ (12 : Int) < 16 then
                    (if 0 ≤ w32 ((σ 119 121) - 1) ∧ w32 ((σ 119 121) - 1) < 60 then
                      ((md_leave (gW (gW σ 202 (σ 209 (w32 ((σ 119 121) - 1))) (w32 ((σ 202 (σ 209 (w32 ((σ 119 121) - 1)))) + 1))) 224 12 (w32 ((σ 224 12) + 1))) (σ 211 (w32 ((σ 119 121) - 1)))).bind fun p1 =>
                        some (p1.1, 0))
                      else none)
                    else none)
                  else none)
                else none)
              else none)
            else none)
          else
          (some (σ, 0)))
        else none)
      else none))
  else none) := Lm.eqn (md_falls_l ..) (.ite (.ite .cst (.ite (.ite (.ite (.ite (.ite (.ite (.ite (.ite (.ite (.bind (md_leave_l ..) fun p1 => .cst) .cst) .cst) .cst) .cst) .cst) .cst) .cst) .cst) .cst)) .cst) fun n => (rfl)
def k_md_comesBack : List gC := [(0, 1, .aload_n 0, [], none), (1, 3, .getfield 685, [], none), (4, 1, .iconst 1, [], none), (5, 1, .isub, [], none),
  (6, 2, .istore 4, [], none), (8, 1, .aload_n 0, [], none), (9, 1, .aload_n 0, [], none), (10, 3, .getfield 304, [], none),
  (13, 2, .iload 4, [], none), (15, 1, .iaload, [], none), (16, 3, .putfield 710, [], none), (19, 1, .aload_n 0, [], none),
  (20, 1, .aload_n 0, [], none), (21, 3, .getfield 307, [], none), (24, 2, .iload 4, [], none), (26, 1, .iaload, [], none),
  (27, 3, .putfield 707, [], none), (30, 1, .aload_n 0, [], none), (31, 1, .dup, [], none), (32, 3, .getfield 685, [], none),
  (35, 1, .iconst 1, [], none), (36, 1, .isub, [], none), (37, 3, .putfield 685, [], none), (40, 1, .aload_n 0, [], none),
  (41, 3, .getfield 685, [], none), (44, 3, .ifCond .ne 19, [(0, 63)], none), (47, 1, .aload_n 0, [], none), (48, 1, .iload_n 1, [], none),
  (49, 3, .putfield 766, [], none), (52, 1, .aload_n 0, [], none), (53, 1, .lload_n 2, [], none), (54, 3, .putfield 769, [], none),
  (57, 1, .aload_n 0, [], none), (58, 1, .iconst 2, [], none), (59, 3, .putfield 772, [], none), (62, 1, .return_, [], none),
  (63, 1, .aload_n 0, [], none), (64, 1, .iload_n 1, [], none), (65, 1, .lload_n 2, [], none), (66, 3, .invokevirtual 762, [], none),
  (69, 1, .aload_n 0, [], none), (70, 1, .dup, [], none), (71, 3, .getfield 710, [], none), (74, 1, .iconst 1, [], none),
  (75, 1, .isub, [], none), (76, 3, .putfield 710, [], none), (79, 1, .aload_n 0, [], none), (80, 3, .invokevirtual 775, [], none),
  (83, 1, .return_, [], none)]
def e_md_comesBack (m : Nat) : gE := (k_md_comesBack, f_md, c_md, [(762, 3, 20, 5, .inl (fn_md_push m)), (775, 1, 20, 5, .inl (fn_md_falls m))], [], (m, 398353523364734495265593239447769539031180679879293275415459493660132940694941600688701435248203587621170977155414216137906566654905987117986779703032056793199973408549182200663244800), 5)
theorem ok_md_comesBack : gchk cX10_comesBack 5 k_md_comesBack = true := by decide +kernel
def fn_md_comesBack (m : Nat) : gFn := gF (e_md_comesBack m) 5
theorem mo_md_comesBack (m : Nat) : gMo (.inl (fn_md_comesBack m)) := gF_mo (E := e_md_comesBack m) ⟨mo_md_push m, ⟨mo_md_falls m, trivial⟩⟩
noncomputable def md_comesBack (σ : gM) (x1 x2 : Int) : Option (gM × Int) := lim (fun n => fn_md_comesBack 227 n [(2, 119), (0, x1), (1, x2)] σ)
theorem md_comesBack_l (σ : gM) (x1 x2 : Int) : Lm (fun n => fn_md_comesBack 227 n [(2, 119), (0, x1), (1, x2)] σ) (md_comesBack σ x1 x2) := .of fun n => mo_md_comesBack 227 n [(2, 119), (0, x1), (1, x2)] σ
theorem md_comesBack_e (σ : gM) (x1 x2 : Int) : md_comesBack σ x1 x2 =
  (if 0 ≤ w32 ((σ 119 121) - 1) ∧ w32 ((σ 119 121) - 1) < 60 then
  (if 0 ≤ w32 ((σ 119 121) - 1) ∧ w32 ((σ 119 121) - 1) < 60 then
    (if w32 ((σ 119 121) - 1) = 0 then
      (some (gW (gW (gW (gW (gW (gW σ 119 124 (σ 212 (w32 ((σ 119 121) - 1)))) 119 125 (σ 213 (w32 ((σ 119 121) - 1)))) 119 121 (w32 ((σ 119 121) - 1))) 119 148 x1) 119 149 x2) 119 117 2, 0))
      else
      ((md_push (gW (gW (gW σ 119 124 (σ 212 (w32 ((σ 119 121) - 1)))) 119 125 (σ 213 (w32 ((σ 119 121) - 1)))) 119 121 (w32 ((σ 119 121) - 1))) x1 x2).bind fun p1 =>
        (md_falls (gW p1.1 119 124 (w32 ((p1.1 119 124) - 1)))).bind fun p2 =>
        some (p2.1, 0)))
    else none)
  else none) := Lm.eqn (md_comesBack_l ..) (.ite (.ite (.ite .cst (.bind (md_push_l ..) fun p1 => (.bind (md_falls_l ..) fun p2 => .cst))) .cst) .cst) fun n => (rfl)
def k_md_error : List gC := [(0, 1, .aload_n 0, [], none), (1, 1, .iload_n 1, [], none), (2, 3, .putfield 704, [], none), (5, 1, .aload_n 0, [], none),
  (6, 1, .aload_n 0, [], none), (7, 3, .getfield 182, [], none), (10, 1, .iload_n 2, [], none), (11, 1, .iaload, [], none),
  (12, 3, .putfield 285, [], none), (15, 1, .aload_n 0, [], none), (16, 1, .iload_n 2, [], none), (17, 1, .aload_n 0, [], none),
  (18, 3, .getfield 134, [], none), (21, 1, .aload_n 0, [], none), (22, 3, .getfield 182, [], none), (25, 1, .iload_n 2, [], none),
  (26, 1, .iaload, [], none), (27, 1, .iaload, [], none), (28, 1, .isub, [], none), (29, 3, .putfield 289, [], none),
  (32, 1, .aload_n 0, [], none), (33, 3, .getfield 10, [], none), (36, 1, .areturn, [], none)]
def e_md_error (m : Nat) : gE := (k_md_error, f_md, c_md, [], [], (m, 886432158879606650072841035334415529085910755178743234252001993036943654781810211938413981403495073242718054390841843392235292282955396336523685419885185113813118671380937703424), 2)
theorem ok_md_error : gchk cX10_error 3 k_md_error = true := by decide +kernel
def fn_md_error (m : Nat) : gFn := gF (e_md_error m) 3
theorem mo_md_error (m : Nat) : gMo (.inl (fn_md_error m)) := gF_mo (E := e_md_error m) trivial
noncomputable def md_error (σ : gM) (x1 x2 : Int) : Option (gM × Int) := lim (fun n => fn_md_error 227 n [(2, 119), (0, x1), (0, x2)] σ)
theorem md_error_l (σ : gM) (x1 x2 : Int) : Lm (fun n => fn_md_error 227 n [(2, 119), (0, x1), (0, x2)] σ) (md_error σ x1 x2) := .of fun n => mo_md_error 227 n [(2, 119), (0, x1), (0, x2)] σ
theorem md_error_e (σ : gM) (x1 x2 : Int) : md_error σ x1 x2 =
  (if 0 ≤ x2 ∧ x2 < 20000 then
  (if 0 ≤ x2 ∧ x2 < 20000 then
    (if 0 ≤ σ 174 x2 ∧ σ 174 x2 < 60 then
      (some (gW (gW (gW σ 119 128 x1) 119 129 (σ 174 x2)) 119 130 (w32 (x2 - (σ 158 (σ 174 x2)))), 120))
      else none)
    else none)
  else none) := Lm.eqn (md_error_l ..) (.ite (.ite (.ite .cst .cst) .cst) .cst) fun n => (rfl)
def k_md_step : List gC := [(0, 1, .aload_n 0, [], none), (1, 3, .getfield 713, [], none), (4, 1, .aload_n 0, [], none), (5, 3, .getfield 716, [], none),
  (8, 3, .if_icmp .ne 10, [(0, 18)], none), (11, 1, .aload_n 0, [], none), (12, 1, .iconst 1, [], none), (13, 3, .putfield 719, [], none),
  (16, 1, .iconst 0, [], none), (17, 1, .ireturn, [], none), (18, 1, .aload_n 0, [], none), (19, 3, .getfield 723, [], none),
  (22, 3, .sipush 20000, [], none), (25, 3, .if_icmp .ne 11, [(0, 36)], none), (28, 1, .aload_n 0, [], none), (29, 2, .bipush 10, [], none),
  (31, 1, .iload_n 1, [], none), (32, 3, .invokevirtual 726, [], none), (35, 1, .athrow, [], none), (36, 1, .aload_n 0, [], none),
  (37, 1, .dup, [], none), (38, 3, .getfield 723, [], none), (41, 1, .iconst 1, [], none), (42, 1, .iadd, [], none),
  (43, 3, .putfield 723, [], none), (46, 1, .aload_n 0, [], none), (47, 1, .dup, [], none), (48, 3, .getfield 713, [], none),
  (51, 1, .iconst 1, [], none), (52, 1, .iadd, [], none), (53, 3, .putfield 713, [], none), (56, 1, .iconst 1, [], none),
  (57, 1, .ireturn, [], none)]
def e_md_step (m : Nat) : gE := (k_md_step, f_md, c_md, [(726, 3, 20, 2, .inl (fn_md_error m))], [], (m, 950119737258931067593420434496974680519957077572305283029873229980864690246742167734770454676765157327539454783040999272118268779289384773090328554823922604551644915209227730944), 6)
theorem ok_md_step : gchk cX10_step 2 k_md_step = true := by decide +kernel
def fn_md_step (m : Nat) : gFt := gG (e_md_step m) 2
theorem mo_md_step (m : Nat) : gMo (.inr (fn_md_step m)) := gG_mo (E := e_md_step m) ⟨mo_md_error m, trivial⟩
noncomputable def md_step (σ : gM) (x1 : Int) : Option (gM × Option Int) := lim (fun n => fn_md_step 227 n [(2, 119), (0, x1)] σ)
theorem md_step_l (σ : gM) (x1 : Int) : Lm (fun n => fn_md_step 227 n [(2, 119), (0, x1)] σ) (md_step σ x1) := .of fun n => mo_md_step 227 n [(2, 119), (0, x1)] σ
theorem md_step_e (σ : gM) (x1 : Int) : md_step σ x1 =
  (if σ 119 119 = σ 119 120 then
  (some (gW σ 119 127 1, some 0))
  else
  (if σ 119 118 = 20000 then
    ((md_error σ 10 x1).bind fun p1 =>
      gthr p1.1 p1.2)
    else
    (some (gW (gW σ 119 118 (w32 ((σ 119 118) + 1))) 119 119 (w32 ((σ 119 119) + 1)), some 1)))) := Lm.eqn (md_step_l ..) (.ite .cst (.ite (.bind (md_error_l ..) fun p1 => .cst) .cst)) fun n => (rfl)
def k_md_row : List gC := [(0, 1, .aload_n 0, [], none), (1, 3, .getfield 329, [], none), (4, 1, .iload_n 1, [], none), (5, 1, .iaload, [], none),
  (6, 1, .istore_n 2, [], none), (7, 1, .iload_n 2, [], none), (8, 1, .iconst (-1), [], none), (9, 3, .if_icmp .ne 33, [(0, 42)], none),
  (12, 1, .aload_n 0, [], none), (13, 3, .getfield 326, [], none), (16, 1, .iload_n 1, [], none), (17, 1, .iaload, [], none),
  (18, 1, .iconst 1, [], none), (19, 3, .if_icmp .ne 12, [(0, 31)], none), (22, 1, .aload_n 0, [], none), (23, 1, .iconst 0, [], none),
  (24, 1, .lconst 0, [], none), (25, 3, .invokevirtual 784, [], none), (28, 3, .goto 13, [(0, 41)], none), (31, 1, .aload_n 0, [], none),
  (32, 1, .dup, [], none), (33, 3, .getfield 710, [], none), (36, 1, .iconst 1, [], none), (37, 1, .isub, [], none),
  (38, 3, .putfield 710, [], none), (41, 1, .return_, [], none), (42, 1, .aload_n 0, [], none), (43, 1, .iload_n 2, [], none),
  (44, 3, .invokevirtual 787, [], none), (47, 3, .ifCond .ne 4, [(0, 51)], none), (50, 1, .return_, [], none), (51, 1, .aload_n 0, [], none),
  (52, 3, .invokevirtual 775, [], none), (55, 1, .aload_n 0, [], none), (56, 3, .getfield 329, [], none), (59, 1, .iload_n 1, [], none),
  (60, 1, .aload_n 0, [], none), (61, 3, .getfield 179, [], none), (64, 1, .iload_n 2, [], none), (65, 1, .iaload, [], none),
  (66, 1, .iastore, [], none), (67, 1, .aload_n 0, [], none), (68, 3, .getfield 164, [], none), (71, 1, .iload_n 2, [], none),
  (72, 1, .iaload, [], none), (73, 2, .bipush 24, [], none), (75, 3, .if_icmp .ge 9, [(0, 84)], none), (78, 1, .aload_n 0, [], none),
  (79, 1, .iconst (-1), [], none), (80, 1, .iconst (-1), [], none), (81, 3, .invokevirtual 746, [], none), (84, 1, .aload_n 0, [], some [true, false, true]),
  (85, 1, .iload_n 2, [], none), (86, 1, .iconst (-1), [], none), (87, 3, .invokevirtual 746, [], none), (90, 1, .return_, [], none)]
def e_md_row (m : Nat) : gE := (k_md_row, f_md, c_md, [(784, 3, 20, 5, .inl (fn_md_comesBack m)), (787, 2, 20, 0, .inr (fn_md_step m)), (775, 1, 20, 5, .inl (fn_md_falls m)), (746, 3, 20, 5, .inl (fn_md_task m))], [], (m, 398354473484471754196660832868204036005861199836370847720742523533362921559631847430869170018658264386328304694869002127650005492775993949076327936132716546185249175569212530598346752), 5)
theorem ok_md_row : gchk cX10_row 3 k_md_row = true := by decide +kernel
def fn_md_row (m : Nat) : gFt := gG (e_md_row m) 3
theorem mo_md_row (m : Nat) : gMo (.inr (fn_md_row m)) := gG_mo (E := e_md_row m) ⟨mo_md_comesBack m, ⟨mo_md_step m, ⟨mo_md_falls m, ⟨mo_md_task m, trivial⟩⟩⟩⟩
noncomputable def md_row (σ : gM) (x1 : Int) : Option (gM × Option Int) := lim (fun n => fn_md_row 227 n [(2, 119), (0, x1)] σ)
theorem md_row_l (σ : gM) (x1 : Int) : Lm (fun n => fn_md_row 227 n [(2, 119), (0, x1)] σ) (md_row σ x1) := .of fun n => mo_md_row 227 n [(2, 119), (0, x1)] σ
theorem mb_md_row : gMos (e_md_row 227).2.2.2.1 := ⟨mo_md_comesBack 227, ⟨mo_md_step 227, ⟨mo_md_falls 227, ⟨mo_md_task 227, trivial⟩⟩⟩⟩
noncomputable def md_row_b84 (σ : gM) (x2 : Int) : Option (gM × Option Int) := lim (fun n => gB (e_md_row 227) rG gthr n 84 [(2, 119), (9, 0), (0, x2)] [] σ)
theorem md_row_b84_l (σ : gM) (x2 : Int) : Lm (fun n => gB (e_md_row 227) rG gthr n 84 [(2, 119), (9, 0), (0, x2)] [] σ) (md_row_b84 σ x2) := .of fun n => gB_le (gMos_spec (mb_md_row)) n _ _ _ σ
theorem md_row_e (σ : gM) (x1 : Int) : md_row σ x1 =
  (if 0 ≤ x1 ∧ x1 < 42000 then
  (if σ 220 x1 = (-1) then
    (if 0 ≤ x1 ∧ x1 < 42000 then
      (if σ 219 x1 = 1 then
        ((md_comesBack σ 0 0).bind fun p5 =>
          some (p5.1, some 0))
        else
        (some (gW σ 119 124 (w32 ((σ 119 124) - 1)), some 0)))
      else none)
    else
    ((md_step σ (σ 220 x1)).bind fun p1 => gtry p1.2 (fun v2 =>
      if v2 = 0 then
        (some (p1.1, some 0))
        else
        ((md_falls p1.1).bind fun p3 =>
          if 0 ≤ σ 220 x1 ∧ σ 220 x1 < 20000 then
          (if 0 ≤ x1 ∧ x1 < 42000 then
            (if 0 ≤ σ 220 x1 ∧ σ 220 x1 < 20000 then
              (if p3.1 168 (σ 220 x1) < 24 then
                ((md_task (gW p3.1 220 x1 (p3.1 173 (σ 220 x1))) (-1) (-1)).bind fun p4 =>
                  md_row_b84 p4.1 (σ 220 x1))
                else
                (md_row_b84 (gW p3.1 220 x1 (p3.1 173 (σ 220 x1))) (σ 220 x1)))
              else none)
            else none)
          else none))
      (some (p1.1, none))))
  else none) := Lm.eqn (md_row_l ..) (.ite (.ite (.ite (.ite (.bind (md_comesBack_l ..) fun p5 => .cst) .cst) .cst) (.bind (md_step_l ..) fun p1 => .xtry (fun v2 => (.ite .cst (.bind (md_falls_l ..) fun p3 => (.ite (.ite (.ite (.ite (.bind (md_task_l ..) fun p4 => (md_row_b84_l ..)) (md_row_b84_l ..)) .cst) .cst) .cst)))) .cst)) .cst) fun n => (rfl)
theorem md_row_b84_e (σ : gM) (x2 : Int) : md_row_b84 σ x2 =
  ((md_task σ x2 (-1)).bind fun p1 =>
  some (p1.1, some 0)) := Lm.eqn (md_row_b84_l ..) (.bind (md_task_l ..) fun p1 => .cst) fun n => (rfl)
def k_md_sizeOf : List gC := [(0, 1, .aload_n 0, [], none), (1, 3, .getfield 26, [], none), (4, 1, .lload_n 1, [], none), (5, 1, .l2i, [], none),
  (6, 1, .iaload, [], none), (7, 1, .ireturn, [], none)]
def e_md_sizeOf (m : Nat) : gE := (k_md_sizeOf, f_md, c_md, [], [], (m, 0), 0)
theorem ok_md_sizeOf : gchk cX10_sizeOf 3 k_md_sizeOf = true := by decide +kernel
def fn_md_sizeOf (m : Nat) : gFn := gF (e_md_sizeOf m) 3
theorem mo_md_sizeOf (m : Nat) : gMo (.inl (fn_md_sizeOf m)) := gF_mo (E := e_md_sizeOf m) trivial
noncomputable def md_sizeOf (σ : gM) (x1 : Int) : Option (gM × Int) := lim (fun n => fn_md_sizeOf 227 n [(2, 119), (1, x1)] σ)
theorem md_sizeOf_l (σ : gM) (x1 : Int) : Lm (fun n => fn_md_sizeOf 227 n [(2, 119), (1, x1)] σ) (md_sizeOf σ x1) := .of fun n => mo_md_sizeOf 227 n [(2, 119), (1, x1)] σ
theorem md_sizeOf_e (σ : gM) (x1 : Int) : md_sizeOf σ x1 =
  (if 0 ≤ w32 x1 ∧ w32 x1 < 109004 then
  (some (σ, σ 123 (w32 x1)))
  else none) := Lm.eqn (md_sizeOf_l ..) (.ite .cst .cst) fun n => (rfl)
def k_md_letter : List gC := [(0, 1, .iload_n 3, [], none), (1, 3, .ifCond .lt 12, [(0, 13)], none), (4, 1, .iload_n 3, [], none), (5, 1, .aload_n 0, [], none),
  (6, 1, .lload_n 1, [], none), (7, 3, .invokevirtual 392, [], none), (10, 3, .if_icmp .lt 7, [(0, 17)], none), (13, 1, .iconst (-1), [], some [false, false, false, false]),
  (14, 3, .goto 17, [(0, 31)], none), (17, 1, .aload_n 0, [], none), (18, 3, .getfield 17, [], none), (21, 1, .aload_n 0, [], none),
  (22, 3, .getfield 22, [], none), (25, 1, .lload_n 1, [], none), (26, 1, .l2i, [], none), (27, 1, .iaload, [], none),
  (28, 1, .iload_n 3, [], none), (29, 1, .iadd, [], none), (30, 1, .baload, [], none), (31, 1, .ireturn, [], none)]
def e_md_letter (m : Nat) : gE := (k_md_letter, f_md, c_md, [(392, 2, 20, 0, .inl (fn_md_sizeOf m))], [], (m, 0), 0)
theorem ok_md_letter : gchk cX10_letter 4 k_md_letter = true := by decide +kernel
def fn_md_letter (m : Nat) : gFn := gF (e_md_letter m) 4
theorem mo_md_letter (m : Nat) : gMo (.inl (fn_md_letter m)) := gF_mo (E := e_md_letter m) ⟨mo_md_sizeOf m, trivial⟩
noncomputable def md_letter (σ : gM) (x1 x3 : Int) : Option (gM × Int) := lim (fun n => fn_md_letter 227 n [(2, 119), (1, x1), (0, x3)] σ)
theorem md_letter_l (σ : gM) (x1 x3 : Int) : Lm (fun n => fn_md_letter 227 n [(2, 119), (1, x1), (0, x3)] σ) (md_letter σ x1 x3) := .of fun n => mo_md_letter 227 n [(2, 119), (1, x1), (0, x3)] σ
theorem mb_md_letter : gMos (e_md_letter 227).2.2.2.1 := ⟨mo_md_sizeOf 227, trivial⟩
noncomputable def md_letter_b13 (σ : gM) : Option (gM × Int) := lim (fun n => gB (e_md_letter 227) rF tF n 13 [(9, 0), (9, 0), (9, 0), (9, 0)] [] σ)
theorem md_letter_b13_l (σ : gM) : Lm (fun n => gB (e_md_letter 227) rF tF n 13 [(9, 0), (9, 0), (9, 0), (9, 0)] [] σ) (md_letter_b13 σ) := .of fun n => gB_le (gMos_spec (mb_md_letter)) n _ _ _ σ
theorem md_letter_e (σ : gM) (x1 x3 : Int) : md_letter σ x1 x3 =
  (if x3 < 0 then
  (md_letter_b13 σ)
  else
  ((md_sizeOf σ x1).bind fun p1 =>
    if x3 < p1.2 then
    (if 0 ≤ w32 x1 ∧ w32 x1 < 109004 then
      (if 0 ≤ w32 ((p1.1 122 (w32 x1)) + x3) ∧ w32 ((p1.1 122 (w32 x1)) + x3) < 160400 then
        (some (p1.1, p1.1 121 (w32 ((p1.1 122 (w32 x1)) + x3))))
        else none)
      else none)
    else
    (md_letter_b13 p1.1))) := Lm.eqn (md_letter_l ..) (.ite (md_letter_b13_l ..) (.bind (md_sizeOf_l ..) fun p1 => (.ite (.ite (.ite .cst .cst) .cst) (md_letter_b13_l ..)))) fun n => (rfl)
theorem md_letter_b13_e (σ : gM) : md_letter_b13 σ =
  (some (σ, (-1))) := Lm.eqn (md_letter_b13_l ..) .cst fun n => (rfl)
def k_md_write : List gC := [(0, 1, .iconst 0, [], none), (1, 1, .istore_n 3, [], none), (2, 1, .iload_n 3, [], some [true, true, false, true]), (3, 1, .aload_n 0, [], none),
  (4, 1, .lload_n 1, [], none), (5, 3, .invokevirtual 392, [], none), (8, 3, .if_icmp .ge 27, [(0, 35)], none), (11, 1, .aload_n 0, [], none),
  (12, 3, .getfield 344, [], none), (15, 1, .aload_n 0, [], none), (16, 3, .getfield 854, [], none), (19, 1, .iload_n 3, [], none),
  (20, 1, .iadd, [], none), (21, 1, .aload_n 0, [], none), (22, 1, .lload_n 1, [], none), (23, 1, .iload_n 3, [], none),
  (24, 3, .invokevirtual 857, [], none), (27, 1, .i2b, [], none), (28, 1, .bastore, [], none), (29, 3, .iinc 3 1, [], none),
  (32, 3, .goto (-30), [(0, 2)], none), (35, 1, .aload_n 0, [], none), (36, 1, .dup, [], none), (37, 3, .getfield 854, [], none),
  (40, 1, .aload_n 0, [], none), (41, 1, .lload_n 1, [], none), (42, 3, .invokevirtual 392, [], none), (45, 1, .iadd, [], none),
  (46, 3, .putfield 854, [], none), (49, 1, .return_, [], none)]
def e_md_write (m : Nat) : gE := (k_md_write, f_md, c_md, [(392, 2, 20, 0, .inl (fn_md_sizeOf m)), (857, 3, 20, 0, .inl (fn_md_letter m))], [], (m, 1062275985633534197379176413104937254659186235454063846398888276400807119721704485478325004530458571337778658972493055950586492976585003812849213996794521978176507622815748645283954688), 5)
theorem ok_md_write : gchk cX10_write 4 k_md_write = true := by decide +kernel
def fn_md_write (m : Nat) : gFn := gF (e_md_write m) 4
theorem mo_md_write (m : Nat) : gMo (.inl (fn_md_write m)) := gF_mo (E := e_md_write m) ⟨mo_md_sizeOf m, ⟨mo_md_letter m, trivial⟩⟩
noncomputable def md_write (σ : gM) (x1 : Int) : Option (gM × Int) := lim (fun n => fn_md_write 227 n [(2, 119), (1, x1)] σ)
theorem md_write_l (σ : gM) (x1 : Int) : Lm (fun n => fn_md_write 227 n [(2, 119), (1, x1)] σ) (md_write σ x1) := .of fun n => mo_md_write 227 n [(2, 119), (1, x1)] σ
theorem mb_md_write : gMos (e_md_write 227).2.2.2.1 := ⟨mo_md_sizeOf 227, ⟨mo_md_letter 227, trivial⟩⟩
noncomputable def md_write_b2 (σ : gM) (x1 x3 : Int) : Option (gM × Int) := lim (fun n => gB (e_md_write 227) rF tF n 2 [(2, 119), (1, x1), (9, 0), (0, x3)] [] σ)
theorem md_write_b2_l (σ : gM) (x1 x3 : Int) : Lm (fun n => gB (e_md_write 227) rF tF n 2 [(2, 119), (1, x1), (9, 0), (0, x3)] [] σ) (md_write_b2 σ x1 x3) := .of fun n => gB_le (gMos_spec (mb_md_write)) n _ _ _ σ
theorem md_write_e (σ : gM) (x1 : Int) : md_write σ x1 =
  (md_write_b2 σ x1 0) := Lm.eqn (md_write_l ..) (md_write_b2_l ..) fun n => (rfl)
theorem md_write_b2_e (σ : gM) (x1 x3 : Int) : md_write_b2 σ x1 x3 =
  ((md_sizeOf σ x1).bind fun p1 =>
  if x3 < p1.2 then
  ((md_letter p1.1 x1 x3).bind fun p3 =>
    if 0 ≤ w32 ((p1.1 119 151) + x3) ∧ w32 ((p1.1 119 151) + x3) < 420 then
    (md_write_b2 (gW p3.1 225 (w32 ((p1.1 119 151) + x3)) (w8 (w8 p3.2))) x1 (w32 (x3 + 1)))
    else none)
  else
  ((md_sizeOf p1.1 x1).bind fun p2 =>
    some (gW p2.1 119 151 (w32 ((p1.1 119 151) + p2.2)), 0))) := Lm.eqn (md_write_b2_l ..) (.bind (md_sizeOf_l ..) fun p1 => (.ite (.bind (md_letter_l ..) fun p3 => (.ite (md_write_b2_l ..) .cst)) (.bind (md_sizeOf_l ..) fun p2 => .cst))) fun n => (rfl)
def k_md_spread : List gC := [(0, 1, .iload_n 1, [], none), (1, 1, .iconst 3, [], none), (2, 3, .if_icmp .ne 36, [(0, 38)], none), (5, 1, .iconst 0, [], none),
  (6, 2, .istore 5, [], none), (8, 2, .iload 5, [], some [true, false, true, false, true, true, false, false, false]), (10, 1, .iconst 5, [], none), (11, 3, .if_icmp .ge 26, [(0, 37)], none),
  (14, 2, .aload 4, [], none), (16, 2, .iload 5, [], none), (18, 1, .aload_n 0, [], none), (19, 3, .getfield 42, [], none),
  (22, 1, .iconst 5, [], none), (23, 1, .lload_n 2, [], none), (24, 1, .l2i, [], none), (25, 1, .imul, [], none),
  (26, 2, .iload 5, [], none), (28, 1, .iadd, [], none), (29, 1, .iaload, [], none), (30, 1, .iastore, [], none),
  (31, 3, .iinc 5 1, [], none), (34, 3, .goto (-26), [(0, 8)], none), (37, 1, .return_, [], none), (38, 1, .lload_n 2, [], none),
  (39, 2, .lstore 5, [], none), (41, 2, .aload 4, [], none), (43, 1, .iconst 0, [], none), (44, 1, .lload_n 2, [], none),
  (45, 1, .lconst 0, [], none), (46, 1, .lcmp, [], none), (47, 3, .ifCond .ge 7, [(0, 54)], none), (50, 1, .iconst 1, [], none),
  (51, 3, .goto 4, [(0, 55)], none), (54, 1, .iconst 0, [], none), (55, 1, .iastore, [], some [false, false, false, false, true, true, false, false, false]), (56, 1, .iconst 1, [], none),
  (57, 2, .istore 7, [], none), (59, 2, .iload 7, [], some [false, false, false, false, true, true, false, true, false]), (61, 1, .iconst 5, [], none), (62, 3, .if_icmp .ge 44, [(0, 106)], none),
  (65, 2, .lload 5, [], none), (67, 3, .ldc2_w 396, [], none), (70, 1, .lrem, [], none), (71, 1, .l2i, [], none),
  (72, 2, .istore 8, [], none), (74, 2, .aload 4, [], none), (76, 2, .iload 7, [], none), (78, 2, .iload 8, [], none),
  (80, 3, .ifCond .ge 9, [(0, 89)], none), (83, 2, .iload 8, [], none), (85, 1, .ineg, [], none), (86, 3, .goto 5, [(0, 91)], none),
  (89, 2, .iload 8, [], none), (91, 1, .iastore, [], some [false, false, false, false, true, true, false, true, false]), (92, 2, .lload 5, [], none), (94, 3, .ldc2_w 396, [], none),
  (97, 1, .ldiv, [], none), (98, 2, .lstore 5, [], none), (100, 3, .iinc 7 1, [], none), (103, 3, .goto (-44), [(0, 59)], none),
  (106, 1, .return_, [], none)]
def e_md_spread (m : Nat) : gE := (k_md_spread, f_md, c_md, [], [], (m, 2041694201525630780780247644590609268736), 5)
theorem ok_md_spread : gchk cX10_spread 9 k_md_spread = true := by decide +kernel
def fn_md_spread (m : Nat) : gFn := gF (e_md_spread m) 9
theorem mo_md_spread (m : Nat) : gMo (.inl (fn_md_spread m)) := gF_mo (E := e_md_spread m) trivial
noncomputable def md_spread (σ : gM) (x1 x2 x4 : Int) : Option (gM × Int) := lim (fun n => fn_md_spread 227 n [(2, 119), (0, x1), (1, x2), (2, x4)] σ)
theorem md_spread_l (σ : gM) (x1 x2 x4 : Int) : Lm (fun n => fn_md_spread 227 n [(2, 119), (0, x1), (1, x2), (2, x4)] σ) (md_spread σ x1 x2 x4) := .of fun n => mo_md_spread 227 n [(2, 119), (0, x1), (1, x2), (2, x4)] σ
theorem mb_md_spread : gMos (e_md_spread 227).2.2.2.1 := trivial
noncomputable def md_spread_b8 (σ : gM) (x2 x4 x5 : Int) : Option (gM × Int) := lim (fun n => gB (e_md_spread 227) rF tF n 8 [(2, 119), (9, 0), (1, x2), (9, 0), (2, x4), (0, x5), (9, 0), (9, 0), (9, 0)] [] σ)
theorem md_spread_b8_l (σ : gM) (x2 x4 x5 : Int) : Lm (fun n => gB (e_md_spread 227) rF tF n 8 [(2, 119), (9, 0), (1, x2), (9, 0), (2, x4), (0, x5), (9, 0), (9, 0), (9, 0)] [] σ) (md_spread_b8 σ x2 x4 x5) := .of fun n => gB_le (gMos_spec (mb_md_spread)) n _ _ _ σ
noncomputable def md_spread_b55 (σ : gM) (x4 x5 y0 y1 y2 : Int) : Option (gM × Int) := lim (fun n => gB (e_md_spread 227) rF tF n 55 [(9, 0), (9, 0), (9, 0), (9, 0), (2, x4), (1, x5), (9, 0), (9, 0), (9, 0)] [(0, y0), (0, y1), (2, y2)] σ)
theorem md_spread_b55_l (σ : gM) (x4 x5 y0 y1 y2 : Int) : Lm (fun n => gB (e_md_spread 227) rF tF n 55 [(9, 0), (9, 0), (9, 0), (9, 0), (2, x4), (1, x5), (9, 0), (9, 0), (9, 0)] [(0, y0), (0, y1), (2, y2)] σ) (md_spread_b55 σ x4 x5 y0 y1 y2) := .of fun n => gB_le (gMos_spec (mb_md_spread)) n _ _ _ σ
noncomputable def md_spread_b59 (σ : gM) (x4 x5 x7 : Int) : Option (gM × Int) := lim (fun n => gB (e_md_spread 227) rF tF n 59 [(9, 0), (9, 0), (9, 0), (9, 0), (2, x4), (1, x5), (9, 0), (0, x7), (9, 0)] [] σ)
theorem md_spread_b59_l (σ : gM) (x4 x5 x7 : Int) : Lm (fun n => gB (e_md_spread 227) rF tF n 59 [(9, 0), (9, 0), (9, 0), (9, 0), (2, x4), (1, x5), (9, 0), (0, x7), (9, 0)] [] σ) (md_spread_b59 σ x4 x5 x7) := .of fun n => gB_le (gMos_spec (mb_md_spread)) n _ _ _ σ
noncomputable def md_spread_b91 (σ : gM) (x4 x5 x7 y0 y1 y2 : Int) : Option (gM × Int) := lim (fun n => gB (e_md_spread 227) rF tF n 91 [(9, 0), (9, 0), (9, 0), (9, 0), (2, x4), (1, x5), (9, 0), (0, x7), (9, 0)] [(0, y0), (0, y1), (2, y2)] σ)
theorem md_spread_b91_l (σ : gM) (x4 x5 x7 y0 y1 y2 : Int) : Lm (fun n => gB (e_md_spread 227) rF tF n 91 [(9, 0), (9, 0), (9, 0), (9, 0), (2, x4), (1, x5), (9, 0), (0, x7), (9, 0)] [(0, y0), (0, y1), (2, y2)] σ) (md_spread_b91 σ x4 x5 x7 y0 y1 y2) := .of fun n => gB_le (gMos_spec (mb_md_spread)) n _ _ _ σ
theorem md_spread_e (σ : gM) (x1 x2 x4 : Int) : md_spread σ x1 x2 x4 =
  (if x1 = 3 then
  (md_spread_b8 σ x2 x4 0)
  else
  (if l_cmp x2 0 < 0 then
    (md_spread_b55 σ x4 x2 1 0 x4)
    else
    (md_spread_b55 σ x4 x2 0 0 x4))) := Lm.eqn (md_spread_l ..) (.ite (md_spread_b8_l ..) (.ite (md_spread_b55_l ..) (md_spread_b55_l ..))) fun n => (rfl)
theorem md_spread_b8_e (σ : gM) (x2 x4 x5 : Int) : md_spread_b8 σ x2 x4 x5 =
  (if x5 < 5 then
  (if 0 ≤ w32 ((w32 (5 * (w32 x2))) + x5) ∧ w32 ((w32 (5 * (w32 x2))) + x5) < 135020 then
    (gis 227 x4 1 (gwr 2041694201525630780780247644590609268736 x4 0 (if 0 ≤ x5 ∧ x5 < gN x4 then
      (md_spread_b8 (gW σ x4 x5 (σ 128 (w32 ((w32 (5 * (w32 x2))) + x5)))) x2 x4 (w32 (x5 + 1)))
      else none)))
    else none)
  else
  (some (σ, 0))) := Lm.eqn (md_spread_b8_l ..) (.ite (.ite (.xis (.xwr (.ite (md_spread_b8_l ..) .cst))) .cst) .cst) fun n => (rfl)
theorem md_spread_b55_e (σ : gM) (x4 x5 y0 y1 y2 : Int) : md_spread_b55 σ x4 x5 y0 y1 y2 =
  (gis 227 y2 1 (gwr 2041694201525630780780247644590609268736 y2 0 (if 0 ≤ y1 ∧ y1 < gN y2 then
  (md_spread_b59 (gW σ y2 y1 y0) x4 x5 1)
  else none))) := Lm.eqn (md_spread_b55_l ..) (.xis (.xwr (.ite (md_spread_b59_l ..) .cst))) fun n => (rfl)
theorem md_spread_b59_e (σ : gM) (x4 x5 x7 : Int) : md_spread_b59 σ x4 x5 x7 =
  (if x7 < 5 then
  (if (1000000000 : Int) = 0 then none else
    (if w32 (Int.tmod x5 1000000000) < 0 then
      (md_spread_b91 σ x4 x5 x7 (w32 (-(w32 (Int.tmod x5 1000000000)))) x7 x4)
      else
      (md_spread_b91 σ x4 x5 x7 (w32 (Int.tmod x5 1000000000)) x7 x4)))
  else
  (some (σ, 0))) := Lm.eqn (md_spread_b59_l ..) (.ite (.ite .cst (.ite (md_spread_b91_l ..) (md_spread_b91_l ..))) .cst) fun n => (rfl)
theorem md_spread_b91_e (σ : gM) (x4 x5 x7 y0 y1 y2 : Int) : md_spread_b91 σ x4 x5 x7 y0 y1 y2 =
  (gis 227 y2 1 (gwr 2041694201525630780780247644590609268736 y2 0 (if 0 ≤ y1 ∧ y1 < gN y2 then
  (if (1000000000 : Int) = 0 then none else
    (md_spread_b59 (gW σ y2 y1 y0) x4 (w64 (Int.tdiv x5 1000000000)) (w32 (x7 + 1))))
  else none))) := Lm.eqn (md_spread_b91_l ..) (.xis (.xwr (.ite (.ite .cst (md_spread_b59_l ..)) .cst))) fun n => (rfl)
def k_md_digits : List gC := [(0, 1, .aload_n 0, [], none), (1, 1, .iload_n 1, [], none), (2, 1, .lload_n 2, [], none), (3, 1, .aload_n 0, [], none),
  (4, 3, .getfield 45, [], none), (7, 3, .invokevirtual 831, [], none), (10, 1, .aload_n 0, [], none), (11, 3, .getfield 45, [], none),
  (14, 1, .iconst 0, [], none), (15, 1, .iaload, [], none), (16, 1, .iconst 1, [], none), (17, 3, .if_icmp .ne 24, [(0, 41)], none),
  (20, 1, .aload_n 0, [], none), (21, 3, .getfield 344, [], none), (24, 1, .aload_n 0, [], none), (25, 3, .getfield 854, [], none),
  (28, 2, .bipush 45, [], none), (30, 1, .bastore, [], none), (31, 1, .aload_n 0, [], none), (32, 1, .dup, [], none),
  (33, 3, .getfield 854, [], none), (36, 1, .iconst 1, [], none), (37, 1, .iadd, [], none), (38, 3, .putfield 854, [], none),
  (41, 1, .iconst 0, [], some [true, false, false, false, false, false, false, false]), (42, 2, .istore 4, [], none), (44, 1, .iconst 4, [], none), (45, 2, .istore 5, [], none),
  (47, 2, .iload 5, [], some [true, false, false, false, true, true, false, false]), (49, 3, .ifCond .le 106, [(0, 155)], none), (52, 3, .ldc_w 407, [], none), (55, 2, .istore 6, [], none),
  (57, 2, .iload 6, [], some [true, false, false, false, true, true, true, false]), (59, 3, .ifCond .le 90, [(0, 149)], none), (62, 1, .aload_n 0, [], none), (63, 3, .getfield 45, [], none),
  (66, 2, .iload 5, [], none), (68, 1, .iaload, [], none), (69, 2, .iload 6, [], none), (71, 1, .idiv, [], none),
  (72, 2, .bipush 10, [], none), (74, 1, .irem, [], none), (75, 2, .istore 7, [], none), (77, 2, .iload 4, [], none),
  (79, 3, .ifCond .ne 20, [(0, 99)], none), (82, 2, .iload 7, [], none), (84, 3, .ifCond .gt 15, [(0, 99)], none), (87, 2, .iload 5, [], none),
  (89, 1, .iconst 1, [], none), (90, 3, .if_icmp .ne 13, [(0, 103)], none), (93, 2, .iload 6, [], none), (95, 1, .iconst 1, [], none),
  (96, 3, .if_icmp .ne 7, [(0, 103)], none), (99, 1, .iconst 1, [], some [true, false, false, false, false, true, true, true]), (100, 3, .goto 4, [(0, 104)], none), (103, 1, .iconst 0, [], some [true, false, false, false, false, true, true, true]),
  (104, 2, .istore 4, [], some [true, false, false, false, false, true, true, true]), (106, 2, .iload 4, [], none), (108, 3, .ifCond .ne 6, [(0, 114)], none), (111, 3, .goto 28, [(0, 139)], none),
  (114, 1, .aload_n 0, [], none), (115, 3, .getfield 344, [], none), (118, 1, .aload_n 0, [], none), (119, 3, .getfield 854, [], none),
  (122, 2, .bipush 48, [], none), (124, 2, .iload 7, [], none), (126, 1, .iadd, [], none), (127, 1, .i2b, [], none),
  (128, 1, .bastore, [], none), (129, 1, .aload_n 0, [], none), (130, 1, .dup, [], none), (131, 3, .getfield 854, [], none),
  (134, 1, .iconst 1, [], none), (135, 1, .iadd, [], none), (136, 3, .putfield 854, [], none), (139, 2, .iload 6, [], some [true, false, false, false, true, true, true, false]),
  (141, 2, .bipush 10, [], none), (143, 1, .idiv, [], none), (144, 2, .istore 6, [], none), (146, 3, .goto (-89), [(0, 57)], none),
  (149, 3, .iinc 5 (-1), [], none), (152, 3, .goto (-105), [(0, 47)], none), (155, 1, .return_, [], none)]
def e_md_digits (m : Nat) : gE := (k_md_digits, f_md, c_md, [(831, 4, 20, 5, .inl (fn_md_spread m))], [], (m, 1062275985633534197379176413104937254659186235454063846398888276400807119721704485478325004530458571337778658972493055950586492976585003812849216038488723503807288403063393235893223424), 5)
theorem ok_md_digits : gchk cX10_digits 8 k_md_digits = true := by decide +kernel
def fn_md_digits (m : Nat) : gFn := gF (e_md_digits m) 8
theorem mo_md_digits (m : Nat) : gMo (.inl (fn_md_digits m)) := gF_mo (E := e_md_digits m) ⟨mo_md_spread m, trivial⟩
noncomputable def md_digits (σ : gM) (x1 x2 : Int) : Option (gM × Int) := lim (fun n => fn_md_digits 227 n [(2, 119), (0, x1), (1, x2)] σ)
theorem md_digits_l (σ : gM) (x1 x2 : Int) : Lm (fun n => fn_md_digits 227 n [(2, 119), (0, x1), (1, x2)] σ) (md_digits σ x1 x2) := .of fun n => mo_md_digits 227 n [(2, 119), (0, x1), (1, x2)] σ
theorem mb_md_digits : gMos (e_md_digits 227).2.2.2.1 := ⟨mo_md_spread 227, trivial⟩
noncomputable def md_digits_b41 (σ : gM) : Option (gM × Int) := lim (fun n => gB (e_md_digits 227) rF tF n 41 [(2, 119), (9, 0), (9, 0), (9, 0), (9, 0), (9, 0), (9, 0), (9, 0)] [] σ)
theorem md_digits_b41_l (σ : gM) : Lm (fun n => gB (e_md_digits 227) rF tF n 41 [(2, 119), (9, 0), (9, 0), (9, 0), (9, 0), (9, 0), (9, 0), (9, 0)] [] σ) (md_digits_b41 σ) := .of fun n => gB_le (gMos_spec (mb_md_digits)) n _ _ _ σ
noncomputable def md_digits_b47 (σ : gM) (x4 x5 : Int) : Option (gM × Int) := lim (fun n => gB (e_md_digits 227) rF tF n 47 [(2, 119), (9, 0), (9, 0), (9, 0), (0, x4), (0, x5), (9, 0), (9, 0)] [] σ)
theorem md_digits_b47_l (σ : gM) (x4 x5 : Int) : Lm (fun n => gB (e_md_digits 227) rF tF n 47 [(2, 119), (9, 0), (9, 0), (9, 0), (0, x4), (0, x5), (9, 0), (9, 0)] [] σ) (md_digits_b47 σ x4 x5) := .of fun n => gB_le (gMos_spec (mb_md_digits)) n _ _ _ σ
noncomputable def md_digits_b57 (σ : gM) (x4 x5 x6 : Int) : Option (gM × Int) := lim (fun n => gB (e_md_digits 227) rF tF n 57 [(2, 119), (9, 0), (9, 0), (9, 0), (0, x4), (0, x5), (0, x6), (9, 0)] [] σ)
theorem md_digits_b57_l (σ : gM) (x4 x5 x6 : Int) : Lm (fun n => gB (e_md_digits 227) rF tF n 57 [(2, 119), (9, 0), (9, 0), (9, 0), (0, x4), (0, x5), (0, x6), (9, 0)] [] σ) (md_digits_b57 σ x4 x5 x6) := .of fun n => gB_le (gMos_spec (mb_md_digits)) n _ _ _ σ
noncomputable def md_digits_b99 (σ : gM) (x5 x6 x7 : Int) : Option (gM × Int) := lim (fun n => gB (e_md_digits 227) rF tF n 99 [(2, 119), (9, 0), (9, 0), (9, 0), (9, 0), (0, x5), (0, x6), (0, x7)] [] σ)
theorem md_digits_b99_l (σ : gM) (x5 x6 x7 : Int) : Lm (fun n => gB (e_md_digits 227) rF tF n 99 [(2, 119), (9, 0), (9, 0), (9, 0), (9, 0), (0, x5), (0, x6), (0, x7)] [] σ) (md_digits_b99 σ x5 x6 x7) := .of fun n => gB_le (gMos_spec (mb_md_digits)) n _ _ _ σ
noncomputable def md_digits_b103 (σ : gM) (x5 x6 x7 : Int) : Option (gM × Int) := lim (fun n => gB (e_md_digits 227) rF tF n 103 [(2, 119), (9, 0), (9, 0), (9, 0), (9, 0), (0, x5), (0, x6), (0, x7)] [] σ)
theorem md_digits_b103_l (σ : gM) (x5 x6 x7 : Int) : Lm (fun n => gB (e_md_digits 227) rF tF n 103 [(2, 119), (9, 0), (9, 0), (9, 0), (9, 0), (0, x5), (0, x6), (0, x7)] [] σ) (md_digits_b103 σ x5 x6 x7) := .of fun n => gB_le (gMos_spec (mb_md_digits)) n _ _ _ σ
noncomputable def md_digits_b104 (σ : gM) (x5 x6 x7 y0 : Int) : Option (gM × Int) := lim (fun n => gB (e_md_digits 227) rF tF n 104 [(2, 119), (9, 0), (9, 0), (9, 0), (9, 0), (0, x5), (0, x6), (0, x7)] [(0, y0)] σ)
theorem md_digits_b104_l (σ : gM) (x5 x6 x7 y0 : Int) : Lm (fun n => gB (e_md_digits 227) rF tF n 104 [(2, 119), (9, 0), (9, 0), (9, 0), (9, 0), (0, x5), (0, x6), (0, x7)] [(0, y0)] σ) (md_digits_b104 σ x5 x6 x7 y0) := .of fun n => gB_le (gMos_spec (mb_md_digits)) n _ _ _ σ
noncomputable def md_digits_b139 (σ : gM) (x4 x5 x6 : Int) : Option (gM × Int) := lim (fun n => gB (e_md_digits 227) rF tF n 139 [(2, 119), (9, 0), (9, 0), (9, 0), (0, x4), (0, x5), (0, x6), (9, 0)] [] σ)
theorem md_digits_b139_l (σ : gM) (x4 x5 x6 : Int) : Lm (fun n => gB (e_md_digits 227) rF tF n 139 [(2, 119), (9, 0), (9, 0), (9, 0), (0, x4), (0, x5), (0, x6), (9, 0)] [] σ) (md_digits_b139 σ x4 x5 x6) := .of fun n => gB_le (gMos_spec (mb_md_digits)) n _ _ _ σ
theorem md_digits_e (σ : gM) (x1 x2 : Int) : md_digits σ x1 x2 =
  ((md_spread σ x1 x2 129).bind fun p1 =>
  if (0 : Int) ≤ 0 ∧ (0 : Int) < 5 then
  (if p1.1 129 0 = 1 then
    (if 0 ≤ p1.1 119 151 ∧ p1.1 119 151 < 420 then
      (md_digits_b41 (gW (gW p1.1 225 (p1.1 119 151) (w8 45)) 119 151 (w32 ((p1.1 119 151) + 1))))
      else none)
    else
    (md_digits_b41 p1.1))
  else none) := Lm.eqn (md_digits_l ..) (.bind (md_spread_l ..) fun p1 => (.ite (.ite (.ite (md_digits_b41_l ..) .cst) (md_digits_b41_l ..)) .cst)) fun n => (rfl)
theorem md_digits_b41_e (σ : gM) : md_digits_b41 σ =
  (md_digits_b47 σ 0 4) := Lm.eqn (md_digits_b41_l ..) (md_digits_b47_l ..) fun n => (rfl)
theorem md_digits_b47_e (σ : gM) (x4 x5 : Int) : md_digits_b47 σ x4 x5 =
  (if 0 < x5 then
  (md_digits_b57 σ x4 x5 100000000)
  else
  (some (σ, 0))) := Lm.eqn (md_digits_b47_l ..) (.ite (md_digits_b57_l ..) .cst) fun n => (rfl)
theorem md_digits_b57_e (σ : gM) (x4 x5 x6 : Int) : md_digits_b57 σ x4 x5 x6 =
  (if 0 < x6 then
  (if 0 ≤ x5 ∧ x5 < 5 then
    (if x6 = 0 then none else
      (if (10 : Int) = 0 then none else
        (if x4 = 0 then
          (if 0 < Int.tmod (w32 (Int.tdiv (σ 129 x5) x6)) 10 then
            (md_digits_b99 σ x5 x6 (Int.tmod (w32 (Int.tdiv (σ 129 x5) x6)) 10))
            else
            (if x5 = 1 then
              (if x6 = 1 then
                (md_digits_b99 σ x5 x6 (Int.tmod (w32 (Int.tdiv (σ 129 x5) x6)) 10))
                else
                (md_digits_b103 σ x5 x6 (Int.tmod (w32 (Int.tdiv (σ 129 x5) x6)) 10)))
              else
              (md_digits_b103 σ x5 x6 (Int.tmod (w32 (Int.tdiv (σ 129 x5) x6)) 10))))
          else
          (md_digits_b99 σ x5 x6 (Int.tmod (w32 (Int.tdiv (σ 129 x5) x6)) 10)))))
    else none)
  else
  (md_digits_b47 σ x4 (w32 (x5 + (-1))))) := Lm.eqn (md_digits_b57_l ..) (.ite (.ite (.ite .cst (.ite .cst (.ite (.ite (md_digits_b99_l ..) (.ite (.ite (md_digits_b99_l ..) (md_digits_b103_l ..)) (md_digits_b103_l ..))) (md_digits_b99_l ..)))) .cst) (md_digits_b47_l ..)) fun n => (rfl)
theorem md_digits_b99_e (σ : gM) (x5 x6 x7 : Int) : md_digits_b99 σ x5 x6 x7 =
  (md_digits_b104 σ x5 x6 x7 1) := Lm.eqn (md_digits_b99_l ..) (md_digits_b104_l ..) fun n => (rfl)
theorem md_digits_b103_e (σ : gM) (x5 x6 x7 : Int) : md_digits_b103 σ x5 x6 x7 =
  (md_digits_b104 σ x5 x6 x7 0) := Lm.eqn (md_digits_b103_l ..) (md_digits_b104_l ..) fun n => (rfl)
theorem md_digits_b104_e (σ : gM) (x5 x6 x7 y0 : Int) : md_digits_b104 σ x5 x6 x7 y0 =
  (if y0 = 0 then
  (md_digits_b139 σ y0 x5 x6)
  else
  (if 0 ≤ σ 119 151 ∧ σ 119 151 < 420 then
    (md_digits_b139 (gW (gW σ 225 (σ 119 151) (w8 (w8 (w32 (48 + x7))))) 119 151 (w32 ((σ 119 151) + 1))) y0 x5 x6)
    else none)) := Lm.eqn (md_digits_b104_l ..) (.ite (md_digits_b139_l ..) (.ite (md_digits_b139_l ..) .cst)) fun n => (rfl)
theorem md_digits_b139_e (σ : gM) (x4 x5 x6 : Int) : md_digits_b139 σ x4 x5 x6 =
  (if (10 : Int) = 0 then none else
  (md_digits_b57 σ x4 x5 (w32 (Int.tdiv x6 10)))) := Lm.eqn (md_digits_b139_l ..) (.ite .cst (md_digits_b57_l ..)) fun n => (rfl)
def k_md_show : List gC := [(0, 1, .iload_n 1, [], none), (1, 39, .tableswitch 108 0 5 #[39, 52, 76, 76, 85, 93], [(0, 109), (0, 40), (1, 53), (2, 77), (3, 77), (4, 86), (5, 94)], none), (40, 1, .aload_n 0, [], none), (41, 1, .aload_n 0, [], none),
  (42, 3, .getfield 222, [], none), (45, 1, .iconst 0, [], none), (46, 1, .laload, [], none), (47, 3, .invokevirtual 861, [], none),
  (50, 3, .goto 93, [(0, 143)], none), (53, 1, .aload_n 0, [], none), (54, 1, .lload_n 2, [], none), (55, 1, .lconst 1, [], none),
  (56, 1, .lcmp, [], none), (57, 3, .ifCond .ne 10, [(0, 67)], none), (60, 1, .aload_n 0, [], none), (61, 3, .getfield 607, [], none),
  (64, 3, .goto 7, [(0, 71)], none), (67, 1, .aload_n 0, [], none), (68, 3, .getfield 613, [], none), (71, 3, .invokevirtual 861, [], some [false, false, false, false]),
  (74, 3, .goto 69, [(0, 143)], none), (77, 1, .aload_n 0, [], none), (78, 1, .iload_n 1, [], none), (79, 1, .lload_n 2, [], none),
  (80, 3, .invokevirtual 865, [], none), (83, 3, .goto 60, [(0, 143)], none), (86, 1, .aload_n 0, [], none), (87, 1, .lload_n 2, [], none),
  (88, 3, .invokevirtual 861, [], none), (91, 3, .goto 52, [(0, 143)], none), (94, 1, .aload_n 0, [], none), (95, 1, .aload_n 0, [], none),
  (96, 3, .getfield 125, [], none), (99, 1, .lload_n 2, [], none), (100, 1, .l2i, [], none), (101, 1, .iaload, [], none),
  (102, 1, .i2l, [], none), (103, 3, .invokevirtual 861, [], none), (106, 3, .goto 37, [(0, 143)], none), (109, 1, .aload_n 0, [], none),
  (110, 3, .getfield 344, [], none), (113, 1, .aload_n 0, [], none), (114, 3, .getfield 854, [], none), (117, 2, .bipush 123, [], none),
  (119, 1, .bastore, [], none), (120, 1, .aload_n 0, [], none), (121, 3, .getfield 344, [], none), (124, 1, .aload_n 0, [], none),
  (125, 3, .getfield 854, [], none), (128, 1, .iconst 1, [], none), (129, 1, .iadd, [], none), (130, 2, .bipush 125, [], none),
  (132, 1, .bastore, [], none), (133, 1, .aload_n 0, [], none), (134, 1, .dup, [], none), (135, 3, .getfield 854, [], none),
  (138, 1, .iconst 2, [], none), (139, 1, .iadd, [], none), (140, 3, .putfield 854, [], none), (143, 1, .return_, [], none)]
def e_md_show (m : Nat) : gE := (k_md_show, f_md, c_md, [(861, 2, 20, 5, .inl (fn_md_write m)), (865, 3, 20, 5, .inl (fn_md_digits m))], [], (m, 1062275985633534197379176413104937254659186235454063846398888276400807119721704485478325004530458571337778658972493055950586492976585003812849216038488723503807288403063393235893223424), 5)
theorem ok_md_show : gchk cX10_show 4 k_md_show = true := by decide +kernel
def fn_md_show (m : Nat) : gFn := gF (e_md_show m) 4
theorem mo_md_show (m : Nat) : gMo (.inl (fn_md_show m)) := gF_mo (E := e_md_show m) ⟨mo_md_write m, ⟨mo_md_digits m, trivial⟩⟩
noncomputable def md_show (σ : gM) (x1 x2 : Int) : Option (gM × Int) := lim (fun n => fn_md_show 227 n [(2, 119), (0, x1), (1, x2)] σ)
theorem md_show_l (σ : gM) (x1 x2 : Int) : Lm (fun n => fn_md_show 227 n [(2, 119), (0, x1), (1, x2)] σ) (md_show σ x1 x2) := .of fun n => mo_md_show 227 n [(2, 119), (0, x1), (1, x2)] σ
theorem mb_md_show : gMos (e_md_show 227).2.2.2.1 := ⟨mo_md_write 227, ⟨mo_md_digits 227, trivial⟩⟩
noncomputable def md_show_b71 (σ : gM) (y0 : Int) : Option (gM × Int) := lim (fun n => gB (e_md_show 227) rF tF n 71 [(9, 0), (9, 0), (9, 0), (9, 0)] [(1, y0), (2, 119)] σ)
theorem md_show_b71_l (σ : gM) (y0 : Int) : Lm (fun n => gB (e_md_show 227) rF tF n 71 [(9, 0), (9, 0), (9, 0), (9, 0)] [(1, y0), (2, 119)] σ) (md_show_b71 σ y0) := .of fun n => gB_le (gMos_spec (mb_md_show)) n _ _ _ σ
theorem md_show_e (σ : gM) (x1 x2 : Int) : md_show σ x1 x2 =
  (if x1 = 0 then
  (if (0 : Int) ≤ 0 ∧ (0 : Int) < 7 then
    ((md_write σ (σ 187 0)).bind fun p1 =>
      some (p1.1, 0))
    else none)
  else if x1 = 1 then
  (if l_cmp x2 1 = 0 then
    (md_show_b71 σ (σ 119 92))
    else
    (md_show_b71 σ (σ 119 93)))
  else if x1 = 2 then
  ((md_digits σ x1 x2).bind fun p2 =>
    some (p2.1, 0))
  else if x1 = 3 then
  ((md_digits σ x1 x2).bind fun p3 =>
    some (p3.1, 0))
  else if x1 = 4 then
  ((md_write σ x2).bind fun p4 =>
    some (p4.1, 0))
  else if x1 = 5 then
  (if 0 ≤ w32 x2 ∧ w32 x2 < 9000 then
    ((md_write σ (σ 155 (w32 x2))).bind fun p5 =>
      some (p5.1, 0))
    else none)
  else (if 0 ≤ σ 119 151 ∧ σ 119 151 < 420 then
    (if 0 ≤ w32 ((σ 119 151) + 1) ∧ w32 ((σ 119 151) + 1) < 420 then
      (some (gW (gW (gW σ 225 (σ 119 151) (w8 123)) 225 (w32 ((σ 119 151) + 1)) (w8 125)) 119 151 (w32 ((σ 119 151) + 2)), 0))
      else none)
    else none)) := Lm.eqn (md_show_l ..) (.ite (.ite (.bind (md_write_l ..) fun p1 => .cst) .cst) (.ite (.ite (md_show_b71_l ..) (md_show_b71_l ..)) (.ite (.bind (md_digits_l ..) fun p2 => .cst) (.ite (.bind (md_digits_l ..) fun p3 => .cst) (.ite (.bind (md_write_l ..) fun p4 => .cst) (.ite (.ite (.bind (md_write_l ..) fun p5 => .cst) .cst) (.ite (.ite .cst .cst) .cst))))))) fun n => (rfl)
theorem md_show_b71_e (σ : gM) (y0 : Int) : md_show_b71 σ y0 =
  ((md_write σ y0).bind fun p1 =>
  some (p1.1, 0)) := Lm.eqn (md_show_b71_l ..) (.bind (md_write_l ..) fun p1 => .cst) fun n => (rfl)
def k_md_rowOfRun : List gC := [(0, 1, .aload_n 0, [], none), (1, 3, .getfield 344, [], none), (4, 1, .iconst 0, [], none), (5, 1, .iload_n 1, [], none),
  (6, 3, .invokestatic 359, [], none), (9, 1, .istore_n 2, [], none), (10, 1, .aload_n 0, [], none), (11, 1, .aload_n 0, [], none),
  (12, 3, .getfield 35, [], none), (15, 1, .iload_n 2, [], none), (16, 3, .sipush 4095, [], none), (19, 1, .iand, [], none),
  (20, 1, .iaload, [], none), (21, 1, .aload_n 0, [], none), (22, 3, .getfield 344, [], none), (25, 1, .iconst 0, [], none),
  (26, 1, .iload_n 1, [], none), (27, 3, .invokevirtual 363, [], none), (30, 1, .istore_n 3, [], none), (31, 1, .iload_n 3, [], none),
  (32, 3, .ifCond .ge 24, [(0, 56)], none), (35, 1, .aload_n 0, [], none), (36, 1, .aload_n 0, [], none), (37, 3, .getfield 38, [], none),
  (40, 1, .iload_n 2, [], none), (41, 3, .sipush 16383, [], none), (44, 1, .iand, [], none), (45, 1, .iaload, [], none),
  (46, 1, .aload_n 0, [], none), (47, 3, .getfield 344, [], none), (50, 1, .iconst 0, [], none), (51, 1, .iload_n 1, [], none),
  (52, 3, .invokevirtual 363, [], none), (55, 1, .istore_n 3, [], none), (56, 1, .iload_n 3, [], some [true, true, true, true, false]), (57, 3, .ifCond .lt 5, [(0, 62)], none),
  (60, 1, .iload_n 3, [], none), (61, 1, .ireturn, [], none), (62, 3, .sipush 9000, [], none), (65, 1, .aload_n 0, [], none),
  (66, 3, .getfield 386, [], none), (69, 1, .iadd, [], none), (70, 1, .istore_n 3, [], none), (71, 1, .aload_n 0, [], none),
  (72, 1, .dup, [], none), (73, 3, .getfield 386, [], none), (76, 1, .iconst 1, [], none), (77, 1, .iadd, [], none),
  (78, 3, .putfield 386, [], none), (81, 1, .aload_n 0, [], none), (82, 3, .getfield 22, [], none), (85, 1, .iload_n 3, [], none),
  (86, 1, .aload_n 0, [], none), (87, 3, .getfield 389, [], none), (90, 1, .iastore, [], none), (91, 1, .aload_n 0, [], none),
  (92, 3, .getfield 26, [], none), (95, 1, .iload_n 3, [], none), (96, 1, .iload_n 1, [], none), (97, 1, .iastore, [], none),
  (98, 1, .iconst 0, [], none), (99, 2, .istore 4, [], none), (101, 2, .iload 4, [], some [true, true, true, true, true]), (103, 1, .iload_n 1, [], none),
  (104, 3, .if_icmp .ge 28, [(0, 132)], none), (107, 1, .aload_n 0, [], none), (108, 3, .getfield 17, [], none), (111, 1, .aload_n 0, [], none),
  (112, 3, .getfield 389, [], none), (115, 2, .iload 4, [], none), (117, 1, .iadd, [], none), (118, 1, .aload_n 0, [], none),
  (119, 3, .getfield 344, [], none), (122, 2, .iload 4, [], none), (124, 1, .baload, [], none), (125, 1, .bastore, [], none),
  (126, 3, .iinc 4 1, [], none), (129, 3, .goto (-28), [(0, 101)], none), (132, 1, .aload_n 0, [], none), (133, 1, .dup, [], none),
  (134, 3, .getfield 389, [], none), (137, 1, .iload_n 1, [], none), (138, 1, .iadd, [], none), (139, 3, .putfield 389, [], none),
  (142, 1, .aload_n 0, [], none), (143, 3, .getfield 29, [], none), (146, 1, .iload_n 3, [], none), (147, 1, .aload_n 0, [], none),
  (148, 3, .getfield 38, [], none), (151, 1, .iload_n 2, [], none), (152, 3, .sipush 16383, [], none), (155, 1, .iand, [], none),
  (156, 1, .iaload, [], none), (157, 1, .iastore, [], none), (158, 1, .aload_n 0, [], none), (159, 3, .getfield 38, [], none),
  (162, 1, .iload_n 2, [], none), (163, 3, .sipush 16383, [], none), (166, 1, .iand, [], none), (167, 1, .iload_n 3, [], none),
  (168, 1, .iastore, [], none), (169, 1, .aload_n 0, [], none), (170, 3, .getfield 32, [], none), (173, 1, .iload_n 3, [], none),
  (174, 1, .iload_n 3, [], none), (175, 1, .iastore, [], none), (176, 1, .iload_n 3, [], none), (177, 1, .ireturn, [], none)]
def e_md_rowOfRun (m : Nat) : gE := (k_md_rowOfRun, f_md, c_md, [(359, 3, 0, 0, .inl (fn_md_hash m)), (363, 5, 20, 0, .inl (fn_md_find m))], [], (m, 4572873853001941745187886567079833455686423060544391334266343202576228133036766045098104643159412067128905284454072116772855593965410714648576), 0)
theorem ok_md_rowOfRun : gchk cX10_rowOfRun 5 k_md_rowOfRun = true := by decide +kernel
def fn_md_rowOfRun (m : Nat) : gFn := gF (e_md_rowOfRun m) 5
theorem mo_md_rowOfRun (m : Nat) : gMo (.inl (fn_md_rowOfRun m)) := gF_mo (E := e_md_rowOfRun m) ⟨mo_md_hash m, ⟨mo_md_find m, trivial⟩⟩
noncomputable def md_rowOfRun (σ : gM) (x1 : Int) : Option (gM × Int) := lim (fun n => fn_md_rowOfRun 227 n [(2, 119), (0, x1)] σ)
theorem md_rowOfRun_l (σ : gM) (x1 : Int) : Lm (fun n => fn_md_rowOfRun 227 n [(2, 119), (0, x1)] σ) (md_rowOfRun σ x1) := .of fun n => mo_md_rowOfRun 227 n [(2, 119), (0, x1)] σ
theorem mb_md_rowOfRun : gMos (e_md_rowOfRun 227).2.2.2.1 := ⟨mo_md_hash 227, ⟨mo_md_find 227, trivial⟩⟩
noncomputable def md_rowOfRun_b56 (σ : gM) (x1 x2 x3 : Int) : Option (gM × Int) := lim (fun n => gB (e_md_rowOfRun 227) rF tF n 56 [(2, 119), (0, x1), (0, x2), (0, x3), (9, 0)] [] σ)
theorem md_rowOfRun_b56_l (σ : gM) (x1 x2 x3 : Int) : Lm (fun n => gB (e_md_rowOfRun 227) rF tF n 56 [(2, 119), (0, x1), (0, x2), (0, x3), (9, 0)] [] σ) (md_rowOfRun_b56 σ x1 x2 x3) := .of fun n => gB_le (gMos_spec (mb_md_rowOfRun)) n _ _ _ σ
noncomputable def md_rowOfRun_b101 (σ : gM) (x1 x2 x3 x4 : Int) : Option (gM × Int) := lim (fun n => gB (e_md_rowOfRun 227) rF tF n 101 [(2, 119), (0, x1), (0, x2), (0, x3), (0, x4)] [] σ)
theorem md_rowOfRun_b101_l (σ : gM) (x1 x2 x3 x4 : Int) : Lm (fun n => gB (e_md_rowOfRun 227) rF tF n 101 [(2, 119), (0, x1), (0, x2), (0, x3), (0, x4)] [] σ) (md_rowOfRun_b101 σ x1 x2 x3 x4) := .of fun n => gB_le (gMos_spec (mb_md_rowOfRun)) n _ _ _ σ
theorem md_rowOfRun_e (σ : gM) (x1 : Int) : md_rowOfRun σ x1 =
  ((md_hash σ 225 0 x1).bind fun p1 =>
  if 0 ≤ i_and p1.2 4095 ∧ i_and p1.2 4095 < 4096 then
  ((md_find p1.1 (p1.1 126 (i_and p1.2 4095)) 225 0 x1).bind fun p2 =>
    if p2.2 < 0 then
    (if 0 ≤ i_and p1.2 16383 ∧ i_and p1.2 16383 < 16384 then
      ((md_find p2.1 (p2.1 127 (i_and p1.2 16383)) 225 0 x1).bind fun p3 =>
        md_rowOfRun_b56 p3.1 x1 p1.2 p3.2)
      else none)
    else
    (md_rowOfRun_b56 p2.1 x1 p1.2 p2.2))
  else none) := Lm.eqn (md_rowOfRun_l ..) (.bind (md_hash_l ..) fun p1 => (.ite (.bind (md_find_l ..) fun p2 => (.ite (.ite (.bind (md_find_l ..) fun p3 => (md_rowOfRun_b56_l ..)) .cst) (md_rowOfRun_b56_l ..))) .cst)) fun n => (rfl)
theorem md_rowOfRun_b56_e (σ : gM) (x1 x2 x3 : Int) : md_rowOfRun_b56 σ x1 x2 x3 =
  (if x3 < 0 then
  (if 0 ≤ w32 (9000 + (σ 119 13)) ∧ w32 (9000 + (σ 119 13)) < 109004 then
    (if 0 ≤ w32 (9000 + (σ 119 13)) ∧ w32 (9000 + (σ 119 13)) < 109004 then
      (md_rowOfRun_b101 (gW (gW (gW σ 119 13 (w32 ((σ 119 13) + 1))) 122 (w32 (9000 + (σ 119 13))) (σ 119 12)) 123 (w32 (9000 + (σ 119 13))) x1) x1 x2 (w32 (9000 + (σ 119 13))) 0)
      else none)
    else none)
  else
  (some (σ, x3))) := Lm.eqn (md_rowOfRun_b56_l ..) (.ite (.ite (.ite (md_rowOfRun_b101_l ..) .cst) .cst) .cst) fun n => (rfl)
theorem md_rowOfRun_b101_e (σ : gM) (x1 x2 x3 x4 : Int) : md_rowOfRun_b101 σ x1 x2 x3 x4 =
  (if x4 < x1 then
  (if 0 ≤ x4 ∧ x4 < 420 then
    (if 0 ≤ w32 ((σ 119 12) + x4) ∧ w32 ((σ 119 12) + x4) < 160400 then
      (md_rowOfRun_b101 (gW σ 121 (w32 ((σ 119 12) + x4)) (w8 (σ 225 x4))) x1 x2 x3 (w32 (x4 + 1)))
      else none)
    else none)
  else
  (if 0 ≤ i_and x2 16383 ∧ i_and x2 16383 < 16384 then
    (if 0 ≤ x3 ∧ x3 < 109004 then
      (if 0 ≤ i_and x2 16383 ∧ i_and x2 16383 < 16384 then
        (if 0 ≤ x3 ∧ x3 < 109004 then
          (some (gW (gW (gW (gW σ 119 12 (w32 ((σ 119 12) + x1))) 124 x3 (σ 127 (i_and x2 16383))) 127 (i_and x2 16383) x3) 125 x3 x3, x3))
          else none)
        else none)
      else none)
    else none)) := Lm.eqn (md_rowOfRun_b101_l ..) (.ite (.ite (.ite (md_rowOfRun_b101_l ..) .cst) .cst) (.ite (.ite (.ite (.ite .cst .cst) .cst) .cst) .cst)) fun n => (rfl)
