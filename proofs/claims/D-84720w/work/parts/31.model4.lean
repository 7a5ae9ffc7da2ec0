set_option maxRecDepth 100000
def k_md_pairBecomes : List gC := [(0, 1, .aload_n 0, [], none), (1, 1, .dup, [], none), (2, 3, .getfield 707, [], none), (5, 1, .iconst 2, [], none),
  (6, 1, .isub, [], none), (7, 3, .putfield 707, [], none), (10, 1, .aload_n 0, [], none), (11, 1, .iload_n 1, [], none),
  (12, 1, .lload_n 2, [], none), (13, 3, .invokevirtual 762, [], none), (16, 1, .return_, [], none)]
def e_md_pairBecomes (m : Nat) : gE := (k_md_pairBecomes, f_md, c_md, [(762, 3, 20, 5, .inl (fn_md_push m))], [], (m, 15829145694278690179872161345257420162248406342477557754500035589945422406818039498900249667919554879334250981375012917899977285195762735070284456540450321199377513831370588160), 5)
theorem ok_md_pairBecomes : gchk cX10_pairBecomes 4 k_md_pairBecomes = true := by decide +kernel
def fn_md_pairBecomes (m : Nat) : gFn := gF (e_md_pairBecomes m) 4
theorem mo_md_pairBecomes (m : Nat) : gMo (.inl (fn_md_pairBecomes m)) := gF_mo (E := e_md_pairBecomes m) ⟨mo_md_push m, trivial⟩
noncomputable def md_pairBecomes (σ : gM) (x1 x2 : Int) : Option (gM × Int) := lim (fun n => fn_md_pairBecomes 227 n [(2, 119), (0, x1), (1, x2)] σ)
theorem md_pairBecomes_l (σ : gM) (x1 x2 : Int) : Lm (fun n => fn_md_pairBecomes 227 n [(2, 119), (0, x1), (1, x2)] σ) (md_pairBecomes σ x1 x2) := .of fun n => mo_md_pairBecomes 227 n [(2, 119), (0, x1), (1, x2)] σ
theorem md_pairBecomes_e (σ : gM) (x1 x2 : Int) : md_pairBecomes σ x1 x2 =
  ((md_push (gW σ 119 125 (w32 ((σ 119 125) - 2))) x1 x2).bind fun p1 =>
  some (p1.1, 0)) := Lm.eqn (md_pairBecomes_l ..) (.bind (md_push_l ..) fun p1 => .cst) fun n => (rfl)
def k_md_joins : List gC := [(0, 1, .aload_n 0, [], none), (1, 3, .getfield 332, [], none), (4, 1, .aload_n 0, [], none), (5, 3, .getfield 707, [], none),
  (8, 1, .iconst 2, [], none), (9, 1, .isub, [], none), (10, 1, .iaload, [], none), (11, 1, .iconst 4, [], none),
  (12, 3, .if_icmp .gt 18, [(0, 30)], none), (15, 1, .aload_n 0, [], none), (16, 3, .getfield 332, [], none), (19, 1, .aload_n 0, [], none),
  (20, 3, .getfield 707, [], none), (23, 1, .iconst 1, [], none), (24, 1, .isub, [], none), (25, 1, .iaload, [], none),
  (26, 1, .iconst 4, [], none), (27, 3, .if_icmp .le 10, [(0, 37)], none), (30, 1, .aload_n 0, [], some [true, true]), (31, 1, .iconst 1, [], none),
  (32, 1, .iload_n 1, [], none), (33, 3, .invokevirtual 726, [], none), (36, 1, .athrow, [], none), (37, 1, .aload_n 0, [], none),
  (38, 1, .iconst 0, [], none), (39, 3, .putfield 854, [], none), (42, 1, .aload_n 0, [], none), (43, 1, .aload_n 0, [], none),
  (44, 3, .getfield 332, [], none), (47, 1, .aload_n 0, [], none), (48, 3, .getfield 707, [], none), (51, 1, .iconst 2, [], none),
  (52, 1, .isub, [], none), (53, 1, .iaload, [], none), (54, 1, .aload_n 0, [], none), (55, 3, .getfield 335, [], none),
  (58, 1, .aload_n 0, [], none), (59, 3, .getfield 707, [], none), (62, 1, .iconst 2, [], none), (63, 1, .isub, [], none),
  (64, 1, .laload, [], none), (65, 3, .invokevirtual 868, [], none), (68, 1, .aload_n 0, [], none), (69, 1, .aload_n 0, [], none),
  (70, 3, .getfield 332, [], none), (73, 1, .aload_n 0, [], none), (74, 3, .getfield 707, [], none), (77, 1, .iconst 1, [], none),
  (78, 1, .isub, [], none), (79, 1, .iaload, [], none), (80, 1, .aload_n 0, [], none), (81, 3, .getfield 335, [], none),
  (84, 1, .aload_n 0, [], none), (85, 3, .getfield 707, [], none), (88, 1, .iconst 1, [], none), (89, 1, .isub, [], none),
  (90, 1, .laload, [], none), (91, 3, .invokevirtual 868, [], none), (94, 1, .aload_n 0, [], none), (95, 3, .getfield 854, [], none),
  (98, 3, .sipush 200, [], none), (101, 3, .if_icmp .le 11, [(0, 112)], none), (104, 1, .aload_n 0, [], none), (105, 2, .bipush 8, [], none),
  (107, 1, .iload_n 1, [], none), (108, 3, .invokevirtual 726, [], none), (111, 1, .athrow, [], none), (112, 1, .aload_n 0, [], none),
  (113, 3, .getfield 844, [], none), (116, 1, .aload_n 0, [], none), (117, 3, .getfield 854, [], none), (120, 1, .iadd, [], none),
  (121, 1, .iconst 1, [], none), (122, 1, .iadd, [], none), (123, 3, .ldc_w 847, [], none), (126, 3, .if_icmp .le 11, [(0, 137)], none),
  (129, 1, .aload_n 0, [], none), (130, 2, .bipush 9, [], none), (132, 1, .iload_n 1, [], none), (133, 3, .invokevirtual 726, [], none),
  (136, 1, .athrow, [], none), (137, 1, .aload_n 0, [], none), (138, 1, .iload_n 1, [], none), (139, 1, .iconst 4, [], none),
  (140, 3, .invokevirtual 749, [], none), (143, 3, .ifCond .ne 10, [(0, 153)], none), (146, 1, .aload_n 0, [], none), (147, 1, .iload_n 1, [], none),
  (148, 1, .iconst 4, [], none), (149, 1, .iconst 0, [], none), (150, 3, .invokevirtual 758, [], none), (153, 1, .aload_n 0, [], some [true, false]),
  (154, 1, .dup, [], none), (155, 3, .getfield 844, [], none), (158, 1, .aload_n 0, [], none), (159, 3, .getfield 854, [], none),
  (162, 1, .iconst 1, [], none), (163, 1, .iadd, [], none), (164, 1, .iadd, [], none), (165, 3, .putfield 844, [], none),
  (168, 1, .aload_n 0, [], none), (169, 1, .iconst 4, [], none), (170, 1, .aload_n 0, [], none), (171, 1, .aload_n 0, [], none),
  (172, 3, .getfield 854, [], none), (175, 3, .invokevirtual 871, [], none), (178, 1, .i2l, [], none), (179, 3, .invokevirtual 848, [], none),
  (182, 1, .return_, [], none)]
def e_md_joins (m : Nat) : gE := (k_md_joins, f_md, c_md, [(726, 3, 20, 2, .inl (fn_md_error m)), (868, 3, 20, 5, .inl (fn_md_show m)), (749, 3, 20, 0, .inl (fn_md_has m)), (758, 4, 20, 5, .inl (fn_md_settle m)), (871, 2, 20, 0, .inl (fn_md_rowOfRun m)), (848, 3, 20, 5, .inl (fn_md_pairBecomes m))], [], (m, 1062276891852125194834189210786174270646495859194822122171105774062172903902835576637990285026308703799365173124516407536137055731754663360779753661351977627464893846401329092683104256), 5)
theorem ok_md_joins : gchk cX10_joins 2 k_md_joins = true := by decide +kernel
def fn_md_joins (m : Nat) : gFt := gG (e_md_joins m) 2
theorem mo_md_joins (m : Nat) : gMo (.inr (fn_md_joins m)) := gG_mo (E := e_md_joins m) ⟨mo_md_error m, ⟨mo_md_show m, ⟨mo_md_has m, ⟨mo_md_settle m, ⟨mo_md_rowOfRun m, ⟨mo_md_pairBecomes m, trivial⟩⟩⟩⟩⟩⟩
noncomputable def md_joins (σ : gM) (x1 : Int) : Option (gM × Option Int) := lim (fun n => fn_md_joins 227 n [(2, 119), (0, x1)] σ)
theorem md_joins_l (σ : gM) (x1 : Int) : Lm (fun n => fn_md_joins 227 n [(2, 119), (0, x1)] σ) (md_joins σ x1) := .of fun n => mo_md_joins 227 n [(2, 119), (0, x1)] σ
theorem mb_md_joins : gMos (e_md_joins 227).2.2.2.1 := ⟨mo_md_error 227, ⟨mo_md_show 227, ⟨mo_md_has 227, ⟨mo_md_settle 227, ⟨mo_md_rowOfRun 227, ⟨mo_md_pairBecomes 227, trivial⟩⟩⟩⟩⟩⟩
noncomputable def md_joins_b30 (σ : gM) (x1 : Int) : Option (gM × Option Int) := lim (fun n => gB (e_md_joins 227) rG gthr n 30 [(2, 119), (0, x1)] [] σ)
theorem md_joins_b30_l (σ : gM) (x1 : Int) : Lm (fun n => gB (e_md_joins 227) rG gthr n 30 [(2, 119), (0, x1)] [] σ) (md_joins_b30 σ x1) := .of fun n => gB_le (gMos_spec (mb_md_joins)) n _ _ _ σ
noncomputable def md_joins_b153 (σ : gM) : Option (gM × Option Int) := lim (fun n => gB (e_md_joins 227) rG gthr n 153 [(2, 119), (9, 0)] [] σ)
theorem md_joins_b153_l (σ : gM) : Lm (fun n => gB (e_md_joins 227) rG gthr n 153 [(2, 119), (9, 0)] [] σ) (md_joins_b153 σ) := .of fun n => gB_le (gMos_spec (mb_md_joins)) n _ _ _ σ
theorem md_joins_e (σ : gM) (x1 : Int) : md_joins σ x1 =
  (if 0 ≤ w32 ((σ 119 125) - 2) ∧ w32 ((σ 119 125) - 2) < 24000 then
  (if 4 < σ 221 (w32 ((σ 119 125) - 2)) then
    (md_joins_b30 σ x1)
    else
    (if 0 ≤ w32 ((σ 119 125) - 1) ∧ w32 ((σ 119 125) - 1) < 24000 then
      (if 4 < σ 221 (w32 ((σ 119 125) - 1)) then
        (md_joins_b30 σ x1)
        else
        (if 0 ≤ w32 ((σ 119 125) - 2) ∧ w32 ((σ 119 125) - 2) < 24000 then
          (if 0 ≤ w32 ((σ 119 125) - 2) ∧ w32 ((σ 119 125) - 2) < 24000 then
            ((md_show (gW σ 119 151 0) (σ 221 (w32 ((σ 119 125) - 2))) (σ 222 (w32 ((σ 119 125) - 2)))).bind fun p1 =>
              if 0 ≤ w32 ((p1.1 119 125) - 1) ∧ w32 ((p1.1 119 125) - 1) < 24000 then
              (if 0 ≤ w32 ((p1.1 119 125) - 1) ∧ w32 ((p1.1 119 125) - 1) < 24000 then
                ((md_show p1.1 (p1.1 221 (w32 ((p1.1 119 125) - 1))) (p1.1 222 (w32 ((p1.1 119 125) - 1)))).bind fun p2 =>
                  if 200 < p2.1 119 151 then
                  ((md_error p2.1 8 x1).bind fun p6 =>
                    gthr p6.1 p6.2)
                  else
                  (if 100000 < w32 ((w32 ((p2.1 119 11) + (p2.1 119 151))) + 1) then
                    ((md_error p2.1 9 x1).bind fun p5 =>
                      gthr p5.1 p5.2)
                    else
                    ((md_has p2.1 x1 4).bind fun p3 =>
                      if p3.2 = 0 then
                      ((md_settle p3.1 x1 4 0).bind fun p4 =>
                        md_joins_b153 p4.1)
                      else
                      (md_joins_b153 p3.1))))
                else none)
              else none)
            else none)
          else none))
      else none))
  else none) := Lm.eqn (md_joins_l ..) (.ite (.ite (md_joins_b30_l ..) (.ite (.ite (md_joins_b30_l ..) (.ite (.ite (.bind (md_show_l ..) fun p1 => (.ite (.ite (.bind (md_show_l ..) fun p2 => (.ite (.bind (md_error_l ..) fun p6 => .cst) (.ite (.bind (md_error_l ..) fun p5 => .cst) (.bind (md_has_l ..) fun p3 => (.ite (.bind (md_settle_l ..) fun p4 => (md_joins_b153_l ..)) (md_joins_b153_l ..)))))) .cst) .cst)) .cst) .cst)) .cst)) .cst) fun n => (rfl)
theorem md_joins_b30_e (σ : gM) (x1 : Int) : md_joins_b30 σ x1 =
  ((md_error σ 1 x1).bind fun p1 =>
  gthr p1.1 p1.2) := Lm.eqn (md_joins_b30_l ..) (.bind (md_error_l ..) fun p1 => .cst) fun n => (rfl)
theorem md_joins_b153_e (σ : gM) : md_joins_b153 σ =
  ((md_rowOfRun (gW σ 119 11 (w32 ((σ 119 11) + (w32 ((σ 119 151) + 1))))) (σ 119 151)).bind fun p1 =>
  (md_pairBecomes p1.1 4 p1.2).bind fun p2 =>
  some (p2.1, some 0)) := Lm.eqn (md_joins_b153_l ..) (.bind (md_rowOfRun_l ..) fun p1 => (.bind (md_pairBecomes_l ..) fun p2 => .cst)) fun n => (rfl)
def k_md_isNumber : List gC := [(0, 1, .iload_n 0, [], none), (1, 1, .iconst 2, [], none), (2, 3, .if_icmp .eq 8, [(0, 10)], none), (5, 1, .iload_n 0, [], none),
  (6, 1, .iconst 3, [], none), (7, 3, .if_icmp .ne 7, [(0, 14)], none), (10, 1, .iconst 1, [], some [false]), (11, 3, .goto 4, [(0, 15)], none),
  (14, 1, .iconst 0, [], none), (15, 1, .ireturn, [], none)]
def e_md_isNumber (m : Nat) : gE := (k_md_isNumber, f_md, c_md, [], [], (m, 0), 6)
theorem ok_md_isNumber : gchk cX10_isNumber 1 k_md_isNumber = true := by decide +kernel
def fn_md_isNumber (m : Nat) : gFn := gF (e_md_isNumber m) 1
theorem mo_md_isNumber (m : Nat) : gMo (.inl (fn_md_isNumber m)) := gF_mo (E := e_md_isNumber m) trivial
noncomputable def md_isNumber (σ : gM) (x0 : Int) : Option (gM × Int) := lim (fun n => fn_md_isNumber 227 n [(0, x0)] σ)
theorem md_isNumber_l (σ : gM) (x0 : Int) : Lm (fun n => fn_md_isNumber 227 n [(0, x0)] σ) (md_isNumber σ x0) := .of fun n => mo_md_isNumber 227 n [(0, x0)] σ
theorem mb_md_isNumber : gMos (e_md_isNumber 227).2.2.2.1 := trivial
noncomputable def md_isNumber_b10 (σ : gM) : Option (gM × Int) := lim (fun n => gB (e_md_isNumber 227) rF tF n 10 [(9, 0)] [] σ)
theorem md_isNumber_b10_l (σ : gM) : Lm (fun n => gB (e_md_isNumber 227) rF tF n 10 [(9, 0)] [] σ) (md_isNumber_b10 σ) := .of fun n => gB_le (gMos_spec (mb_md_isNumber)) n _ _ _ σ
theorem md_isNumber_e (σ : gM) (x0 : Int) : md_isNumber σ x0 =
  (if x0 = 2 then
  (md_isNumber_b10 σ)
  else
  (if x0 = 3 then
    (md_isNumber_b10 σ)
    else
    (some (σ, 0)))) := Lm.eqn (md_isNumber_l ..) (.ite (md_isNumber_b10_l ..) (.ite (md_isNumber_b10_l ..) .cst)) fun n => (rfl)
theorem md_isNumber_b10_e (σ : gM) : md_isNumber_b10 σ =
  (some (σ, 1)) := Lm.eqn (md_isNumber_b10_l ..) .cst fun n => (rfl)
def k_md_isZero : List gC := [(0, 1, .aload_n 0, [], none), (1, 1, .iconst 1, [], none), (2, 1, .iaload, [], none), (3, 1, .aload_n 0, [], none),
  (4, 1, .iconst 2, [], none), (5, 1, .iaload, [], none), (6, 1, .ior, [], none), (7, 1, .aload_n 0, [], none),
  (8, 1, .iconst 3, [], none), (9, 1, .iaload, [], none), (10, 1, .ior, [], none), (11, 1, .aload_n 0, [], none),
  (12, 1, .iconst 4, [], none), (13, 1, .iaload, [], none), (14, 1, .ior, [], none), (15, 3, .ifCond .ne 7, [(0, 22)], none),
  (18, 1, .iconst 1, [], none), (19, 3, .goto 4, [(0, 23)], none), (22, 1, .iconst 0, [], none), (23, 1, .ireturn, [], none)]
def e_md_isZero (m : Nat) : gE := (k_md_isZero, f_md, c_md, [], [], (m, 0), 6)
theorem ok_md_isZero : gchk cX10_isZero 1 k_md_isZero = true := by decide +kernel
def fn_md_isZero (m : Nat) : gFn := gF (e_md_isZero m) 1
theorem mo_md_isZero (m : Nat) : gMo (.inl (fn_md_isZero m)) := gF_mo (E := e_md_isZero m) trivial
noncomputable def md_isZero (σ : gM) (x0 : Int) : Option (gM × Int) := lim (fun n => fn_md_isZero 227 n [(2, x0)] σ)
theorem md_isZero_l (σ : gM) (x0 : Int) : Lm (fun n => fn_md_isZero 227 n [(2, x0)] σ) (md_isZero σ x0) := .of fun n => mo_md_isZero 227 n [(2, x0)] σ
theorem md_isZero_e (σ : gM) (x0 : Int) : md_isZero σ x0 =
  (gis 227 x0 1 (if (0 : Int) ≤ 1 ∧ (1 : Int) < gN x0 then
  (gis 227 x0 1 (if (0 : Int) ≤ 2 ∧ (2 : Int) < gN x0 then
    (gis 227 x0 1 (if (0 : Int) ≤ 3 ∧ (3 : Int) < gN x0 then
      (gis 227 x0 1 (if (0 : Int) ≤ 4 ∧ (4 : Int) < gN x0 then
        (if i_or (i_or (i_or (σ x0 1) (σ x0 2)) (σ x0 3)) (σ x0 4) = 0 then
          (some (σ, 1))
          else
          (some (σ, 0)))
        else none))
      else none))
    else none))
  else none)) := Lm.eqn (md_isZero_l ..) (.xis (.ite (.xis (.ite (.xis (.ite (.xis (.ite (.ite .cst .cst) .cst)) .cst)) .cst)) .cst)) fun n => (rfl)
def k_md_compareSizes : List gC := [(0, 1, .iconst 4, [], none), (1, 1, .istore_n 2, [], none), (2, 1, .iload_n 2, [], some [true, true, true]), (3, 3, .ifCond .le 33, [(0, 36)], none),
  (6, 1, .aload_n 0, [], none), (7, 1, .iload_n 2, [], none), (8, 1, .iaload, [], none), (9, 1, .aload_n 1, [], none),
  (10, 1, .iload_n 2, [], none), (11, 1, .iaload, [], none), (12, 3, .if_icmp .eq 18, [(0, 30)], none), (15, 1, .aload_n 0, [], none),
  (16, 1, .iload_n 2, [], none), (17, 1, .iaload, [], none), (18, 1, .aload_n 1, [], none), (19, 1, .iload_n 2, [], none),
  (20, 1, .iaload, [], none), (21, 3, .if_icmp .ge 7, [(0, 28)], none), (24, 1, .iconst (-1), [], none), (25, 3, .goto 4, [(0, 29)], none),
  (28, 1, .iconst 1, [], none), (29, 1, .ireturn, [], none), (30, 3, .iinc 2 (-1), [], none), (33, 3, .goto (-31), [(0, 2)], none),
  (36, 1, .iconst 0, [], none), (37, 1, .ireturn, [], none)]
def e_md_compareSizes (m : Nat) : gE := (k_md_compareSizes, f_md, c_md, [], [], (m, 0), 0)
theorem ok_md_compareSizes : gchk cX10_compareSizes 3 k_md_compareSizes = true := by decide +kernel
def fn_md_compareSizes (m : Nat) : gFn := gF (e_md_compareSizes m) 3
theorem mo_md_compareSizes (m : Nat) : gMo (.inl (fn_md_compareSizes m)) := gF_mo (E := e_md_compareSizes m) trivial
noncomputable def md_compareSizes (σ : gM) (x0 x1 : Int) : Option (gM × Int) := lim (fun n => fn_md_compareSizes 227 n [(2, x0), (2, x1)] σ)
theorem md_compareSizes_l (σ : gM) (x0 x1 : Int) : Lm (fun n => fn_md_compareSizes 227 n [(2, x0), (2, x1)] σ) (md_compareSizes σ x0 x1) := .of fun n => mo_md_compareSizes 227 n [(2, x0), (2, x1)] σ
theorem mb_md_compareSizes : gMos (e_md_compareSizes 227).2.2.2.1 := trivial
noncomputable def md_compareSizes_b2 (σ : gM) (x0 x1 x2 : Int) : Option (gM × Int) := lim (fun n => gB (e_md_compareSizes 227) rF tF n 2 [(2, x0), (2, x1), (0, x2)] [] σ)
theorem md_compareSizes_b2_l (σ : gM) (x0 x1 x2 : Int) : Lm (fun n => gB (e_md_compareSizes 227) rF tF n 2 [(2, x0), (2, x1), (0, x2)] [] σ) (md_compareSizes_b2 σ x0 x1 x2) := .of fun n => gB_le (gMos_spec (mb_md_compareSizes)) n _ _ _ σ
theorem md_compareSizes_e (σ : gM) (x0 x1 : Int) : md_compareSizes σ x0 x1 =
  (md_compareSizes_b2 σ x0 x1 4) := Lm.eqn (md_compareSizes_l ..) (md_compareSizes_b2_l ..) fun n => (rfl)
theorem md_compareSizes_b2_e (σ : gM) (x0 x1 x2 : Int) : md_compareSizes_b2 σ x0 x1 x2 =
  (if 0 < x2 then
  (gis 227 x0 1 (if 0 ≤ x2 ∧ x2 < gN x0 then
    (gis 227 x1 1 (if 0 ≤ x2 ∧ x2 < gN x1 then
      (if σ x0 x2 = σ x1 x2 then
        (md_compareSizes_b2 σ x0 x1 (w32 (x2 + (-1))))
        else
        (gis 227 x0 1 (if 0 ≤ x2 ∧ x2 < gN x0 then
          (gis 227 x1 1 (if 0 ≤ x2 ∧ x2 < gN x1 then
            (if σ x0 x2 < σ x1 x2 then
              (some (σ, (-1)))
              else
              (some (σ, 1)))
            else none))
          else none)))
      else none))
    else none))
  else
  (some (σ, 0))) := Lm.eqn (md_compareSizes_b2_l ..) (.ite (.xis (.ite (.xis (.ite (.ite (md_compareSizes_b2_l ..) (.xis (.ite (.xis (.ite (.ite .cst .cst) .cst)) .cst))) .cst)) .cst)) .cst) fun n => (rfl)
def k_md_divides : List gC := [(0, 1, .aload_n 0, [], none), (1, 3, .getfield 45, [], none), (4, 1, .iconst 0, [], none), (5, 1, .iaload, [], none),
  (6, 1, .aload_n 0, [], none), (7, 3, .getfield 48, [], none), (10, 1, .iconst 0, [], none), (11, 1, .iaload, [], none),
  (12, 1, .ixor, [], none), (13, 1, .istore_n 1, [], none), (14, 1, .iconst 0, [], none), (15, 1, .istore_n 2, [], none),
  (16, 1, .iload_n 2, [], some [true, true, true, false, false, false, false, false, false]), (17, 1, .iconst 5, [], none), (18, 3, .if_icmp .ge 23, [(0, 41)], none), (21, 1, .aload_n 0, [], none),
  (22, 3, .getfield 51, [], none), (25, 1, .iload_n 2, [], none), (26, 1, .iconst 0, [], none), (27, 1, .iastore, [], none),
  (28, 1, .aload_n 0, [], none), (29, 3, .getfield 54, [], none), (32, 1, .iload_n 2, [], none), (33, 1, .iconst 0, [], none),
  (34, 1, .iastore, [], none), (35, 3, .iinc 2 1, [], none), (38, 3, .goto (-22), [(0, 16)], none), (41, 1, .iconst 4, [], none),
  (42, 1, .istore_n 2, [], none), (43, 1, .iload_n 2, [], some [true, true, true, false, false, false, false, false, false]), (44, 3, .ifCond .le 208, [(0, 252)], none), (47, 3, .ldc_w 407, [], none),
  (50, 1, .istore_n 3, [], none), (51, 1, .iload_n 3, [], some [true, true, true, true, false, false, false, false, false]), (52, 3, .ifCond .le 194, [(0, 246)], none), (55, 1, .aload_n 0, [], none),
  (56, 3, .getfield 45, [], none), (59, 1, .iload_n 2, [], none), (60, 1, .iaload, [], none), (61, 1, .iload_n 3, [], none),
  (62, 1, .idiv, [], none), (63, 2, .bipush 10, [], none), (65, 1, .irem, [], none), (66, 2, .istore 4, [], none),
  (68, 1, .iconst 1, [], none), (69, 2, .istore 5, [], none), (71, 2, .iload 5, [], some [true, true, true, true, true, true, false, false, false]), (73, 1, .iconst 5, [], none),
  (74, 3, .if_icmp .ge 50, [(0, 124)], none), (77, 3, .ldc2_w 408, [], none), (80, 1, .aload_n 0, [], none), (81, 3, .getfield 54, [], none),
  (84, 2, .iload 5, [], none), (86, 1, .iaload, [], none), (87, 1, .i2l, [], none), (88, 1, .lmul, [], none),
  (89, 2, .iload 4, [], none), (91, 1, .i2l, [], none), (92, 1, .ladd, [], none), (93, 2, .lstore 6, [], none),
  (95, 2, .lload 6, [], none), (97, 3, .ldc2_w 396, [], none), (100, 1, .ldiv, [], none), (101, 1, .l2i, [], none),
  (102, 2, .istore 4, [], none), (104, 1, .aload_n 0, [], none), (105, 3, .getfield 54, [], none), (108, 2, .iload 5, [], none),
  (110, 2, .lload 6, [], none), (112, 3, .ldc2_w 396, [], none), (115, 1, .lrem, [], none), (116, 1, .l2i, [], none),
  (117, 1, .iastore, [], none), (118, 3, .iinc 5 1, [], none), (121, 3, .goto (-50), [(0, 71)], none), (124, 1, .iconst 0, [], none),
  (125, 2, .istore 5, [], none), (127, 2, .iload 4, [], some [true, true, true, true, true, true, false, false, false]), (129, 3, .ifCond .gt 17, [(0, 146)], none), (132, 1, .aload_n 0, [], none),
  (133, 3, .getfield 54, [], none), (136, 1, .aload_n 0, [], none), (137, 3, .getfield 48, [], none), (140, 3, .invokestatic 402, [], none),
  (143, 3, .ifCond .lt 82, [(0, 225)], none), (146, 1, .iconst 0, [], some [true, true, true, true, true, true, false, false, false]), (147, 2, .istore 6, [], none), (149, 1, .iconst 1, [], none),
  (150, 2, .istore 7, [], none), (152, 2, .iload 7, [], some [true, true, true, true, true, true, true, true, false]), (154, 1, .iconst 5, [], none), (155, 3, .if_icmp .ge 57, [(0, 212)], none),
  (158, 1, .aload_n 0, [], none), (159, 3, .getfield 54, [], none), (162, 2, .iload 7, [], none), (164, 1, .iaload, [], none),
  (165, 1, .aload_n 0, [], none), (166, 3, .getfield 48, [], none), (169, 2, .iload 7, [], none), (171, 1, .iaload, [], none),
  (172, 1, .isub, [], none), (173, 2, .iload 6, [], none), (175, 1, .isub, [], none), (176, 2, .istore 8, [], none),
  (178, 2, .iload 8, [], none), (180, 3, .ifCond .ge 7, [(0, 187)], none), (183, 1, .iconst 1, [], none), (184, 3, .goto 4, [(0, 188)], none),
  (187, 1, .iconst 0, [], none), (188, 2, .istore 6, [], some [true, true, true, true, true, true, false, true, true]), (190, 1, .aload_n 0, [], none), (191, 3, .getfield 54, [], none),
  (194, 2, .iload 7, [], none), (196, 2, .iload 8, [], none), (198, 2, .iload 6, [], none), (200, 3, .ldc_w 406, [], none),
  (203, 1, .imul, [], none), (204, 1, .iadd, [], none), (205, 1, .iastore, [], none), (206, 3, .iinc 7 1, [], none),
  (209, 3, .goto (-57), [(0, 152)], none), (212, 2, .iload 4, [], none), (214, 2, .iload 6, [], none), (216, 1, .isub, [], none),
  (217, 2, .istore 4, [], none), (219, 3, .iinc 5 1, [], none), (222, 3, .goto (-95), [(0, 127)], none), (225, 1, .aload_n 0, [], none),
  (226, 3, .getfield 51, [], none), (229, 1, .iload_n 2, [], none), (230, 1, .dup2, [], none), (231, 1, .iaload, [], none),
  (232, 2, .iload 5, [], none), (234, 1, .iload_n 3, [], none), (235, 1, .imul, [], none), (236, 1, .iadd, [], none),
  (237, 1, .iastore, [], none), (238, 1, .iload_n 3, [], none), (239, 2, .bipush 10, [], none), (241, 1, .idiv, [], none),
  (242, 1, .istore_n 3, [], none), (243, 3, .goto (-192), [(0, 51)], none), (246, 3, .iinc 2 (-1), [], none), (249, 3, .goto (-206), [(0, 43)], none),
  (252, 1, .aload_n 0, [], none), (253, 3, .getfield 51, [], none), (256, 1, .iconst 0, [], none), (257, 1, .iload_n 1, [], none),
  (258, 1, .iastore, [], none), (259, 1, .return_, [], none)]
def e_md_divides (m : Nat) : gE := (k_md_divides, f_md, c_md, [(402, 2, 0, 0, .inl (fn_md_compareSizes m))], [], (m, 8166776806102523123120990578362437074944), 5)
theorem ok_md_divides : gchk cX10_divides 9 k_md_divides = true := by decide +kernel
def fn_md_divides (m : Nat) : gFn := gF (e_md_divides m) 9
theorem mo_md_divides (m : Nat) : gMo (.inl (fn_md_divides m)) := gF_mo (E := e_md_divides m) ⟨mo_md_compareSizes m, trivial⟩
noncomputable def md_divides (σ : gM) : Option (gM × Int) := lim (fun n => fn_md_divides 227 n [(2, 119)] σ)
theorem md_divides_l (σ : gM) : Lm (fun n => fn_md_divides 227 n [(2, 119)] σ) (md_divides σ) := .of fun n => mo_md_divides 227 n [(2, 119)] σ
theorem mb_md_divides : gMos (e_md_divides 227).2.2.2.1 := ⟨mo_md_compareSizes 227, trivial⟩
noncomputable def md_divides_b16 (σ : gM) (x1 x2 : Int) : Option (gM × Int) := lim (fun n => gB (e_md_divides 227) rF tF n 16 [(2, 119), (0, x1), (0, x2), (9, 0), (9, 0), (9, 0), (9, 0), (9, 0), (9, 0)] [] σ)
theorem md_divides_b16_l (σ : gM) (x1 x2 : Int) : Lm (fun n => gB (e_md_divides 227) rF tF n 16 [(2, 119), (0, x1), (0, x2), (9, 0), (9, 0), (9, 0), (9, 0), (9, 0), (9, 0)] [] σ) (md_divides_b16 σ x1 x2) := .of fun n => gB_le (gMos_spec (mb_md_divides)) n _ _ _ σ
noncomputable def md_divides_b43 (σ : gM) (x1 x2 : Int) : Option (gM × Int) := lim (fun n => gB (e_md_divides 227) rF tF n 43 [(2, 119), (0, x1), (0, x2), (9, 0), (9, 0), (9, 0), (9, 0), (9, 0), (9, 0)] [] σ)
theorem md_divides_b43_l (σ : gM) (x1 x2 : Int) : Lm (fun n => gB (e_md_divides 227) rF tF n 43 [(2, 119), (0, x1), (0, x2), (9, 0), (9, 0), (9, 0), (9, 0), (9, 0), (9, 0)] [] σ) (md_divides_b43 σ x1 x2) := .of fun n => gB_le (gMos_spec (mb_md_divides)) n _ _ _ σ
noncomputable def md_divides_b51 (σ : gM) (x1 x2 x3 : Int) : Option (gM × Int) := lim (fun n => gB (e_md_divides 227) rF tF n 51 [(2, 119), (0, x1), (0, x2), (0, x3), (9, 0), (9, 0), (9, 0), (9, 0), (9, 0)] [] σ)
theorem md_divides_b51_l (σ : gM) (x1 x2 x3 : Int) : Lm (fun n => gB (e_md_divides 227) rF tF n 51 [(2, 119), (0, x1), (0, x2), (0, x3), (9, 0), (9, 0), (9, 0), (9, 0), (9, 0)] [] σ) (md_divides_b51 σ x1 x2 x3) := .of fun n => gB_le (gMos_spec (mb_md_divides)) n _ _ _ σ
noncomputable def md_divides_b71 (σ : gM) (x1 x2 x3 x4 x5 : Int) : Option (gM × Int) := lim (fun n => gB (e_md_divides 227) rF tF n 71 [(2, 119), (0, x1), (0, x2), (0, x3), (0, x4), (0, x5), (9, 0), (9, 0), (9, 0)] [] σ)
theorem md_divides_b71_l (σ : gM) (x1 x2 x3 x4 x5 : Int) : Lm (fun n => gB (e_md_divides 227) rF tF n 71 [(2, 119), (0, x1), (0, x2), (0, x3), (0, x4), (0, x5), (9, 0), (9, 0), (9, 0)] [] σ) (md_divides_b71 σ x1 x2 x3 x4 x5) := .of fun n => gB_le (gMos_spec (mb_md_divides)) n _ _ _ σ
noncomputable def md_divides_b127 (σ : gM) (x1 x2 x3 x4 x5 : Int) : Option (gM × Int) := lim (fun n => gB (e_md_divides 227) rF tF n 127 [(2, 119), (0, x1), (0, x2), (0, x3), (0, x4), (0, x5), (9, 0), (9, 0), (9, 0)] [] σ)
theorem md_divides_b127_l (σ : gM) (x1 x2 x3 x4 x5 : Int) : Lm (fun n => gB (e_md_divides 227) rF tF n 127 [(2, 119), (0, x1), (0, x2), (0, x3), (0, x4), (0, x5), (9, 0), (9, 0), (9, 0)] [] σ) (md_divides_b127 σ x1 x2 x3 x4 x5) := .of fun n => gB_le (gMos_spec (mb_md_divides)) n _ _ _ σ
noncomputable def md_divides_b146 (σ : gM) (x1 x2 x3 x4 x5 : Int) : Option (gM × Int) := lim (fun n => gB (e_md_divides 227) rF tF n 146 [(2, 119), (0, x1), (0, x2), (0, x3), (0, x4), (0, x5), (9, 0), (9, 0), (9, 0)] [] σ)
theorem md_divides_b146_l (σ : gM) (x1 x2 x3 x4 x5 : Int) : Lm (fun n => gB (e_md_divides 227) rF tF n 146 [(2, 119), (0, x1), (0, x2), (0, x3), (0, x4), (0, x5), (9, 0), (9, 0), (9, 0)] [] σ) (md_divides_b146 σ x1 x2 x3 x4 x5) := .of fun n => gB_le (gMos_spec (mb_md_divides)) n _ _ _ σ
noncomputable def md_divides_b152 (σ : gM) (x1 x2 x3 x4 x5 x6 x7 : Int) : Option (gM × Int) := lim (fun n => gB (e_md_divides 227) rF tF n 152 [(2, 119), (0, x1), (0, x2), (0, x3), (0, x4), (0, x5), (0, x6), (0, x7), (9, 0)] [] σ)
theorem md_divides_b152_l (σ : gM) (x1 x2 x3 x4 x5 x6 x7 : Int) : Lm (fun n => gB (e_md_divides 227) rF tF n 152 [(2, 119), (0, x1), (0, x2), (0, x3), (0, x4), (0, x5), (0, x6), (0, x7), (9, 0)] [] σ) (md_divides_b152 σ x1 x2 x3 x4 x5 x6 x7) := .of fun n => gB_le (gMos_spec (mb_md_divides)) n _ _ _ σ
noncomputable def md_divides_b188 (σ : gM) (x1 x2 x3 x4 x5 x7 x8 y0 : Int) : Option (gM × Int) := lim (fun n => gB (e_md_divides 227) rF tF n 188 [(2, 119), (0, x1), (0, x2), (0, x3), (0, x4), (0, x5), (9, 0), (0, x7), (0, x8)] [(0, y0)] σ)
theorem md_divides_b188_l (σ : gM) (x1 x2 x3 x4 x5 x7 x8 y0 : Int) : Lm (fun n => gB (e_md_divides 227) rF tF n 188 [(2, 119), (0, x1), (0, x2), (0, x3), (0, x4), (0, x5), (9, 0), (0, x7), (0, x8)] [(0, y0)] σ) (md_divides_b188 σ x1 x2 x3 x4 x5 x7 x8 y0) := .of fun n => gB_le (gMos_spec (mb_md_divides)) n _ _ _ σ
theorem md_divides_e (σ : gM) : md_divides σ =
  (if (0 : Int) ≤ 0 ∧ (0 : Int) < 5 then
  (if (0 : Int) ≤ 0 ∧ (0 : Int) < 5 then
    (md_divides_b16 σ (i_xor (σ 129 0) (σ 130 0)) 0)
    else none)
  else none) := Lm.eqn (md_divides_l ..) (.ite (.ite (md_divides_b16_l ..) .cst) .cst) fun n => (rfl)
theorem md_divides_b16_e (σ : gM) (x1 x2 : Int) : md_divides_b16 σ x1 x2 =
  (if x2 < 5 then
  (if 0 ≤ x2 ∧ x2 < 5 then
    (if 0 ≤ x2 ∧ x2 < 5 then
      (md_divides_b16 (gW (gW σ 131 x2 0) 132 x2 0) x1 (w32 (x2 + 1)))
      else none)
    else none)
  else
  (md_divides_b43 σ x1 4)) := Lm.eqn (md_divides_b16_l ..) (.ite (.ite (.ite (md_divides_b16_l ..) .cst) .cst) (md_divides_b43_l ..)) fun n => (rfl)
theorem md_divides_b43_e (σ : gM) (x1 x2 : Int) : md_divides_b43 σ x1 x2 =
  (if 0 < x2 then
  (md_divides_b51 σ x1 x2 100000000)
  else
  (if (0 : Int) ≤ 0 ∧ (0 : Int) < 5 then
    (some (gW σ 131 0 x1, 0))
    else none)) := Lm.eqn (md_divides_b43_l ..) (.ite (md_divides_b51_l ..) (.ite .cst .cst)) fun n => (rfl)
theorem md_divides_b51_e (σ : gM) (x1 x2 x3 : Int) : md_divides_b51 σ x1 x2 x3 =
  (if 0 < x3 then
  (if 0 ≤ x2 ∧ x2 < 5 then
    (if x3 = 0 then none else
      (if (10 : Int) = 0 then none else
        (md_divides_b71 σ x1 x2 x3 (Int.tmod (w32 (Int.tdiv (σ 129 x2) x3)) 10) 1)))
    else none)
  else
  (md_divides_b43 σ x1 (w32 (x2 + (-1))))) := Lm.eqn (md_divides_b51_l ..) (.ite (.ite (.ite .cst (.ite .cst (md_divides_b71_l ..))) .cst) (md_divides_b43_l ..)) fun n => (rfl)
theorem md_divides_b71_e (σ : gM) (x1 x2 x3 x4 x5 : Int) : md_divides_b71 σ x1 x2 x3 x4 x5 =
  (if x5 < 5 then
  (if 0 ≤ x5 ∧ x5 < 5 then
    (if (1000000000 : Int) = 0 then none else
      (if (1000000000 : Int) = 0 then none else
        (if 0 ≤ x5 ∧ x5 < 5 then
          (md_divides_b71 (gW σ 132 x5 (w32 (Int.tmod (w64 ((w64 (10 * (σ 132 x5))) + x4)) 1000000000))) x1 x2 x3 (w32 (w64 (Int.tdiv (w64 ((w64 (10 * (σ 132 x5))) + x4)) 1000000000))) (w32 (x5 + 1)))
          else none)))
    else none)
  else
  (md_divides_b127 σ x1 x2 x3 x4 0)) := Lm.eqn (md_divides_b71_l ..) (.ite (.ite (.ite .cst (.ite .cst (.ite (md_divides_b71_l ..) .cst))) .cst) (md_divides_b127_l ..)) fun n => (rfl)
theorem md_divides_b127_e (σ : gM) (x1 x2 x3 x4 x5 : Int) : md_divides_b127 σ x1 x2 x3 x4 x5 =
  (if 0 < x4 then
  (md_divides_b146 σ x1 x2 x3 x4 x5)
  else
  ((md_compareSizes σ 132 130).bind fun p1 =>
    if p1.2 < 0 then
    (if 0 ≤ x2 ∧ x2 < 5 then
      (if 0 ≤ x2 ∧ x2 < 5 then
        (if (10 : Int) = 0 then none else
          (md_divides_b51 (gW p1.1 131 x2 (w32 ((p1.1 131 x2) + (w32 (x5 * x3))))) x1 x2 (w32 (Int.tdiv x3 10))))
        else none)
      else none)
    else
    (md_divides_b146 p1.1 x1 x2 x3 x4 x5))) := Lm.eqn (md_divides_b127_l ..) (.ite (md_divides_b146_l ..) (.bind (md_compareSizes_l ..) fun p1 => (.ite (.ite (.ite (.ite .cst (md_divides_b51_l ..)) .cst) .cst) (md_divides_b146_l ..)))) fun n => (rfl)
theorem md_divides_b146_e (σ : gM) (x1 x2 x3 x4 x5 : Int) : md_divides_b146 σ x1 x2 x3 x4 x5 =
  (md_divides_b152 σ x1 x2 x3 x4 x5 0 1) := Lm.eqn (md_divides_b146_l ..) (md_divides_b152_l ..) fun n => (rfl)
theorem md_divides_b152_e (σ : gM) (x1 x2 x3 x4 x5 x6 x7 : Int) : md_divides_b152 σ x1 x2 x3 x4 x5 x6 x7 =
  (if x7 < 5 then
  (if 0 ≤ x7 ∧ x7 < 5 then
    (if 0 ≤ x7 ∧ x7 < 5 then
      (if w32 ((w32 ((σ 132 x7) - (σ 130 x7))) - x6) < 0 then
        (md_divides_b188 σ x1 x2 x3 x4 x5 x7 (w32 ((w32 ((σ 132 x7) - (σ 130 x7))) - x6)) 1)
        else
        (md_divides_b188 σ x1 x2 x3 x4 x5 x7 (w32 ((w32 ((σ 132 x7) - (σ 130 x7))) - x6)) 0))
      else none)
    else none)
  else
  (md_divides_b127 σ x1 x2 x3 (w32 (x4 - x6)) (w32 (x5 + 1)))) := Lm.eqn (md_divides_b152_l ..) (.ite (.ite (.ite (.ite (md_divides_b188_l ..) (md_divides_b188_l ..)) .cst) .cst) (md_divides_b127_l ..)) fun n => (rfl)
theorem md_divides_b188_e (σ : gM) (x1 x2 x3 x4 x5 x7 x8 y0 : Int) : md_divides_b188 σ x1 x2 x3 x4 x5 x7 x8 y0 =
  (if 0 ≤ x7 ∧ x7 < 5 then
  (md_divides_b152 (gW σ 132 x7 (w32 (x8 + (w32 (y0 * 1000000000))))) x1 x2 x3 x4 x5 y0 (w32 (x7 + 1)))
  else none) := Lm.eqn (md_divides_b188_l ..) (.ite (md_divides_b152_l ..) .cst) fun n => (rfl)
def k_md_multiplies : List gC := [(0, 1, .iconst 0, [], none), (1, 1, .istore_n 1, [], none), (2, 1, .iload_n 1, [], some [true, true, false]), (3, 2, .bipush 9, [], none),
  (5, 3, .if_icmp .ge 16, [(0, 21)], none), (8, 1, .aload_n 0, [], none), (9, 3, .getfield 57, [], none), (12, 1, .iload_n 1, [], none),
  (13, 1, .lconst 0, [], none), (14, 1, .lastore, [], none), (15, 3, .iinc 1 1, [], none), (18, 3, .goto (-16), [(0, 2)], none),
  (21, 1, .iconst 0, [], none), (22, 1, .istore_n 1, [], none), (23, 1, .iload_n 1, [], some [true, true, false]), (24, 1, .iconst 4, [], none),
  (25, 3, .if_icmp .ge 91, [(0, 116)], none), (28, 1, .iconst 0, [], none), (29, 1, .istore_n 2, [], none), (30, 1, .iload_n 2, [], some [true, true, true]),
  (31, 1, .iconst 4, [], none), (32, 3, .if_icmp .ge 78, [(0, 110)], none), (35, 1, .aload_n 0, [], none), (36, 3, .getfield 57, [], none),
  (39, 1, .iload_n 1, [], none), (40, 1, .iload_n 2, [], none), (41, 1, .iadd, [], none), (42, 1, .dup2, [], none),
  (43, 1, .laload, [], none), (44, 1, .aload_n 0, [], none), (45, 3, .getfield 45, [], none), (48, 1, .iload_n 1, [], none),
  (49, 1, .iconst 1, [], none), (50, 1, .iadd, [], none), (51, 1, .iaload, [], none), (52, 1, .i2l, [], none),
  (53, 1, .aload_n 0, [], none), (54, 3, .getfield 48, [], none), (57, 1, .iload_n 2, [], none), (58, 1, .iconst 1, [], none),
  (59, 1, .iadd, [], none), (60, 1, .iaload, [], none), (61, 1, .i2l, [], none), (62, 1, .lmul, [], none),
  (63, 1, .ladd, [], none), (64, 1, .lastore, [], none), (65, 1, .aload_n 0, [], none), (66, 3, .getfield 57, [], none),
  (69, 1, .iload_n 1, [], none), (70, 1, .iload_n 2, [], none), (71, 1, .iadd, [], none), (72, 1, .iconst 1, [], none),
  (73, 1, .iadd, [], none), (74, 1, .dup2, [], none), (75, 1, .laload, [], none), (76, 1, .aload_n 0, [], none),
  (77, 3, .getfield 57, [], none), (80, 1, .iload_n 1, [], none), (81, 1, .iload_n 2, [], none), (82, 1, .iadd, [], none),
  (83, 1, .laload, [], none), (84, 3, .ldc2_w 396, [], none), (87, 1, .ldiv, [], none), (88, 1, .ladd, [], none),
  (89, 1, .lastore, [], none), (90, 1, .aload_n 0, [], none), (91, 3, .getfield 57, [], none), (94, 1, .iload_n 1, [], none),
  (95, 1, .iload_n 2, [], none), (96, 1, .iadd, [], none), (97, 1, .dup2, [], none), (98, 1, .laload, [], none),
  (99, 3, .ldc2_w 396, [], none), (102, 1, .lrem, [], none), (103, 1, .lastore, [], none), (104, 3, .iinc 2 1, [], none),
  (107, 3, .goto (-77), [(0, 30)], none), (110, 3, .iinc 1 1, [], none), (113, 3, .goto (-90), [(0, 23)], none), (116, 1, .iconst 0, [], none),
  (117, 1, .istore_n 1, [], none), (118, 1, .iload_n 1, [], some [true, true, false]), (119, 2, .bipush 8, [], none), (121, 3, .if_icmp .ge 42, [(0, 163)], none),
  (124, 1, .aload_n 0, [], none), (125, 3, .getfield 57, [], none), (128, 1, .iload_n 1, [], none), (129, 1, .iconst 1, [], none),
  (130, 1, .iadd, [], none), (131, 1, .dup2, [], none), (132, 1, .laload, [], none), (133, 1, .aload_n 0, [], none),
  (134, 3, .getfield 57, [], none), (137, 1, .iload_n 1, [], none), (138, 1, .laload, [], none), (139, 3, .ldc2_w 396, [], none),
  (142, 1, .ldiv, [], none), (143, 1, .ladd, [], none), (144, 1, .lastore, [], none), (145, 1, .aload_n 0, [], none),
  (146, 3, .getfield 57, [], none), (149, 1, .iload_n 1, [], none), (150, 1, .dup2, [], none), (151, 1, .laload, [], none),
  (152, 3, .ldc2_w 396, [], none), (155, 1, .lrem, [], none), (156, 1, .lastore, [], none), (157, 3, .iinc 1 1, [], none),
  (160, 3, .goto (-42), [(0, 118)], none), (163, 1, .iconst 0, [], none), (164, 1, .istore_n 1, [], none), (165, 1, .iload_n 1, [], some [true, true, false]),
  (166, 1, .iconst 4, [], none), (167, 3, .if_icmp .ge 24, [(0, 191)], none), (170, 1, .aload_n 0, [], none), (171, 3, .getfield 51, [], none),
  (174, 1, .iload_n 1, [], none), (175, 1, .iconst 1, [], none), (176, 1, .iadd, [], none), (177, 1, .aload_n 0, [], none),
  (178, 3, .getfield 57, [], none), (181, 1, .iload_n 1, [], none), (182, 1, .laload, [], none), (183, 1, .l2i, [], none),
  (184, 1, .iastore, [], none), (185, 3, .iinc 1 1, [], none), (188, 3, .goto (-23), [(0, 165)], none), (191, 1, .aload_n 0, [], none),
  (192, 3, .getfield 51, [], none), (195, 1, .iconst 0, [], none), (196, 1, .aload_n 0, [], none), (197, 3, .getfield 45, [], none),
  (200, 1, .iconst 0, [], none), (201, 1, .iaload, [], none), (202, 1, .aload_n 0, [], none), (203, 3, .getfield 48, [], none),
  (206, 1, .iconst 0, [], none), (207, 1, .iaload, [], none), (208, 1, .ixor, [], none), (209, 1, .iastore, [], none),
  (210, 1, .aload_n 0, [], none), (211, 3, .getfield 57, [], none), (214, 1, .iconst 4, [], none), (215, 1, .laload, [], none),
  (216, 1, .aload_n 0, [], none), (217, 3, .getfield 57, [], none), (220, 1, .iconst 5, [], none), (221, 1, .laload, [], none),
  (222, 1, .lor, [], none), (223, 1, .aload_n 0, [], none), (224, 3, .getfield 57, [], none), (227, 2, .bipush 6, [], none),
  (229, 1, .laload, [], none), (230, 1, .lor, [], none), (231, 1, .aload_n 0, [], none), (232, 3, .getfield 57, [], none),
  (235, 2, .bipush 7, [], none), (237, 1, .laload, [], none), (238, 1, .lor, [], none), (239, 1, .aload_n 0, [], none),
  (240, 3, .getfield 57, [], none), (243, 2, .bipush 8, [], none), (245, 1, .laload, [], none), (246, 1, .lor, [], none),
  (247, 1, .lconst 0, [], none), (248, 1, .lcmp, [], none), (249, 3, .ifCond .ne 7, [(0, 256)], none), (252, 1, .iconst 1, [], none),
  (253, 3, .goto 4, [(0, 257)], none), (256, 1, .iconst 0, [], none), (257, 1, .ireturn, [], none)]
def e_md_multiplies (m : Nat) : gE := (k_md_multiplies, f_md, c_md, [], [], (m, 13611294676837538538534984297270728458240), 6)
theorem ok_md_multiplies : gchk cX10_multiplies 3 k_md_multiplies = true := by decide +kernel
def fn_md_multiplies (m : Nat) : gFn := gF (e_md_multiplies m) 3
theorem mo_md_multiplies (m : Nat) : gMo (.inl (fn_md_multiplies m)) := gF_mo (E := e_md_multiplies m) trivial
noncomputable def md_multiplies (σ : gM) : Option (gM × Int) := lim (fun n => fn_md_multiplies 227 n [(2, 119)] σ)
theorem md_multiplies_l (σ : gM) : Lm (fun n => fn_md_multiplies 227 n [(2, 119)] σ) (md_multiplies σ) := .of fun n => mo_md_multiplies 227 n [(2, 119)] σ
theorem mb_md_multiplies : gMos (e_md_multiplies 227).2.2.2.1 := trivial
noncomputable def md_multiplies_b2 (σ : gM) (x1 : Int) : Option (gM × Int) := lim (fun n => gB (e_md_multiplies 227) rF tF n 2 [(2, 119), (0, x1), (9, 0)] [] σ)
theorem md_multiplies_b2_l (σ : gM) (x1 : Int) : Lm (fun n => gB (e_md_multiplies 227) rF tF n 2 [(2, 119), (0, x1), (9, 0)] [] σ) (md_multiplies_b2 σ x1) := .of fun n => gB_le (gMos_spec (mb_md_multiplies)) n _ _ _ σ
noncomputable def md_multiplies_b23 (σ : gM) (x1 : Int) : Option (gM × Int) := lim (fun n => gB (e_md_multiplies 227) rF tF n 23 [(2, 119), (0, x1), (9, 0)] [] σ)
theorem md_multiplies_b23_l (σ : gM) (x1 : Int) : Lm (fun n => gB (e_md_multiplies 227) rF tF n 23 [(2, 119), (0, x1), (9, 0)] [] σ) (md_multiplies_b23 σ x1) := .of fun n => gB_le (gMos_spec (mb_md_multiplies)) n _ _ _ σ
noncomputable def md_multiplies_b30 (σ : gM) (x1 x2 : Int) : Option (gM × Int) := lim (fun n => gB (e_md_multiplies 227) rF tF n 30 [(2, 119), (0, x1), (0, x2)] [] σ)
theorem md_multiplies_b30_l (σ : gM) (x1 x2 : Int) : Lm (fun n => gB (e_md_multiplies 227) rF tF n 30 [(2, 119), (0, x1), (0, x2)] [] σ) (md_multiplies_b30 σ x1 x2) := .of fun n => gB_le (gMos_spec (mb_md_multiplies)) n _ _ _ σ
noncomputable def md_multiplies_b118 (σ : gM) (x1 : Int) : Option (gM × Int) := lim (fun n => gB (e_md_multiplies 227) rF tF n 118 [(2, 119), (0, x1), (9, 0)] [] σ)
theorem md_multiplies_b118_l (σ : gM) (x1 : Int) : Lm (fun n => gB (e_md_multiplies 227) rF tF n 118 [(2, 119), (0, x1), (9, 0)] [] σ) (md_multiplies_b118 σ x1) := .of fun n => gB_le (gMos_spec (mb_md_multiplies)) n _ _ _ σ
noncomputable def md_multiplies_b165 (σ : gM) (x1 : Int) : Option (gM × Int) := lim (fun n => gB (e_md_multiplies 227) rF tF n 165 [(2, 119), (0, x1), (9, 0)] [] σ)
theorem md_multiplies_b165_l (σ : gM) (x1 : Int) : Lm (fun n => gB (e_md_multiplies 227) rF tF n 165 [(2, 119), (0, x1), (9, 0)] [] σ) (md_multiplies_b165 σ x1) := .of fun n => gB_le (gMos_spec (mb_md_multiplies)) n _ _ _ σ
theorem md_multiplies_e (σ : gM) : md_multiplies σ =
  (md_multiplies_b2 σ 0) := Lm.eqn (md_multiplies_l ..) (md_multiplies_b2_l ..) fun n => (rfl)
theorem md_multiplies_b2_e (σ : gM) (x1 : Int) : md_multiplies_b2 σ x1 =
  (if x1 < 9 then
  (if 0 ≤ x1 ∧ x1 < 9 then
    (md_multiplies_b2 (gW σ 133 x1 0) (w32 (x1 + 1)))
    else none)
  else
  (md_multiplies_b23 σ 0)) := Lm.eqn (md_multiplies_b2_l ..) (.ite (.ite (md_multiplies_b2_l ..) .cst) (md_multiplies_b23_l ..)) fun n => (rfl)
theorem md_multiplies_b23_e (σ : gM) (x1 : Int) : md_multiplies_b23 σ x1 =
  (if x1 < 4 then
  (md_multiplies_b30 σ x1 0)
  else
  (md_multiplies_b118 σ 0)) := Lm.eqn (md_multiplies_b23_l ..) (.ite (md_multiplies_b30_l ..) (md_multiplies_b118_l ..)) fun n => (rfl)
theorem md_multiplies_b30_e (σ : gM) (x1 x2 : Int) : md_multiplies_b30 σ x1 x2 =
  (if x2 < 4 then
  (if 0 ≤ w32 (x1 + x2) ∧ w32 (x1 + x2) < 9 then
    (if 0 ≤ w32 (x1 + 1) ∧ w32 (x1 + 1) < 5 then
      (if 0 ≤ w32 (x2 + 1) ∧ w32 (x2 + 1) < 5 then
        (if 0 ≤ w32 (x1 + x2) ∧ w32 (x1 + x2) < 9 then
          (if 0 ≤ w32 ((w32 (x1 + x2)) + 1) ∧ w32 ((w32 (x1 + x2)) + 1) < 9 then
            (if 0 ≤ w32 (x1 + x2) ∧ w32 (x1 + x2) < 9 then
              (if (1000000000 : Int) = 0 then none else
                (if 0 ≤ w32 ((w32 (x1 + x2)) + 1) ∧ w32 ((w32 (x1 + x2)) + 1) < 9 then
                  (if 0 ≤ w32 (x1 + x2) ∧ w32 (x1 + x2) < 9 then
                    (if (1000000000 : Int) = 0 then none else
                      (if 0 ≤ w32 (x1 + x2) ∧ w32 (x1 + x2) < 9 then
                        (md_multiplies_b30 (gW (gW (gW σ 133 (w32 (x1 + x2)) (w64 ((σ 133 (w32 (x1 + x2))) + (w64 ((σ 129 (w32 (x1 + 1))) * (σ 130 (w32 (x2 + 1)))))))) 133 (w32 ((w32 (x1 + x2)) + 1)) (w64 (((gW σ 133 (w32 (x1 + x2)) (w64 ((σ 133 (w32 (x1 + x2))) + (w64 ((σ 129 (w32 (x1 + 1))) * (σ 130 (w32 (x2 + 1)))))))) 133 (w32 ((w32 (x1 + x2)) + 1))) + (w64 (Int.tdiv ((gW σ 133 (w32 (x1 + x2)) (w64 ((σ 133 (w32 (x1 + x2))) + (w64 ((σ 129 (w32 (x1 + 1))) * (σ 130 (w32 (x2 + 1)))))))) 133 (w32 (x1 + x2))) 1000000000))))) 133 (w32 (x1 + x2)) (Int.tmod ((gW (gW σ 133 (w32 (x1 + x2)) (w64 ((σ 133 (w32 (x1 + x2))) + (w64 ((σ 129 (w32 (x1 + 1))) * (σ 130 (w32 (x2 + 1)))))))) 133 (w32 ((w32 (x1 + x2)) + 1)) (w64 (((gW σ 133 (w32 (x1 + x2)) (w64 ((σ 133 (w32 (x1 + x2))) + (w64 ((σ 129 (w32 (x1 + 1))) * (σ 130 (w32 (x2 + 1)))))))) 133 (w32 ((w32 (x1 + x2)) + 1))) + (w64 (Int.tdiv ((gW σ 133 (w32 (x1 + x2)) (w64 ((σ 133 (w32 (x1 + x2))) + (w64 ((σ 129 (w32 (x1 + 1))) * (σ 130 (w32 (x2 + 1)))))))) 133 (w32 (x1 + x2))) 1000000000))))) 133 (w32 (x1 + x2))) 1000000000)) x1 (w32 (x2 + 1)))
                        else none))
                    else none)
                  else none))
              else none)
            else none)
          else none)
        else none)
      else none)
    else none)
  else
  (md_multiplies_b23 σ (w32 (x1 + 1)))) := Lm.eqn (md_multiplies_b30_l ..) (.ite (.ite (.ite (.ite (.ite (.ite (.ite (.ite .cst (.ite (.ite (.ite .cst (.ite (md_multiplies_b30_l ..) .cst)) .cst) .cst)) .cst) .cst) .cst) .cst) .cst) .cst) (md_multiplies_b23_l ..)) fun n => (rfl)
theorem md_multiplies_b118_e (σ : gM) (x1 : Int) : md_multiplies_b118 σ x1 =
  (if x1 < 8 then
  (if 0 ≤ w32 (x1 + 1) ∧ w32 (x1 + 1) < 9 then
    (if 0 ≤ x1 ∧ x1 < 9 then
      (if (1000000000 : Int) = 0 then none else
        (if 0 ≤ w32 (x1 + 1) ∧ w32 (x1 + 1) < 9 then
          (if 0 ≤ x1 ∧ x1 < 9 then
            (if (1000000000 : Int) = 0 then none else
              (if 0 ≤ x1 ∧ x1 < 9 then
                (md_multiplies_b118 (gW (gW σ 133 (w32 (x1 + 1)) (w64 ((σ 133 (w32 (x1 + 1))) + (w64 (Int.tdiv (σ 133 x1) 1000000000))))) 133 x1 (Int.tmod ((gW σ 133 (w32 (x1 + 1)) (w64 ((σ 133 (w32 (x1 + 1))) + (w64 (Int.tdiv (σ 133 x1) 1000000000))))) 133 x1) 1000000000)) (w32 (x1 + 1)))
                else none))
            else none)
          else none))
      else none)
    else none)
  else
  (md_multiplies_b165 σ 0)) := Lm.eqn (md_multiplies_b118_l ..) (.ite (.ite (.ite (.ite .cst (.ite (.ite (.ite .cst (.ite (md_multiplies_b118_l ..) .cst)) .cst) .cst)) .cst) .cst) (md_multiplies_b165_l ..)) fun n => (rfl)
theorem md_multiplies_b165_e (σ : gM) (x1 : Int) : md_multiplies_b165 σ x1 =
  (if x1 < 4 then
  (if 0 ≤ x1 ∧ x1 < 9 then
    (if 0 ≤ w32 (x1 + 1) ∧ w32 (x1 + 1) < 5 then
      (md_multiplies_b165 (gW σ 131 (w32 (x1 + 1)) (w32 (σ 133 x1))) (w32 (x1 + 1)))
      else none)
    else none)
  else
  (if (0 : Int) ≤ 0 ∧ (0 : Int) < 5 then
    (if (0 : Int) ≤ 0 ∧ (0 : Int) < 5 then
      (if (0 : Int) ≤ 0 ∧ (0 : Int) < 5 then
        (if (0 : Int) ≤ 4 ∧ (4 : Int) < 9 then
          (if (0 : Int) ≤ 5 ∧ (5 : Int) < 9 then
            (if (0 : Int) ≤ 6 ∧ (6 : Int) < 9 then
              (if (0 : Int) ≤ 7 ∧ (7 : Int) < 9 then
                (if (0 : Int) ≤ 8 ∧ (8 : Int) < 9 then
                  (if l_cmp (l_or (l_or (l_or (l_or (σ 133 4) (σ 133 5)) (σ 133 6)) (σ 133 7)) (σ 133 8)) 0 = 0 then
                    (some (gW σ 131 0 (i_xor (σ 129 0) (σ 130 0)), 1))
                    else
                    (some (gW σ 131 0 (i_xor (σ 129 0) (σ 130 0)), 0)))
                  else none)
                else none)
              else none)
            else none)
          else none)
        else none)
      else none)
    else none)) := Lm.eqn (md_multiplies_b165_l ..) (.ite (.ite (.ite (md_multiplies_b165_l ..) .cst) .cst) (.ite (.ite (.ite (.ite (.ite (.ite (.ite (.ite (.ite .cst .cst) .cst) .cst) .cst) .cst) .cst) .cst) .cst) .cst)) fun n => (rfl)
def k_md_adds : List gC := [(0, 1, .aload_n 0, [], none), (1, 3, .getfield 45, [], none), (4, 1, .iconst 0, [], none), (5, 1, .iaload, [], none),
  (6, 1, .aload_n 0, [], none), (7, 3, .getfield 48, [], none), (10, 1, .iconst 0, [], none), (11, 1, .iaload, [], none),
  (12, 3, .if_icmp .ne 82, [(0, 94)], none), (15, 1, .iconst 0, [], none), (16, 1, .istore_n 1, [], none), (17, 1, .iconst 1, [], none),
  (18, 1, .istore_n 2, [], none), (19, 1, .iload_n 2, [], some [true, true, true, false, false, false, false]), (20, 1, .iconst 5, [], none), (21, 3, .if_icmp .ge 51, [(0, 72)], none),
  (24, 1, .aload_n 0, [], none), (25, 3, .getfield 45, [], none), (28, 1, .iload_n 2, [], none), (29, 1, .iaload, [], none),
  (30, 1, .aload_n 0, [], none), (31, 3, .getfield 48, [], none), (34, 1, .iload_n 2, [], none), (35, 1, .iaload, [], none),
  (36, 1, .iadd, [], none), (37, 1, .iload_n 1, [], none), (38, 1, .iadd, [], none), (39, 1, .istore_n 3, [], none),
  (40, 1, .iload_n 3, [], none), (41, 3, .ldc_w 406, [], none), (44, 3, .if_icmp .lt 7, [(0, 51)], none), (47, 1, .iconst 1, [], none),
  (48, 3, .goto 4, [(0, 52)], none), (51, 1, .iconst 0, [], none), (52, 1, .istore_n 1, [], some [true, false, true, true, false, false, false]), (53, 1, .aload_n 0, [], none),
  (54, 3, .getfield 51, [], none), (57, 1, .iload_n 2, [], none), (58, 1, .iload_n 3, [], none), (59, 1, .iload_n 1, [], none),
  (60, 3, .ldc_w 406, [], none), (63, 1, .imul, [], none), (64, 1, .isub, [], none), (65, 1, .iastore, [], none),
  (66, 3, .iinc 2 1, [], none), (69, 3, .goto (-50), [(0, 19)], none), (72, 1, .aload_n 0, [], none), (73, 3, .getfield 51, [], none),
  (76, 1, .iconst 0, [], none), (77, 1, .aload_n 0, [], none), (78, 3, .getfield 45, [], none), (81, 1, .iconst 0, [], none),
  (82, 1, .iaload, [], none), (83, 1, .iastore, [], none), (84, 1, .iload_n 1, [], none), (85, 3, .ifCond .ne 7, [(0, 92)], none),
  (88, 1, .iconst 1, [], none), (89, 3, .goto 4, [(0, 93)], none), (92, 1, .iconst 0, [], none), (93, 1, .ireturn, [], none),
  (94, 1, .aload_n 0, [], none), (95, 3, .getfield 45, [], none), (98, 1, .aload_n 0, [], none), (99, 3, .getfield 48, [], none),
  (102, 3, .invokestatic 402, [], none), (105, 3, .ifCond .ge 7, [(0, 112)], none), (108, 1, .iconst 1, [], none), (109, 3, .goto 4, [(0, 113)], none),
  (112, 1, .iconst 0, [], none), (113, 1, .istore_n 1, [], some [true, false, false, false, false, false, false]), (114, 1, .iload_n 1, [], none), (115, 3, .ifCond .eq 10, [(0, 125)], none),
  (118, 1, .aload_n 0, [], none), (119, 3, .getfield 48, [], none), (122, 3, .goto 7, [(0, 129)], none), (125, 1, .aload_n 0, [], none),
  (126, 3, .getfield 45, [], none), (129, 1, .astore_n 2, [], some [true, true, false, false, false, false, false]), (130, 1, .iload_n 1, [], none), (131, 3, .ifCond .eq 10, [(0, 141)], none),
  (134, 1, .aload_n 0, [], none), (135, 3, .getfield 45, [], none), (138, 3, .goto 7, [(0, 145)], none), (141, 1, .aload_n 0, [], none),
  (142, 3, .getfield 48, [], none), (145, 1, .astore_n 3, [], some [true, false, true, false, false, false, false]), (146, 1, .iconst 0, [], none), (147, 2, .istore 4, [], none),
  (149, 1, .iconst 1, [], none), (150, 2, .istore 5, [], none), (152, 2, .iload 5, [], some [true, false, true, true, true, true, false]), (154, 1, .iconst 5, [], none),
  (155, 3, .if_icmp .ge 51, [(0, 206)], none), (158, 1, .aload_n 2, [], none), (159, 2, .iload 5, [], none), (161, 1, .iaload, [], none),
  (162, 1, .aload_n 3, [], none), (163, 2, .iload 5, [], none), (165, 1, .iaload, [], none), (166, 1, .isub, [], none),
  (167, 2, .iload 4, [], none), (169, 1, .isub, [], none), (170, 2, .istore 6, [], none), (172, 2, .iload 6, [], none),
  (174, 3, .ifCond .ge 7, [(0, 181)], none), (177, 1, .iconst 1, [], none), (178, 3, .goto 4, [(0, 182)], none), (181, 1, .iconst 0, [], none),
  (182, 2, .istore 4, [], some [true, false, true, true, false, true, true]), (184, 1, .aload_n 0, [], none), (185, 3, .getfield 51, [], none), (188, 2, .iload 5, [], none),
  (190, 2, .iload 6, [], none), (192, 2, .iload 4, [], none), (194, 3, .ldc_w 406, [], none), (197, 1, .imul, [], none),
  (198, 1, .iadd, [], none), (199, 1, .iastore, [], none), (200, 3, .iinc 5 1, [], none), (203, 3, .goto (-51), [(0, 152)], none),
  (206, 1, .aload_n 0, [], none), (207, 3, .getfield 51, [], none), (210, 1, .iconst 0, [], none), (211, 1, .aload_n 2, [], none),
  (212, 1, .iconst 0, [], none), (213, 1, .iaload, [], none), (214, 1, .iastore, [], none), (215, 1, .iconst 1, [], none),
  (216, 1, .ireturn, [], none)]
def e_md_adds (m : Nat) : gE := (k_md_adds, f_md, c_md, [(402, 2, 0, 0, .inl (fn_md_compareSizes m))], [], (m, 2722258935367507707706996859454145691648), 6)
theorem ok_md_adds : gchk cX10_adds 7 k_md_adds = true := by decide +kernel
def fn_md_adds (m : Nat) : gFn := gF (e_md_adds m) 7
theorem mo_md_adds (m : Nat) : gMo (.inl (fn_md_adds m)) := gF_mo (E := e_md_adds m) ⟨mo_md_compareSizes m, trivial⟩
noncomputable def md_adds (σ : gM) : Option (gM × Int) := lim (fun n => fn_md_adds 227 n [(2, 119)] σ)
theorem md_adds_l (σ : gM) : Lm (fun n => fn_md_adds 227 n [(2, 119)] σ) (md_adds σ) := .of fun n => mo_md_adds 227 n [(2, 119)] σ
theorem mb_md_adds : gMos (e_md_adds 227).2.2.2.1 := ⟨mo_md_compareSizes 227, trivial⟩
noncomputable def md_adds_b19 (σ : gM) (x1 x2 : Int) : Option (gM × Int) := lim (fun n => gB (e_md_adds 227) rF tF n 19 [(2, 119), (0, x1), (0, x2), (9, 0), (9, 0), (9, 0), (9, 0)] [] σ)
theorem md_adds_b19_l (σ : gM) (x1 x2 : Int) : Lm (fun n => gB (e_md_adds 227) rF tF n 19 [(2, 119), (0, x1), (0, x2), (9, 0), (9, 0), (9, 0), (9, 0)] [] σ) (md_adds_b19 σ x1 x2) := .of fun n => gB_le (gMos_spec (mb_md_adds)) n _ _ _ σ
noncomputable def md_adds_b52 (σ : gM) (x2 x3 y0 : Int) : Option (gM × Int) := lim (fun n => gB (e_md_adds 227) rF tF n 52 [(2, 119), (9, 0), (0, x2), (0, x3), (9, 0), (9, 0), (9, 0)] [(0, y0)] σ)
theorem md_adds_b52_l (σ : gM) (x2 x3 y0 : Int) : Lm (fun n => gB (e_md_adds 227) rF tF n 52 [(2, 119), (9, 0), (0, x2), (0, x3), (9, 0), (9, 0), (9, 0)] [(0, y0)] σ) (md_adds_b52 σ x2 x3 y0) := .of fun n => gB_le (gMos_spec (mb_md_adds)) n _ _ _ σ
noncomputable def md_adds_b113 (σ : gM) (y0 : Int) : Option (gM × Int) := lim (fun n => gB (e_md_adds 227) rF tF n 113 [(2, 119), (9, 0), (9, 0), (9, 0), (9, 0), (9, 0), (9, 0)] [(0, y0)] σ)
theorem md_adds_b113_l (σ : gM) (y0 : Int) : Lm (fun n => gB (e_md_adds 227) rF tF n 113 [(2, 119), (9, 0), (9, 0), (9, 0), (9, 0), (9, 0), (9, 0)] [(0, y0)] σ) (md_adds_b113 σ y0) := .of fun n => gB_le (gMos_spec (mb_md_adds)) n _ _ _ σ
noncomputable def md_adds_b129 (σ : gM) (x1 y0 : Int) : Option (gM × Int) := lim (fun n => gB (e_md_adds 227) rF tF n 129 [(2, 119), (0, x1), (9, 0), (9, 0), (9, 0), (9, 0), (9, 0)] [(2, y0)] σ)
theorem md_adds_b129_l (σ : gM) (x1 y0 : Int) : Lm (fun n => gB (e_md_adds 227) rF tF n 129 [(2, 119), (0, x1), (9, 0), (9, 0), (9, 0), (9, 0), (9, 0)] [(2, y0)] σ) (md_adds_b129 σ x1 y0) := .of fun n => gB_le (gMos_spec (mb_md_adds)) n _ _ _ σ
noncomputable def md_adds_b145 (σ : gM) (x2 y0 : Int) : Option (gM × Int) := lim (fun n => gB (e_md_adds 227) rF tF n 145 [(2, 119), (9, 0), (2, x2), (9, 0), (9, 0), (9, 0), (9, 0)] [(2, y0)] σ)
theorem md_adds_b145_l (σ : gM) (x2 y0 : Int) : Lm (fun n => gB (e_md_adds 227) rF tF n 145 [(2, 119), (9, 0), (2, x2), (9, 0), (9, 0), (9, 0), (9, 0)] [(2, y0)] σ) (md_adds_b145 σ x2 y0) := .of fun n => gB_le (gMos_spec (mb_md_adds)) n _ _ _ σ
noncomputable def md_adds_b152 (σ : gM) (x2 x3 x4 x5 : Int) : Option (gM × Int) := lim (fun n => gB (e_md_adds 227) rF tF n 152 [(2, 119), (9, 0), (2, x2), (2, x3), (0, x4), (0, x5), (9, 0)] [] σ)
theorem md_adds_b152_l (σ : gM) (x2 x3 x4 x5 : Int) : Lm (fun n => gB (e_md_adds 227) rF tF n 152 [(2, 119), (9, 0), (2, x2), (2, x3), (0, x4), (0, x5), (9, 0)] [] σ) (md_adds_b152 σ x2 x3 x4 x5) := .of fun n => gB_le (gMos_spec (mb_md_adds)) n _ _ _ σ
noncomputable def md_adds_b182 (σ : gM) (x2 x3 x5 x6 y0 : Int) : Option (gM × Int) := lim (fun n => gB (e_md_adds 227) rF tF n 182 [(2, 119), (9, 0), (2, x2), (2, x3), (9, 0), (0, x5), (0, x6)] [(0, y0)] σ)
theorem md_adds_b182_l (σ : gM) (x2 x3 x5 x6 y0 : Int) : Lm (fun n => gB (e_md_adds 227) rF tF n 182 [(2, 119), (9, 0), (2, x2), (2, x3), (9, 0), (0, x5), (0, x6)] [(0, y0)] σ) (md_adds_b182 σ x2 x3 x5 x6 y0) := .of fun n => gB_le (gMos_spec (mb_md_adds)) n _ _ _ σ
theorem md_adds_e (σ : gM) : md_adds σ =
  (if (0 : Int) ≤ 0 ∧ (0 : Int) < 5 then
  (if (0 : Int) ≤ 0 ∧ (0 : Int) < 5 then
    (if σ 129 0 = σ 130 0 then
      (md_adds_b19 σ 0 1)
      else
      ((md_compareSizes σ 129 130).bind fun p1 =>
        if p1.2 < 0 then
        (md_adds_b113 p1.1 1)
        else
        (md_adds_b113 p1.1 0)))
    else none)
  else none) := Lm.eqn (md_adds_l ..) (.ite (.ite (.ite (md_adds_b19_l ..) (.bind (md_compareSizes_l ..) fun p1 => (.ite (md_adds_b113_l ..) (md_adds_b113_l ..)))) .cst) .cst) fun n => (rfl)
theorem md_adds_b19_e (σ : gM) (x1 x2 : Int) : md_adds_b19 σ x1 x2 =
  (if x2 < 5 then
  (if 0 ≤ x2 ∧ x2 < 5 then
    (if 0 ≤ x2 ∧ x2 < 5 then
      (if w32 ((w32 ((σ 129 x2) + (σ 130 x2))) + x1) < 1000000000 then
        (md_adds_b52 σ x2 (w32 ((w32 ((σ 129 x2) + (σ 130 x2))) + x1)) 0)
        else
        (md_adds_b52 σ x2 (w32 ((w32 ((σ 129 x2) + (σ 130 x2))) + x1)) 1))
      else none)
    else none)
  else
  (if (0 : Int) ≤ 0 ∧ (0 : Int) < 5 then
    (if (0 : Int) ≤ 0 ∧ (0 : Int) < 5 then
      (if x1 = 0 then
        (some (gW σ 131 0 (σ 129 0), 1))
        else
        (some (gW σ 131 0 (σ 129 0), 0)))
      else none)
    else none)) := Lm.eqn (md_adds_b19_l ..) (.ite (.ite (.ite (.ite (md_adds_b52_l ..) (md_adds_b52_l ..)) .cst) .cst) (.ite (.ite (.ite .cst .cst) .cst) .cst)) fun n => (rfl)
theorem md_adds_b52_e (σ : gM) (x2 x3 y0 : Int) : md_adds_b52 σ x2 x3 y0 =
  (if 0 ≤ x2 ∧ x2 < 5 then
  (md_adds_b19 (gW σ 131 x2 (w32 (x3 - (w32 (y0 * 1000000000))))) y0 (w32 (x2 + 1)))
  else none) := Lm.eqn (md_adds_b52_l ..) (.ite (md_adds_b19_l ..) .cst) fun n => (rfl)
theorem md_adds_b113_e (σ : gM) (y0 : Int) : md_adds_b113 σ y0 =
  (if y0 = 0 then
  (md_adds_b129 σ y0 129)
  else
  (md_adds_b129 σ y0 130)) := Lm.eqn (md_adds_b113_l ..) (.ite (md_adds_b129_l ..) (md_adds_b129_l ..)) fun n => (rfl)
theorem md_adds_b129_e (σ : gM) (x1 y0 : Int) : md_adds_b129 σ x1 y0 =
  (if x1 = 0 then
  (md_adds_b145 σ y0 130)
  else
  (md_adds_b145 σ y0 129)) := Lm.eqn (md_adds_b129_l ..) (.ite (md_adds_b145_l ..) (md_adds_b145_l ..)) fun n => (rfl)
theorem md_adds_b145_e (σ : gM) (x2 y0 : Int) : md_adds_b145 σ x2 y0 =
  (md_adds_b152 σ x2 y0 0 1) := Lm.eqn (md_adds_b145_l ..) (md_adds_b152_l ..) fun n => (rfl)
theorem md_adds_b152_e (σ : gM) (x2 x3 x4 x5 : Int) : md_adds_b152 σ x2 x3 x4 x5 =
  (if x5 < 5 then
  (gis 227 x2 1 (if 0 ≤ x5 ∧ x5 < gN x2 then
    (gis 227 x3 1 (if 0 ≤ x5 ∧ x5 < gN x3 then
      (if w32 ((w32 ((σ x2 x5) - (σ x3 x5))) - x4) < 0 then
        (md_adds_b182 σ x2 x3 x5 (w32 ((w32 ((σ x2 x5) - (σ x3 x5))) - x4)) 1)
        else
        (md_adds_b182 σ x2 x3 x5 (w32 ((w32 ((σ x2 x5) - (σ x3 x5))) - x4)) 0))
      else none))
    else none))
  else
  (gis 227 x2 1 (if (0 : Int) ≤ 0 ∧ (0 : Int) < gN x2 then
    (if (0 : Int) ≤ 0 ∧ (0 : Int) < 5 then
      (some (gW σ 131 0 (σ x2 0), 1))
      else none)
    else none))) := Lm.eqn (md_adds_b152_l ..) (.ite (.xis (.ite (.xis (.ite (.ite (md_adds_b182_l ..) (md_adds_b182_l ..)) .cst)) .cst)) (.xis (.ite (.ite .cst .cst) .cst))) fun n => (rfl)
theorem md_adds_b182_e (σ : gM) (x2 x3 x5 x6 y0 : Int) : md_adds_b182 σ x2 x3 x5 x6 y0 =
  (if 0 ≤ x5 ∧ x5 < 5 then
  (md_adds_b152 (gW σ 131 x5 (w32 (x6 + (w32 (y0 * 1000000000))))) x2 x3 y0 (w32 (x5 + 1)))
  else none) := Lm.eqn (md_adds_b182_l ..) (.ite (md_adds_b152_l ..) .cst) fun n => (rfl)
def k_md_reckons : List gC := [(0, 1, .aload_n 0, [], none), (1, 3, .getfield 332, [], none), (4, 1, .aload_n 0, [], none), (5, 3, .getfield 707, [], none),
  (8, 1, .iconst 2, [], none), (9, 1, .isub, [], none), (10, 1, .iaload, [], none), (11, 1, .istore_n 3, [], none),
  (12, 1, .aload_n 0, [], none), (13, 3, .getfield 332, [], none), (16, 1, .aload_n 0, [], none), (17, 3, .getfield 707, [], none),
  (20, 1, .iconst 1, [], none), (21, 1, .isub, [], none), (22, 1, .iaload, [], none), (23, 2, .istore 4, [], none),
  (25, 1, .iload_n 2, [], none), (26, 2, .bipush 8, [], none), (28, 3, .if_icmp .ne 20, [(0, 48)], none), (31, 1, .iload_n 3, [], none),
  (32, 1, .iconst 4, [], none), (33, 3, .if_icmp .eq 9, [(0, 42)], none), (36, 2, .iload 4, [], none), (38, 1, .iconst 4, [], none),
  (39, 3, .if_icmp .ne 9, [(0, 48)], none), (42, 1, .aload_n 0, [], some [true, true, false, false, false, false, false, false, false, false]), (43, 1, .iload_n 1, [], none), (44, 3, .invokevirtual 825, [], none),
  (47, 1, .return_, [], none), (48, 1, .iload_n 3, [], some [true, true, true, true, true, false, false, false, false, false]), (49, 3, .invokestatic 828, [], none), (52, 3, .ifCond .eq 11, [(0, 63)], none),
  (55, 2, .iload 4, [], none), (57, 3, .invokestatic 828, [], none), (60, 3, .ifCond .ne 10, [(0, 70)], none), (63, 1, .aload_n 0, [], some [true, true, false, false, false, false, false, false, false, false]),
  (64, 1, .iconst 1, [], none), (65, 1, .iload_n 1, [], none), (66, 3, .invokevirtual 726, [], none), (69, 1, .athrow, [], none),
  (70, 1, .aload_n 0, [], none), (71, 1, .iload_n 3, [], none), (72, 1, .aload_n 0, [], none), (73, 3, .getfield 335, [], none),
  (76, 1, .aload_n 0, [], none), (77, 3, .getfield 707, [], none), (80, 1, .iconst 2, [], none), (81, 1, .isub, [], none),
  (82, 1, .laload, [], none), (83, 1, .aload_n 0, [], none), (84, 3, .getfield 45, [], none), (87, 3, .invokevirtual 831, [], none),
  (90, 1, .aload_n 0, [], none), (91, 2, .iload 4, [], none), (93, 1, .aload_n 0, [], none), (94, 3, .getfield 335, [], none),
  (97, 1, .aload_n 0, [], none), (98, 3, .getfield 707, [], none), (101, 1, .iconst 1, [], none), (102, 1, .isub, [], none),
  (103, 1, .laload, [], none), (104, 1, .aload_n 0, [], none), (105, 3, .getfield 48, [], none), (108, 3, .invokevirtual 831, [], none),
  (111, 1, .iconst 1, [], none), (112, 2, .istore 5, [], none), (114, 1, .iload_n 2, [], none), (115, 2, .bipush 11, [], none),
  (117, 3, .if_icmp .ne 27, [(0, 144)], none), (120, 1, .aload_n 0, [], none), (121, 3, .getfield 48, [], none), (124, 3, .invokestatic 398, [], none),
  (127, 3, .ifCond .eq 10, [(0, 137)], none), (130, 1, .aload_n 0, [], none), (131, 1, .iconst 2, [], none), (132, 1, .iload_n 1, [], none),
  (133, 3, .invokevirtual 726, [], none), (136, 1, .athrow, [], none), (137, 1, .aload_n 0, [], none), (138, 3, .invokevirtual 835, [], none),
  (141, 3, .goto 44, [(0, 185)], none), (144, 1, .iload_n 2, [], none), (145, 2, .bipush 10, [], none), (147, 3, .if_icmp .ne 12, [(0, 159)], none),
  (150, 1, .aload_n 0, [], none), (151, 3, .invokevirtual 838, [], none), (154, 2, .istore 5, [], none), (156, 3, .goto 29, [(0, 185)], none),
  (159, 1, .aload_n 0, [], none), (160, 3, .getfield 48, [], none), (163, 1, .iconst 0, [], none), (164, 1, .dup2, [], none),
  (165, 1, .iaload, [], none), (166, 1, .iload_n 2, [], none), (167, 2, .bipush 8, [], none), (169, 3, .if_icmp .ne 7, [(0, 176)], none),
  (172, 1, .iconst 0, [], none), (173, 3, .goto 4, [(0, 177)], none), (176, 1, .iconst 1, [], none), (177, 1, .ixor, [], some [true, true, false, true, true, false, false, false, false, false]),
  (178, 1, .iastore, [], none), (179, 1, .aload_n 0, [], none), (180, 3, .invokevirtual 841, [], none), (183, 2, .istore 5, [], none),
  (185, 2, .iload 5, [], some [true, true, false, true, true, true, false, false, false, false]), (187, 3, .ifCond .ne 11, [(0, 198)], none), (190, 1, .aload_n 0, [], none), (191, 2, .bipush 8, [], none),
  (193, 1, .iload_n 1, [], none), (194, 3, .invokevirtual 726, [], none), (197, 1, .athrow, [], none), (198, 1, .aload_n 0, [], none),
  (199, 3, .getfield 51, [], none), (202, 3, .invokestatic 398, [], none), (205, 3, .ifCond .eq 10, [(0, 215)], none), (208, 1, .aload_n 0, [], none),
  (209, 3, .getfield 51, [], none), (212, 1, .iconst 0, [], none), (213, 1, .iconst 0, [], none), (214, 1, .iastore, [], none),
  (215, 1, .iload_n 3, [], some [true, true, false, true, true, false, false, false, false, false]), (216, 1, .iconst 2, [], none), (217, 3, .if_icmp .ne 20, [(0, 237)], none), (220, 2, .iload 4, [], none),
  (222, 1, .iconst 2, [], none), (223, 3, .if_icmp .ne 14, [(0, 237)], none), (226, 1, .aload_n 0, [], none), (227, 3, .invokevirtual 630, [], none),
  (230, 3, .ifCond .eq 7, [(0, 237)], none), (233, 1, .iconst 1, [], none), (234, 3, .goto 4, [(0, 238)], none), (237, 1, .iconst 0, [], some [true, true, false, false, false, false, false, false, false, false]),
  (238, 2, .istore 6, [], some [true, true, false, false, false, false, false, false, false, false]), (240, 2, .iload 6, [], none), (242, 3, .ifCond .eq 34, [(0, 276)], none), (245, 1, .aload_n 0, [], none),
  (246, 1, .iload_n 1, [], none), (247, 1, .iconst 1, [], none), (248, 3, .invokevirtual 749, [], none), (251, 3, .ifCond .ne 21, [(0, 272)], none),
  (254, 1, .aload_n 0, [], none), (255, 1, .iload_n 1, [], none), (256, 1, .iconst 2, [], none), (257, 3, .invokevirtual 749, [], none),
  (260, 3, .ifCond .ne 16, [(0, 276)], none), (263, 1, .aload_n 0, [], none), (264, 1, .iload_n 1, [], none), (265, 1, .iconst 1, [], none),
  (266, 3, .invokevirtual 755, [], none), (269, 3, .ifCond .eq 7, [(0, 276)], none), (272, 1, .iconst 1, [], some [true, true, false, false, false, false, false, false, false, false]), (273, 3, .goto 4, [(0, 277)], none),
  (276, 1, .iconst 0, [], some [true, true, false, false, false, false, false, false, false, false]), (277, 2, .istore 7, [], some [true, true, false, false, false, false, false, false, false, false]), (279, 2, .iload 7, [], none), (281, 3, .ifCond .ne 23, [(0, 304)], none),
  (284, 1, .aload_n 0, [], none), (285, 3, .getfield 844, [], none), (288, 1, .iconst 4, [], none), (289, 1, .iadd, [], none),
  (290, 3, .ldc_w 847, [], none), (293, 3, .if_icmp .le 11, [(0, 304)], none), (296, 1, .aload_n 0, [], none), (297, 2, .bipush 9, [], none),
  (299, 1, .iload_n 1, [], none), (300, 3, .invokevirtual 726, [], none), (303, 1, .athrow, [], none), (304, 2, .iload 7, [], some [true, true, false, false, false, false, false, true, false, false]),
  (306, 3, .ifCond .eq 7, [(0, 313)], none), (309, 1, .iconst 1, [], none), (310, 3, .goto 4, [(0, 314)], none), (313, 1, .iconst 2, [], none),
  (314, 2, .istore 8, [], some [true, true, false, false, false, false, false, true, false, false]), (316, 1, .aload_n 0, [], none), (317, 1, .iload_n 1, [], none), (318, 2, .iload 8, [], none),
  (320, 3, .invokevirtual 749, [], none), (323, 3, .ifCond .ne 21, [(0, 344)], none), (326, 1, .aload_n 0, [], none), (327, 1, .iload_n 1, [], none),
  (328, 2, .iload 8, [], none), (330, 2, .iload 8, [], none), (332, 1, .iconst 2, [], none), (333, 3, .if_icmp .ne 7, [(0, 340)], none),
  (336, 1, .iconst 1, [], none), (337, 3, .goto 4, [(0, 341)], none), (340, 1, .iconst 0, [], none), (341, 3, .invokevirtual 758, [], some [true, false, false, false, false, false, false, true, false, false]),
  (344, 2, .iload 7, [], some [true, false, false, false, false, false, false, true, false, false]), (346, 3, .ifCond .eq 13, [(0, 359)], none), (349, 1, .aload_n 0, [], none), (350, 1, .iconst 2, [], none),
  (351, 1, .aload_n 0, [], none), (352, 3, .invokevirtual 633, [], none), (355, 3, .invokevirtual 848, [], none), (358, 1, .return_, [], none),
  (359, 1, .aload_n 0, [], none), (360, 1, .dup, [], none), (361, 3, .getfield 844, [], none), (364, 1, .iconst 4, [], none),
  (365, 1, .iadd, [], none), (366, 3, .putfield 844, [], none), (369, 1, .iconst 0, [], none), (370, 2, .istore 9, [], none),
  (372, 2, .iload 9, [], some [true, false, false, false, false, false, false, false, false, true]), (374, 1, .iconst 5, [], none), (375, 3, .if_icmp .ge 30, [(0, 405)], none), (378, 1, .aload_n 0, [], none),
  (379, 3, .getfield 42, [], none), (382, 1, .iconst 5, [], none), (383, 1, .aload_n 0, [], none), (384, 3, .getfield 851, [], none),
  (387, 1, .imul, [], none), (388, 2, .iload 9, [], none), (390, 1, .iadd, [], none), (391, 1, .aload_n 0, [], none),
  (392, 3, .getfield 51, [], none), (395, 2, .iload 9, [], none), (397, 1, .iaload, [], none), (398, 1, .iastore, [], none),
  (399, 3, .iinc 9 1, [], none), (402, 3, .goto (-30), [(0, 372)], none), (405, 1, .aload_n 0, [], none), (406, 1, .iconst 3, [], none),
  (407, 1, .aload_n 0, [], none), (408, 3, .getfield 851, [], none), (411, 1, .i2l, [], none), (412, 3, .invokevirtual 848, [], none),
  (415, 1, .aload_n 0, [], none), (416, 1, .dup, [], none), (417, 3, .getfield 851, [], none), (420, 1, .iconst 1, [], none),
  (421, 1, .iadd, [], none), (422, 3, .putfield 851, [], none), (425, 1, .return_, [], none)]
def e_md_reckons (m : Nat) : gE := (k_md_reckons, f_md, c_md, [(825, 2, 20, 5, .inr (fn_md_joins m)), (828, 1, 0, 0, .inl (fn_md_isNumber m)), (726, 3, 20, 2, .inl (fn_md_error m)), (831, 4, 20, 5, .inl (fn_md_spread m)), (398, 1, 0, 0, .inl (fn_md_isZero m)), (835, 1, 20, 5, .inl (fn_md_divides m)), (838, 1, 20, 0, .inl (fn_md_multiplies m)), (841, 1, 20, 0, .inl (fn_md_adds m)), (630, 1, 20, 0, .inl (fn_md_fitsLong m)), (749, 3, 20, 0, .inl (fn_md_has m)), (755, 3, 20, 0, .inl (fn_md_may m)), (758, 4, 20, 5, .inl (fn_md_settle m)), (633, 1, 20, 1, .inl (fn_md_asLong m)), (848, 3, 20, 5, .inl (fn_md_pairBecomes m))], [], (m, 1062276891852125194834189210786174270646520247855371465860413442790530663014599237560979855113424790963112246341225936955044245623184846891804459205346278110198681946063947143200112640), 5)
theorem ok_md_reckons : gchk cX10_reckons 10 k_md_reckons = true := by decide +kernel
def fn_md_reckons (m : Nat) : gFt := gG (e_md_reckons m) 10
theorem mo_md_reckons (m : Nat) : gMo (.inr (fn_md_reckons m)) := gG_mo (E := e_md_reckons m) ⟨mo_md_joins m, ⟨mo_md_isNumber m, ⟨mo_md_error m, ⟨mo_md_spread m, ⟨mo_md_isZero m, ⟨mo_md_divides m, ⟨mo_md_multiplies m, ⟨mo_md_adds m, ⟨mo_md_fitsLong m, ⟨mo_md_has m, ⟨mo_md_may m, ⟨mo_md_settle m, ⟨mo_md_asLong m, ⟨mo_md_pairBecomes m, trivial⟩⟩⟩⟩⟩⟩⟩⟩⟩⟩⟩⟩⟩⟩
noncomputable def md_reckons (σ : gM) (x1 x2 : Int) : Option (gM × Option Int) := lim (fun n => fn_md_reckons 227 n [(2, 119), (0, x1), (0, x2)] σ)
theorem md_reckons_l (σ : gM) (x1 x2 : Int) : Lm (fun n => fn_md_reckons 227 n [(2, 119), (0, x1), (0, x2)] σ) (md_reckons σ x1 x2) := .of fun n => mo_md_reckons 227 n [(2, 119), (0, x1), (0, x2)] σ
theorem mb_md_reckons : gMos (e_md_reckons 227).2.2.2.1 := ⟨mo_md_joins 227, ⟨mo_md_isNumber 227, ⟨mo_md_error 227, ⟨mo_md_spread 227, ⟨mo_md_isZero 227, ⟨mo_md_divides 227, ⟨mo_md_multiplies 227, ⟨mo_md_adds 227, ⟨mo_md_fitsLong 227, ⟨mo_md_has 227, ⟨mo_md_may 227, ⟨mo_md_settle 227, ⟨mo_md_asLong 227, ⟨mo_md_pairBecomes 227, trivial⟩⟩⟩⟩⟩⟩⟩⟩⟩⟩⟩⟩⟩⟩
noncomputable def md_reckons_b42 (σ : gM) (x1 : Int) : Option (gM × Option Int) := lim (fun n => gB (e_md_reckons 227) rG gthr n 42 [(2, 119), (0, x1), (9, 0), (9, 0), (9, 0), (9, 0), (9, 0), (9, 0), (9, 0), (9, 0)] [] σ)
theorem md_reckons_b42_l (σ : gM) (x1 : Int) : Lm (fun n => gB (e_md_reckons 227) rG gthr n 42 [(2, 119), (0, x1), (9, 0), (9, 0), (9, 0), (9, 0), (9, 0), (9, 0), (9, 0), (9, 0)] [] σ) (md_reckons_b42 σ x1) := .of fun n => gB_le (gMos_spec (mb_md_reckons)) n _ _ _ σ
noncomputable def md_reckons_b48 (σ : gM) (x1 x2 x3 x4 : Int) : Option (gM × Option Int) := lim (fun n => gB (e_md_reckons 227) rG gthr n 48 [(2, 119), (0, x1), (0, x2), (0, x3), (0, x4), (9, 0), (9, 0), (9, 0), (9, 0), (9, 0)] [] σ)
theorem md_reckons_b48_l (σ : gM) (x1 x2 x3 x4 : Int) : Lm (fun n => gB (e_md_reckons 227) rG gthr n 48 [(2, 119), (0, x1), (0, x2), (0, x3), (0, x4), (9, 0), (9, 0), (9, 0), (9, 0), (9, 0)] [] σ) (md_reckons_b48 σ x1 x2 x3 x4) := .of fun n => gB_le (gMos_spec (mb_md_reckons)) n _ _ _ σ
noncomputable def md_reckons_b63 (σ : gM) (x1 : Int) : Option (gM × Option Int) := lim (fun n => gB (e_md_reckons 227) rG gthr n 63 [(2, 119), (0, x1), (9, 0), (9, 0), (9, 0), (9, 0), (9, 0), (9, 0), (9, 0), (9, 0)] [] σ)
theorem md_reckons_b63_l (σ : gM) (x1 : Int) : Lm (fun n => gB (e_md_reckons 227) rG gthr n 63 [(2, 119), (0, x1), (9, 0), (9, 0), (9, 0), (9, 0), (9, 0), (9, 0), (9, 0), (9, 0)] [] σ) (md_reckons_b63 σ x1) := .of fun n => gB_le (gMos_spec (mb_md_reckons)) n _ _ _ σ
noncomputable def md_reckons_b177 (σ : gM) (x1 x3 x4 y0 y1 y2 : Int) : Option (gM × Option Int) := lim (fun n => gB (e_md_reckons 227) rG gthr n 177 [(2, 119), (0, x1), (9, 0), (0, x3), (0, x4), (9, 0), (9, 0), (9, 0), (9, 0), (9, 0)] [(0, y0), (0, y1), (0, y2), (2, 130)] σ)
theorem md_reckons_b177_l (σ : gM) (x1 x3 x4 y0 y1 y2 : Int) : Lm (fun n => gB (e_md_reckons 227) rG gthr n 177 [(2, 119), (0, x1), (9, 0), (0, x3), (0, x4), (9, 0), (9, 0), (9, 0), (9, 0), (9, 0)] [(0, y0), (0, y1), (0, y2), (2, 130)] σ) (md_reckons_b177 σ x1 x3 x4 y0 y1 y2) := .of fun n => gB_le (gMos_spec (mb_md_reckons)) n _ _ _ σ
noncomputable def md_reckons_b185 (σ : gM) (x1 x3 x4 x5 : Int) : Option (gM × Option Int) := lim (fun n => gB (e_md_reckons 227) rG gthr n 185 [(2, 119), (0, x1), (9, 0), (0, x3), (0, x4), (0, x5), (9, 0), (9, 0), (9, 0), (9, 0)] [] σ)
theorem md_reckons_b185_l (σ : gM) (x1 x3 x4 x5 : Int) : Lm (fun n => gB (e_md_reckons 227) rG gthr n 185 [(2, 119), (0, x1), (9, 0), (0, x3), (0, x4), (0, x5), (9, 0), (9, 0), (9, 0), (9, 0)] [] σ) (md_reckons_b185 σ x1 x3 x4 x5) := .of fun n => gB_le (gMos_spec (mb_md_reckons)) n _ _ _ σ
noncomputable def md_reckons_b215 (σ : gM) (x1 x3 x4 : Int) : Option (gM × Option Int) := lim (fun n => gB (e_md_reckons 227) rG gthr n 215 [(2, 119), (0, x1), (9, 0), (0, x3), (0, x4), (9, 0), (9, 0), (9, 0), (9, 0), (9, 0)] [] σ)
theorem md_reckons_b215_l (σ : gM) (x1 x3 x4 : Int) : Lm (fun n => gB (e_md_reckons 227) rG gthr n 215 [(2, 119), (0, x1), (9, 0), (0, x3), (0, x4), (9, 0), (9, 0), (9, 0), (9, 0), (9, 0)] [] σ) (md_reckons_b215 σ x1 x3 x4) := .of fun n => gB_le (gMos_spec (mb_md_reckons)) n _ _ _ σ
noncomputable def md_reckons_b237 (σ : gM) (x1 : Int) : Option (gM × Option Int) := lim (fun n => gB (e_md_reckons 227) rG gthr n 237 [(2, 119), (0, x1), (9, 0), (9, 0), (9, 0), (9, 0), (9, 0), (9, 0), (9, 0), (9, 0)] [] σ)
theorem md_reckons_b237_l (σ : gM) (x1 : Int) : Lm (fun n => gB (e_md_reckons 227) rG gthr n 237 [(2, 119), (0, x1), (9, 0), (9, 0), (9, 0), (9, 0), (9, 0), (9, 0), (9, 0), (9, 0)] [] σ) (md_reckons_b237 σ x1) := .of fun n => gB_le (gMos_spec (mb_md_reckons)) n _ _ _ σ
noncomputable def md_reckons_b238 (σ : gM) (x1 y0 : Int) : Option (gM × Option Int) := lim (fun n => gB (e_md_reckons 227) rG gthr n 238 [(2, 119), (0, x1), (9, 0), (9, 0), (9, 0), (9, 0), (9, 0), (9, 0), (9, 0), (9, 0)] [(0, y0)] σ)
theorem md_reckons_b238_l (σ : gM) (x1 y0 : Int) : Lm (fun n => gB (e_md_reckons 227) rG gthr n 238 [(2, 119), (0, x1), (9, 0), (9, 0), (9, 0), (9, 0), (9, 0), (9, 0), (9, 0), (9, 0)] [(0, y0)] σ) (md_reckons_b238 σ x1 y0) := .of fun n => gB_le (gMos_spec (mb_md_reckons)) n _ _ _ σ
noncomputable def md_reckons_b272 (σ : gM) (x1 : Int) : Option (gM × Option Int) := lim (fun n => gB (e_md_reckons 227) rG gthr n 272 [(2, 119), (0, x1), (9, 0), (9, 0), (9, 0), (9, 0), (9, 0), (9, 0), (9, 0), (9, 0)] [] σ)
theorem md_reckons_b272_l (σ : gM) (x1 : Int) : Lm (fun n => gB (e_md_reckons 227) rG gthr n 272 [(2, 119), (0, x1), (9, 0), (9, 0), (9, 0), (9, 0), (9, 0), (9, 0), (9, 0), (9, 0)] [] σ) (md_reckons_b272 σ x1) := .of fun n => gB_le (gMos_spec (mb_md_reckons)) n _ _ _ σ
noncomputable def md_reckons_b276 (σ : gM) (x1 : Int) : Option (gM × Option Int) := lim (fun n => gB (e_md_reckons 227) rG gthr n 276 [(2, 119), (0, x1), (9, 0), (9, 0), (9, 0), (9, 0), (9, 0), (9, 0), (9, 0), (9, 0)] [] σ)
theorem md_reckons_b276_l (σ : gM) (x1 : Int) : Lm (fun n => gB (e_md_reckons 227) rG gthr n 276 [(2, 119), (0, x1), (9, 0), (9, 0), (9, 0), (9, 0), (9, 0), (9, 0), (9, 0), (9, 0)] [] σ) (md_reckons_b276 σ x1) := .of fun n => gB_le (gMos_spec (mb_md_reckons)) n _ _ _ σ
noncomputable def md_reckons_b277 (σ : gM) (x1 y0 : Int) : Option (gM × Option Int) := lim (fun n => gB (e_md_reckons 227) rG gthr n 277 [(2, 119), (0, x1), (9, 0), (9, 0), (9, 0), (9, 0), (9, 0), (9, 0), (9, 0), (9, 0)] [(0, y0)] σ)
theorem md_reckons_b277_l (σ : gM) (x1 y0 : Int) : Lm (fun n => gB (e_md_reckons 227) rG gthr n 277 [(2, 119), (0, x1), (9, 0), (9, 0), (9, 0), (9, 0), (9, 0), (9, 0), (9, 0), (9, 0)] [(0, y0)] σ) (md_reckons_b277 σ x1 y0) := .of fun n => gB_le (gMos_spec (mb_md_reckons)) n _ _ _ σ
noncomputable def md_reckons_b304 (σ : gM) (x1 x7 : Int) : Option (gM × Option Int) := lim (fun n => gB (e_md_reckons 227) rG gthr n 304 [(2, 119), (0, x1), (9, 0), (9, 0), (9, 0), (9, 0), (9, 0), (0, x7), (9, 0), (9, 0)] [] σ)
theorem md_reckons_b304_l (σ : gM) (x1 x7 : Int) : Lm (fun n => gB (e_md_reckons 227) rG gthr n 304 [(2, 119), (0, x1), (9, 0), (9, 0), (9, 0), (9, 0), (9, 0), (0, x7), (9, 0), (9, 0)] [] σ) (md_reckons_b304 σ x1 x7) := .of fun n => gB_le (gMos_spec (mb_md_reckons)) n _ _ _ σ
noncomputable def md_reckons_b314 (σ : gM) (x1 x7 y0 : Int) : Option (gM × Option Int) := lim (fun n => gB (e_md_reckons 227) rG gthr n 314 [(2, 119), (0, x1), (9, 0), (9, 0), (9, 0), (9, 0), (9, 0), (0, x7), (9, 0), (9, 0)] [(0, y0)] σ)
theorem md_reckons_b314_l (σ : gM) (x1 x7 y0 : Int) : Lm (fun n => gB (e_md_reckons 227) rG gthr n 314 [(2, 119), (0, x1), (9, 0), (9, 0), (9, 0), (9, 0), (9, 0), (0, x7), (9, 0), (9, 0)] [(0, y0)] σ) (md_reckons_b314 σ x1 x7 y0) := .of fun n => gB_le (gMos_spec (mb_md_reckons)) n _ _ _ σ
noncomputable def md_reckons_b341 (σ : gM) (x7 y0 y1 y2 : Int) : Option (gM × Option Int) := lim (fun n => gB (e_md_reckons 227) rG gthr n 341 [(2, 119), (9, 0), (9, 0), (9, 0), (9, 0), (9, 0), (9, 0), (0, x7), (9, 0), (9, 0)] [(0, y0), (0, y1), (0, y2), (2, 119)] σ)
theorem md_reckons_b341_l (σ : gM) (x7 y0 y1 y2 : Int) : Lm (fun n => gB (e_md_reckons 227) rG gthr n 341 [(2, 119), (9, 0), (9, 0), (9, 0), (9, 0), (9, 0), (9, 0), (0, x7), (9, 0), (9, 0)] [(0, y0), (0, y1), (0, y2), (2, 119)] σ) (md_reckons_b341 σ x7 y0 y1 y2) := .of fun n => gB_le (gMos_spec (mb_md_reckons)) n _ _ _ σ
noncomputable def md_reckons_b344 (σ : gM) (x7 : Int) : Option (gM × Option Int) := lim (fun n => gB (e_md_reckons 227) rG gthr n 344 [(2, 119), (9, 0), (9, 0), (9, 0), (9, 0), (9, 0), (9, 0), (0, x7), (9, 0), (9, 0)] [] σ)
theorem md_reckons_b344_l (σ : gM) (x7 : Int) : Lm (fun n => gB (e_md_reckons 227) rG gthr n 344 [(2, 119), (9, 0), (9, 0), (9, 0), (9, 0), (9, 0), (9, 0), (0, x7), (9, 0), (9, 0)] [] σ) (md_reckons_b344 σ x7) := .of fun n => gB_le (gMos_spec (mb_md_reckons)) n _ _ _ σ
noncomputable def md_reckons_b372 (σ : gM) (x9 : Int) : Option (gM × Option Int) := lim (fun n => gB (e_md_reckons 227) rG gthr n 372 [(2, 119), (9, 0), (9, 0), (9, 0), (9, 0), (9, 0), (9, 0), (9, 0), (9, 0), (0, x9)] [] σ)
theorem md_reckons_b372_l (σ : gM) (x9 : Int) : Lm (fun n => gB (e_md_reckons 227) rG gthr n 372 [(2, 119), (9, 0), (9, 0), (9, 0), (9, 0), (9, 0), (9, 0), (9, 0), (9, 0), (0, x9)] [] σ) (md_reckons_b372 σ x9) := .of fun n => gB_le (gMos_spec (mb_md_reckons)) n _ _ _ σ
theorem md_reckons_e (σ : gM) (x1 x2 : Int) : md_reckons σ x1 x2 =
  (if 0 ≤ w32 ((σ 119 125) - 2) ∧ w32 ((σ 119 125) - 2) < 24000 then
  (if 0 ≤ w32 ((σ 119 125) - 1) ∧ w32 ((σ 119 125) - 1) < 24000 then
    (if x2 = 8 then
      (if σ 221 (w32 ((σ 119 125) - 2)) = 4 then
        (md_reckons_b42 σ x1)
        else
        (if σ 221 (w32 ((σ 119 125) - 1)) = 4 then
          (md_reckons_b42 σ x1)
          else
          (md_reckons_b48 σ x1 x2 (σ 221 (w32 ((σ 119 125) - 2))) (σ 221 (w32 ((σ 119 125) - 1))))))
      else
      (md_reckons_b48 σ x1 x2 (σ 221 (w32 ((σ 119 125) - 2))) (σ 221 (w32 ((σ 119 125) - 1)))))
    else none)
  else none) := Lm.eqn (md_reckons_l ..) (.ite (.ite (.ite (.ite (md_reckons_b42_l ..) (.ite (md_reckons_b42_l ..) (md_reckons_b48_l ..))) (md_reckons_b48_l ..)) .cst) .cst) fun n => (rfl)
theorem md_reckons_b42_e (σ : gM) (x1 : Int) : md_reckons_b42 σ x1 =
  ((md_joins σ x1).bind fun p1 => gtry p1.2 (fun v2 =>
  some (p1.1, some 0))
  (some (p1.1, none))) := Lm.eqn (md_reckons_b42_l ..) (.bind (md_joins_l ..) fun p1 => .xtry (fun v2 => .cst) .cst) fun n => (rfl)
theorem md_reckons_b48_e (σ : gM) (x1 x2 x3 x4 : Int) : md_reckons_b48 σ x1 x2 x3 x4 =
  ((md_isNumber σ x3).bind fun p1 =>
  if p1.2 = 0 then
  (md_reckons_b63 p1.1 x1)
  else
  ((md_isNumber p1.1 x4).bind fun p2 =>
    if p2.2 = 0 then
    (md_reckons_b63 p2.1 x1)
    else
    (if 0 ≤ w32 ((p2.1 119 125) - 2) ∧ w32 ((p2.1 119 125) - 2) < 24000 then
      ((md_spread p2.1 x3 (p2.1 222 (w32 ((p2.1 119 125) - 2))) 129).bind fun p3 =>
        if 0 ≤ w32 ((p3.1 119 125) - 1) ∧ w32 ((p3.1 119 125) - 1) < 24000 then
        ((md_spread p3.1 x4 (p3.1 222 (w32 ((p3.1 119 125) - 1))) 130).bind fun p4 =>
          if x2 = 11 then
          ((md_isZero p4.1 130).bind fun p6 =>
            if p6.2 = 0 then
            ((md_divides p6.1).bind fun p7 =>
              md_reckons_b185 p7.1 x1 x3 x4 1)
            else
            ((md_error p6.1 2 x1).bind fun p8 =>
              gthr p8.1 p8.2))
          else
          (if x2 = 10 then
            ((md_multiplies p4.1).bind fun p5 =>
              md_reckons_b185 p5.1 x1 x3 x4 p5.2)
            else
            (if (0 : Int) ≤ 0 ∧ (0 : Int) < 5 then
              (if x2 = 8 then
                (md_reckons_b177 p4.1 x1 x3 x4 0 (p4.1 130 0) 0)
                else
                (md_reckons_b177 p4.1 x1 x3 x4 1 (p4.1 130 0) 0))
              else none)))
        else none)
      else none))) := Lm.eqn (md_reckons_b48_l ..) (.bind (md_isNumber_l ..) fun p1 => (.ite (md_reckons_b63_l ..) (.bind (md_isNumber_l ..) fun p2 => (.ite (md_reckons_b63_l ..) (.ite (.bind (md_spread_l ..) fun p3 => (.ite (.bind (md_spread_l ..) fun p4 => (.ite (.bind (md_isZero_l ..) fun p6 => (.ite (.bind (md_divides_l ..) fun p7 => (md_reckons_b185_l ..)) (.bind (md_error_l ..) fun p8 => .cst))) (.ite (.bind (md_multiplies_l ..) fun p5 => (md_reckons_b185_l ..)) (.ite (.ite (md_reckons_b177_l ..) (md_reckons_b177_l ..)) .cst)))) .cst)) .cst))))) fun n => (rfl)
theorem md_reckons_b63_e (σ : gM) (x1 : Int) : md_reckons_b63 σ x1 =
  ((md_error σ 1 x1).bind fun p1 =>
  gthr p1.1 p1.2) := Lm.eqn (md_reckons_b63_l ..) (.bind (md_error_l ..) fun p1 => .cst) fun n => (rfl)
theorem md_reckons_b177_e (σ : gM) (x1 x3 x4 y0 y1 y2 : Int) : md_reckons_b177 σ x1 x3 x4 y0 y1 y2 =
  (if 0 ≤ y2 ∧ y2 < 5 then
  ((md_adds (gW σ 130 y2 (i_xor y1 y0))).bind fun p1 =>
    md_reckons_b185 p1.1 x1 x3 x4 p1.2)
  else none) := Lm.eqn (md_reckons_b177_l ..) (.ite (.bind (md_adds_l ..) fun p1 => (md_reckons_b185_l ..)) .cst) fun n => (rfl)
theorem md_reckons_b185_e (σ : gM) (x1 x3 x4 x5 : Int) : md_reckons_b185 σ x1 x3 x4 x5 =
  (if x5 = 0 then
  ((md_error σ 8 x1).bind fun p2 =>
    gthr p2.1 p2.2)
  else
  ((md_isZero σ 131).bind fun p1 =>
    if p1.2 = 0 then
    (md_reckons_b215 p1.1 x1 x3 x4)
    else
    (if (0 : Int) ≤ 0 ∧ (0 : Int) < 5 then
      (md_reckons_b215 (gW p1.1 131 0 0) x1 x3 x4)
      else none))) := Lm.eqn (md_reckons_b185_l ..) (.ite (.bind (md_error_l ..) fun p2 => .cst) (.bind (md_isZero_l ..) fun p1 => (.ite (md_reckons_b215_l ..) (.ite (md_reckons_b215_l ..) .cst)))) fun n => (rfl)
theorem md_reckons_b215_e (σ : gM) (x1 x3 x4 : Int) : md_reckons_b215 σ x1 x3 x4 =
  (if x3 = 2 then
  (if x4 = 2 then
    ((md_fitsLong σ).bind fun p1 =>
      if p1.2 = 0 then
      (md_reckons_b237 p1.1 x1)
      else
      (md_reckons_b238 p1.1 x1 1))
    else
    (md_reckons_b237 σ x1))
  else
  (md_reckons_b237 σ x1)) := Lm.eqn (md_reckons_b215_l ..) (.ite (.ite (.bind (md_fitsLong_l ..) fun p1 => (.ite (md_reckons_b237_l ..) (md_reckons_b238_l ..))) (md_reckons_b237_l ..)) (md_reckons_b237_l ..)) fun n => (rfl)
theorem md_reckons_b237_e (σ : gM) (x1 : Int) : md_reckons_b237 σ x1 =
  (md_reckons_b238 σ x1 0) := Lm.eqn (md_reckons_b237_l ..) (md_reckons_b238_l ..) fun n => (rfl)
theorem md_reckons_b238_e (σ : gM) (x1 y0 : Int) : md_reckons_b238 σ x1 y0 =
  (if y0 = 0 then
  (md_reckons_b276 σ x1)
  else
  ((md_has σ x1 1).bind fun p1 =>
    if p1.2 = 0 then
    ((md_has p1.1 x1 2).bind fun p2 =>
      if p2.2 = 0 then
      ((md_may p2.1 x1 1).bind fun p3 =>
        if p3.2 = 0 then
        (md_reckons_b276 p3.1 x1)
        else
        (md_reckons_b272 p3.1 x1))
      else
      (md_reckons_b276 p2.1 x1))
    else
    (md_reckons_b272 p1.1 x1))) := Lm.eqn (md_reckons_b238_l ..) (.ite (md_reckons_b276_l ..) (.bind (md_has_l ..) fun p1 => (.ite (.bind (md_has_l ..) fun p2 => (.ite (.bind (md_may_l ..) fun p3 => (.ite (md_reckons_b276_l ..) (md_reckons_b272_l ..))) (md_reckons_b276_l ..))) (md_reckons_b272_l ..)))) fun n => (rfl)
theorem md_reckons_b272_e (σ : gM) (x1 : Int) : md_reckons_b272 σ x1 =
  (md_reckons_b277 σ x1 1) := Lm.eqn (md_reckons_b272_l ..) (md_reckons_b277_l ..) fun n => (rfl)
theorem md_reckons_b276_e (σ : gM) (x1 : Int) : md_reckons_b276 σ x1 =
  (md_reckons_b277 σ x1 0) := Lm.eqn (md_reckons_b276_l ..) (md_reckons_b277_l ..) fun n => (rfl)
theorem md_reckons_b277_e (σ : gM) (x1 y0 : Int) : md_reckons_b277 σ x1 y0 =
  (if y0 = 0 then
  (if 100000 < w32 ((σ 119 11) + 4) then
    ((md_error σ 9 x1).bind fun p1 =>
      gthr p1.1 p1.2)
    else
    (md_reckons_b304 σ x1 y0))
  else
  (md_reckons_b304 σ x1 y0)) := Lm.eqn (md_reckons_b277_l ..) (.ite (.ite (.bind (md_error_l ..) fun p1 => .cst) (md_reckons_b304_l ..)) (md_reckons_b304_l ..)) fun n => (rfl)
theorem md_reckons_b304_e (σ : gM) (x1 x7 : Int) : md_reckons_b304 σ x1 x7 =
  (if x7 = 0 then
  (md_reckons_b314 σ x1 x7 2)
  else
  (md_reckons_b314 σ x1 x7 1)) := Lm.eqn (md_reckons_b304_l ..) (.ite (md_reckons_b314_l ..) (md_reckons_b314_l ..)) fun n => (rfl)
theorem md_reckons_b314_e (σ : gM) (x1 x7 y0 : Int) : md_reckons_b314 σ x1 x7 y0 =
  ((md_has σ x1 y0).bind fun p1 =>
  if p1.2 = 0 then
  (if y0 = 2 then
    (md_reckons_b341 p1.1 x7 1 y0 x1)
    else
    (md_reckons_b341 p1.1 x7 0 y0 x1))
  else
  (md_reckons_b344 p1.1 x7)) := Lm.eqn (md_reckons_b314_l ..) (.bind (md_has_l ..) fun p1 => (.ite (.ite (md_reckons_b341_l ..) (md_reckons_b341_l ..)) (md_reckons_b344_l ..))) fun n => (rfl)
theorem md_reckons_b341_e (σ : gM) (x7 y0 y1 y2 : Int) : md_reckons_b341 σ x7 y0 y1 y2 =
  ((md_settle σ y2 y1 y0).bind fun p1 =>
  md_reckons_b344 p1.1 x7) := Lm.eqn (md_reckons_b341_l ..) (.bind (md_settle_l ..) fun p1 => (md_reckons_b344_l ..)) fun n => (rfl)
theorem md_reckons_b344_e (σ : gM) (x7 : Int) : md_reckons_b344 σ x7 =
  (if x7 = 0 then
  (md_reckons_b372 (gW σ 119 11 (w32 ((σ 119 11) + 4))) 0)
  else
  ((md_asLong σ).bind fun p1 =>
    (md_pairBecomes p1.1 2 p1.2).bind fun p2 =>
    some (p2.1, some 0))) := Lm.eqn (md_reckons_b344_l ..) (.ite (md_reckons_b372_l ..) (.bind (md_asLong_l ..) fun p1 => (.bind (md_pairBecomes_l ..) fun p2 => .cst))) fun n => (rfl)
theorem md_reckons_b372_e (σ : gM) (x9 : Int) : md_reckons_b372 σ x9 =
  (if x9 < 5 then
  (if 0 ≤ x9 ∧ x9 < 5 then
    (if 0 ≤ w32 ((w32 (5 * (σ 119 16))) + x9) ∧ w32 ((w32 (5 * (σ 119 16))) + x9) < 135020 then
      (md_reckons_b372 (gW σ 128 (w32 ((w32 (5 * (σ 119 16))) + x9)) (σ 131 x9)) (w32 (x9 + 1)))
      else none)
    else none)
  else
  ((md_pairBecomes σ 3 (σ 119 16)).bind fun p1 =>
    some (gW p1.1 119 16 (w32 ((p1.1 119 16) + 1)), some 0))) := Lm.eqn (md_reckons_b372_l ..) (.ite (.ite (.ite (md_reckons_b372_l ..) .cst) .cst) (.bind (md_pairBecomes_l ..) fun p1 => .cst)) fun n => (rfl)
def k_md_compare : List gC := [(0, 1, .aload_n 0, [], none), (1, 1, .iconst 0, [], none), (2, 1, .iaload, [], none), (3, 1, .aload_n 1, [], none),
  (4, 1, .iconst 0, [], none), (5, 1, .iaload, [], none), (6, 3, .if_icmp .eq 34, [(0, 40)], none), (9, 1, .aload_n 0, [], none),
  (10, 3, .invokestatic 398, [], none), (13, 3, .ifCond .eq 14, [(0, 27)], none), (16, 1, .aload_n 1, [], none), (17, 3, .invokestatic 398, [], none),
  (20, 3, .ifCond .eq 7, [(0, 27)], none), (23, 1, .iconst 0, [], none), (24, 3, .goto 15, [(0, 39)], none), (27, 1, .aload_n 0, [], some [true, false]),
  (28, 1, .iconst 0, [], none), (29, 1, .iaload, [], none), (30, 1, .iconst 1, [], none), (31, 3, .if_icmp .ne 7, [(0, 38)], none),
  (34, 1, .iconst (-1), [], none), (35, 3, .goto 4, [(0, 39)], none), (38, 1, .iconst 1, [], none), (39, 1, .ireturn, [], none),
  (40, 1, .aload_n 0, [], none), (41, 1, .iconst 0, [], none), (42, 1, .iaload, [], none), (43, 1, .iconst 1, [], none),
  (44, 3, .if_icmp .ne 11, [(0, 55)], none), (47, 1, .aload_n 1, [], none), (48, 1, .aload_n 0, [], none), (49, 3, .invokestatic 402, [], none),
  (52, 3, .goto 8, [(0, 60)], none), (55, 1, .aload_n 0, [], none), (56, 1, .aload_n 1, [], none), (57, 3, .invokestatic 402, [], none),
  (60, 1, .ireturn, [], none)]
def e_md_compare (m : Nat) : gE := (k_md_compare, f_md, c_md, [(398, 1, 0, 0, .inl (fn_md_isZero m)), (402, 2, 0, 0, .inl (fn_md_compareSizes m))], [], (m, 0), 0)
theorem ok_md_compare : gchk cX10_compare 2 k_md_compare = true := by decide +kernel
def fn_md_compare (m : Nat) : gFn := gF (e_md_compare m) 2
theorem mo_md_compare (m : Nat) : gMo (.inl (fn_md_compare m)) := gF_mo (E := e_md_compare m) ⟨mo_md_isZero m, ⟨mo_md_compareSizes m, trivial⟩⟩
noncomputable def md_compare (σ : gM) (x0 x1 : Int) : Option (gM × Int) := lim (fun n => fn_md_compare 227 n [(2, x0), (2, x1)] σ)
theorem md_compare_l (σ : gM) (x0 x1 : Int) : Lm (fun n => fn_md_compare 227 n [(2, x0), (2, x1)] σ) (md_compare σ x0 x1) := .of fun n => mo_md_compare 227 n [(2, x0), (2, x1)] σ
theorem mb_md_compare : gMos (e_md_compare 227).2.2.2.1 := ⟨mo_md_isZero 227, ⟨mo_md_compareSizes 227, trivial⟩⟩
noncomputable def md_compare_b27 (σ : gM) (x0 : Int) : Option (gM × Int) := lim (fun n => gB (e_md_compare 227) rF tF n 27 [(2, x0), (9, 0)] [] σ)
theorem md_compare_b27_l (σ : gM) (x0 : Int) : Lm (fun n => gB (e_md_compare 227) rF tF n 27 [(2, x0), (9, 0)] [] σ) (md_compare_b27 σ x0) := .of fun n => gB_le (gMos_spec (mb_md_compare)) n _ _ _ σ
theorem md_compare_e (σ : gM) (x0 x1 : Int) : md_compare σ x0 x1 =
  (gis 227 x0 1 (if (0 : Int) ≤ 0 ∧ (0 : Int) < gN x0 then
  (gis 227 x1 1 (if (0 : Int) ≤ 0 ∧ (0 : Int) < gN x1 then
    (if σ x0 0 = σ x1 0 then
      (gis 227 x0 1 (if (0 : Int) ≤ 0 ∧ (0 : Int) < gN x0 then
        (if σ x0 0 = 1 then
          ((md_compareSizes σ x1 x0).bind fun p2 =>
            some (p2.1, p2.2))
          else
          ((md_compareSizes σ x0 x1).bind fun p1 =>
            some (p1.1, p1.2)))
        else none))
      else
      ((md_isZero σ x0).bind fun p3 =>
        if p3.2 = 0 then
        (md_compare_b27 p3.1 x0)
        else
        ((md_isZero p3.1 x1).bind fun p4 =>
          if p4.2 = 0 then
          (md_compare_b27 p4.1 x0)
          else
          (some (p4.1, 0)))))
    else none))
  else none)) := Lm.eqn (md_compare_l ..) (.xis (.ite (.xis (.ite (.ite (.xis (.ite (.ite (.bind (md_compareSizes_l ..) fun p2 => .cst) (.bind (md_compareSizes_l ..) fun p1 => .cst)) .cst)) (.bind (md_isZero_l ..) fun p3 => (.ite (md_compare_b27_l ..) (.bind (md_isZero_l ..) fun p4 => (.ite (md_compare_b27_l ..) .cst))))) .cst)) .cst)) fun n => (rfl)
theorem md_compare_b27_e (σ : gM) (x0 : Int) : md_compare_b27 σ x0 =
  (gis 227 x0 1 (if (0 : Int) ≤ 0 ∧ (0 : Int) < gN x0 then
  (if σ x0 0 = 1 then
    (some (σ, (-1)))
    else
    (some (σ, 1)))
  else none)) := Lm.eqn (md_compare_b27_l ..) (.xis (.ite (.ite .cst .cst) .cst)) fun n => (rfl)
def k_md_comparePair : List gC := [(0, 1, .aload_n 0, [], none), (1, 1, .aload_n 0, [], none), (2, 3, .getfield 332, [], none), (5, 1, .aload_n 0, [], none),
  (6, 3, .getfield 707, [], none), (9, 1, .iconst 2, [], none), (10, 1, .isub, [], none), (11, 1, .iaload, [], none),
  (12, 1, .aload_n 0, [], none), (13, 3, .getfield 335, [], none), (16, 1, .aload_n 0, [], none), (17, 3, .getfield 707, [], none),
  (20, 1, .iconst 2, [], none), (21, 1, .isub, [], none), (22, 1, .laload, [], none), (23, 1, .aload_n 0, [], none),
  (24, 3, .getfield 45, [], none), (27, 3, .invokevirtual 831, [], none), (30, 1, .aload_n 0, [], none), (31, 1, .aload_n 0, [], none),
  (32, 3, .getfield 332, [], none), (35, 1, .aload_n 0, [], none), (36, 3, .getfield 707, [], none), (39, 1, .iconst 1, [], none),
  (40, 1, .isub, [], none), (41, 1, .iaload, [], none), (42, 1, .aload_n 0, [], none), (43, 3, .getfield 335, [], none),
  (46, 1, .aload_n 0, [], none), (47, 3, .getfield 707, [], none), (50, 1, .iconst 1, [], none), (51, 1, .isub, [], none),
  (52, 1, .laload, [], none), (53, 1, .aload_n 0, [], none), (54, 3, .getfield 48, [], none), (57, 3, .invokevirtual 831, [], none),
  (60, 1, .aload_n 0, [], none), (61, 3, .getfield 45, [], none), (64, 1, .aload_n 0, [], none), (65, 3, .getfield 48, [], none),
  (68, 3, .invokestatic 874, [], none), (71, 1, .ireturn, [], none)]
def e_md_comparePair (m : Nat) : gE := (k_md_comparePair, f_md, c_md, [(831, 4, 20, 5, .inl (fn_md_spread m)), (874, 2, 0, 0, .inl (fn_md_compare m))], [], (m, 2041694201525630780780247644590609268736), 0)
theorem ok_md_comparePair : gchk cX10_comparePair 1 k_md_comparePair = true := by decide +kernel
def fn_md_comparePair (m : Nat) : gFn := gF (e_md_comparePair m) 1
theorem mo_md_comparePair (m : Nat) : gMo (.inl (fn_md_comparePair m)) := gF_mo (E := e_md_comparePair m) ⟨mo_md_spread m, ⟨mo_md_compare m, trivial⟩⟩
noncomputable def md_comparePair (σ : gM) : Option (gM × Int) := lim (fun n => fn_md_comparePair 227 n [(2, 119)] σ)
theorem md_comparePair_l (σ : gM) : Lm (fun n => fn_md_comparePair 227 n [(2, 119)] σ) (md_comparePair σ) := .of fun n => mo_md_comparePair 227 n [(2, 119)] σ
theorem md_comparePair_e (σ : gM) : md_comparePair σ =
  (if 0 ≤ w32 ((σ 119 125) - 2) ∧ w32 ((σ 119 125) - 2) < 24000 then
  (if 0 ≤ w32 ((σ 119 125) - 2) ∧ w32 ((σ 119 125) - 2) < 24000 then
    ((md_spread σ (σ 221 (w32 ((σ 119 125) - 2))) (σ 222 (w32 ((σ 119 125) - 2))) 129).bind fun p1 =>
      if 0 ≤ w32 ((p1.1 119 125) - 1) ∧ w32 ((p1.1 119 125) - 1) < 24000 then
      (if 0 ≤ w32 ((p1.1 119 125) - 1) ∧ w32 ((p1.1 119 125) - 1) < 24000 then
        ((md_spread p1.1 (p1.1 221 (w32 ((p1.1 119 125) - 1))) (p1.1 222 (w32 ((p1.1 119 125) - 1))) 130).bind fun p2 =>
          (md_compare p2.1 129 130).bind fun p3 =>
          some (p3.1, p3.2))
        else none)
      else none)
    else none)
  else none) := Lm.eqn (md_comparePair_l ..) (.ite (.ite (.bind (md_spread_l ..) fun p1 => (.ite (.ite (.bind (md_spread_l ..) fun p2 => (.bind (md_compare_l ..) fun p3 => .cst)) .cst) .cst)) .cst) .cst) fun n => (rfl)
def k_md_orders : List gC := [(0, 1, .aload_n 0, [], none), (1, 3, .getfield 332, [], none), (4, 1, .aload_n 0, [], none), (5, 3, .getfield 707, [], none),
  (8, 1, .iconst 2, [], none), (9, 1, .isub, [], none), (10, 1, .iaload, [], none), (11, 1, .istore_n 3, [], none),
  (12, 1, .aload_n 0, [], none), (13, 3, .getfield 332, [], none), (16, 1, .aload_n 0, [], none), (17, 3, .getfield 707, [], none),
  (20, 1, .iconst 1, [], none), (21, 1, .isub, [], none), (22, 1, .iaload, [], none), (23, 2, .istore 4, [], none),
  (25, 1, .iload_n 3, [], none), (26, 3, .invokestatic 828, [], none), (29, 3, .ifCond .eq 11, [(0, 40)], none), (32, 2, .iload 4, [], none),
  (34, 3, .invokestatic 828, [], none), (37, 3, .ifCond .ne 10, [(0, 47)], none), (40, 1, .aload_n 0, [], some [true, true, false, false, false, false, false, false]), (41, 1, .iconst 1, [], none),
  (42, 1, .iload_n 1, [], none), (43, 3, .invokevirtual 726, [], none), (46, 1, .athrow, [], none), (47, 1, .iload_n 3, [], none),
  (48, 1, .iconst 2, [], none), (49, 3, .if_icmp .ne 13, [(0, 62)], none), (52, 2, .iload 4, [], none), (54, 1, .iconst 2, [], none),
  (55, 3, .if_icmp .ne 7, [(0, 62)], none), (58, 1, .iconst 1, [], none), (59, 3, .goto 4, [(0, 63)], none), (62, 1, .iconst 0, [], some [true, true, true, false, false, false, false, false]),
  (63, 2, .istore 5, [], some [true, true, true, false, false, false, false, false]), (65, 2, .iload 5, [], none), (67, 3, .ifCond .eq 12, [(0, 79)], none), (70, 1, .aload_n 0, [], none),
  (71, 1, .iload_n 1, [], none), (72, 1, .iconst 1, [], none), (73, 3, .invokevirtual 749, [], none), (76, 3, .ifCond .ne 37, [(0, 113)], none),
  (79, 1, .aload_n 0, [], some [true, true, true, false, false, true, false, false]), (80, 1, .iload_n 1, [], none), (81, 1, .iconst 2, [], none), (82, 3, .invokevirtual 749, [], none),
  (85, 3, .ifCond .ne 28, [(0, 113)], none), (88, 1, .aload_n 0, [], none), (89, 1, .iload_n 1, [], none), (90, 2, .iload 5, [], none),
  (92, 3, .ifCond .eq 7, [(0, 99)], none), (95, 1, .iconst 1, [], none), (96, 3, .goto 4, [(0, 100)], none), (99, 1, .iconst 2, [], none),
  (100, 2, .iload 5, [], some [true, false, true, false, false, true, false, false]), (102, 3, .ifCond .ne 7, [(0, 109)], none), (105, 1, .iconst 1, [], none), (106, 3, .goto 4, [(0, 110)], none),
  (109, 1, .iconst 0, [], none), (110, 3, .invokevirtual 758, [], some [true, false, true, false, false, false, false, false]), (113, 1, .aload_n 0, [], some [true, false, true, false, false, false, false, false]), (114, 3, .invokevirtual 877, [], none),
  (117, 2, .istore 6, [], none), (119, 1, .iload_n 2, [], none), (120, 2, .bipush 12, [], none), (122, 3, .if_icmp .ne 16, [(0, 138)], none),
  (125, 2, .iload 6, [], none), (127, 3, .ifCond .ge 7, [(0, 134)], none), (130, 1, .iconst 1, [], none), (131, 3, .goto 55, [(0, 186)], none),
  (134, 1, .iconst 0, [], none), (135, 3, .goto 51, [(0, 186)], none), (138, 1, .iload_n 2, [], none), (139, 2, .bipush 13, [], none),
  (141, 3, .if_icmp .ne 16, [(0, 157)], none), (144, 2, .iload 6, [], none), (146, 3, .ifCond .gt 7, [(0, 153)], none), (149, 1, .iconst 1, [], none),
  (150, 3, .goto 36, [(0, 186)], none), (153, 1, .iconst 0, [], none), (154, 3, .goto 32, [(0, 186)], none), (157, 1, .iload_n 2, [], none),
  (158, 2, .bipush 14, [], none), (160, 3, .if_icmp .ne 16, [(0, 176)], none), (163, 2, .iload 6, [], none), (165, 3, .ifCond .le 7, [(0, 172)], none),
  (168, 1, .iconst 1, [], none), (169, 3, .goto 17, [(0, 186)], none), (172, 1, .iconst 0, [], none), (173, 3, .goto 13, [(0, 186)], none),
  (176, 2, .iload 6, [], none), (178, 3, .ifCond .lt 7, [(0, 185)], none), (181, 1, .iconst 1, [], none), (182, 3, .goto 4, [(0, 186)], none),
  (185, 1, .iconst 0, [], none), (186, 2, .istore 7, [], some [true, false, false, false, false, false, false, false]), (188, 1, .aload_n 0, [], none), (189, 1, .iconst 1, [], none),
  (190, 2, .iload 7, [], none), (192, 3, .ifCond .eq 7, [(0, 199)], none), (195, 1, .lconst 1, [], none), (196, 3, .goto 4, [(0, 200)], none),
  (199, 1, .lconst 0, [], none), (200, 3, .invokevirtual 848, [], some [false, false, false, false, false, false, false, false]), (203, 1, .return_, [], none)]
def e_md_orders (m : Nat) : gE := (k_md_orders, f_md, c_md, [(828, 1, 0, 0, .inl (fn_md_isNumber m)), (726, 3, 20, 2, .inl (fn_md_error m)), (749, 3, 20, 0, .inl (fn_md_has m)), (758, 4, 20, 5, .inl (fn_md_settle m)), (877, 1, 20, 0, .inl (fn_md_comparePair m)), (848, 3, 20, 5, .inl (fn_md_pairBecomes m))], [], (m, 906218590997455012797681237015987304288721263106840181445127037524375432790332761312039293488394516841885868142025164614966419306900518889317151145765007820534013177710442971136), 5)
theorem ok_md_orders : gchk cX10_orders 8 k_md_orders = true := by decide +kernel
def fn_md_orders (m : Nat) : gFt := gG (e_md_orders m) 8
theorem mo_md_orders (m : Nat) : gMo (.inr (fn_md_orders m)) := gG_mo (E := e_md_orders m) ⟨mo_md_isNumber m, ⟨mo_md_error m, ⟨mo_md_has m, ⟨mo_md_settle m, ⟨mo_md_comparePair m, ⟨mo_md_pairBecomes m, trivial⟩⟩⟩⟩⟩⟩
noncomputable def md_orders (σ : gM) (x1 x2 : Int) : Option (gM × Option Int) := lim (fun n => fn_md_orders 227 n [(2, 119), (0, x1), (0, x2)] σ)
theorem md_orders_l (σ : gM) (x1 x2 : Int) : Lm (fun n => fn_md_orders 227 n [(2, 119), (0, x1), (0, x2)] σ) (md_orders σ x1 x2) := .of fun n => mo_md_orders 227 n [(2, 119), (0, x1), (0, x2)] σ
theorem mb_md_orders : gMos (e_md_orders 227).2.2.2.1 := ⟨mo_md_isNumber 227, ⟨mo_md_error 227, ⟨mo_md_has 227, ⟨mo_md_settle 227, ⟨mo_md_comparePair 227, ⟨mo_md_pairBecomes 227, trivial⟩⟩⟩⟩⟩⟩
noncomputable def md_orders_b40 (σ : gM) (x1 : Int) : Option (gM × Option Int) := lim (fun n => gB (e_md_orders 227) rG gthr n 40 [(2, 119), (0, x1), (9, 0), (9, 0), (9, 0), (9, 0), (9, 0), (9, 0)] [] σ)
theorem md_orders_b40_l (σ : gM) (x1 : Int) : Lm (fun n => gB (e_md_orders 227) rG gthr n 40 [(2, 119), (0, x1), (9, 0), (9, 0), (9, 0), (9, 0), (9, 0), (9, 0)] [] σ) (md_orders_b40 σ x1) := .of fun n => gB_le (gMos_spec (mb_md_orders)) n _ _ _ σ
noncomputable def md_orders_b62 (σ : gM) (x1 x2 : Int) : Option (gM × Option Int) := lim (fun n => gB (e_md_orders 227) rG gthr n 62 [(2, 119), (0, x1), (0, x2), (9, 0), (9, 0), (9, 0), (9, 0), (9, 0)] [] σ)
theorem md_orders_b62_l (σ : gM) (x1 x2 : Int) : Lm (fun n => gB (e_md_orders 227) rG gthr n 62 [(2, 119), (0, x1), (0, x2), (9, 0), (9, 0), (9, 0), (9, 0), (9, 0)] [] σ) (md_orders_b62 σ x1 x2) := .of fun n => gB_le (gMos_spec (mb_md_orders)) n _ _ _ σ
noncomputable def md_orders_b63 (σ : gM) (x1 x2 y0 : Int) : Option (gM × Option Int) := lim (fun n => gB (e_md_orders 227) rG gthr n 63 [(2, 119), (0, x1), (0, x2), (9, 0), (9, 0), (9, 0), (9, 0), (9, 0)] [(0, y0)] σ)
theorem md_orders_b63_l (σ : gM) (x1 x2 y0 : Int) : Lm (fun n => gB (e_md_orders 227) rG gthr n 63 [(2, 119), (0, x1), (0, x2), (9, 0), (9, 0), (9, 0), (9, 0), (9, 0)] [(0, y0)] σ) (md_orders_b63 σ x1 x2 y0) := .of fun n => gB_le (gMos_spec (mb_md_orders)) n _ _ _ σ
noncomputable def md_orders_b79 (σ : gM) (x1 x2 x5 : Int) : Option (gM × Option Int) := lim (fun n => gB (e_md_orders 227) rG gthr n 79 [(2, 119), (0, x1), (0, x2), (9, 0), (9, 0), (0, x5), (9, 0), (9, 0)] [] σ)
theorem md_orders_b79_l (σ : gM) (x1 x2 x5 : Int) : Lm (fun n => gB (e_md_orders 227) rG gthr n 79 [(2, 119), (0, x1), (0, x2), (9, 0), (9, 0), (0, x5), (9, 0), (9, 0)] [] σ) (md_orders_b79 σ x1 x2 x5) := .of fun n => gB_le (gMos_spec (mb_md_orders)) n _ _ _ σ
noncomputable def md_orders_b100 (σ : gM) (x2 x5 y0 y1 : Int) : Option (gM × Option Int) := lim (fun n => gB (e_md_orders 227) rG gthr n 100 [(2, 119), (9, 0), (0, x2), (9, 0), (9, 0), (0, x5), (9, 0), (9, 0)] [(0, y0), (0, y1), (2, 119)] σ)
theorem md_orders_b100_l (σ : gM) (x2 x5 y0 y1 : Int) : Lm (fun n => gB (e_md_orders 227) rG gthr n 100 [(2, 119), (9, 0), (0, x2), (9, 0), (9, 0), (0, x5), (9, 0), (9, 0)] [(0, y0), (0, y1), (2, 119)] σ) (md_orders_b100 σ x2 x5 y0 y1) := .of fun n => gB_le (gMos_spec (mb_md_orders)) n _ _ _ σ
noncomputable def md_orders_b110 (σ : gM) (x2 y0 y1 y2 : Int) : Option (gM × Option Int) := lim (fun n => gB (e_md_orders 227) rG gthr n 110 [(2, 119), (9, 0), (0, x2), (9, 0), (9, 0), (9, 0), (9, 0), (9, 0)] [(0, y0), (0, y1), (0, y2), (2, 119)] σ)
theorem md_orders_b110_l (σ : gM) (x2 y0 y1 y2 : Int) : Lm (fun n => gB (e_md_orders 227) rG gthr n 110 [(2, 119), (9, 0), (0, x2), (9, 0), (9, 0), (9, 0), (9, 0), (9, 0)] [(0, y0), (0, y1), (0, y2), (2, 119)] σ) (md_orders_b110 σ x2 y0 y1 y2) := .of fun n => gB_le (gMos_spec (mb_md_orders)) n _ _ _ σ
noncomputable def md_orders_b113 (σ : gM) (x2 : Int) : Option (gM × Option Int) := lim (fun n => gB (e_md_orders 227) rG gthr n 113 [(2, 119), (9, 0), (0, x2), (9, 0), (9, 0), (9, 0), (9, 0), (9, 0)] [] σ)
theorem md_orders_b113_l (σ : gM) (x2 : Int) : Lm (fun n => gB (e_md_orders 227) rG gthr n 113 [(2, 119), (9, 0), (0, x2), (9, 0), (9, 0), (9, 0), (9, 0), (9, 0)] [] σ) (md_orders_b113 σ x2) := .of fun n => gB_le (gMos_spec (mb_md_orders)) n _ _ _ σ
noncomputable def md_orders_b186 (σ : gM) (y0 : Int) : Option (gM × Option Int) := lim (fun n => gB (e_md_orders 227) rG gthr n 186 [(2, 119), (9, 0), (9, 0), (9, 0), (9, 0), (9, 0), (9, 0), (9, 0)] [(0, y0)] σ)
theorem md_orders_b186_l (σ : gM) (y0 : Int) : Lm (fun n => gB (e_md_orders 227) rG gthr n 186 [(2, 119), (9, 0), (9, 0), (9, 0), (9, 0), (9, 0), (9, 0), (9, 0)] [(0, y0)] σ) (md_orders_b186 σ y0) := .of fun n => gB_le (gMos_spec (mb_md_orders)) n _ _ _ σ
noncomputable def md_orders_b200 (σ : gM) (y0 y1 : Int) : Option (gM × Option Int) := lim (fun n => gB (e_md_orders 227) rG gthr n 200 [(9, 0), (9, 0), (9, 0), (9, 0), (9, 0), (9, 0), (9, 0), (9, 0)] [(1, y0), (0, y1), (2, 119)] σ)
theorem md_orders_b200_l (σ : gM) (y0 y1 : Int) : Lm (fun n => gB (e_md_orders 227) rG gthr n 200 [(9, 0), (9, 0), (9, 0), (9, 0), (9, 0), (9, 0), (9, 0), (9, 0)] [(1, y0), (0, y1), (2, 119)] σ) (md_orders_b200 σ y0 y1) := .of fun n => gB_le (gMos_spec (mb_md_orders)) n _ _ _ σ
theorem md_orders_e (σ : gM) (x1 x2 : Int) : md_orders σ x1 x2 =
  (if 0 ≤ w32 ((σ 119 125) - 2) ∧ w32 ((σ 119 125) - 2) < 24000 then
  (if 0 ≤ w32 ((σ 119 125) - 1) ∧ w32 ((σ 119 125) - 1) < 24000 then
    ((md_isNumber σ (σ 221 (w32 ((σ 119 125) - 2)))).bind fun p1 =>
      if p1.2 = 0 then
      (md_orders_b40 p1.1 x1)
      else
      ((md_isNumber p1.1 (σ 221 (w32 ((σ 119 125) - 1)))).bind fun p2 =>
        if p2.2 = 0 then
        (md_orders_b40 p2.1 x1)
        else
        (if σ 221 (w32 ((σ 119 125) - 2)) = 2 then
          (if σ 221 (w32 ((σ 119 125) - 1)) = 2 then
            (md_orders_b63 p2.1 x1 x2 1)
            else
            (md_orders_b62 p2.1 x1 x2))
          else
          (md_orders_b62 p2.1 x1 x2))))
    else none)
  else none) := Lm.eqn (md_orders_l ..) (.ite (.ite (.bind (md_isNumber_l ..) fun p1 => (.ite (md_orders_b40_l ..) (.bind (md_isNumber_l ..) fun p2 => (.ite (md_orders_b40_l ..) (.ite (.ite (md_orders_b63_l ..) (md_orders_b62_l ..)) (md_orders_b62_l ..)))))) .cst) .cst) fun n => (rfl)
theorem md_orders_b40_e (σ : gM) (x1 : Int) : md_orders_b40 σ x1 =
  ((md_error σ 1 x1).bind fun p1 =>
  gthr p1.1 p1.2) := Lm.eqn (md_orders_b40_l ..) (.bind (md_error_l ..) fun p1 => .cst) fun n => (rfl)
theorem md_orders_b62_e (σ : gM) (x1 x2 : Int) : md_orders_b62 σ x1 x2 =
  (md_orders_b63 σ x1 x2 0) := Lm.eqn (md_orders_b62_l ..) (md_orders_b63_l ..) fun n => (rfl)
theorem md_orders_b63_e (σ : gM) (x1 x2 y0 : Int) : md_orders_b63 σ x1 x2 y0 =
  (if y0 = 0 then
  (md_orders_b79 σ x1 x2 y0)
  else
  ((md_has σ x1 1).bind fun p1 =>
    if p1.2 = 0 then
    (md_orders_b79 p1.1 x1 x2 y0)
    else
    (md_orders_b113 p1.1 x2))) := Lm.eqn (md_orders_b63_l ..) (.ite (md_orders_b79_l ..) (.bind (md_has_l ..) fun p1 => (.ite (md_orders_b79_l ..) (md_orders_b113_l ..)))) fun n => (rfl)
theorem md_orders_b79_e (σ : gM) (x1 x2 x5 : Int) : md_orders_b79 σ x1 x2 x5 =
  ((md_has σ x1 2).bind fun p1 =>
  if p1.2 = 0 then
  (if x5 = 0 then
    (md_orders_b100 p1.1 x2 x5 2 x1)
    else
    (md_orders_b100 p1.1 x2 x5 1 x1))
  else
  (md_orders_b113 p1.1 x2)) := Lm.eqn (md_orders_b79_l ..) (.bind (md_has_l ..) fun p1 => (.ite (.ite (md_orders_b100_l ..) (md_orders_b100_l ..)) (md_orders_b113_l ..))) fun n => (rfl)
theorem md_orders_b100_e (σ : gM) (x2 x5 y0 y1 : Int) : md_orders_b100 σ x2 x5 y0 y1 =
  (if x5 = 0 then
  (md_orders_b110 σ x2 1 y0 y1)
  else
  (md_orders_b110 σ x2 0 y0 y1)) := Lm.eqn (md_orders_b100_l ..) (.ite (md_orders_b110_l ..) (md_orders_b110_l ..)) fun n => (rfl)
theorem md_orders_b110_e (σ : gM) (x2 y0 y1 y2 : Int) : md_orders_b110 σ x2 y0 y1 y2 =
  ((md_settle σ y2 y1 y0).bind fun p1 =>
  md_orders_b113 p1.1 x2) := Lm.eqn (md_orders_b110_l ..) (.bind (md_settle_l ..) fun p1 => (md_orders_b113_l ..)) fun n => (rfl)
theorem md_orders_b113_e (σ : gM) (x2 : Int) : md_orders_b113 σ x2 =
  ((md_comparePair σ).bind fun p1 =>
  if x2 = 12 then
  (if p1.2 < 0 then
    (md_orders_b186 p1.1 1)
    else
    (md_orders_b186 p1.1 0))
  else
  (if x2 = 13 then
    (if 0 < p1.2 then
      (md_orders_b186 p1.1 0)
      else
      (md_orders_b186 p1.1 1))
    else
    (if x2 = 14 then
      (if 0 < p1.2 then
        (md_orders_b186 p1.1 1)
        else
        (md_orders_b186 p1.1 0))
      else
      (if p1.2 < 0 then
        (md_orders_b186 p1.1 0)
        else
        (md_orders_b186 p1.1 1))))) := Lm.eqn (md_orders_b113_l ..) (.bind (md_comparePair_l ..) fun p1 => (.ite (.ite (md_orders_b186_l ..) (md_orders_b186_l ..)) (.ite (.ite (md_orders_b186_l ..) (md_orders_b186_l ..)) (.ite (.ite (md_orders_b186_l ..) (md_orders_b186_l ..)) (.ite (md_orders_b186_l ..) (md_orders_b186_l ..)))))) fun n => (rfl)
theorem md_orders_b186_e (σ : gM) (y0 : Int) : md_orders_b186 σ y0 =
  (if y0 = 0 then
  (md_orders_b200 σ 0 1)
  else
  (md_orders_b200 σ 1 1)) := Lm.eqn (md_orders_b186_l ..) (.ite (md_orders_b200_l ..) (md_orders_b200_l ..)) fun n => (rfl)
theorem md_orders_b200_e (σ : gM) (y0 y1 : Int) : md_orders_b200 σ y0 y1 =
  ((md_pairBecomes σ y1 y0).bind fun p1 =>
  some (p1.1, some 0)) := Lm.eqn (md_orders_b200_l ..) (.bind (md_pairBecomes_l ..) fun p1 => .cst) fun n => (rfl)
def k_md_isSame : List gC := [(0, 1, .aload_n 0, [], none), (1, 3, .getfield 32, [], none), (4, 1, .lload_n 1, [], none), (5, 1, .l2i, [], none),
  (6, 1, .iaload, [], none), (7, 1, .aload_n 0, [], none), (8, 3, .getfield 32, [], none), (11, 1, .lload_n 3, [], none),
  (12, 1, .l2i, [], none), (13, 1, .iaload, [], none), (14, 3, .if_icmp .ne 7, [(0, 21)], none), (17, 1, .iconst 1, [], none),
  (18, 3, .goto 4, [(0, 22)], none), (21, 1, .iconst 0, [], none), (22, 1, .ireturn, [], none)]
def e_md_isSame (m : Nat) : gE := (k_md_isSame, f_md, c_md, [], [], (m, 0), 6)
theorem ok_md_isSame : gchk cX10_isSame 5 k_md_isSame = true := by decide +kernel
def fn_md_isSame (m : Nat) : gFn := gF (e_md_isSame m) 5
theorem mo_md_isSame (m : Nat) : gMo (.inl (fn_md_isSame m)) := gF_mo (E := e_md_isSame m) trivial
noncomputable def md_isSame (σ : gM) (x1 x3 : Int) : Option (gM × Int) := lim (fun n => fn_md_isSame 227 n [(2, 119), (1, x1), (1, x3)] σ)
theorem md_isSame_l (σ : gM) (x1 x3 : Int) : Lm (fun n => fn_md_isSame 227 n [(2, 119), (1, x1), (1, x3)] σ) (md_isSame σ x1 x3) := .of fun n => mo_md_isSame 227 n [(2, 119), (1, x1), (1, x3)] σ
theorem md_isSame_e (σ : gM) (x1 x3 : Int) : md_isSame σ x1 x3 =
  (if 0 ≤ w32 x1 ∧ w32 x1 < 109004 then
  (if 0 ≤ w32 x3 ∧ w32 x3 < 109004 then
    (if σ 125 (w32 x1) = σ 125 (w32 x3) then
      (some (σ, 1))
      else
      (some (σ, 0)))
    else none)
  else none) := Lm.eqn (md_isSame_l ..) (.ite (.ite (.ite .cst .cst) .cst) .cst) fun n => (rfl)
def k_md_compares : List gC := [(0, 1, .aload_n 0, [], none), (1, 3, .getfield 332, [], none), (4, 1, .aload_n 0, [], none), (5, 3, .getfield 707, [], none),
  (8, 1, .iconst 2, [], none), (9, 1, .isub, [], none), (10, 1, .iaload, [], none), (11, 1, .istore_n 3, [], none),
  (12, 1, .aload_n 0, [], none), (13, 3, .getfield 332, [], none), (16, 1, .aload_n 0, [], none), (17, 3, .getfield 707, [], none),
  (20, 1, .iconst 1, [], none), (21, 1, .isub, [], none), (22, 1, .iaload, [], none), (23, 2, .istore 4, [], none),
  (25, 1, .aload_n 0, [], none), (26, 3, .getfield 335, [], none), (29, 1, .aload_n 0, [], none), (30, 3, .getfield 707, [], none),
  (33, 1, .iconst 2, [], none), (34, 1, .isub, [], none), (35, 1, .laload, [], none), (36, 2, .lstore 5, [], none),
  (38, 1, .aload_n 0, [], none), (39, 3, .getfield 335, [], none), (42, 1, .aload_n 0, [], none), (43, 3, .getfield 707, [], none),
  (46, 1, .iconst 1, [], none), (47, 1, .isub, [], none), (48, 1, .laload, [], none), (49, 2, .lstore 7, [], none),
  (51, 1, .iload_n 3, [], none), (52, 1, .iconst 2, [], none), (53, 3, .if_icmp .ne 13, [(0, 66)], none), (56, 2, .iload 4, [], none),
  (58, 1, .iconst 2, [], none), (59, 3, .if_icmp .ne 7, [(0, 66)], none), (62, 1, .iconst 1, [], none), (63, 3, .goto 35, [(0, 98)], none),
  (66, 1, .iload_n 3, [], some [true, true, true, true, true, true, false, true, false, false, false]), (67, 1, .iconst 1, [], none), (68, 3, .if_icmp .ne 13, [(0, 81)], none), (71, 2, .iload 4, [], none),
  (73, 1, .iconst 1, [], none), (74, 3, .if_icmp .ne 7, [(0, 81)], none), (77, 1, .iconst 2, [], none), (78, 3, .goto 20, [(0, 98)], none),
  (81, 1, .iload_n 3, [], some [true, true, true, true, true, true, false, true, false, false, false]), (82, 1, .iconst 4, [], none), (83, 3, .if_icmp .ne 13, [(0, 96)], none), (86, 2, .iload 4, [], none),
  (88, 1, .iconst 4, [], none), (89, 3, .if_icmp .ne 7, [(0, 96)], none), (92, 1, .iconst 4, [], none), (93, 3, .goto 5, [(0, 98)], none),
  (96, 2, .bipush 8, [], some [true, true, true, true, true, true, false, true, false, false, false]), (98, 2, .istore 9, [], some [true, true, true, true, true, true, false, true, false, false, false]), (100, 1, .aload_n 0, [], none), (101, 1, .iload_n 1, [], none),
  (102, 2, .iload 9, [], none), (104, 3, .invokevirtual 749, [], none), (107, 3, .ifCond .ne 32, [(0, 139)], none), (110, 1, .aload_n 0, [], none),
  (111, 1, .iload_n 1, [], none), (112, 2, .bipush 8, [], none), (114, 3, .invokevirtual 749, [], none), (117, 3, .ifCond .ne 22, [(0, 139)], none),
  (120, 1, .aload_n 0, [], none), (121, 1, .iload_n 1, [], none), (122, 2, .iload 9, [], none), (124, 2, .iload 9, [], none),
  (126, 2, .bipush 8, [], none), (128, 3, .if_icmp .ne 7, [(0, 135)], none), (131, 1, .iconst 1, [], none), (132, 3, .goto 4, [(0, 136)], none),
  (135, 1, .iconst 0, [], none), (136, 3, .invokevirtual 758, [], some [true, false, true, true, true, true, false, true, false, false, false]), (139, 1, .iload_n 3, [], some [true, false, true, true, true, true, false, true, false, false, false]), (140, 3, .invokestatic 828, [], none),
  (143, 3, .ifCond .eq 28, [(0, 171)], none), (146, 2, .iload 4, [], none), (148, 3, .invokestatic 828, [], none), (151, 3, .ifCond .eq 20, [(0, 171)], none),
  (154, 1, .aload_n 0, [], none), (155, 3, .invokevirtual 877, [], none), (158, 3, .ifCond .ne 7, [(0, 165)], none), (161, 1, .iconst 1, [], none),
  (162, 3, .goto 4, [(0, 166)], none), (165, 1, .iconst 0, [], none), (166, 2, .istore 10, [], some [true, false, true, false, false, false, false, false, false, false, false]), (168, 3, .goto 50, [(0, 218)], none),
  (171, 1, .iload_n 3, [], some [true, false, true, true, true, true, false, true, false, false, false]), (172, 2, .iload 4, [], none), (174, 3, .if_icmp .eq 9, [(0, 183)], none), (177, 1, .iconst 0, [], none),
  (178, 2, .istore 10, [], none), (180, 3, .goto 38, [(0, 218)], none), (183, 1, .iload_n 3, [], none), (184, 1, .iconst 4, [], none),
  (185, 3, .if_icmp .ne 14, [(0, 199)], none), (188, 1, .aload_n 0, [], none), (189, 2, .lload 5, [], none), (191, 2, .lload 7, [], none),
  (193, 3, .invokevirtual 637, [], none), (196, 3, .goto 20, [(0, 216)], none), (199, 1, .iload_n 3, [], none), (200, 3, .ifCond .eq 11, [(0, 211)], none),
  (203, 2, .lload 5, [], none), (205, 2, .lload 7, [], none), (207, 1, .lcmp, [], none), (208, 3, .ifCond .ne 7, [(0, 215)], none),
  (211, 1, .iconst 1, [], some [true, false, true, false, false, false, false, false, false, false, false]), (212, 3, .goto 4, [(0, 216)], none), (215, 1, .iconst 0, [], none), (216, 2, .istore 10, [], some [true, false, true, false, false, false, false, false, false, false, false]),
  (218, 1, .aload_n 0, [], some [true, false, true, false, false, false, false, false, false, false, true]), (219, 1, .iconst 1, [], none), (220, 2, .iload 10, [], none), (222, 1, .iload_n 2, [], none),
  (223, 2, .bipush 16, [], none), (225, 3, .if_icmp .ne 7, [(0, 232)], none), (228, 1, .iconst 1, [], none), (229, 3, .goto 4, [(0, 233)], none),
  (232, 1, .iconst 0, [], none), (233, 3, .if_icmp .ne 7, [(0, 240)], some [false, false, false, false, false, false, false, false, false, false, false]), (236, 1, .lconst 1, [], none), (237, 3, .goto 4, [(0, 241)], none),
  (240, 1, .lconst 0, [], none), (241, 3, .invokevirtual 848, [], some [false, false, false, false, false, false, false, false, false, false, false]), (244, 1, .return_, [], none)]
def e_md_compares (m : Nat) : gE := (k_md_compares, f_md, c_md, [(749, 3, 20, 0, .inl (fn_md_has m)), (758, 4, 20, 5, .inl (fn_md_settle m)), (828, 1, 0, 0, .inl (fn_md_isNumber m)), (877, 1, 20, 0, .inl (fn_md_comparePair m)), (637, 3, 20, 0, .inl (fn_md_isSame m)), (848, 3, 20, 5, .inl (fn_md_pairBecomes m))], [], (m, 19786432117848362724840201681571775202810507928096947193125044487431778008522549373625312084899443599167813751183321222731127023945122552793465725879822706720894506329505267712), 5)
theorem ok_md_compares : gchk cX10_compares 11 k_md_compares = true := by decide +kernel
def fn_md_compares (m : Nat) : gFn := gF (e_md_compares m) 11
theorem mo_md_compares (m : Nat) : gMo (.inl (fn_md_compares m)) := gF_mo (E := e_md_compares m) ⟨mo_md_has m, ⟨mo_md_settle m, ⟨mo_md_isNumber m, ⟨mo_md_comparePair m, ⟨mo_md_isSame m, ⟨mo_md_pairBecomes m, trivial⟩⟩⟩⟩⟩⟩
noncomputable def md_compares (σ : gM) (x1 x2 : Int) : Option (gM × Int) := lim (fun n => fn_md_compares 227 n [(2, 119), (0, x1), (0, x2)] σ)
theorem md_compares_l (σ : gM) (x1 x2 : Int) : Lm (fun n => fn_md_compares 227 n [(2, 119), (0, x1), (0, x2)] σ) (md_compares σ x1 x2) := .of fun n => mo_md_compares 227 n [(2, 119), (0, x1), (0, x2)] σ
theorem mb_md_compares : gMos (e_md_compares 227).2.2.2.1 := ⟨mo_md_has 227, ⟨mo_md_settle 227, ⟨mo_md_isNumber 227, ⟨mo_md_comparePair 227, ⟨mo_md_isSame 227, ⟨mo_md_pairBecomes 227, trivial⟩⟩⟩⟩⟩⟩
noncomputable def md_compares_b66 (σ : gM) (x1 x2 x3 x4 x5 x7 : Int) : Option (gM × Int) := lim (fun n => gB (e_md_compares 227) rF tF n 66 [(2, 119), (0, x1), (0, x2), (0, x3), (0, x4), (1, x5), (9, 0), (1, x7), (9, 0), (9, 0), (9, 0)] [] σ)
theorem md_compares_b66_l (σ : gM) (x1 x2 x3 x4 x5 x7 : Int) : Lm (fun n => gB (e_md_compares 227) rF tF n 66 [(2, 119), (0, x1), (0, x2), (0, x3), (0, x4), (1, x5), (9, 0), (1, x7), (9, 0), (9, 0), (9, 0)] [] σ) (md_compares_b66 σ x1 x2 x3 x4 x5 x7) := .of fun n => gB_le (gMos_spec (mb_md_compares)) n _ _ _ σ
noncomputable def md_compares_b81 (σ : gM) (x1 x2 x3 x4 x5 x7 : Int) : Option (gM × Int) := lim (fun n => gB (e_md_compares 227) rF tF n 81 [(2, 119), (0, x1), (0, x2), (0, x3), (0, x4), (1, x5), (9, 0), (1, x7), (9, 0), (9, 0), (9, 0)] [] σ)
theorem md_compares_b81_l (σ : gM) (x1 x2 x3 x4 x5 x7 : Int) : Lm (fun n => gB (e_md_compares 227) rF tF n 81 [(2, 119), (0, x1), (0, x2), (0, x3), (0, x4), (1, x5), (9, 0), (1, x7), (9, 0), (9, 0), (9, 0)] [] σ) (md_compares_b81 σ x1 x2 x3 x4 x5 x7) := .of fun n => gB_le (gMos_spec (mb_md_compares)) n _ _ _ σ
noncomputable def md_compares_b96 (σ : gM) (x1 x2 x3 x4 x5 x7 : Int) : Option (gM × Int) := lim (fun n => gB (e_md_compares 227) rF tF n 96 [(2, 119), (0, x1), (0, x2), (0, x3), (0, x4), (1, x5), (9, 0), (1, x7), (9, 0), (9, 0), (9, 0)] [] σ)
theorem md_compares_b96_l (σ : gM) (x1 x2 x3 x4 x5 x7 : Int) : Lm (fun n => gB (e_md_compares 227) rF tF n 96 [(2, 119), (0, x1), (0, x2), (0, x3), (0, x4), (1, x5), (9, 0), (1, x7), (9, 0), (9, 0), (9, 0)] [] σ) (md_compares_b96 σ x1 x2 x3 x4 x5 x7) := .of fun n => gB_le (gMos_spec (mb_md_compares)) n _ _ _ σ
noncomputable def md_compares_b98 (σ : gM) (x1 x2 x3 x4 x5 x7 y0 : Int) : Option (gM × Int) := lim (fun n => gB (e_md_compares 227) rF tF n 98 [(2, 119), (0, x1), (0, x2), (0, x3), (0, x4), (1, x5), (9, 0), (1, x7), (9, 0), (9, 0), (9, 0)] [(0, y0)] σ)
theorem md_compares_b98_l (σ : gM) (x1 x2 x3 x4 x5 x7 y0 : Int) : Lm (fun n => gB (e_md_compares 227) rF tF n 98 [(2, 119), (0, x1), (0, x2), (0, x3), (0, x4), (1, x5), (9, 0), (1, x7), (9, 0), (9, 0), (9, 0)] [(0, y0)] σ) (md_compares_b98 σ x1 x2 x3 x4 x5 x7 y0) := .of fun n => gB_le (gMos_spec (mb_md_compares)) n _ _ _ σ
noncomputable def md_compares_b136 (σ : gM) (x2 x3 x4 x5 x7 y0 y1 y2 : Int) : Option (gM × Int) := lim (fun n => gB (e_md_compares 227) rF tF n 136 [(2, 119), (9, 0), (0, x2), (0, x3), (0, x4), (1, x5), (9, 0), (1, x7), (9, 0), (9, 0), (9, 0)] [(0, y0), (0, y1), (0, y2), (2, 119)] σ)
theorem md_compares_b136_l (σ : gM) (x2 x3 x4 x5 x7 y0 y1 y2 : Int) : Lm (fun n => gB (e_md_compares 227) rF tF n 136 [(2, 119), (9, 0), (0, x2), (0, x3), (0, x4), (1, x5), (9, 0), (1, x7), (9, 0), (9, 0), (9, 0)] [(0, y0), (0, y1), (0, y2), (2, 119)] σ) (md_compares_b136 σ x2 x3 x4 x5 x7 y0 y1 y2) := .of fun n => gB_le (gMos_spec (mb_md_compares)) n _ _ _ σ
noncomputable def md_compares_b139 (σ : gM) (x2 x3 x4 x5 x7 : Int) : Option (gM × Int) := lim (fun n => gB (e_md_compares 227) rF tF n 139 [(2, 119), (9, 0), (0, x2), (0, x3), (0, x4), (1, x5), (9, 0), (1, x7), (9, 0), (9, 0), (9, 0)] [] σ)
theorem md_compares_b139_l (σ : gM) (x2 x3 x4 x5 x7 : Int) : Lm (fun n => gB (e_md_compares 227) rF tF n 139 [(2, 119), (9, 0), (0, x2), (0, x3), (0, x4), (1, x5), (9, 0), (1, x7), (9, 0), (9, 0), (9, 0)] [] σ) (md_compares_b139 σ x2 x3 x4 x5 x7) := .of fun n => gB_le (gMos_spec (mb_md_compares)) n _ _ _ σ
noncomputable def md_compares_b166 (σ : gM) (x2 y0 : Int) : Option (gM × Int) := lim (fun n => gB (e_md_compares 227) rF tF n 166 [(2, 119), (9, 0), (0, x2), (9, 0), (9, 0), (9, 0), (9, 0), (9, 0), (9, 0), (9, 0), (9, 0)] [(0, y0)] σ)
theorem md_compares_b166_l (σ : gM) (x2 y0 : Int) : Lm (fun n => gB (e_md_compares 227) rF tF n 166 [(2, 119), (9, 0), (0, x2), (9, 0), (9, 0), (9, 0), (9, 0), (9, 0), (9, 0), (9, 0), (9, 0)] [(0, y0)] σ) (md_compares_b166 σ x2 y0) := .of fun n => gB_le (gMos_spec (mb_md_compares)) n _ _ _ σ
noncomputable def md_compares_b171 (σ : gM) (x2 x3 x4 x5 x7 : Int) : Option (gM × Int) := lim (fun n => gB (e_md_compares 227) rF tF n 171 [(2, 119), (9, 0), (0, x2), (0, x3), (0, x4), (1, x5), (9, 0), (1, x7), (9, 0), (9, 0), (9, 0)] [] σ)
theorem md_compares_b171_l (σ : gM) (x2 x3 x4 x5 x7 : Int) : Lm (fun n => gB (e_md_compares 227) rF tF n 171 [(2, 119), (9, 0), (0, x2), (0, x3), (0, x4), (1, x5), (9, 0), (1, x7), (9, 0), (9, 0), (9, 0)] [] σ) (md_compares_b171 σ x2 x3 x4 x5 x7) := .of fun n => gB_le (gMos_spec (mb_md_compares)) n _ _ _ σ
noncomputable def md_compares_b211 (σ : gM) (x2 : Int) : Option (gM × Int) := lim (fun n => gB (e_md_compares 227) rF tF n 211 [(2, 119), (9, 0), (0, x2), (9, 0), (9, 0), (9, 0), (9, 0), (9, 0), (9, 0), (9, 0), (9, 0)] [] σ)
theorem md_compares_b211_l (σ : gM) (x2 : Int) : Lm (fun n => gB (e_md_compares 227) rF tF n 211 [(2, 119), (9, 0), (0, x2), (9, 0), (9, 0), (9, 0), (9, 0), (9, 0), (9, 0), (9, 0), (9, 0)] [] σ) (md_compares_b211 σ x2) := .of fun n => gB_le (gMos_spec (mb_md_compares)) n _ _ _ σ
noncomputable def md_compares_b216 (σ : gM) (x2 y0 : Int) : Option (gM × Int) := lim (fun n => gB (e_md_compares 227) rF tF n 216 [(2, 119), (9, 0), (0, x2), (9, 0), (9, 0), (9, 0), (9, 0), (9, 0), (9, 0), (9, 0), (9, 0)] [(0, y0)] σ)
theorem md_compares_b216_l (σ : gM) (x2 y0 : Int) : Lm (fun n => gB (e_md_compares 227) rF tF n 216 [(2, 119), (9, 0), (0, x2), (9, 0), (9, 0), (9, 0), (9, 0), (9, 0), (9, 0), (9, 0), (9, 0)] [(0, y0)] σ) (md_compares_b216 σ x2 y0) := .of fun n => gB_le (gMos_spec (mb_md_compares)) n _ _ _ σ
noncomputable def md_compares_b218 (σ : gM) (x2 x10 : Int) : Option (gM × Int) := lim (fun n => gB (e_md_compares 227) rF tF n 218 [(2, 119), (9, 0), (0, x2), (9, 0), (9, 0), (9, 0), (9, 0), (9, 0), (9, 0), (9, 0), (0, x10)] [] σ)
theorem md_compares_b218_l (σ : gM) (x2 x10 : Int) : Lm (fun n => gB (e_md_compares 227) rF tF n 218 [(2, 119), (9, 0), (0, x2), (9, 0), (9, 0), (9, 0), (9, 0), (9, 0), (9, 0), (9, 0), (0, x10)] [] σ) (md_compares_b218 σ x2 x10) := .of fun n => gB_le (gMos_spec (mb_md_compares)) n _ _ _ σ
noncomputable def md_compares_b233 (σ : gM) (y0 y1 y2 : Int) : Option (gM × Int) := lim (fun n => gB (e_md_compares 227) rF tF n 233 [(9, 0), (9, 0), (9, 0), (9, 0), (9, 0), (9, 0), (9, 0), (9, 0), (9, 0), (9, 0), (9, 0)] [(0, y0), (0, y1), (0, y2), (2, 119)] σ)
theorem md_compares_b233_l (σ : gM) (y0 y1 y2 : Int) : Lm (fun n => gB (e_md_compares 227) rF tF n 233 [(9, 0), (9, 0), (9, 0), (9, 0), (9, 0), (9, 0), (9, 0), (9, 0), (9, 0), (9, 0), (9, 0)] [(0, y0), (0, y1), (0, y2), (2, 119)] σ) (md_compares_b233 σ y0 y1 y2) := .of fun n => gB_le (gMos_spec (mb_md_compares)) n _ _ _ σ
noncomputable def md_compares_b241 (σ : gM) (y0 y1 : Int) : Option (gM × Int) := lim (fun n => gB (e_md_compares 227) rF tF n 241 [(9, 0), (9, 0), (9, 0), (9, 0), (9, 0), (9, 0), (9, 0), (9, 0), (9, 0), (9, 0), (9, 0)] [(1, y0), (0, y1), (2, 119)] σ)
theorem md_compares_b241_l (σ : gM) (y0 y1 : Int) : Lm (fun n => gB (e_md_compares 227) rF tF n 241 [(9, 0), (9, 0), (9, 0), (9, 0), (9, 0), (9, 0), (9, 0), (9, 0), (9, 0), (9, 0), (9, 0)] [(1, y0), (0, y1), (2, 119)] σ) (md_compares_b241 σ y0 y1) := .of fun n => gB_le (gMos_spec (mb_md_compares)) n _ _ _ σ
theorem md_compares_e (σ : gM) (x1 x2 : Int) : md_compares σ x1 x2 =
  (if 0 ≤ w32 ((σ 119 125) - 2) ∧ w32 ((σ 119 125) - 2) < 24000 then
  (if 0 ≤ w32 ((σ 119 125) - 1) ∧ w32 ((σ 119 125) - 1) < 24000 then
    (if 0 ≤ w32 ((σ 119 125) - 2) ∧ w32 ((σ 119 125) - 2) < 24000 then
      (if 0 ≤ w32 ((σ 119 125) - 1) ∧ w32 ((σ 119 125) - 1) < 24000 then
        (if σ 221 (w32 ((σ 119 125) - 2)) = 2 then
          (if σ 221 (w32 ((σ 119 125) - 1)) = 2 then
            (md_compares_b98 σ x1 x2 (σ 221 (w32 ((σ 119 125) - 2))) (σ 221 (w32 ((σ 119 125) - 1))) (σ 222 (w32 ((σ 119 125) - 2))) (σ 222 (w32 ((σ 119 125) - 1))) 1)
            else
            (md_compares_b66 σ x1 x2 (σ 221 (w32 ((σ 119 125) - 2))) (σ 221 (w32 ((σ 119 125) - 1))) (σ 222 (w32 ((σ 119 125) - 2))) (σ 222 (w32 ((σ 119 125) - 1)))))
          else
          (md_compares_b66 σ x1 x2 (σ 221 (w32 ((σ 119 125) - 2))) (σ 221 (w32 ((σ 119 125) - 1))) (σ 222 (w32 ((σ 119 125) - 2))) (σ 222 (w32 ((σ 119 125) - 1)))))
        else none)
      else none)
    else none)
  else none) := Lm.eqn (md_compares_l ..) (.ite (.ite (.ite (.ite (.ite (.ite (md_compares_b98_l ..) (md_compares_b66_l ..)) (md_compares_b66_l ..)) .cst) .cst) .cst) .cst) fun n => (rfl)
theorem md_compares_b66_e (σ : gM) (x1 x2 x3 x4 x5 x7 : Int) : md_compares_b66 σ x1 x2 x3 x4 x5 x7 =
  (if x3 = 1 then
  (if x4 = 1 then
    (md_compares_b98 σ x1 x2 x3 x4 x5 x7 2)
    else
    (md_compares_b81 σ x1 x2 x3 x4 x5 x7))
  else
  (md_compares_b81 σ x1 x2 x3 x4 x5 x7)) := Lm.eqn (md_compares_b66_l ..) (.ite (.ite (md_compares_b98_l ..) (md_compares_b81_l ..)) (md_compares_b81_l ..)) fun n => (rfl)
theorem md_compares_b81_e (σ : gM) (x1 x2 x3 x4 x5 x7 : Int) : md_compares_b81 σ x1 x2 x3 x4 x5 x7 =
  (if x3 = 4 then
  (if x4 = 4 then
    (md_compares_b98 σ x1 x2 x3 x4 x5 x7 4)
    else
    (md_compares_b96 σ x1 x2 x3 x4 x5 x7))
  else
  (md_compares_b96 σ x1 x2 x3 x4 x5 x7)) := Lm.eqn (md_compares_b81_l ..) (.ite (.ite (md_compares_b98_l ..) (md_compares_b96_l ..)) (md_compares_b96_l ..)) fun n => (rfl)
theorem md_compares_b96_e (σ : gM) (x1 x2 x3 x4 x5 x7 : Int) : md_compares_b96 σ x1 x2 x3 x4 x5 x7 =
  (md_compares_b98 σ x1 x2 x3 x4 x5 x7 8) := Lm.eqn (md_compares_b96_l ..) (md_compares_b98_l ..) fun n => (rfl)
theorem md_compares_b98_e (σ : gM) (x1 x2 x3 x4 x5 x7 y0 : Int) : md_compares_b98 σ x1 x2 x3 x4 x5 x7 y0 =
  ((md_has σ x1 y0).bind fun p1 =>
  if p1.2 = 0 then
  ((md_has p1.1 x1 8).bind fun p2 =>
    if p2.2 = 0 then
    (if y0 = 8 then
      (md_compares_b136 p2.1 x2 x3 x4 x5 x7 1 y0 x1)
      else
      (md_compares_b136 p2.1 x2 x3 x4 x5 x7 0 y0 x1))
    else
    (md_compares_b139 p2.1 x2 x3 x4 x5 x7))
  else
  (md_compares_b139 p1.1 x2 x3 x4 x5 x7)) := Lm.eqn (md_compares_b98_l ..) (.bind (md_has_l ..) fun p1 => (.ite (.bind (md_has_l ..) fun p2 => (.ite (.ite (md_compares_b136_l ..) (md_compares_b136_l ..)) (md_compares_b139_l ..))) (md_compares_b139_l ..))) fun n => (rfl)
theorem md_compares_b136_e (σ : gM) (x2 x3 x4 x5 x7 y0 y1 y2 : Int) : md_compares_b136 σ x2 x3 x4 x5 x7 y0 y1 y2 =
  ((md_settle σ y2 y1 y0).bind fun p1 =>
  md_compares_b139 p1.1 x2 x3 x4 x5 x7) := Lm.eqn (md_compares_b136_l ..) (.bind (md_settle_l ..) fun p1 => (md_compares_b139_l ..)) fun n => (rfl)
theorem md_compares_b139_e (σ : gM) (x2 x3 x4 x5 x7 : Int) : md_compares_b139 σ x2 x3 x4 x5 x7 =
  ((md_isNumber σ x3).bind fun p1 =>
  if p1.2 = 0 then
  (md_compares_b171 p1.1 x2 x3 x4 x5 x7)
  else
  ((md_isNumber p1.1 x4).bind fun p2 =>
    if p2.2 = 0 then
    (md_compares_b171 p2.1 x2 x3 x4 x5 x7)
    else
    ((md_comparePair p2.1).bind fun p3 =>
      if p3.2 = 0 then
      (md_compares_b166 p3.1 x2 1)
      else
      (md_compares_b166 p3.1 x2 0)))) := Lm.eqn (md_compares_b139_l ..) (.bind (md_isNumber_l ..) fun p1 => (.ite (md_compares_b171_l ..) (.bind (md_isNumber_l ..) fun p2 => (.ite (md_compares_b171_l ..) (.bind (md_comparePair_l ..) fun p3 => (.ite (md_compares_b166_l ..) (md_compares_b166_l ..))))))) fun n => (rfl)
theorem md_compares_b166_e (σ : gM) (x2 y0 : Int) : md_compares_b166 σ x2 y0 =
  (md_compares_b218 σ x2 y0) := Lm.eqn (md_compares_b166_l ..) (md_compares_b218_l ..) fun n => (rfl)
theorem md_compares_b171_e (σ : gM) (x2 x3 x4 x5 x7 : Int) : md_compares_b171 σ x2 x3 x4 x5 x7 =
  (if x3 = x4 then
  (if x3 = 4 then
    ((md_isSame σ x5 x7).bind fun p1 =>
      md_compares_b216 p1.1 x2 p1.2)
    else
    (if x3 = 0 then
      (md_compares_b211 σ x2)
      else
      (if l_cmp x5 x7 = 0 then
        (md_compares_b211 σ x2)
        else
        (md_compares_b216 σ x2 0))))
  else
  (md_compares_b218 σ x2 0)) := Lm.eqn (md_compares_b171_l ..) (.ite (.ite (.bind (md_isSame_l ..) fun p1 => (md_compares_b216_l ..)) (.ite (md_compares_b211_l ..) (.ite (md_compares_b211_l ..) (md_compares_b216_l ..)))) (md_compares_b218_l ..)) fun n => (rfl)
theorem md_compares_b211_e (σ : gM) (x2 : Int) : md_compares_b211 σ x2 =
  (md_compares_b216 σ x2 1) := Lm.eqn (md_compares_b211_l ..) (md_compares_b216_l ..) fun n => (rfl)
theorem md_compares_b216_e (σ : gM) (x2 y0 : Int) : md_compares_b216 σ x2 y0 =
  (md_compares_b218 σ x2 y0) := Lm.eqn (md_compares_b216_l ..) (md_compares_b218_l ..) fun n => (rfl)
theorem md_compares_b218_e (σ : gM) (x2 x10 : Int) : md_compares_b218 σ x2 x10 =
  (if x2 = 16 then
  (md_compares_b233 σ 1 x10 1)
  else
  (md_compares_b233 σ 0 x10 1)) := Lm.eqn (md_compares_b218_l ..) (.ite (md_compares_b233_l ..) (md_compares_b233_l ..)) fun n => (rfl)
theorem md_compares_b233_e (σ : gM) (y0 y1 y2 : Int) : md_compares_b233 σ y0 y1 y2 =
  (if y1 = y0 then
  (md_compares_b241 σ 1 y2)
  else
  (md_compares_b241 σ 0 y2)) := Lm.eqn (md_compares_b233_l ..) (.ite (md_compares_b241_l ..) (md_compares_b241_l ..)) fun n => (rfl)
theorem md_compares_b241_e (σ : gM) (y0 y1 : Int) : md_compares_b241 σ y0 y1 =
  ((md_pairBecomes σ y1 y0).bind fun p1 =>
  some (p1.1, 0)) := Lm.eqn (md_compares_b241_l ..) (.bind (md_pairBecomes_l ..) fun p1 => .cst) fun n => (rfl)
def k_md_reads : List gC := [(0, 2, .bipush 12, [], none), (2, 1, .aload_n 0, [], none), (3, 3, .getfield 685, [], none), (6, 1, .iconst 1, [], none),
  (7, 1, .isub, [], none), (8, 1, .imul, [], none), (9, 1, .aload_n 0, [], none), (10, 3, .getfield 185, [], none),
  (13, 1, .iload_n 1, [], none), (14, 1, .iaload, [], none), (15, 1, .iadd, [], none), (16, 1, .istore_n 2, [], none),
  (17, 1, .aload_n 0, [], none), (18, 3, .getfield 313, [], none), (21, 1, .iload_n 2, [], none), (22, 1, .iaload, [], none),
  (23, 1, .istore_n 3, [], none), (24, 1, .iload_n 3, [], none), (25, 1, .iconst 3, [], none), (26, 3, .if_icmp .ge 12, [(0, 38)], none),
  (29, 1, .aload_n 0, [], none), (30, 1, .iload_n 1, [], none), (31, 1, .iload_n 3, [], none), (32, 3, .invokevirtual 749, [], none),
  (35, 3, .ifCond .ne 37, [(0, 72)], none), (38, 1, .aload_n 0, [], some [true, true, true, true]), (39, 1, .iload_n 1, [], none), (40, 1, .iconst 4, [], none),
  (41, 3, .invokevirtual 749, [], none), (44, 3, .ifCond .ne 28, [(0, 72)], none), (47, 1, .aload_n 0, [], none), (48, 1, .iload_n 1, [], none),
  (49, 1, .iload_n 3, [], none), (50, 1, .iconst 3, [], none), (51, 3, .if_icmp .ne 7, [(0, 58)], none), (54, 1, .iconst 4, [], none),
  (55, 3, .goto 4, [(0, 59)], none), (58, 1, .iload_n 3, [], none), (59, 1, .iload_n 3, [], some [true, true, true, true]), (60, 1, .iconst 3, [], none),
  (61, 3, .if_icmp .ne 7, [(0, 68)], none), (64, 1, .iconst 1, [], none), (65, 3, .goto 4, [(0, 69)], none), (68, 1, .iconst 0, [], none),
  (69, 3, .invokevirtual 758, [], some [true, true, true, false]), (72, 1, .aload_n 0, [], some [true, true, true, false]), (73, 1, .iload_n 1, [], none), (74, 1, .iconst 4, [], none),
  (75, 3, .invokevirtual 749, [], none), (78, 3, .ifCond .eq 10, [(0, 88)], none), (81, 1, .aload_n 0, [], none), (82, 3, .getfield 313, [], none),
  (85, 1, .iload_n 2, [], none), (86, 1, .iconst 3, [], none), (87, 1, .iastore, [], none), (88, 1, .aload_n 0, [], some [true, false, true, false]),
  (89, 1, .aload_n 0, [], none), (90, 3, .getfield 316, [], none), (93, 1, .iload_n 2, [], none), (94, 1, .iaload, [], none),
  (95, 1, .aload_n 0, [], none), (96, 3, .getfield 319, [], none), (99, 1, .iload_n 2, [], none), (100, 1, .laload, [], none),
  (101, 3, .invokevirtual 762, [], none), (104, 1, .return_, [], none)]
def e_md_reads (m : Nat) : gE := (k_md_reads, f_md, c_md, [(749, 3, 20, 0, .inl (fn_md_has m)), (758, 4, 20, 5, .inl (fn_md_settle m)), (762, 3, 20, 5, .inl (fn_md_push m))], [], (m, 19786432117848362724840201681571775202810507928096947193125044487431778008522549373625312084899443599167813751235977368565405617294081564593606740513639473640921417366051487744), 5)
theorem ok_md_reads : gchk cX10_reads 4 k_md_reads = true := by decide +kernel
def fn_md_reads (m : Nat) : gFn := gF (e_md_reads m) 4
theorem mo_md_reads (m : Nat) : gMo (.inl (fn_md_reads m)) := gF_mo (E := e_md_reads m) ⟨mo_md_has m, ⟨mo_md_settle m, ⟨mo_md_push m, trivial⟩⟩⟩
noncomputable def md_reads (σ : gM) (x1 : Int) : Option (gM × Int) := lim (fun n => fn_md_reads 227 n [(2, 119), (0, x1)] σ)
theorem md_reads_l (σ : gM) (x1 : Int) : Lm (fun n => fn_md_reads 227 n [(2, 119), (0, x1)] σ) (md_reads σ x1) := .of fun n => mo_md_reads 227 n [(2, 119), (0, x1)] σ
theorem mb_md_reads : gMos (e_md_reads 227).2.2.2.1 := ⟨mo_md_has 227, ⟨mo_md_settle 227, ⟨mo_md_push 227, trivial⟩⟩⟩
noncomputable def md_reads_b38 (σ : gM) (x1 x2 x3 : Int) : Option (gM × Int) := lim (fun n => gB (e_md_reads 227) rF tF n 38 [(2, 119), (0, x1), (0, x2), (0, x3)] [] σ)
theorem md_reads_b38_l (σ : gM) (x1 x2 x3 : Int) : Lm (fun n => gB (e_md_reads 227) rF tF n 38 [(2, 119), (0, x1), (0, x2), (0, x3)] [] σ) (md_reads_b38 σ x1 x2 x3) := .of fun n => gB_le (gMos_spec (mb_md_reads)) n _ _ _ σ
noncomputable def md_reads_b59 (σ : gM) (x1 x2 x3 y0 y1 : Int) : Option (gM × Int) := lim (fun n => gB (e_md_reads 227) rF tF n 59 [(2, 119), (0, x1), (0, x2), (0, x3)] [(0, y0), (0, y1), (2, 119)] σ)
theorem md_reads_b59_l (σ : gM) (x1 x2 x3 y0 y1 : Int) : Lm (fun n => gB (e_md_reads 227) rF tF n 59 [(2, 119), (0, x1), (0, x2), (0, x3)] [(0, y0), (0, y1), (2, 119)] σ) (md_reads_b59 σ x1 x2 x3 y0 y1) := .of fun n => gB_le (gMos_spec (mb_md_reads)) n _ _ _ σ
noncomputable def md_reads_b69 (σ : gM) (x1 x2 y0 y1 y2 : Int) : Option (gM × Int) := lim (fun n => gB (e_md_reads 227) rF tF n 69 [(2, 119), (0, x1), (0, x2), (9, 0)] [(0, y0), (0, y1), (0, y2), (2, 119)] σ)
theorem md_reads_b69_l (σ : gM) (x1 x2 y0 y1 y2 : Int) : Lm (fun n => gB (e_md_reads 227) rF tF n 69 [(2, 119), (0, x1), (0, x2), (9, 0)] [(0, y0), (0, y1), (0, y2), (2, 119)] σ) (md_reads_b69 σ x1 x2 y0 y1 y2) := .of fun n => gB_le (gMos_spec (mb_md_reads)) n _ _ _ σ
noncomputable def md_reads_b72 (σ : gM) (x1 x2 : Int) : Option (gM × Int) := lim (fun n => gB (e_md_reads 227) rF tF n 72 [(2, 119), (0, x1), (0, x2), (9, 0)] [] σ)
theorem md_reads_b72_l (σ : gM) (x1 x2 : Int) : Lm (fun n => gB (e_md_reads 227) rF tF n 72 [(2, 119), (0, x1), (0, x2), (9, 0)] [] σ) (md_reads_b72 σ x1 x2) := .of fun n => gB_le (gMos_spec (mb_md_reads)) n _ _ _ σ
noncomputable def md_reads_b88 (σ : gM) (x2 : Int) : Option (gM × Int) := lim (fun n => gB (e_md_reads 227) rF tF n 88 [(2, 119), (9, 0), (0, x2), (9, 0)] [] σ)
theorem md_reads_b88_l (σ : gM) (x2 : Int) : Lm (fun n => gB (e_md_reads 227) rF tF n 88 [(2, 119), (9, 0), (0, x2), (9, 0)] [] σ) (md_reads_b88 σ x2) := .of fun n => gB_le (gMos_spec (mb_md_reads)) n _ _ _ σ
theorem md_reads_e (σ : gM) (x1 : Int) : md_reads σ x1 =
  (if 0 ≤ x1 ∧ x1 < 20000 then
  (if 0 ≤ w32 ((w32 (12 * (w32 ((σ 119 121) - 1)))) + (σ 175 x1)) ∧ w32 ((w32 (12 * (w32 ((σ 119 121) - 1)))) + (σ 175 x1)) < 720 then
    (if σ 215 (w32 ((w32 (12 * (w32 ((σ 119 121) - 1)))) + (σ 175 x1))) < 3 then
      ((md_has σ x1 (σ 215 (w32 ((w32 (12 * (w32 ((σ 119 121) - 1)))) + (σ 175 x1))))).bind fun p1 =>
        if p1.2 = 0 then
        (md_reads_b38 p1.1 x1 (w32 ((w32 (12 * (w32 ((σ 119 121) - 1)))) + (σ 175 x1))) (σ 215 (w32 ((w32 (12 * (w32 ((σ 119 121) - 1)))) + (σ 175 x1)))))
        else
        (md_reads_b72 p1.1 x1 (w32 ((w32 (12 * (w32 ((σ 119 121) - 1)))) + (σ 175 x1)))))
      else
      (md_reads_b38 σ x1 (w32 ((w32 (12 * (w32 ((σ 119 121) - 1)))) + (σ 175 x1))) (σ 215 (w32 ((w32 (12 * (w32 ((σ 119 121) - 1)))) + (σ 175 x1))))))
    else none)
  else none) := Lm.eqn (md_reads_l ..) (.ite (.ite (.ite (.bind (md_has_l ..) fun p1 => (.ite (md_reads_b38_l ..) (md_reads_b72_l ..))) (md_reads_b38_l ..)) .cst) .cst) fun n => (rfl)
theorem md_reads_b38_e (σ : gM) (x1 x2 x3 : Int) : md_reads_b38 σ x1 x2 x3 =
  ((md_has σ x1 4).bind fun p1 =>
  if p1.2 = 0 then
  (if x3 = 3 then
    (md_reads_b59 p1.1 x1 x2 x3 4 x1)
    else
    (md_reads_b59 p1.1 x1 x2 x3 x3 x1))
  else
  (md_reads_b72 p1.1 x1 x2)) := Lm.eqn (md_reads_b38_l ..) (.bind (md_has_l ..) fun p1 => (.ite (.ite (md_reads_b59_l ..) (md_reads_b59_l ..)) (md_reads_b72_l ..))) fun n => (rfl)
theorem md_reads_b59_e (σ : gM) (x1 x2 x3 y0 y1 : Int) : md_reads_b59 σ x1 x2 x3 y0 y1 =
  (if x3 = 3 then
  (md_reads_b69 σ x1 x2 1 y0 y1)
  else
  (md_reads_b69 σ x1 x2 0 y0 y1)) := Lm.eqn (md_reads_b59_l ..) (.ite (md_reads_b69_l ..) (md_reads_b69_l ..)) fun n => (rfl)
theorem md_reads_b69_e (σ : gM) (x1 x2 y0 y1 y2 : Int) : md_reads_b69 σ x1 x2 y0 y1 y2 =
  ((md_settle σ y2 y1 y0).bind fun p1 =>
  md_reads_b72 p1.1 x1 x2) := Lm.eqn (md_reads_b69_l ..) (.bind (md_settle_l ..) fun p1 => (md_reads_b72_l ..)) fun n => (rfl)
theorem md_reads_b72_e (σ : gM) (x1 x2 : Int) : md_reads_b72 σ x1 x2 =
  ((md_has σ x1 4).bind fun p1 =>
  if p1.2 = 0 then
  (md_reads_b88 p1.1 x2)
  else
  (if 0 ≤ x2 ∧ x2 < 720 then
    (md_reads_b88 (gW p1.1 215 x2 3) x2)
    else none)) := Lm.eqn (md_reads_b72_l ..) (.bind (md_has_l ..) fun p1 => (.ite (md_reads_b88_l ..) (.ite (md_reads_b88_l ..) .cst))) fun n => (rfl)
theorem md_reads_b88_e (σ : gM) (x2 : Int) : md_reads_b88 σ x2 =
  (if 0 ≤ x2 ∧ x2 < 720 then
  (if 0 ≤ x2 ∧ x2 < 720 then
    ((md_push σ (σ 216 x2) (σ 217 x2)).bind fun p1 =>
      some (p1.1, 0))
    else none)
  else none) := Lm.eqn (md_reads_b88_l ..) (.ite (.ite (.bind (md_push_l ..) fun p1 => .cst) .cst) .cst) fun n => (rfl)
def k_md_begun : List gC := [(0, 1, .aload_n 0, [], none), (1, 3, .getfield 326, [], none), (4, 1, .iload_n 1, [], none), (5, 1, .dup2, [], none),
  (6, 1, .iaload, [], none), (7, 1, .iconst 1, [], none), (8, 1, .iadd, [], none), (9, 1, .iastore, [], none),
  (10, 1, .aload_n 0, [], none), (11, 3, .getfield 326, [], none), (14, 1, .iload_n 1, [], none), (15, 1, .iaload, [], none),
  (16, 1, .iconst 2, [], none), (17, 3, .if_icmp .ne 5, [(0, 22)], none), (20, 1, .iconst 1, [], none), (21, 1, .ireturn, [], none),
  (22, 1, .aload_n 0, [], none), (23, 1, .iload_n 2, [], none), (24, 1, .iconst (-1), [], none), (25, 3, .invokevirtual 746, [], none),
  (28, 1, .iconst 0, [], none), (29, 1, .ireturn, [], none)]
def e_md_begun (m : Nat) : gE := (k_md_begun, f_md, c_md, [(746, 3, 20, 5, .inl (fn_md_task m))], [], (m, 7914572847139345089936080672628710081124203171238778877250017794972711203409019749450124833959777439667125488581260625578844908639520813861733581892323252588706531829465743360), 6)
theorem ok_md_begun : gchk cX10_begun 3 k_md_begun = true := by decide +kernel
def fn_md_begun (m : Nat) : gFn := gF (e_md_begun m) 3
theorem mo_md_begun (m : Nat) : gMo (.inl (fn_md_begun m)) := gF_mo (E := e_md_begun m) ⟨mo_md_task m, trivial⟩
noncomputable def md_begun (σ : gM) (x1 x2 : Int) : Option (gM × Int) := lim (fun n => fn_md_begun 227 n [(2, 119), (0, x1), (0, x2)] σ)
theorem md_begun_l (σ : gM) (x1 x2 : Int) : Lm (fun n => fn_md_begun 227 n [(2, 119), (0, x1), (0, x2)] σ) (md_begun σ x1 x2) := .of fun n => mo_md_begun 227 n [(2, 119), (0, x1), (0, x2)] σ
theorem md_begun_e (σ : gM) (x1 x2 : Int) : md_begun σ x1 x2 =
  (if 0 ≤ x1 ∧ x1 < 42000 then
  (if 0 ≤ x1 ∧ x1 < 42000 then
    (if 0 ≤ x1 ∧ x1 < 42000 then
      (if (gW σ 219 x1 (w32 ((σ 219 x1) + 1))) 219 x1 = 2 then
        (some (gW σ 219 x1 (w32 ((σ 219 x1) + 1)), 1))
        else
        ((md_task (gW σ 219 x1 (w32 ((σ 219 x1) + 1))) x2 (-1)).bind fun p1 =>
          some (p1.1, 0)))
      else none)
    else none)
  else none) := Lm.eqn (md_begun_l ..) (.ite (.ite (.ite (.ite .cst (.bind (md_task_l ..) fun p1 => .cst)) .cst) .cst) .cst) fun n => (rfl)
def k_md_truth : List gC := [(0, 1, .aload_n 0, [], none), (1, 3, .getfield 332, [], none), (4, 1, .aload_n 0, [], none), (5, 3, .getfield 707, [], none),
  (8, 1, .iconst 1, [], none), (9, 1, .isub, [], none), (10, 1, .iaload, [], none), (11, 1, .iconst 1, [], none),
  (12, 3, .if_icmp .eq 10, [(0, 22)], none), (15, 1, .aload_n 0, [], none), (16, 1, .iconst 1, [], none), (17, 1, .iload_n 1, [], none),
  (18, 3, .invokevirtual 726, [], none), (21, 1, .athrow, [], none), (22, 1, .aload_n 0, [], none), (23, 1, .dup, [], none),
  (24, 3, .getfield 707, [], none), (27, 1, .iconst 1, [], none), (28, 1, .isub, [], none), (29, 3, .putfield 707, [], none),
  (32, 1, .aload_n 0, [], none), (33, 3, .getfield 335, [], none), (36, 1, .aload_n 0, [], none), (37, 3, .getfield 707, [], none),
  (40, 1, .laload, [], none), (41, 1, .lconst 1, [], none), (42, 1, .lcmp, [], none), (43, 3, .ifCond .ne 7, [(0, 50)], none),
  (46, 1, .iconst 1, [], none), (47, 3, .goto 4, [(0, 51)], none), (50, 1, .iconst 0, [], none), (51, 1, .ireturn, [], none)]
def e_md_truth (m : Nat) : gE := (k_md_truth, f_md, c_md, [(726, 3, 20, 2, .inl (fn_md_error m))], [], (m, 902261304573885340252713196679672949248159161521220792006502028626889077188628251437314231071414628122052305362106876309953779645151028413961608373811706276559781504798454448128), 6)
theorem ok_md_truth : gchk cX10_truth 2 k_md_truth = true := by decide +kernel
def fn_md_truth (m : Nat) : gFt := gG (e_md_truth m) 2
theorem mo_md_truth (m : Nat) : gMo (.inr (fn_md_truth m)) := gG_mo (E := e_md_truth m) ⟨mo_md_error m, trivial⟩
noncomputable def md_truth (σ : gM) (x1 : Int) : Option (gM × Option Int) := lim (fun n => fn_md_truth 227 n [(2, 119), (0, x1)] σ)
theorem md_truth_l (σ : gM) (x1 : Int) : Lm (fun n => fn_md_truth 227 n [(2, 119), (0, x1)] σ) (md_truth σ x1) := .of fun n => mo_md_truth 227 n [(2, 119), (0, x1)] σ
theorem md_truth_e (σ : gM) (x1 : Int) : md_truth σ x1 =
  (if 0 ≤ w32 ((σ 119 125) - 1) ∧ w32 ((σ 119 125) - 1) < 24000 then
  (if σ 221 (w32 ((σ 119 125) - 1)) = 1 then
    (if 0 ≤ w32 ((σ 119 125) - 1) ∧ w32 ((σ 119 125) - 1) < 24000 then
      (if l_cmp (σ 222 (w32 ((σ 119 125) - 1))) 1 = 0 then
        (some (gW σ 119 125 (w32 ((σ 119 125) - 1)), some 1))
        else
        (some (gW σ 119 125 (w32 ((σ 119 125) - 1)), some 0)))
      else none)
    else
    ((md_error σ 1 x1).bind fun p1 =>
      gthr p1.1 p1.2))
  else none) := Lm.eqn (md_truth_l ..) (.ite (.ite (.ite (.ite .cst .cst) .cst) (.bind (md_error_l ..) fun p1 => .cst)) .cst) fun n => (rfl)
def k_md_eitherOrBoth : List gC := [(0, 1, .aload_n 0, [], none), (1, 3, .getfield 326, [], none), (4, 1, .iload_n 1, [], none), (5, 1, .iaload, [], none),
  (6, 2, .istore 4, [], none), (8, 1, .aload_n 0, [], none), (9, 3, .getfield 326, [], none), (12, 1, .iload_n 1, [], none),
  (13, 1, .dup2, [], none), (14, 1, .iaload, [], none), (15, 1, .iconst 1, [], none), (16, 1, .iadd, [], none),
  (17, 1, .iastore, [], none), (18, 2, .iload 4, [], none), (20, 3, .ifCond .ne 17, [(0, 37)], none), (23, 1, .aload_n 0, [], none),
  (24, 1, .aload_n 0, [], none), (25, 3, .getfield 170, [], none), (28, 1, .iload_n 2, [], none), (29, 1, .iaload, [], none),
  (30, 1, .iconst (-1), [], none), (31, 3, .invokevirtual 746, [], none), (34, 3, .goto 148, [(0, 182)], none), (37, 2, .iload 4, [], none),
  (39, 1, .iconst 1, [], none), (40, 3, .if_icmp .ne 110, [(0, 150)], none), (43, 1, .aload_n 0, [], none), (44, 1, .iload_n 2, [], none),
  (45, 3, .invokevirtual 808, [], none), (48, 2, .istore 5, [], none), (50, 2, .iload 5, [], none), (52, 1, .iload_n 3, [], none),
  (53, 2, .bipush 18, [], none), (55, 3, .if_icmp .ne 7, [(0, 62)], none), (58, 1, .iconst 1, [], none), (59, 3, .goto 4, [(0, 63)], none),
  (62, 1, .iconst 0, [], none), (63, 3, .if_icmp .ne 7, [(0, 70)], some [true, false, true, false, false, true, false, false]), (66, 1, .iconst 1, [], none), (67, 3, .goto 4, [(0, 71)], none),
  (70, 1, .iconst 0, [], none), (71, 2, .istore 6, [], some [true, false, true, false, false, true, false, false]), (73, 2, .iload 6, [], none), (75, 3, .ifCond .eq 7, [(0, 82)], none),
  (78, 1, .iconst 1, [], none), (79, 3, .goto 4, [(0, 83)], none), (82, 1, .iconst 2, [], none), (83, 2, .istore 7, [], some [true, false, true, false, false, true, true, false]),
  (85, 1, .aload_n 0, [], none), (86, 1, .iload_n 2, [], none), (87, 2, .iload 7, [], none), (89, 3, .invokevirtual 749, [], none),
  (92, 3, .ifCond .ne 11, [(0, 103)], none), (95, 1, .aload_n 0, [], none), (96, 1, .iload_n 2, [], none), (97, 2, .iload 7, [], none),
  (99, 1, .iconst 0, [], none), (100, 3, .invokevirtual 758, [], none), (103, 2, .iload 6, [], some [true, false, true, false, false, true, true, false]), (105, 3, .ifCond .eq 17, [(0, 122)], none),
  (108, 1, .aload_n 0, [], none), (109, 1, .aload_n 0, [], none), (110, 3, .getfield 173, [], none), (113, 1, .iload_n 2, [], none),
  (114, 1, .iaload, [], none), (115, 1, .iconst (-1), [], none), (116, 3, .invokevirtual 746, [], none), (119, 3, .goto 28, [(0, 147)], none),
  (122, 1, .aload_n 0, [], none), (123, 1, .iconst 1, [], none), (124, 2, .iload 5, [], none), (126, 3, .ifCond .eq 7, [(0, 133)], none),
  (129, 1, .lconst 1, [], none), (130, 3, .goto 4, [(0, 134)], none), (133, 1, .lconst 0, [], none), (134, 3, .invokevirtual 762, [], some [true, false, false, false, false, false, false, false]),
  (137, 1, .aload_n 0, [], none), (138, 1, .dup, [], none), (139, 3, .getfield 710, [], none), (142, 1, .iconst 1, [], none),
  (143, 1, .isub, [], none), (144, 3, .putfield 710, [], none), (147, 3, .goto 35, [(0, 182)], some [false, false, false, false, false, false, false, false]), (150, 1, .aload_n 0, [], none),
  (151, 3, .getfield 332, [], none), (154, 1, .aload_n 0, [], none), (155, 3, .getfield 707, [], none), (158, 1, .iconst 1, [], none),
  (159, 1, .isub, [], none), (160, 1, .iaload, [], none), (161, 1, .iconst 1, [], none), (162, 3, .if_icmp .eq 10, [(0, 172)], none),
  (165, 1, .aload_n 0, [], none), (166, 1, .iconst 1, [], none), (167, 1, .iload_n 2, [], none), (168, 3, .invokevirtual 726, [], none),
  (171, 1, .athrow, [], none), (172, 1, .aload_n 0, [], none), (173, 1, .dup, [], none), (174, 3, .getfield 710, [], none),
  (177, 1, .iconst 1, [], none), (178, 1, .isub, [], none), (179, 3, .putfield 710, [], none), (182, 1, .return_, [], none)]
def e_md_eitherOrBoth (m : Nat) : gE := (k_md_eitherOrBoth, f_md, c_md, [(746, 3, 20, 5, .inl (fn_md_task m)), (808, 2, 20, 0, .inr (fn_md_truth m)), (749, 3, 20, 0, .inl (fn_md_has m)), (758, 4, 20, 5, .inl (fn_md_settle m)), (762, 3, 20, 5, .inl (fn_md_push m)), (726, 3, 20, 2, .inl (fn_md_error m))], [], (m, 914133163844594357887617317688616014369845466278078960322377055319348143993741781061489418322354294281552993630606425240545264215540039701137190526131700292342472064949299445760), 5)
theorem ok_md_eitherOrBoth : gchk cX10_eitherOrBoth 8 k_md_eitherOrBoth = true := by decide +kernel
def fn_md_eitherOrBoth (m : Nat) : gFt := gG (e_md_eitherOrBoth m) 8
theorem mo_md_eitherOrBoth (m : Nat) : gMo (.inr (fn_md_eitherOrBoth m)) := gG_mo (E := e_md_eitherOrBoth m) ⟨mo_md_task m, ⟨mo_md_truth m, ⟨mo_md_has m, ⟨mo_md_settle m, ⟨mo_md_push m, ⟨mo_md_error m, trivial⟩⟩⟩⟩⟩⟩
noncomputable def md_eitherOrBoth (σ : gM) (x1 x2 x3 : Int) : Option (gM × Option Int) := lim (fun n => fn_md_eitherOrBoth 227 n [(2, 119), (0, x1), (0, x2), (0, x3)] σ)
theorem md_eitherOrBoth_l (σ : gM) (x1 x2 x3 : Int) : Lm (fun n => fn_md_eitherOrBoth 227 n [(2, 119), (0, x1), (0, x2), (0, x3)] σ) (md_eitherOrBoth σ x1 x2 x3) := .of fun n => mo_md_eitherOrBoth 227 n [(2, 119), (0, x1), (0, x2), (0, x3)] σ
theorem mb_md_eitherOrBoth : gMos (e_md_eitherOrBoth 227).2.2.2.1 := ⟨mo_md_task 227, ⟨mo_md_truth 227, ⟨mo_md_has 227, ⟨mo_md_settle 227, ⟨mo_md_push 227, ⟨mo_md_error 227, trivial⟩⟩⟩⟩⟩⟩
noncomputable def md_eitherOrBoth_b63 (σ : gM) (x2 x5 y0 y1 : Int) : Option (gM × Option Int) := lim (fun n => gB (e_md_eitherOrBoth 227) rG gthr n 63 [(2, 119), (9, 0), (0, x2), (9, 0), (9, 0), (0, x5), (9, 0), (9, 0)] [(0, y0), (0, y1)] σ)
theorem md_eitherOrBoth_b63_l (σ : gM) (x2 x5 y0 y1 : Int) : Lm (fun n => gB (e_md_eitherOrBoth 227) rG gthr n 63 [(2, 119), (9, 0), (0, x2), (9, 0), (9, 0), (0, x5), (9, 0), (9, 0)] [(0, y0), (0, y1)] σ) (md_eitherOrBoth_b63 σ x2 x5 y0 y1) := .of fun n => gB_le (gMos_spec (mb_md_eitherOrBoth)) n _ _ _ σ
noncomputable def md_eitherOrBoth_b71 (σ : gM) (x2 x5 y0 : Int) : Option (gM × Option Int) := lim (fun n => gB (e_md_eitherOrBoth 227) rG gthr n 71 [(2, 119), (9, 0), (0, x2), (9, 0), (9, 0), (0, x5), (9, 0), (9, 0)] [(0, y0)] σ)
theorem md_eitherOrBoth_b71_l (σ : gM) (x2 x5 y0 : Int) : Lm (fun n => gB (e_md_eitherOrBoth 227) rG gthr n 71 [(2, 119), (9, 0), (0, x2), (9, 0), (9, 0), (0, x5), (9, 0), (9, 0)] [(0, y0)] σ) (md_eitherOrBoth_b71 σ x2 x5 y0) := .of fun n => gB_le (gMos_spec (mb_md_eitherOrBoth)) n _ _ _ σ
noncomputable def md_eitherOrBoth_b83 (σ : gM) (x2 x5 x6 y0 : Int) : Option (gM × Option Int) := lim (fun n => gB (e_md_eitherOrBoth 227) rG gthr n 83 [(2, 119), (9, 0), (0, x2), (9, 0), (9, 0), (0, x5), (0, x6), (9, 0)] [(0, y0)] σ)
theorem md_eitherOrBoth_b83_l (σ : gM) (x2 x5 x6 y0 : Int) : Lm (fun n => gB (e_md_eitherOrBoth 227) rG gthr n 83 [(2, 119), (9, 0), (0, x2), (9, 0), (9, 0), (0, x5), (0, x6), (9, 0)] [(0, y0)] σ) (md_eitherOrBoth_b83 σ x2 x5 x6 y0) := .of fun n => gB_le (gMos_spec (mb_md_eitherOrBoth)) n _ _ _ σ
noncomputable def md_eitherOrBoth_b103 (σ : gM) (x2 x5 x6 : Int) : Option (gM × Option Int) := lim (fun n => gB (e_md_eitherOrBoth 227) rG gthr n 103 [(2, 119), (9, 0), (0, x2), (9, 0), (9, 0), (0, x5), (0, x6), (9, 0)] [] σ)
theorem md_eitherOrBoth_b103_l (σ : gM) (x2 x5 x6 : Int) : Lm (fun n => gB (e_md_eitherOrBoth 227) rG gthr n 103 [(2, 119), (9, 0), (0, x2), (9, 0), (9, 0), (0, x5), (0, x6), (9, 0)] [] σ) (md_eitherOrBoth_b103 σ x2 x5 x6) := .of fun n => gB_le (gMos_spec (mb_md_eitherOrBoth)) n _ _ _ σ
noncomputable def md_eitherOrBoth_b134 (σ : gM) (y0 y1 : Int) : Option (gM × Option Int) := lim (fun n => gB (e_md_eitherOrBoth 227) rG gthr n 134 [(2, 119), (9, 0), (9, 0), (9, 0), (9, 0), (9, 0), (9, 0), (9, 0)] [(1, y0), (0, y1), (2, 119)] σ)
theorem md_eitherOrBoth_b134_l (σ : gM) (y0 y1 : Int) : Lm (fun n => gB (e_md_eitherOrBoth 227) rG gthr n 134 [(2, 119), (9, 0), (9, 0), (9, 0), (9, 0), (9, 0), (9, 0), (9, 0)] [(1, y0), (0, y1), (2, 119)] σ) (md_eitherOrBoth_b134 σ y0 y1) := .of fun n => gB_le (gMos_spec (mb_md_eitherOrBoth)) n _ _ _ σ
noncomputable def md_eitherOrBoth_b147 (σ : gM) : Option (gM × Option Int) := lim (fun n => gB (e_md_eitherOrBoth 227) rG gthr n 147 [(9, 0), (9, 0), (9, 0), (9, 0), (9, 0), (9, 0), (9, 0), (9, 0)] [] σ)
theorem md_eitherOrBoth_b147_l (σ : gM) : Lm (fun n => gB (e_md_eitherOrBoth 227) rG gthr n 147 [(9, 0), (9, 0), (9, 0), (9, 0), (9, 0), (9, 0), (9, 0), (9, 0)] [] σ) (md_eitherOrBoth_b147 σ) := .of fun n => gB_le (gMos_spec (mb_md_eitherOrBoth)) n _ _ _ σ
theorem md_eitherOrBoth_e (σ : gM) (x1 x2 x3 : Int) : md_eitherOrBoth σ x1 x2 x3 =
  (if 0 ≤ x1 ∧ x1 < 42000 then
  (if 0 ≤ x1 ∧ x1 < 42000 then
    (if 0 ≤ x1 ∧ x1 < 42000 then
      (if σ 219 x1 = 0 then
        (if 0 ≤ x2 ∧ x2 < 20000 then
          ((md_task (gW σ 219 x1 (w32 ((σ 219 x1) + 1))) (σ 170 x2) (-1)).bind fun p4 =>
            some (p4.1, some 0))
          else none)
        else
        (if σ 219 x1 = 1 then
          ((md_truth (gW σ 219 x1 (w32 ((σ 219 x1) + 1))) x2).bind fun p2 => gtry p2.2 (fun v3 =>
            if x3 = 18 then
              (md_eitherOrBoth_b63 p2.1 x2 v3 1 v3)
              else
              (md_eitherOrBoth_b63 p2.1 x2 v3 0 v3))
            (some (p2.1, none)))
          else
          (if 0 ≤ w32 ((σ 119 125) - 1) ∧ w32 ((σ 119 125) - 1) < 24000 then
            (if σ 221 (w32 ((σ 119 125) - 1)) = 1 then
              (some (gW (gW σ 219 x1 (w32 ((σ 219 x1) + 1))) 119 124 (w32 ((σ 119 124) - 1)), some 0))
              else
              ((md_error (gW σ 219 x1 (w32 ((σ 219 x1) + 1))) 1 x2).bind fun p1 =>
                gthr p1.1 p1.2))
            else none)))
      else none)
    else none)
  else none) := Lm.eqn (md_eitherOrBoth_l ..) (.ite (.ite (.ite (.ite (.ite (.bind (md_task_l ..) fun p4 => .cst) .cst) (.ite (.bind (md_truth_l ..) fun p2 => .xtry (fun v3 => (.ite (md_eitherOrBoth_b63_l ..) (md_eitherOrBoth_b63_l ..))) .cst) (.ite (.ite .cst (.bind (md_error_l ..) fun p1 => .cst)) .cst))) .cst) .cst) .cst) fun n => (rfl)
theorem md_eitherOrBoth_b63_e (σ : gM) (x2 x5 y0 y1 : Int) : md_eitherOrBoth_b63 σ x2 x5 y0 y1 =
  (if y1 = y0 then
  (md_eitherOrBoth_b71 σ x2 x5 1)
  else
  (md_eitherOrBoth_b71 σ x2 x5 0)) := Lm.eqn (md_eitherOrBoth_b63_l ..) (.ite (md_eitherOrBoth_b71_l ..) (md_eitherOrBoth_b71_l ..)) fun n => (rfl)
theorem md_eitherOrBoth_b71_e (σ : gM) (x2 x5 y0 : Int) : md_eitherOrBoth_b71 σ x2 x5 y0 =
  (if y0 = 0 then
  (md_eitherOrBoth_b83 σ x2 x5 y0 2)
  else
  (md_eitherOrBoth_b83 σ x2 x5 y0 1)) := Lm.eqn (md_eitherOrBoth_b71_l ..) (.ite (md_eitherOrBoth_b83_l ..) (md_eitherOrBoth_b83_l ..)) fun n => (rfl)
theorem md_eitherOrBoth_b83_e (σ : gM) (x2 x5 x6 y0 : Int) : md_eitherOrBoth_b83 σ x2 x5 x6 y0 =
  ((md_has σ x2 y0).bind fun p1 =>
  if p1.2 = 0 then
  ((md_settle p1.1 x2 y0 0).bind fun p2 =>
    md_eitherOrBoth_b103 p2.1 x2 x5 x6)
  else
  (md_eitherOrBoth_b103 p1.1 x2 x5 x6)) := Lm.eqn (md_eitherOrBoth_b83_l ..) (.bind (md_has_l ..) fun p1 => (.ite (.bind (md_settle_l ..) fun p2 => (md_eitherOrBoth_b103_l ..)) (md_eitherOrBoth_b103_l ..))) fun n => (rfl)
theorem md_eitherOrBoth_b103_e (σ : gM) (x2 x5 x6 : Int) : md_eitherOrBoth_b103 σ x2 x5 x6 =
  (if x6 = 0 then
  (if x5 = 0 then
    (md_eitherOrBoth_b134 σ 0 1)
    else
    (md_eitherOrBoth_b134 σ 1 1))
  else
  (if 0 ≤ x2 ∧ x2 < 20000 then
    ((md_task σ (σ 171 x2) (-1)).bind fun p1 =>
      md_eitherOrBoth_b147 p1.1)
    else none)) := Lm.eqn (md_eitherOrBoth_b103_l ..) (.ite (.ite (md_eitherOrBoth_b134_l ..) (md_eitherOrBoth_b134_l ..)) (.ite (.bind (md_task_l ..) fun p1 => (md_eitherOrBoth_b147_l ..)) .cst)) fun n => (rfl)
theorem md_eitherOrBoth_b134_e (σ : gM) (y0 y1 : Int) : md_eitherOrBoth_b134 σ y0 y1 =
  ((md_push σ y1 y0).bind fun p1 =>
  md_eitherOrBoth_b147 (gW p1.1 119 124 (w32 ((p1.1 119 124) - 1)))) := Lm.eqn (md_eitherOrBoth_b134_l ..) (.bind (md_push_l ..) fun p1 => (md_eitherOrBoth_b147_l ..)) fun n => (rfl)
theorem md_eitherOrBoth_b147_e (σ : gM) : md_eitherOrBoth_b147 σ =
  (some (σ, some 0)) := Lm.eqn (md_eitherOrBoth_b147_l ..) .cst fun n => (rfl)
def k_md_nameAt : List gC := [(0, 1, .aload_n 0, [], none), (1, 3, .getfield 173, [], none), (4, 1, .iload_n 1, [], none), (5, 1, .iaload, [], none),
  (6, 1, .iconst (-1), [], none), (7, 3, .if_icmp .ne 12, [(0, 19)], none), (10, 1, .aload_n 0, [], none), (11, 3, .getfield 191, [], none),
  (14, 1, .iload_n 1, [], none), (15, 1, .laload, [], none), (16, 3, .goto 9, [(0, 25)], none), (19, 1, .aload_n 0, [], none),
  (20, 3, .getfield 335, [], none), (23, 1, .iload_n 2, [], none), (24, 1, .laload, [], none), (25, 1, .lreturn, [], none)]
def e_md_nameAt (m : Nat) : gE := (k_md_nameAt, f_md, c_md, [], [], (m, 0), 1)
theorem ok_md_nameAt : gchk cX10_nameAt 3 k_md_nameAt = true := by decide +kernel
def fn_md_nameAt (m : Nat) : gFn := gF (e_md_nameAt m) 3
theorem mo_md_nameAt (m : Nat) : gMo (.inl (fn_md_nameAt m)) := gF_mo (E := e_md_nameAt m) trivial
noncomputable def md_nameAt (σ : gM) (x1 x2 : Int) : Option (gM × Int) := lim (fun n => fn_md_nameAt 227 n [(2, 119), (0, x1), (0, x2)] σ)
theorem md_nameAt_l (σ : gM) (x1 x2 : Int) : Lm (fun n => fn_md_nameAt 227 n [(2, 119), (0, x1), (0, x2)] σ) (md_nameAt σ x1 x2) := .of fun n => mo_md_nameAt 227 n [(2, 119), (0, x1), (0, x2)] σ
theorem md_nameAt_e (σ : gM) (x1 x2 : Int) : md_nameAt σ x1 x2 =
  (if 0 ≤ x1 ∧ x1 < 20000 then
  (if σ 171 x1 = (-1) then
    (if 0 ≤ x1 ∧ x1 < 20000 then
      (some (σ, σ 177 x1))
      else none)
    else
    (if 0 ≤ x2 ∧ x2 < 24000 then
      (some (σ, σ 222 x2))
      else none))
  else none) := Lm.eqn (md_nameAt_l ..) (.ite (.ite (.ite .cst .cst) (.ite .cst .cst)) .cst) fun n => (rfl)
def k_md_propertyAt : List gC := [(0, 1, .iload_n 1, [], none), (1, 2, .istore 4, [], none), (3, 2, .iload 4, [], some [true, false, true, false, true]), (5, 3, .ifCond .le 41, [(0, 46)], none),
  (8, 1, .aload_n 0, [], none), (9, 1, .aload_n 0, [], none), (10, 3, .getfield 237, [], none), (13, 2, .iload 4, [], none),
  (15, 1, .iaload, [], none), (16, 1, .i2l, [], none), (17, 1, .lload_n 2, [], none), (18, 3, .invokevirtual 637, [], none),
  (21, 3, .ifCond .eq 13, [(0, 34)], none), (24, 1, .aload_n 0, [], none), (25, 3, .getfield 234, [], none), (28, 2, .iload 4, [], none),
  (30, 1, .iaload, [], none), (31, 1, .iconst 1, [], none), (32, 1, .isub, [], none), (33, 1, .ireturn, [], none),
  (34, 1, .aload_n 0, [], none), (35, 3, .getfield 225, [], none), (38, 2, .iload 4, [], none), (40, 1, .iaload, [], none),
  (41, 2, .istore 4, [], none), (43, 3, .goto (-40), [(0, 3)], none), (46, 1, .iconst (-1), [], none), (47, 1, .ireturn, [], none)]
def e_md_propertyAt (m : Nat) : gE := (k_md_propertyAt, f_md, c_md, [(637, 3, 20, 0, .inl (fn_md_isSame m))], [], (m, 0), 0)
theorem ok_md_propertyAt : gchk cX10_propertyAt 5 k_md_propertyAt = true := by decide +kernel
def fn_md_propertyAt (m : Nat) : gFn := gF (e_md_propertyAt m) 5
theorem mo_md_propertyAt (m : Nat) : gMo (.inl (fn_md_propertyAt m)) := gF_mo (E := e_md_propertyAt m) ⟨mo_md_isSame m, trivial⟩
noncomputable def md_propertyAt (σ : gM) (x1 x2 : Int) : Option (gM × Int) := lim (fun n => fn_md_propertyAt 227 n [(2, 119), (0, x1), (1, x2)] σ)
theorem md_propertyAt_l (σ : gM) (x1 x2 : Int) : Lm (fun n => fn_md_propertyAt 227 n [(2, 119), (0, x1), (1, x2)] σ) (md_propertyAt σ x1 x2) := .of fun n => mo_md_propertyAt 227 n [(2, 119), (0, x1), (1, x2)] σ
theorem mb_md_propertyAt : gMos (e_md_propertyAt 227).2.2.2.1 := ⟨mo_md_isSame 227, trivial⟩
noncomputable def md_propertyAt_b3 (σ : gM) (x2 x4 : Int) : Option (gM × Int) := lim (fun n => gB (e_md_propertyAt 227) rF tF n 3 [(2, 119), (9, 0), (1, x2), (9, 0), (0, x4)] [] σ)
theorem md_propertyAt_b3_l (σ : gM) (x2 x4 : Int) : Lm (fun n => gB (e_md_propertyAt 227) rF tF n 3 [(2, 119), (9, 0), (1, x2), (9, 0), (0, x4)] [] σ) (md_propertyAt_b3 σ x2 x4) := .of fun n => gB_le (gMos_spec (mb_md_propertyAt)) n _ _ _ σ
theorem md_propertyAt_e (σ : gM) (x1 x2 : Int) : md_propertyAt σ x1 x2 =
  (md_propertyAt_b3 σ x2 x1) := Lm.eqn (md_propertyAt_l ..) (md_propertyAt_b3_l ..) fun n => (rfl)
theorem md_propertyAt_b3_e (σ : gM) (x2 x4 : Int) : md_propertyAt_b3 σ x2 x4 =
  (if 0 < x4 then
  (if 0 ≤ x4 ∧ x4 < 200 then
    ((md_isSame σ (σ 192 x4) x2).bind fun p1 =>
      if p1.2 = 0 then
      (if 0 ≤ x4 ∧ x4 < 200 then
        (md_propertyAt_b3 p1.1 x2 (p1.1 188 x4))
        else none)
      else
      (if 0 ≤ x4 ∧ x4 < 200 then
        (some (p1.1, w32 ((p1.1 191 x4) - 1)))
        else none))
    else none)
  else
  (some (σ, (-1)))) := Lm.eqn (md_propertyAt_b3_l ..) (.ite (.ite (.bind (md_isSame_l ..) fun p1 => (.ite (.ite (md_propertyAt_b3_l ..) .cst) (.ite .cst .cst))) .cst) .cst) fun n => (rfl)
def k_md_moves : List gC := [(0, 1, .aload_n 0, [], some [true, true]), (1, 3, .getfield 231, [], none), (4, 1, .aload_n 0, [], none), (5, 3, .getfield 240, [], none),
  (8, 1, .iload_n 1, [], none), (9, 1, .iaload, [], none), (10, 1, .iaload, [], none), (11, 3, .ifCond .lt 34, [(0, 45)], none),
  (14, 1, .aload_n 0, [], none), (15, 3, .getfield 240, [], none), (18, 1, .iload_n 1, [], none), (19, 1, .aload_n 0, [], none),
  (20, 3, .getfield 231, [], none), (23, 1, .aload_n 0, [], none), (24, 3, .getfield 240, [], none), (27, 1, .iload_n 1, [], none),
  (28, 1, .iaload, [], none), (29, 1, .iaload, [], none), (30, 1, .iastore, [], none), (31, 1, .aload_n 0, [], none),
  (32, 3, .getfield 341, [], none), (35, 2, .bipush 13, [], none), (37, 1, .dup2, [], none), (38, 1, .iaload, [], none),
  (39, 1, .iconst 1, [], none), (40, 1, .iadd, [], none), (41, 1, .iastore, [], none), (42, 3, .goto (-42), [(0, 0)], none),
  (45, 1, .return_, [], none)]
def e_md_moves (m : Nat) : gE := (k_md_moves, f_md, c_md, [], [], (m, 26959946679704843265440376614691209520052477254745283370031679275008), 5)
theorem ok_md_moves : gchk cX10_moves 2 k_md_moves = true := by decide +kernel
def fn_md_moves (m : Nat) : gFn := gF (e_md_moves m) 2
theorem mo_md_moves (m : Nat) : gMo (.inl (fn_md_moves m)) := gF_mo (E := e_md_moves m) trivial
noncomputable def md_moves (σ : gM) (x1 : Int) : Option (gM × Int) := lim (fun n => fn_md_moves 227 n [(2, 119), (0, x1)] σ)
theorem md_moves_l (σ : gM) (x1 : Int) : Lm (fun n => fn_md_moves 227 n [(2, 119), (0, x1)] σ) (md_moves σ x1) := .of fun n => mo_md_moves 227 n [(2, 119), (0, x1)] σ
theorem mb_md_moves : gMos (e_md_moves 227).2.2.2.1 := trivial
noncomputable def md_moves_b0 (σ : gM) (x1 : Int) : Option (gM × Int) := lim (fun n => gB (e_md_moves 227) rF tF n 0 [(2, 119), (0, x1)] [] σ)
theorem md_moves_b0_l (σ : gM) (x1 : Int) : Lm (fun n => gB (e_md_moves 227) rF tF n 0 [(2, 119), (0, x1)] [] σ) (md_moves_b0 σ x1) := .of fun n => gB_le (gMos_spec (mb_md_moves)) n _ _ _ σ
theorem md_moves_e (σ : gM) (x1 : Int) : md_moves σ x1 =
  (if 0 ≤ x1 ∧ x1 < 400 then
  (if 0 ≤ σ 193 x1 ∧ σ 193 x1 < 200 then
    (if σ 190 (σ 193 x1) < 0 then
      (some (σ, 0))
      else
      (if 0 ≤ x1 ∧ x1 < 400 then
        (if 0 ≤ σ 193 x1 ∧ σ 193 x1 < 200 then
          (if 0 ≤ x1 ∧ x1 < 400 then
            (if (0 : Int) ≤ 13 ∧ (13 : Int) < 16 then
              (if (0 : Int) ≤ 13 ∧ (13 : Int) < 16 then
                (md_moves_b0 (gW (gW σ 193 x1 (σ 190 (σ 193 x1))) 224 13 (w32 ((σ 224 13) + 1))) x1)
                else none)
              else none)
            else none)
          else none)
        else none))
    else none)
  else none) := Lm.eqn (md_moves_l ..) (.ite (.ite (.ite .cst (.ite (.ite (.ite (.ite (.ite (md_moves_b0_l ..) .cst) .cst) .cst) .cst) .cst)) .cst) .cst) fun n => (rfl)
theorem md_moves_b0_e (σ : gM) (x1 : Int) : md_moves_b0 σ x1 =
  (if 0 ≤ x1 ∧ x1 < 400 then
  (if 0 ≤ σ 193 x1 ∧ σ 193 x1 < 200 then
    (if σ 190 (σ 193 x1) < 0 then
      (some (σ, 0))
      else
      (if 0 ≤ x1 ∧ x1 < 400 then
        (if 0 ≤ σ 193 x1 ∧ σ 193 x1 < 200 then
          (if 0 ≤ x1 ∧ x1 < 400 then
            (if (0 : Int) ≤ 13 ∧ (13 : Int) < 16 then
              (if (0 : Int) ≤ 13 ∧ (13 : Int) < 16 then
                (md_moves_b0 (gW (gW σ 193 x1 (σ 190 (σ 193 x1))) 224 13 (w32 ((σ 224 13) + 1))) x1)
                else none)
              else none)
            else none)
          else none)
        else none))
    else none)
  else none) := Lm.eqn (md_moves_b0_l ..) (.ite (.ite (.ite .cst (.ite (.ite (.ite (.ite (.ite (md_moves_b0_l ..) .cst) .cst) .cst) .cst) .cst)) .cst) .cst) fun n => (rfl)
def k_md_isStale : List gC := [(0, 1, .aload_n 0, [], none), (1, 3, .getfield 164, [], none), (4, 1, .iload_n 1, [], none), (5, 1, .iaload, [], none),
  (6, 2, .bipush 23, [], none), (8, 3, .if_icmp .ne 22, [(0, 30)], none), (11, 1, .aload_n 0, [], none), (12, 1, .aload_n 0, [], none),
  (13, 3, .getfield 207, [], none), (16, 1, .iload_n 2, [], none), (17, 1, .iaload, [], none), (18, 3, .invokevirtual 665, [], none),
  (21, 3, .ifCond .ne 7, [(0, 28)], none), (24, 1, .iconst 1, [], none), (25, 3, .goto 4, [(0, 29)], none), (28, 1, .iconst 0, [], none),
  (29, 1, .ireturn, [], none), (30, 1, .aload_n 0, [], none), (31, 3, .getfield 231, [], none), (34, 1, .aload_n 0, [], none),
  (35, 3, .getfield 207, [], none), (38, 1, .iload_n 2, [], none), (39, 1, .iaload, [], none), (40, 1, .iaload, [], none),
  (41, 3, .ifCond .ge 28, [(0, 69)], none), (44, 1, .aload_n 0, [], none), (45, 3, .getfield 164, [], none), (48, 1, .iload_n 1, [], none),
  (49, 1, .iaload, [], none), (50, 2, .bipush 22, [], none), (52, 3, .if_icmp .ne 21, [(0, 73)], none), (55, 1, .aload_n 0, [], none),
  (56, 3, .getfield 231, [], none), (59, 1, .aload_n 0, [], none), (60, 3, .getfield 213, [], none), (63, 1, .iload_n 2, [], none),
  (64, 1, .iaload, [], none), (65, 1, .iaload, [], none), (66, 3, .ifCond .lt 7, [(0, 73)], none), (69, 1, .iconst 1, [], some [false, false, false]),
  (70, 3, .goto 4, [(0, 74)], none), (73, 1, .iconst 0, [], none), (74, 1, .ireturn, [], none)]
def e_md_isStale (m : Nat) : gE := (k_md_isStale, f_md, c_md, [(665, 2, 20, 0, .inl (fn_md_isNewest m))], [], (m, 0), 6)
theorem ok_md_isStale : gchk cX10_isStale 3 k_md_isStale = true := by decide +kernel
def fn_md_isStale (m : Nat) : gFn := gF (e_md_isStale m) 3
theorem mo_md_isStale (m : Nat) : gMo (.inl (fn_md_isStale m)) := gF_mo (E := e_md_isStale m) ⟨mo_md_isNewest m, trivial⟩
noncomputable def md_isStale (σ : gM) (x1 x2 : Int) : Option (gM × Int) := lim (fun n => fn_md_isStale 227 n [(2, 119), (0, x1), (0, x2)] σ)
theorem md_isStale_l (σ : gM) (x1 x2 : Int) : Lm (fun n => fn_md_isStale 227 n [(2, 119), (0, x1), (0, x2)] σ) (md_isStale σ x1 x2) := .of fun n => mo_md_isStale 227 n [(2, 119), (0, x1), (0, x2)] σ
theorem mb_md_isStale : gMos (e_md_isStale 227).2.2.2.1 := ⟨mo_md_isNewest 227, trivial⟩
noncomputable def md_isStale_b69 (σ : gM) : Option (gM × Int) := lim (fun n => gB (e_md_isStale 227) rF tF n 69 [(9, 0), (9, 0), (9, 0)] [] σ)
theorem md_isStale_b69_l (σ : gM) : Lm (fun n => gB (e_md_isStale 227) rF tF n 69 [(9, 0), (9, 0), (9, 0)] [] σ) (md_isStale_b69 σ) := .of fun n => gB_le (gMos_spec (mb_md_isStale)) n _ _ _ σ
theorem md_isStale_e (σ : gM) (x1 x2 : Int) : md_isStale σ x1 x2 =
  (if 0 ≤ x1 ∧ x1 < 20000 then
  (if σ 168 x1 = 23 then
    (if 0 ≤ x2 ∧ x2 < 60000 then
      ((md_isNewest σ (σ 182 x2)).bind fun p1 =>
        if p1.2 = 0 then
        (some (p1.1, 1))
        else
        (some (p1.1, 0)))
      else none)
    else
    (if 0 ≤ x2 ∧ x2 < 60000 then
      (if 0 ≤ σ 182 x2 ∧ σ 182 x2 < 200 then
        (if σ 190 (σ 182 x2) < 0 then
          (if 0 ≤ x1 ∧ x1 < 20000 then
            (if σ 168 x1 = 22 then
              (if 0 ≤ x2 ∧ x2 < 60000 then
                (if 0 ≤ σ 184 x2 ∧ σ 184 x2 < 200 then
                  (if σ 190 (σ 184 x2) < 0 then
                    (some (σ, 0))
                    else
                    (md_isStale_b69 σ))
                  else none)
                else none)
              else
              (some (σ, 0)))
            else none)
          else
          (md_isStale_b69 σ))
        else none)
      else none))
  else none) := Lm.eqn (md_isStale_l ..) (.ite (.ite (.ite (.bind (md_isNewest_l ..) fun p1 => (.ite .cst .cst)) .cst) (.ite (.ite (.ite (.ite (.ite (.ite (.ite (.ite .cst (md_isStale_b69_l ..)) .cst) .cst) .cst) .cst) (md_isStale_b69_l ..)) .cst) .cst)) .cst) fun n => (rfl)
theorem md_isStale_b69_e (σ : gM) : md_isStale_b69 σ =
  (some (σ, 1)) := Lm.eqn (md_isStale_b69_l ..) .cst fun n => (rfl)
def k_md_enter : List gC := [(0, 1, .aload_n 0, [], none), (1, 3, .getfield 194, [], none), (4, 1, .iload_n 1, [], none), (5, 1, .iaload, [], none),
  (6, 1, .iconst 1, [], none), (7, 3, .if_icmp .ne 4, [(0, 11)], none), (10, 1, .return_, [], none), (11, 1, .iconst 0, [], none),
  (12, 2, .istore 6, [], none), (14, 1, .iconst 0, [], none), (15, 2, .istore 7, [], none), (17, 1, .iconst 3, [], none),
  (18, 1, .iload_n 1, [], none), (19, 1, .imul, [], none), (20, 2, .istore 8, [], none), (22, 2, .iload 8, [], some [true, true, true, true, true, true, true, true, true, false]),
  (24, 1, .iconst 3, [], none), (25, 1, .iload_n 1, [], none), (26, 1, .imul, [], none), (27, 1, .aload_n 0, [], none),
  (28, 3, .getfield 203, [], none), (31, 1, .iload_n 1, [], none), (32, 1, .iaload, [], none), (33, 1, .iadd, [], none),
  (34, 3, .if_icmp .ge 71, [(0, 105)], none), (37, 1, .aload_n 0, [], none), (38, 1, .iload_n 1, [], none), (39, 2, .iload 8, [], none),
  (41, 3, .invokevirtual 700, [], none), (44, 3, .ifCond .eq 6, [(0, 50)], none), (47, 3, .goto 52, [(0, 99)], none), (50, 3, .iinc 6 1, [], none),
  (53, 2, .iload 7, [], none), (55, 3, .ifCond .ne 37, [(0, 92)], none), (58, 1, .aload_n 0, [], none), (59, 3, .getfield 207, [], none),
  (62, 2, .iload 8, [], none), (64, 1, .iaload, [], none), (65, 1, .iload_n 2, [], none), (66, 3, .if_icmp .ne 30, [(0, 96)], none),
  (69, 1, .aload_n 0, [], none), (70, 3, .getfield 210, [], none), (73, 2, .iload 8, [], none), (75, 1, .iaload, [], none),
  (76, 1, .iload_n 3, [], none), (77, 3, .if_icmp .ne 19, [(0, 96)], none), (80, 1, .aload_n 0, [], none), (81, 3, .getfield 213, [], none),
  (84, 2, .iload 8, [], none), (86, 1, .iaload, [], none), (87, 2, .iload 4, [], none), (89, 3, .if_icmp .ne 7, [(0, 96)], none),
  (92, 1, .iconst 1, [], some [true, true, true, true, true, true, true, false, true, false]), (93, 3, .goto 4, [(0, 97)], none), (96, 1, .iconst 0, [], some [true, true, true, true, true, true, true, false, true, false]), (97, 2, .istore 7, [], some [true, true, true, true, true, true, true, false, true, false]),
  (99, 3, .iinc 8 1, [], some [true, true, true, true, true, true, true, true, true, false]), (102, 3, .goto (-80), [(0, 22)], none), (105, 2, .iload 7, [], none), (107, 3, .ifCond .eq 15, [(0, 122)], none),
  (110, 2, .iload 6, [], none), (112, 1, .aload_n 0, [], none), (113, 3, .getfield 203, [], none), (116, 1, .iload_n 1, [], none),
  (117, 1, .iaload, [], none), (118, 3, .if_icmp .ne 4, [(0, 122)], none), (121, 1, .return_, [], none), (122, 1, .aload_n 0, [], some [true, true, true, true, true, true, true, true, false, false]),
  (123, 1, .iload_n 1, [], none), (124, 3, .invokevirtual 697, [], none), (127, 1, .iconst 3, [], none), (128, 1, .iload_n 1, [], none),
  (129, 1, .imul, [], none), (130, 2, .istore 8, [], none), (132, 1, .iconst 3, [], none), (133, 1, .iload_n 1, [], none),
  (134, 1, .imul, [], none), (135, 2, .istore 9, [], none), (137, 2, .iload 9, [], some [true, true, true, true, true, true, true, true, true, true]), (139, 1, .iconst 3, [], none),
  (140, 1, .iload_n 1, [], none), (141, 1, .imul, [], none), (142, 1, .aload_n 0, [], none), (143, 3, .getfield 203, [], none),
  (146, 1, .iload_n 1, [], none), (147, 1, .iaload, [], none), (148, 1, .iadd, [], none), (149, 3, .if_icmp .ge 67, [(0, 216)], none),
  (152, 1, .aload_n 0, [], none), (153, 1, .iload_n 1, [], none), (154, 2, .iload 9, [], none), (156, 3, .invokevirtual 700, [], none),
  (159, 3, .ifCond .eq 6, [(0, 165)], none), (162, 3, .goto 48, [(0, 210)], none), (165, 1, .aload_n 0, [], none), (166, 3, .getfield 207, [], none),
  (169, 2, .iload 8, [], none), (171, 1, .aload_n 0, [], none), (172, 3, .getfield 207, [], none), (175, 2, .iload 9, [], none),
  (177, 1, .iaload, [], none), (178, 1, .iastore, [], none), (179, 1, .aload_n 0, [], none), (180, 3, .getfield 210, [], none),
  (183, 2, .iload 8, [], none), (185, 1, .aload_n 0, [], none), (186, 3, .getfield 210, [], none), (189, 2, .iload 9, [], none),
  (191, 1, .iaload, [], none), (192, 1, .iastore, [], none), (193, 1, .aload_n 0, [], none), (194, 3, .getfield 213, [], none),
  (197, 2, .iload 8, [], none), (199, 1, .aload_n 0, [], none), (200, 3, .getfield 213, [], none), (203, 2, .iload 9, [], none),
  (205, 1, .iaload, [], none), (206, 1, .iastore, [], none), (207, 3, .iinc 8 1, [], none), (210, 3, .iinc 9 1, [], some [true, true, true, true, true, true, true, true, true, true]),
  (213, 3, .goto (-76), [(0, 137)], none), (216, 1, .aload_n 0, [], none), (217, 3, .getfield 203, [], none), (220, 1, .iload_n 1, [], none),
  (221, 2, .iload 6, [], none), (223, 1, .iastore, [], none), (224, 2, .iload 7, [], none), (226, 3, .ifCond .eq 4, [(0, 230)], none),
  (229, 1, .return_, [], none), (230, 2, .iload 6, [], none), (232, 2, .iload 5, [], none), (234, 3, .if_icmp .ne 18, [(0, 252)], none),
  (237, 1, .aload_n 0, [], none), (238, 3, .getfield 203, [], none), (241, 1, .iload_n 1, [], none), (242, 1, .iconst 0, [], none),
  (243, 1, .iastore, [], none), (244, 1, .aload_n 0, [], none), (245, 3, .getfield 194, [], none), (248, 1, .iload_n 1, [], none),
  (249, 1, .iconst 1, [], none), (250, 1, .iastore, [], none), (251, 1, .return_, [], none), (252, 1, .aload_n 0, [], none),
  (253, 3, .getfield 207, [], none), (256, 2, .iload 8, [], none), (258, 1, .iload_n 2, [], none), (259, 1, .iastore, [], none),
  (260, 1, .aload_n 0, [], none), (261, 3, .getfield 210, [], none), (264, 2, .iload 8, [], none), (266, 1, .iload_n 3, [], none),
  (267, 1, .iastore, [], none), (268, 1, .aload_n 0, [], none), (269, 3, .getfield 213, [], none), (272, 2, .iload 8, [], none),
  (274, 2, .iload 4, [], none), (276, 1, .iastore, [], none), (277, 1, .aload_n 0, [], none), (278, 3, .getfield 203, [], none),
  (281, 1, .iload_n 1, [], none), (282, 1, .dup2, [], none), (283, 1, .iaload, [], none), (284, 1, .iconst 1, [], none),
  (285, 1, .iadd, [], none), (286, 1, .iastore, [], none), (287, 1, .return_, [], none)]
def e_md_enter (m : Nat) : gE := (k_md_enter, f_md, c_md, [(700, 3, 20, 0, .inl (fn_md_isStale m)), (697, 2, 20, 5, .inl (fn_md_changing m))], [], (m, 3957286423569672544968040336314355040562101585619389438625008897486355601704509874725062416979888719833562769808308304876358357204903537003058305114675725658022152011941675008), 5)
theorem ok_md_enter : gchk cX10_enter 10 k_md_enter = true := by decide +kernel
def fn_md_enter (m : Nat) : gFn := gF (e_md_enter m) 10
theorem mo_md_enter (m : Nat) : gMo (.inl (fn_md_enter m)) := gF_mo (E := e_md_enter m) ⟨mo_md_isStale m, ⟨mo_md_changing m, trivial⟩⟩
noncomputable def md_enter (σ : gM) (x1 x2 x3 x4 x5 : Int) : Option (gM × Int) := lim (fun n => fn_md_enter 227 n [(2, 119), (0, x1), (0, x2), (0, x3), (0, x4), (0, x5)] σ)
theorem md_enter_l (σ : gM) (x1 x2 x3 x4 x5 : Int) : Lm (fun n => fn_md_enter 227 n [(2, 119), (0, x1), (0, x2), (0, x3), (0, x4), (0, x5)] σ) (md_enter σ x1 x2 x3 x4 x5) := .of fun n => mo_md_enter 227 n [(2, 119), (0, x1), (0, x2), (0, x3), (0, x4), (0, x5)] σ
theorem mb_md_enter : gMos (e_md_enter 227).2.2.2.1 := ⟨mo_md_isStale 227, ⟨mo_md_changing 227, trivial⟩⟩
noncomputable def md_enter_b22 (σ : gM) (x1 x2 x3 x4 x5 x6 x7 x8 : Int) : Option (gM × Int) := lim (fun n => gB (e_md_enter 227) rF tF n 22 [(2, 119), (0, x1), (0, x2), (0, x3), (0, x4), (0, x5), (0, x6), (0, x7), (0, x8), (9, 0)] [] σ)
theorem md_enter_b22_l (σ : gM) (x1 x2 x3 x4 x5 x6 x7 x8 : Int) : Lm (fun n => gB (e_md_enter 227) rF tF n 22 [(2, 119), (0, x1), (0, x2), (0, x3), (0, x4), (0, x5), (0, x6), (0, x7), (0, x8), (9, 0)] [] σ) (md_enter_b22 σ x1 x2 x3 x4 x5 x6 x7 x8) := .of fun n => gB_le (gMos_spec (mb_md_enter)) n _ _ _ σ
noncomputable def md_enter_b92 (σ : gM) (x1 x2 x3 x4 x5 x6 x8 : Int) : Option (gM × Int) := lim (fun n => gB (e_md_enter 227) rF tF n 92 [(2, 119), (0, x1), (0, x2), (0, x3), (0, x4), (0, x5), (0, x6), (9, 0), (0, x8), (9, 0)] [] σ)
theorem md_enter_b92_l (σ : gM) (x1 x2 x3 x4 x5 x6 x8 : Int) : Lm (fun n => gB (e_md_enter 227) rF tF n 92 [(2, 119), (0, x1), (0, x2), (0, x3), (0, x4), (0, x5), (0, x6), (9, 0), (0, x8), (9, 0)] [] σ) (md_enter_b92 σ x1 x2 x3 x4 x5 x6 x8) := .of fun n => gB_le (gMos_spec (mb_md_enter)) n _ _ _ σ
noncomputable def md_enter_b96 (σ : gM) (x1 x2 x3 x4 x5 x6 x8 : Int) : Option (gM × Int) := lim (fun n => gB (e_md_enter 227) rF tF n 96 [(2, 119), (0, x1), (0, x2), (0, x3), (0, x4), (0, x5), (0, x6), (9, 0), (0, x8), (9, 0)] [] σ)
theorem md_enter_b96_l (σ : gM) (x1 x2 x3 x4 x5 x6 x8 : Int) : Lm (fun n => gB (e_md_enter 227) rF tF n 96 [(2, 119), (0, x1), (0, x2), (0, x3), (0, x4), (0, x5), (0, x6), (9, 0), (0, x8), (9, 0)] [] σ) (md_enter_b96 σ x1 x2 x3 x4 x5 x6 x8) := .of fun n => gB_le (gMos_spec (mb_md_enter)) n _ _ _ σ
noncomputable def md_enter_b97 (σ : gM) (x1 x2 x3 x4 x5 x6 x8 y0 : Int) : Option (gM × Int) := lim (fun n => gB (e_md_enter 227) rF tF n 97 [(2, 119), (0, x1), (0, x2), (0, x3), (0, x4), (0, x5), (0, x6), (9, 0), (0, x8), (9, 0)] [(0, y0)] σ)
theorem md_enter_b97_l (σ : gM) (x1 x2 x3 x4 x5 x6 x8 y0 : Int) : Lm (fun n => gB (e_md_enter 227) rF tF n 97 [(2, 119), (0, x1), (0, x2), (0, x3), (0, x4), (0, x5), (0, x6), (9, 0), (0, x8), (9, 0)] [(0, y0)] σ) (md_enter_b97 σ x1 x2 x3 x4 x5 x6 x8 y0) := .of fun n => gB_le (gMos_spec (mb_md_enter)) n _ _ _ σ
noncomputable def md_enter_b99 (σ : gM) (x1 x2 x3 x4 x5 x6 x7 x8 : Int) : Option (gM × Int) := lim (fun n => gB (e_md_enter 227) rF tF n 99 [(2, 119), (0, x1), (0, x2), (0, x3), (0, x4), (0, x5), (0, x6), (0, x7), (0, x8), (9, 0)] [] σ)
theorem md_enter_b99_l (σ : gM) (x1 x2 x3 x4 x5 x6 x7 x8 : Int) : Lm (fun n => gB (e_md_enter 227) rF tF n 99 [(2, 119), (0, x1), (0, x2), (0, x3), (0, x4), (0, x5), (0, x6), (0, x7), (0, x8), (9, 0)] [] σ) (md_enter_b99 σ x1 x2 x3 x4 x5 x6 x7 x8) := .of fun n => gB_le (gMos_spec (mb_md_enter)) n _ _ _ σ
noncomputable def md_enter_b122 (σ : gM) (x1 x2 x3 x4 x5 x6 x7 : Int) : Option (gM × Int) := lim (fun n => gB (e_md_enter 227) rF tF n 122 [(2, 119), (0, x1), (0, x2), (0, x3), (0, x4), (0, x5), (0, x6), (0, x7), (9, 0), (9, 0)] [] σ)
theorem md_enter_b122_l (σ : gM) (x1 x2 x3 x4 x5 x6 x7 : Int) : Lm (fun n => gB (e_md_enter 227) rF tF n 122 [(2, 119), (0, x1), (0, x2), (0, x3), (0, x4), (0, x5), (0, x6), (0, x7), (9, 0), (9, 0)] [] σ) (md_enter_b122 σ x1 x2 x3 x4 x5 x6 x7) := .of fun n => gB_le (gMos_spec (mb_md_enter)) n _ _ _ σ
noncomputable def md_enter_b137 (σ : gM) (x1 x2 x3 x4 x5 x6 x7 x8 x9 : Int) : Option (gM × Int) := lim (fun n => gB (e_md_enter 227) rF tF n 137 [(2, 119), (0, x1), (0, x2), (0, x3), (0, x4), (0, x5), (0, x6), (0, x7), (0, x8), (0, x9)] [] σ)
theorem md_enter_b137_l (σ : gM) (x1 x2 x3 x4 x5 x6 x7 x8 x9 : Int) : Lm (fun n => gB (e_md_enter 227) rF tF n 137 [(2, 119), (0, x1), (0, x2), (0, x3), (0, x4), (0, x5), (0, x6), (0, x7), (0, x8), (0, x9)] [] σ) (md_enter_b137 σ x1 x2 x3 x4 x5 x6 x7 x8 x9) := .of fun n => gB_le (gMos_spec (mb_md_enter)) n _ _ _ σ
noncomputable def md_enter_b210 (σ : gM) (x1 x2 x3 x4 x5 x6 x7 x8 x9 : Int) : Option (gM × Int) := lim (fun n => gB (e_md_enter 227) rF tF n 210 [(2, 119), (0, x1), (0, x2), (0, x3), (0, x4), (0, x5), (0, x6), (0, x7), (0, x8), (0, x9)] [] σ)
theorem md_enter_b210_l (σ : gM) (x1 x2 x3 x4 x5 x6 x7 x8 x9 : Int) : Lm (fun n => gB (e_md_enter 227) rF tF n 210 [(2, 119), (0, x1), (0, x2), (0, x3), (0, x4), (0, x5), (0, x6), (0, x7), (0, x8), (0, x9)] [] σ) (md_enter_b210 σ x1 x2 x3 x4 x5 x6 x7 x8 x9) := .of fun n => gB_le (gMos_spec (mb_md_enter)) n _ _ _ σ
theorem md_enter_e (σ : gM) (x1 x2 x3 x4 x5 : Int) : md_enter σ x1 x2 x3 x4 x5 =
  (if 0 ≤ x1 ∧ x1 < 20000 then
  (if σ 178 x1 = 1 then
    (some (σ, 0))
    else
    (md_enter_b22 σ x1 x2 x3 x4 x5 0 0 (w32 (3 * x1))))
  else none) := Lm.eqn (md_enter_l ..) (.ite (.ite .cst (md_enter_b22_l ..)) .cst) fun n => (rfl)
theorem md_enter_b22_e (σ : gM) (x1 x2 x3 x4 x5 x6 x7 x8 : Int) : md_enter_b22 σ x1 x2 x3 x4 x5 x6 x7 x8 =
  (if 0 ≤ x1 ∧ x1 < 20000 then
  (if x8 < w32 ((w32 (3 * x1)) + (σ 181 x1)) then
    ((md_isStale σ x1 x8).bind fun p1 =>
      if p1.2 = 0 then
      (if x7 = 0 then
        (if 0 ≤ x8 ∧ x8 < 60000 then
          (if p1.1 182 x8 = x2 then
            (if 0 ≤ x8 ∧ x8 < 60000 then
              (if p1.1 183 x8 = x3 then
                (if 0 ≤ x8 ∧ x8 < 60000 then
                  (if p1.1 184 x8 = x4 then
                    (md_enter_b92 p1.1 x1 x2 x3 x4 x5 (w32 (x6 + 1)) x8)
                    else
                    (md_enter_b96 p1.1 x1 x2 x3 x4 x5 (w32 (x6 + 1)) x8))
                  else none)
                else
                (md_enter_b96 p1.1 x1 x2 x3 x4 x5 (w32 (x6 + 1)) x8))
              else none)
            else
            (md_enter_b96 p1.1 x1 x2 x3 x4 x5 (w32 (x6 + 1)) x8))
          else none)
        else
        (md_enter_b92 p1.1 x1 x2 x3 x4 x5 (w32 (x6 + 1)) x8))
      else
      (md_enter_b99 p1.1 x1 x2 x3 x4 x5 x6 x7 x8))
    else
    (if x7 = 0 then
      (md_enter_b122 σ x1 x2 x3 x4 x5 x6 x7)
      else
      (if 0 ≤ x1 ∧ x1 < 20000 then
        (if x6 = σ 181 x1 then
          (some (σ, 0))
          else
          (md_enter_b122 σ x1 x2 x3 x4 x5 x6 x7))
        else none)))
  else none) := Lm.eqn (md_enter_b22_l ..) (.ite (.ite (.bind (md_isStale_l ..) fun p1 => (.ite (.ite (.ite (.ite (.ite (.ite (.ite (.ite (md_enter_b92_l ..) (md_enter_b96_l ..)) .cst) (md_enter_b96_l ..)) .cst) (md_enter_b96_l ..)) .cst) (md_enter_b92_l ..)) (md_enter_b99_l ..))) (.ite (md_enter_b122_l ..) (.ite (.ite .cst (md_enter_b122_l ..)) .cst))) .cst) fun n => (rfl)
theorem md_enter_b92_e (σ : gM) (x1 x2 x3 x4 x5 x6 x8 : Int) : md_enter_b92 σ x1 x2 x3 x4 x5 x6 x8 =
  (md_enter_b97 σ x1 x2 x3 x4 x5 x6 x8 1) := Lm.eqn (md_enter_b92_l ..) (md_enter_b97_l ..) fun n => (rfl)
theorem md_enter_b96_e (σ : gM) (x1 x2 x3 x4 x5 x6 x8 : Int) : md_enter_b96 σ x1 x2 x3 x4 x5 x6 x8 =
  (md_enter_b97 σ x1 x2 x3 x4 x5 x6 x8 0) := Lm.eqn (md_enter_b96_l ..) (md_enter_b97_l ..) fun n => (rfl)
theorem md_enter_b97_e (σ : gM) (x1 x2 x3 x4 x5 x6 x8 y0 : Int) : md_enter_b97 σ x1 x2 x3 x4 x5 x6 x8 y0 =
  (md_enter_b99 σ x1 x2 x3 x4 x5 x6 y0 x8) := Lm.eqn (md_enter_b97_l ..) (md_enter_b99_l ..) fun n => (rfl)
theorem md_enter_b99_e (σ : gM) (x1 x2 x3 x4 x5 x6 x7 x8 : Int) : md_enter_b99 σ x1 x2 x3 x4 x5 x6 x7 x8 =
  (md_enter_b22 σ x1 x2 x3 x4 x5 x6 x7 (w32 (x8 + 1))) := Lm.eqn (md_enter_b99_l ..) (md_enter_b22_l ..) fun n => (rfl)
theorem md_enter_b122_e (σ : gM) (x1 x2 x3 x4 x5 x6 x7 : Int) : md_enter_b122 σ x1 x2 x3 x4 x5 x6 x7 =
  ((md_changing σ x1).bind fun p1 =>
  md_enter_b137 p1.1 x1 x2 x3 x4 x5 x6 x7 (w32 (3 * x1)) (w32 (3 * x1))) := Lm.eqn (md_enter_b122_l ..) (.bind (md_changing_l ..) fun p1 => (md_enter_b137_l ..)) fun n => (rfl)
theorem md_enter_b137_e (σ : gM) (x1 x2 x3 x4 x5 x6 x7 x8 x9 : Int) : md_enter_b137 σ x1 x2 x3 x4 x5 x6 x7 x8 x9 =
  (if 0 ≤ x1 ∧ x1 < 20000 then
  (if x9 < w32 ((w32 (3 * x1)) + (σ 181 x1)) then
    ((md_isStale σ x1 x9).bind fun p1 =>
      if p1.2 = 0 then
      (if 0 ≤ x9 ∧ x9 < 60000 then
        (if 0 ≤ x8 ∧ x8 < 60000 then
          (if 0 ≤ x9 ∧ x9 < 60000 then
            (if 0 ≤ x8 ∧ x8 < 60000 then
              (if 0 ≤ x9 ∧ x9 < 60000 then
                (if 0 ≤ x8 ∧ x8 < 60000 then
                  (md_enter_b210 (gW (gW (gW p1.1 182 x8 (p1.1 182 x9)) 183 x8 (p1.1 183 x9)) 184 x8 (p1.1 184 x9)) x1 x2 x3 x4 x5 x6 x7 (w32 (x8 + 1)) x9)
                  else none)
                else none)
              else none)
            else none)
          else none)
        else none)
      else
      (md_enter_b210 p1.1 x1 x2 x3 x4 x5 x6 x7 x8 x9))
    else
    (if 0 ≤ x1 ∧ x1 < 20000 then
      (if x7 = 0 then
        (if x6 = x5 then
          (if 0 ≤ x1 ∧ x1 < 20000 then
            (if 0 ≤ x1 ∧ x1 < 20000 then
              (some (gW (gW (gW σ 181 x1 x6) 181 x1 0) 178 x1 1, 0))
              else none)
            else none)
          else
          (if 0 ≤ x8 ∧ x8 < 60000 then
            (if 0 ≤ x8 ∧ x8 < 60000 then
              (if 0 ≤ x8 ∧ x8 < 60000 then
                (if 0 ≤ x1 ∧ x1 < 20000 then
                  (if 0 ≤ x1 ∧ x1 < 20000 then
                    (some (gW (gW (gW (gW (gW σ 181 x1 x6) 182 x8 x2) 183 x8 x3) 184 x8 x4) 181 x1 (w32 (((gW σ 181 x1 x6) 181 x1) + 1)), 0))
                    else none)
                  else none)
                else none)
              else none)
            else none))
        else
        (some (gW σ 181 x1 x6, 0)))
      else none))
  else none) := Lm.eqn (md_enter_b137_l ..) (.ite (.ite (.bind (md_isStale_l ..) fun p1 => (.ite (.ite (.ite (.ite (.ite (.ite (.ite (md_enter_b210_l ..) .cst) .cst) .cst) .cst) .cst) .cst) (md_enter_b210_l ..))) (.ite (.ite (.ite (.ite (.ite .cst .cst) .cst) (.ite (.ite (.ite (.ite (.ite .cst .cst) .cst) .cst) .cst) .cst)) .cst) .cst)) .cst) fun n => (rfl)
theorem md_enter_b210_e (σ : gM) (x1 x2 x3 x4 x5 x6 x7 x8 x9 : Int) : md_enter_b210 σ x1 x2 x3 x4 x5 x6 x7 x8 x9 =
  (md_enter_b137 σ x1 x2 x3 x4 x5 x6 x7 x8 (w32 (x9 + 1))) := Lm.eqn (md_enter_b210_l ..) (md_enter_b137_l ..) fun n => (rfl)
