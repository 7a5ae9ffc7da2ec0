set_option maxRecDepth 100000
def f_fr : List (Nat × Nat × Int × Nat) := [(11, 11, 1, 2), (15, 11, 2, 2), (18, 11, 3, 2), (21, 11, 4, 2), (24, 11, 5, 2), (27, 11, 6, 2), (30, 11, 7, 2), (33, 11, 8, 2), (36, 11, 9, 2), (40, 11, 10, 2), (48, 11, 13, 2), (51, 11, 14, 2), (54, 11, 15, 2), (57, 11, 17, 2), (60, 11, 18, 2), (63, 11, 20, 2), (66, 11, 21, 2), (69, 11, 22, 2), (72, 11, 23, 2), (75, 11, 24, 2), (78, 11, 25, 2), (81, 11, 26, 2), (84, 11, 27, 2), (87, 11, 28, 2), (90, 11, 29, 2), (93, 11, 30, 2), (99, 11, 38, 2), (117, 11, 39, 2), (121, 11, 40, 2), (124, 11, 41, 2), (128, 11, 0, 2), (138, 11, 12, 0), (142, 11, 16, 0), (145, 11, 19, 0), (148, 11, 31, 0), (185, 10, 2, 2), (187, 10, 0, 2), (190, 10, 1, 2), (191, 11, 32, 4), (195, 11, 33, 3), (198, 11, 34, 0), (201, 15, 11, 2), (206, 15, 12, 2), (209, 11, 35, 0), (212, 15, 15, 2), (215, 15, 16, 2), (218, 15, 13, 2), (224, 11, 36, 0), (227, 11, 37, 0), (230, 15, 14, 2), (241, 15, 1, 2), (242, 15, 2, 2), (246, 15, 6, 2), (249, 15, 3, 2), (255, 15, 4, 2), (258, 15, 5, 2), (272, 15, 7, 2), (275, 15, 8, 2), (295, 12, 3, 1)]
def c_fr : List (Nat × gV) := [(151, 3, 1), (157, 3, 2), (159, 3, 3), (160, 3, 4)]
def k_fr_spell : List gC := [(0, 1, .iconst 0, [], none), (1, 1, .istore_n 2, [], none), (2, 1, .iload_n 2, [], some [true, true, true]), (3, 1, .aload_n 1, [], none),
  (4, 3, .invokevirtual 176, [], none), (7, 3, .if_icmp .ge 21, [(0, 28)], none), (10, 1, .aload_n 0, [], none), (11, 3, .getfield 124, [], none),
  (14, 1, .iload_n 2, [], none), (15, 1, .aload_n 1, [], none), (16, 1, .iload_n 2, [], none), (17, 3, .invokevirtual 179, [], none),
  (20, 1, .i2b, [], none), (21, 1, .bastore, [], none), (22, 3, .iinc 2 1, [], none), (25, 3, .goto (-23), [(0, 2)], none),
  (28, 1, .aload_n 1, [], none), (29, 3, .invokevirtual 176, [], none), (32, 1, .ireturn, [], none)]
def e_fr_spell (m : Nat) : gE := (k_fr_spell, f_fr, c_fr, [(176, 1, 100, 0, .inl (fn_st_length 0)), (179, 2, 100, 0, .inl (fn_st_charAt 0))], [], (m, 2199023255552), 0)
theorem ok_fr_spell : gchk cX3_spell 3 k_fr_spell = true := by decide +kernel
def fn_fr_spell (m : Nat) : gFn := gF (e_fr_spell m) 3
theorem mo_fr_spell (m : Nat) : gMo (.inl (fn_fr_spell m)) := gF_mo (E := e_fr_spell m) ⟨mo_st_length 0, ⟨mo_st_charAt 0, trivial⟩⟩
noncomputable def fr_spell (σ : gM) (x1 : Int) : Option (gM × Int) := lim (fun n => fn_fr_spell 119 n [(2, 8), (3, x1)] σ)
theorem fr_spell_l (σ : gM) (x1 : Int) : Lm (fun n => fn_fr_spell 119 n [(2, 8), (3, x1)] σ) (fr_spell σ x1) := .of fun n => mo_fr_spell 119 n [(2, 8), (3, x1)] σ
theorem mb_fr_spell : gMos (e_fr_spell 119).2.2.2.1 := ⟨mo_st_length 0, ⟨mo_st_charAt 0, trivial⟩⟩
noncomputable def fr_spell_b2 (σ : gM) (x1 x2 : Int) : Option (gM × Int) := lim (fun n => gB (e_fr_spell 119) rF tF n 2 [(2, 8), (3, x1), (0, x2)] [] σ)
theorem fr_spell_b2_l (σ : gM) (x1 x2 : Int) : Lm (fun n => gB (e_fr_spell 119) rF tF n 2 [(2, 8), (3, x1), (0, x2)] [] σ) (fr_spell_b2 σ x1 x2) := .of fun n => gB_le (gMos_spec (mb_fr_spell)) n _ _ _ σ
theorem fr_spell_e (σ : gM) (x1 : Int) : fr_spell σ x1 =
  (fr_spell_b2 σ x1 0) := Lm.eqn (fr_spell_l ..) (fr_spell_b2_l ..) fun n => (rfl)
theorem fr_spell_b2_e (σ : gM) (x1 x2 : Int) : fr_spell_b2 σ x1 x2 =
  (gtx x1 ((st_length σ x1).bind fun p1 =>
  if x2 < p1.2 then
  (gtx x1 ((st_charAt p1.1 x1 x2).bind fun p3 =>
    if 0 ≤ x2 ∧ x2 < 12 then
    (fr_spell_b2 (gW p3.1 41 x2 (w8 (w8 p3.2))) x1 (w32 (x2 + 1)))
    else none))
  else
  (gtx x1 ((st_length p1.1 x1).bind fun p2 =>
    some (p2.1, p2.2))))) := Lm.eqn (fr_spell_b2_l ..) (.xtx (.bind (st_length_l ..) fun p1 => (.ite (.xtx (.bind (st_charAt_l ..) fun p3 => (.ite (fr_spell_b2_l ..) .cst))) (.xtx (.bind (st_length_l ..) fun p2 => .cst))))) fun n => (rfl)
def k_fr_function : List gC := [(0, 1, .aload_n 0, [], none), (1, 3, .getfield 128, [], none), (4, 1, .aload_n 1, [], none), (5, 1, .iload_n 2, [], none),
  (6, 1, .iload_n 3, [], none), (7, 3, .invokevirtual 183, [], none), (10, 2, .istore 4, [], none), (12, 1, .iconst 0, [], none),
  (13, 2, .istore 5, [], none), (15, 2, .iload 5, [], some [true, false, false, false, true, true]), (17, 1, .aload_n 0, [], none), (18, 3, .getfield 145, [], none),
  (21, 3, .if_icmp .ge 24, [(0, 45)], none), (24, 1, .aload_n 0, [], none), (25, 3, .getfield 57, [], none), (28, 2, .iload 5, [], none),
  (30, 1, .iaload, [], none), (31, 2, .iload 4, [], none), (33, 3, .if_icmp .ne 6, [(0, 39)], none), (36, 2, .iload 5, [], none),
  (38, 1, .ireturn, [], none), (39, 3, .iinc 5 1, [], none), (42, 3, .goto (-27), [(0, 15)], none), (45, 1, .aload_n 0, [], none),
  (46, 3, .getfield 57, [], none), (49, 1, .aload_n 0, [], none), (50, 3, .getfield 145, [], none), (53, 2, .iload 4, [], none),
  (55, 1, .iastore, [], none), (56, 1, .aload_n 0, [], none), (57, 3, .getfield 60, [], none), (60, 1, .aload_n 0, [], none),
  (61, 3, .getfield 145, [], none), (64, 1, .iconst (-1), [], none), (65, 1, .iastore, [], none), (66, 1, .aload_n 0, [], none),
  (67, 1, .dup, [], none), (68, 3, .getfield 145, [], none), (71, 1, .iconst 1, [], none), (72, 1, .iadd, [], none),
  (73, 3, .putfield 145, [], none), (76, 1, .aload_n 0, [], none), (77, 3, .getfield 145, [], none), (80, 1, .iconst 1, [], none),
  (81, 1, .isub, [], none), (82, 1, .ireturn, [], none)]
def e_fr_function (m : Nat) : gE := (k_fr_function, f_fr, c_fr, [(183, 4, 10, 0, .inl (fn_hp_string m))], [], (m, 1989292990103308835750948035238541603737981218845064981367832498724350247088775309033534), 0)
theorem ok_fr_function : gchk cX3_function 6 k_fr_function = true := by decide +kernel
def fn_fr_function (m : Nat) : gFn := gF (e_fr_function m) 6
theorem mo_fr_function (m : Nat) : gMo (.inl (fn_fr_function m)) := gF_mo (E := e_fr_function m) ⟨mo_hp_string m, trivial⟩
noncomputable def fr_function (σ : gM) (x1 x2 x3 : Int) : Option (gM × Int) := lim (fun n => fn_fr_function 119 n [(2, 8), (2, x1), (0, x2), (0, x3)] σ)
theorem fr_function_l (σ : gM) (x1 x2 x3 : Int) : Lm (fun n => fn_fr_function 119 n [(2, 8), (2, x1), (0, x2), (0, x3)] σ) (fr_function σ x1 x2 x3) := .of fun n => mo_fr_function 119 n [(2, 8), (2, x1), (0, x2), (0, x3)] σ
theorem mb_fr_function : gMos (e_fr_function 119).2.2.2.1 := ⟨mo_hp_string 119, trivial⟩
noncomputable def fr_function_b15 (σ : gM) (x4 x5 : Int) : Option (gM × Int) := lim (fun n => gB (e_fr_function 119) rF tF n 15 [(2, 8), (9, 0), (9, 0), (9, 0), (0, x4), (0, x5)] [] σ)
theorem fr_function_b15_l (σ : gM) (x4 x5 : Int) : Lm (fun n => gB (e_fr_function 119) rF tF n 15 [(2, 8), (9, 0), (9, 0), (9, 0), (0, x4), (0, x5)] [] σ) (fr_function_b15 σ x4 x5) := .of fun n => gB_le (gMos_spec (mb_fr_function)) n _ _ _ σ
theorem fr_function_e (σ : gM) (x1 x2 x3 : Int) : fr_function σ x1 x2 x3 =
  ((hp_string σ x1 x2 x3).bind fun p1 =>
  fr_function_b15 p1.1 p1.2 0) := Lm.eqn (fr_function_l ..) (.bind (hp_string_l ..) fun p1 => (fr_function_b15_l ..)) fun n => (rfl)
theorem fr_function_b15_e (σ : gM) (x4 x5 : Int) : fr_function_b15 σ x4 x5 =
  (if x5 < σ 8 19 then
  (if 0 ≤ x5 ∧ x5 < 9000 then
    (if σ 23 x5 = x4 then
      (some (σ, x5))
      else
      (fr_function_b15 σ x4 (w32 (x5 + 1))))
    else none)
  else
  (if 0 ≤ σ 8 19 ∧ σ 8 19 < 9000 then
    (if 0 ≤ σ 8 19 ∧ σ 8 19 < 9000 then
      (some (gW (gW (gW σ 23 (σ 8 19) x4) 24 (σ 8 19) (-1)) 8 19 (w32 ((σ 8 19) + 1)), w32 ((w32 ((σ 8 19) + 1)) - 1)))
      else none)
    else none)) := Lm.eqn (fr_function_b15_l ..) (.ite (.ite (.ite .cst (fr_function_b15_l ..)) .cst) (.ite (.ite .cst .cst) .cst)) fun n => (rfl)
def k_fr_rootOf : List gC := [(0, 1, .aload_n 0, [], none), (1, 3, .getfield 148, [], none), (4, 1, .istore_n 2, [], none), (5, 1, .aload_n 0, [], none),
  (6, 1, .dup, [], none), (7, 3, .getfield 148, [], none), (10, 1, .iconst 1, [], none), (11, 1, .iadd, [], none),
  (12, 3, .putfield 148, [], none), (15, 1, .aload_n 0, [], none), (16, 3, .getfield 63, [], none), (19, 1, .iload_n 2, [], none),
  (20, 1, .iload_n 1, [], none), (21, 1, .iastore, [], none), (22, 1, .aload_n 0, [], none), (23, 3, .getfield 60, [], none),
  (26, 1, .iload_n 1, [], none), (27, 1, .iload_n 2, [], none), (28, 1, .iastore, [], none), (29, 1, .aload_n 0, [], none),
  (30, 3, .getfield 66, [], none), (33, 1, .iload_n 2, [], none), (34, 1, .aload_n 0, [], none), (35, 3, .getfield 138, [], none),
  (38, 1, .iastore, [], none), (39, 1, .aload_n 0, [], none), (40, 3, .getfield 69, [], none), (43, 1, .iload_n 2, [], none),
  (44, 1, .iconst 0, [], none), (45, 1, .iastore, [], none), (46, 1, .aload_n 0, [], none), (47, 3, .getfield 72, [], none),
  (50, 1, .iload_n 2, [], none), (51, 1, .aload_n 0, [], none), (52, 3, .getfield 142, [], none), (55, 1, .iastore, [], none),
  (56, 1, .aload_n 0, [], none), (57, 3, .getfield 75, [], none), (60, 1, .iload_n 2, [], none), (61, 1, .iconst 0, [], none),
  (62, 1, .iastore, [], none), (63, 1, .aload_n 0, [], none), (64, 3, .getfield 78, [], none), (67, 1, .iload_n 2, [], none),
  (68, 1, .iconst 0, [], none), (69, 1, .iastore, [], none), (70, 1, .aload_n 0, [], none), (71, 3, .getfield 81, [], none),
  (74, 1, .iload_n 2, [], none), (75, 1, .iconst 0, [], none), (76, 1, .iastore, [], none), (77, 1, .aload_n 0, [], none),
  (78, 3, .getfield 84, [], none), (81, 1, .iload_n 2, [], none), (82, 1, .iconst 0, [], none), (83, 1, .iastore, [], none),
  (84, 1, .aload_n 0, [], none), (85, 3, .getfield 87, [], none), (88, 1, .iload_n 2, [], none), (89, 1, .iconst 0, [], none),
  (90, 1, .iastore, [], none), (91, 1, .aload_n 0, [], none), (92, 3, .getfield 90, [], none), (95, 1, .iload_n 2, [], none),
  (96, 1, .iconst (-1), [], none), (97, 1, .iastore, [], none), (98, 1, .iconst 0, [], none), (99, 1, .istore_n 3, [], none),
  (100, 1, .iload_n 3, [], some [true, false, true, true]), (101, 2, .bipush 12, [], none), (103, 3, .if_icmp .ge 21, [(0, 124)], none), (106, 1, .aload_n 0, [], none),
  (107, 3, .getfield 93, [], none), (110, 2, .bipush 12, [], none), (112, 1, .iload_n 2, [], none), (113, 1, .imul, [], none),
  (114, 1, .iload_n 3, [], none), (115, 1, .iadd, [], none), (116, 1, .iconst 0, [], none), (117, 1, .iastore, [], none),
  (118, 3, .iinc 3 1, [], none), (121, 3, .goto (-21), [(0, 100)], none), (124, 1, .iload_n 2, [], none), (125, 1, .ireturn, [], none)]
def e_fr_rootOf (m : Nat) : gE := (k_fr_rootOf, f_fr, c_fr, [], [], (m, 8148143905337944345073782753637512644205873574663745002544561797417525199053346893436289024), 0)
theorem ok_fr_rootOf : gchk cX3_rootOf 4 k_fr_rootOf = true := by decide +kernel
def fn_fr_rootOf (m : Nat) : gFn := gF (e_fr_rootOf m) 4
theorem mo_fr_rootOf (m : Nat) : gMo (.inl (fn_fr_rootOf m)) := gF_mo (E := e_fr_rootOf m) trivial
noncomputable def fr_rootOf (σ : gM) (x1 : Int) : Option (gM × Int) := lim (fun n => fn_fr_rootOf 119 n [(2, 8), (0, x1)] σ)
theorem fr_rootOf_l (σ : gM) (x1 : Int) : Lm (fun n => fn_fr_rootOf 119 n [(2, 8), (0, x1)] σ) (fr_rootOf σ x1) := .of fun n => mo_fr_rootOf 119 n [(2, 8), (0, x1)] σ
theorem mb_fr_rootOf : gMos (e_fr_rootOf 119).2.2.2.1 := trivial
noncomputable def fr_rootOf_b100 (σ : gM) (x2 x3 : Int) : Option (gM × Int) := lim (fun n => gB (e_fr_rootOf 119) rF tF n 100 [(2, 8), (9, 0), (0, x2), (0, x3)] [] σ)
theorem fr_rootOf_b100_l (σ : gM) (x2 x3 : Int) : Lm (fun n => gB (e_fr_rootOf 119) rF tF n 100 [(2, 8), (9, 0), (0, x2), (0, x3)] [] σ) (fr_rootOf_b100 σ x2 x3) := .of fun n => gB_le (gMos_spec (mb_fr_rootOf)) n _ _ _ σ
theorem fr_rootOf_e (σ : gM) (x1 : Int) : fr_rootOf σ x1 =
  (if 0 ≤ σ 8 31 ∧ σ 8 31 < 60 then
  (if 0 ≤ x1 ∧ x1 < 9000 then
    (if 0 ≤ σ 8 31 ∧ σ 8 31 < 60 then
      (if 0 ≤ σ 8 31 ∧ σ 8 31 < 60 then
        (if 0 ≤ σ 8 31 ∧ σ 8 31 < 60 then
          (if 0 ≤ σ 8 31 ∧ σ 8 31 < 60 then
            (if 0 ≤ σ 8 31 ∧ σ 8 31 < 60 then
              (if 0 ≤ σ 8 31 ∧ σ 8 31 < 60 then
                (if 0 ≤ σ 8 31 ∧ σ 8 31 < 60 then
                  (if 0 ≤ σ 8 31 ∧ σ 8 31 < 60 then
                    (if 0 ≤ σ 8 31 ∧ σ 8 31 < 60 then
                      (fr_rootOf_b100 (gW (gW (gW (gW (gW (gW (gW (gW (gW (gW (gW (gW σ 8 31 (w32 ((σ 8 31) + 1))) 25 (σ 8 31) x1) 24 x1 (σ 8 31)) 26 (σ 8 31) (σ 8 12)) 27 (σ 8 31) 0) 28 (σ 8 31) (σ 8 16)) 29 (σ 8 31) 0) 30 (σ 8 31) 0) 31 (σ 8 31) 0) 32 (σ 8 31) 0) 33 (σ 8 31) 0) 34 (σ 8 31) (-1)) (σ 8 31) 0)
                      else none)
                    else none)
                  else none)
                else none)
              else none)
            else none)
          else none)
        else none)
      else none)
    else none)
  else none) := Lm.eqn (fr_rootOf_l ..) (.ite (.ite (.ite (.ite (.ite (.ite (.ite (.ite (.ite (.ite (.ite (fr_rootOf_b100_l ..) .cst) .cst) .cst) .cst) .cst) .cst) .cst) .cst) .cst) .cst) .cst) fun n => (rfl)
theorem fr_rootOf_b100_e (σ : gM) (x2 x3 : Int) : fr_rootOf_b100 σ x2 x3 =
  (if x3 < 12 then
  (if 0 ≤ w32 ((w32 (12 * x2)) + x3) ∧ w32 ((w32 (12 * x2)) + x3) < 720 then
    (fr_rootOf_b100 (gW σ 35 (w32 ((w32 (12 * x2)) + x3)) 0) x2 (w32 (x3 + 1)))
    else none)
  else
  (some (σ, x2))) := Lm.eqn (fr_rootOf_b100_l ..) (.ite (.ite (fr_rootOf_b100_l ..) .cst) .cst) fun n => (rfl)
def k_fr_plant : List gC := [(0, 1, .aload_n 0, [], none), (1, 1, .aload_n 1, [], none), (2, 3, .invokevirtual 166, [], none), (5, 1, .istore_n 2, [], none),
  (6, 1, .aload_n 0, [], none), (7, 1, .aload_n 0, [], none), (8, 1, .aload_n 0, [], none), (9, 3, .getfield 124, [], none),
  (12, 1, .iconst 0, [], none), (13, 1, .iload_n 2, [], none), (14, 3, .invokevirtual 169, [], none), (17, 3, .invokevirtual 172, [], none),
  (20, 1, .pop, [], none), (21, 1, .return_, [], none)]
def e_fr_plant (m : Nat) : gE := (k_fr_plant, f_fr, c_fr, [(166, 2, 11, 0, .inl (fn_fr_spell m)), (169, 4, 11, 0, .inl (fn_fr_function m)), (172, 2, 11, 0, .inl (fn_fr_rootOf m))], [], (m, 8150133198328047653909533701672751185809611555882590067525929629916249549300437867751800894), 5)
theorem ok_fr_plant : gchk cX3_plant 3 k_fr_plant = true := by decide +kernel
def fn_fr_plant (m : Nat) : gFn := gF (e_fr_plant m) 3
theorem mo_fr_plant (m : Nat) : gMo (.inl (fn_fr_plant m)) := gF_mo (E := e_fr_plant m) ⟨mo_fr_spell m, ⟨mo_fr_function m, ⟨mo_fr_rootOf m, trivial⟩⟩⟩
noncomputable def fr_plant (σ : gM) (x1 : Int) : Option (gM × Int) := lim (fun n => fn_fr_plant 119 n [(2, 8), (3, x1)] σ)
theorem fr_plant_l (σ : gM) (x1 : Int) : Lm (fun n => fn_fr_plant 119 n [(2, 8), (3, x1)] σ) (fr_plant σ x1) := .of fun n => mo_fr_plant 119 n [(2, 8), (3, x1)] σ
theorem fr_plant_e (σ : gM) (x1 : Int) : fr_plant σ x1 =
  ((fr_spell σ x1).bind fun p1 =>
  (fr_function p1.1 41 0 p1.2).bind fun p2 =>
  (fr_rootOf p2.1 p2.2).bind fun p3 =>
  some (p3.1, 0)) := Lm.eqn (fr_plant_l ..) (.bind (fr_spell_l ..) fun p1 => (.bind (fr_function_l ..) fun p2 => (.bind (fr_rootOf_l ..) fun p3 => .cst))) fun n => (rfl)
def k_fr_text : List gC := [(0, 1, .aload_n 0, [], none), (1, 1, .aload_n 1, [], none), (2, 3, .invokevirtual 166, [], none), (5, 1, .istore_n 2, [], none),
  (6, 1, .aload_n 0, [], none), (7, 3, .getfield 128, [], none), (10, 1, .aload_n 0, [], none), (11, 3, .getfield 124, [], none),
  (14, 1, .iconst 0, [], none), (15, 1, .iload_n 2, [], none), (16, 3, .invokevirtual 183, [], none), (19, 1, .ireturn, [], none)]
def e_fr_text (m : Nat) : gE := (k_fr_text, f_fr, c_fr, [(166, 2, 11, 0, .inl (fn_fr_spell m)), (183, 4, 10, 0, .inl (fn_hp_string m))], [], (m, 44464162267129419042651258243336156615655674111605976591151712259040840804991038), 0)
theorem ok_fr_text : gchk cX3_text 3 k_fr_text = true := by decide +kernel
def fn_fr_text (m : Nat) : gFn := gF (e_fr_text m) 3
theorem mo_fr_text (m : Nat) : gMo (.inl (fn_fr_text m)) := gF_mo (E := e_fr_text m) ⟨mo_fr_spell m, ⟨mo_hp_string m, trivial⟩⟩
noncomputable def fr_text (σ : gM) (x1 : Int) : Option (gM × Int) := lim (fun n => fn_fr_text 119 n [(2, 8), (3, x1)] σ)
theorem fr_text_l (σ : gM) (x1 : Int) : Lm (fun n => fn_fr_text 119 n [(2, 8), (3, x1)] σ) (fr_text σ x1) := .of fun n => mo_fr_text 119 n [(2, 8), (3, x1)] σ
theorem fr_text_e (σ : gM) (x1 : Int) : fr_text σ x1 =
  ((fr_spell σ x1).bind fun p1 =>
  (hp_string p1.1 41 0 p1.2).bind fun p2 =>
  some (p2.1, p2.2)) := Lm.eqn (fr_text_l ..) (.bind (fr_spell_l ..) fun p1 => (.bind (hp_string_l ..) fun p2 => .cst)) fun n => (rfl)
def k_fr_clear : List gC := [(0, 1, .aload_n 0, [], none), (1, 3, .getfield 128, [], none), (4, 3, .invokevirtual 135, [], none), (7, 1, .aload_n 0, [], none),
  (8, 1, .iconst 0, [], none), (9, 3, .putfield 138, [], none), (12, 1, .aload_n 0, [], none), (13, 1, .iconst 0, [], none),
  (14, 3, .putfield 142, [], none), (17, 1, .aload_n 0, [], none), (18, 1, .iconst 0, [], none), (19, 3, .putfield 145, [], none),
  (22, 1, .aload_n 0, [], none), (23, 1, .iconst 0, [], none), (24, 3, .putfield 148, [], none), (27, 1, .aload_n 0, [], none),
  (28, 2, .ldc 151, [], none), (30, 3, .invokevirtual 153, [], none), (33, 1, .aload_n 0, [], none), (34, 2, .ldc 157, [], none),
  (36, 3, .invokevirtual 153, [], none), (39, 1, .aload_n 0, [], none), (40, 2, .ldc 159, [], none), (42, 3, .invokevirtual 153, [], none),
  (45, 1, .aload_n 0, [], none), (46, 2, .ldc 160, [], none), (48, 3, .invokevirtual 153, [], none), (51, 1, .iconst 0, [], none),
  (52, 1, .istore_n 1, [], none), (53, 1, .iload_n 1, [], some [true, true]), (54, 1, .aload_n 0, [], none), (55, 3, .getfield 117, [], none),
  (58, 1, .arraylength, [], none), (59, 3, .if_icmp .ge 25, [(0, 84)], none), (62, 1, .aload_n 0, [], none), (63, 3, .getfield 121, [], none),
  (66, 1, .iload_n 1, [], none), (67, 1, .aload_n 0, [], none), (68, 1, .aload_n 0, [], none), (69, 3, .getfield 117, [], none),
  (72, 1, .iload_n 1, [], none), (73, 1, .aaload, [], none), (74, 3, .invokevirtual 162, [], none), (77, 1, .iastore, [], none),
  (78, 3, .iinc 1 1, [], none), (81, 3, .goto (-28), [(0, 53)], none), (84, 1, .return_, [], none)]
def e_fr_clear (m : Nat) : gE := (k_fr_clear, f_fr, c_fr, [(135, 1, 10, 5, .inl (fn_hp_clear m)), (153, 2, 11, 5, .inl (fn_fr_plant m)), (162, 2, 11, 0, .inl (fn_fr_text m))], [], (m, 8150397403135242393437861402254997858438809396659802355113866908838244813656824069264244798), 5)
theorem ok_fr_clear : gchk cX3_clear 2 k_fr_clear = true := by decide +kernel
def fn_fr_clear (m : Nat) : gFn := gF (e_fr_clear m) 2
theorem mo_fr_clear (m : Nat) : gMo (.inl (fn_fr_clear m)) := gF_mo (E := e_fr_clear m) ⟨mo_hp_clear m, ⟨mo_fr_plant m, ⟨mo_fr_text m, trivial⟩⟩⟩
noncomputable def fr_clear (σ : gM) : Option (gM × Int) := lim (fun n => fn_fr_clear 119 n [(2, 8)] σ)
theorem fr_clear_l (σ : gM) : Lm (fun n => fn_fr_clear 119 n [(2, 8)] σ) (fr_clear σ) := .of fun n => mo_fr_clear 119 n [(2, 8)] σ
theorem mb_fr_clear : gMos (e_fr_clear 119).2.2.2.1 := ⟨mo_hp_clear 119, ⟨mo_fr_plant 119, ⟨mo_fr_text 119, trivial⟩⟩⟩
noncomputable def fr_clear_b53 (σ : gM) (x1 : Int) : Option (gM × Int) := lim (fun n => gB (e_fr_clear 119) rF tF n 53 [(2, 8), (0, x1)] [] σ)
theorem fr_clear_b53_l (σ : gM) (x1 : Int) : Lm (fun n => gB (e_fr_clear 119) rF tF n 53 [(2, 8), (0, x1)] [] σ) (fr_clear_b53 σ x1) := .of fun n => gB_le (gMos_spec (mb_fr_clear)) n _ _ _ σ
theorem fr_clear_e (σ : gM) : fr_clear σ =
  ((hp_clear σ).bind fun p1 =>
  (fr_plant (gW (gW (gW (gW p1.1 8 12 0) 8 16 0) 8 19 0) 8 31 0) 1).bind fun p2 =>
  (fr_plant p2.1 2).bind fun p3 =>
  (fr_plant p3.1 3).bind fun p4 =>
  (fr_plant p4.1 4).bind fun p5 =>
  fr_clear_b53 p5.1 0) := Lm.eqn (fr_clear_l ..) (.bind (hp_clear_l ..) fun p1 => (.bind (fr_plant_l ..) fun p2 => (.bind (fr_plant_l ..) fun p3 => (.bind (fr_plant_l ..) fun p4 => (.bind (fr_plant_l ..) fun p5 => (fr_clear_b53_l ..)))))) fun n => (rfl)
theorem fr_clear_b53_e (σ : gM) (x1 : Int) : fr_clear_b53 σ x1 =
  (if x1 < 7 then
  (if 0 ≤ x1 ∧ x1 < 7 then
    ((fr_text σ (σ 39 x1)).bind fun p1 =>
      if 0 ≤ x1 ∧ x1 < 7 then
      (fr_clear_b53 (gW p1.1 40 x1 p1.2) (w32 (x1 + 1)))
      else none)
    else none)
  else
  (some (σ, 0))) := Lm.eqn (fr_clear_b53_l ..) (.ite (.ite (.bind (fr_text_l ..) fun p1 => (.ite (fr_clear_b53_l ..) .cst)) .cst) .cst) fun n => (rfl)
def k_fr_node : List gC := [(0, 1, .aload_n 0, [], none), (1, 3, .getfield 138, [], none), (4, 1, .istore_n 2, [], none), (5, 1, .aload_n 0, [], none),
  (6, 1, .dup, [], none), (7, 3, .getfield 138, [], none), (10, 1, .iconst 1, [], none), (11, 1, .iadd, [], none),
  (12, 3, .putfield 138, [], none), (15, 1, .aload_n 0, [], none), (16, 3, .getfield 11, [], none), (19, 1, .iload_n 2, [], none),
  (20, 1, .aload_n 0, [], none), (21, 3, .getfield 191, [], none), (24, 3, .getfield 241, [], none), (27, 1, .iload_n 1, [], none),
  (28, 1, .iaload, [], none), (29, 1, .iastore, [], none), (30, 1, .aload_n 0, [], none), (31, 3, .getfield 15, [], none),
  (34, 1, .iload_n 2, [], none), (35, 1, .aload_n 0, [], none), (36, 3, .getfield 191, [], none), (39, 3, .getfield 242, [], none),
  (42, 1, .iload_n 1, [], none), (43, 1, .iaload, [], none), (44, 1, .iastore, [], none), (45, 1, .aload_n 0, [], none),
  (46, 3, .getfield 18, [], none), (49, 1, .iload_n 2, [], none), (50, 1, .iconst 0, [], none), (51, 1, .iastore, [], none),
  (52, 1, .aload_n 0, [], none), (53, 3, .getfield 21, [], none), (56, 1, .iload_n 2, [], none), (57, 1, .iconst 0, [], none),
  (58, 1, .iastore, [], none), (59, 1, .aload_n 0, [], none), (60, 3, .getfield 24, [], none), (63, 1, .iload_n 2, [], none),
  (64, 1, .iconst (-1), [], none), (65, 1, .iastore, [], none), (66, 1, .aload_n 0, [], none), (67, 3, .getfield 27, [], none),
  (70, 1, .iload_n 2, [], none), (71, 1, .iconst 0, [], none), (72, 1, .iastore, [], none), (73, 1, .aload_n 0, [], none),
  (74, 3, .getfield 40, [], none), (77, 1, .iload_n 2, [], none), (78, 1, .iconst 0, [], none), (79, 1, .iastore, [], none),
  (80, 1, .iload_n 2, [], none), (81, 1, .ireturn, [], none)]
def e_fr_node (m : Nat) : gE := (k_fr_node, f_fr, c_fr, [], [], (m, 15541351137805832567355695254588151253139254712417116170014499277911234281641668279808), 0)
theorem ok_fr_node : gchk cX3_node 3 k_fr_node = true := by decide +kernel
def fn_fr_node (m : Nat) : gFn := gF (e_fr_node m) 3
theorem mo_fr_node (m : Nat) : gMo (.inl (fn_fr_node m)) := gF_mo (E := e_fr_node m) trivial
noncomputable def fr_node (σ : gM) (x1 : Int) : Option (gM × Int) := lim (fun n => fn_fr_node 119 n [(2, 8), (0, x1)] σ)
theorem fr_node_l (σ : gM) (x1 : Int) : Lm (fun n => fn_fr_node 119 n [(2, 8), (0, x1)] σ) (fr_node σ x1) := .of fun n => mo_fr_node 119 n [(2, 8), (0, x1)] σ
theorem fr_node_e (σ : gM) (x1 : Int) : fr_node σ x1 =
  (if 0 ≤ σ 8 32 then
  (if 0 ≤ x1 ∧ x1 < 4200 then
    (if 0 ≤ σ 8 12 ∧ σ 8 12 < 16000 then
      (if 0 ≤ σ 8 32 then
        (if 0 ≤ x1 ∧ x1 < 4200 then
          (if 0 ≤ σ 8 12 ∧ σ 8 12 < 16000 then
            (if 0 ≤ σ 8 12 ∧ σ 8 12 < 16000 then
              (if 0 ≤ σ 8 12 ∧ σ 8 12 < 16000 then
                (if 0 ≤ σ 8 12 ∧ σ 8 12 < 16000 then
                  (if 0 ≤ σ 8 12 ∧ σ 8 12 < 16000 then
                    (if 0 ≤ σ 8 12 ∧ σ 8 12 < 16000 then
                      (some (gW (gW (gW (gW (gW (gW (gW (gW σ 8 12 (w32 ((σ 8 12) + 1))) 9 (σ 8 12) (σ 70 x1)) 10 (σ 8 12) (σ 71 x1)) 11 (σ 8 12) 0) 12 (σ 8 12) 0) 13 (σ 8 12) (-1)) 14 (σ 8 12) 0) 18 (σ 8 12) 0, σ 8 12))
                      else none)
                    else none)
                  else none)
                else none)
              else none)
            else none)
          else none)
        else none)
      else none)
    else none)
  else none) := Lm.eqn (fr_node_l ..) (.ite (.ite (.ite (.ite (.ite (.ite (.ite (.ite (.ite (.ite (.ite .cst .cst) .cst) .cst) .cst) .cst) .cst) .cst) .cst) .cst) .cst) .cst) fun n => (rfl)
def k_fr_put : List gC := [(0, 1, .aload_n 0, [], none), (1, 3, .getfield 48, [], none), (4, 1, .aload_n 0, [], none), (5, 3, .getfield 142, [], none),
  (8, 1, .iload_n 1, [], none), (9, 1, .iastore, [], none), (10, 1, .aload_n 0, [], none), (11, 3, .getfield 51, [], none),
  (14, 1, .aload_n 0, [], none), (15, 3, .getfield 142, [], none), (18, 1, .iload_n 2, [], none), (19, 1, .iastore, [], none),
  (20, 1, .aload_n 0, [], none), (21, 3, .getfield 54, [], none), (24, 1, .aload_n 0, [], none), (25, 3, .getfield 142, [], none),
  (28, 1, .iload_n 3, [], none), (29, 1, .iastore, [], none), (30, 1, .aload_n 0, [], none), (31, 1, .dup, [], none),
  (32, 3, .getfield 142, [], none), (35, 1, .iconst 1, [], none), (36, 1, .iadd, [], none), (37, 3, .putfield 142, [], none),
  (40, 1, .aload_n 0, [], none), (41, 3, .getfield 142, [], none), (44, 1, .iconst 1, [], none), (45, 1, .isub, [], none),
  (46, 1, .ireturn, [], none)]
def e_fr_put (m : Nat) : gE := (k_fr_put, f_fr, c_fr, [], [], (m, 248661618204893321077691124073410420050228075398673858720231988446579748506266695106560), 0)
theorem ok_fr_put : gchk cX3_put 4 k_fr_put = true := by decide +kernel
def fn_fr_put (m : Nat) : gFn := gF (e_fr_put m) 4
theorem mo_fr_put (m : Nat) : gMo (.inl (fn_fr_put m)) := gF_mo (E := e_fr_put m) trivial
noncomputable def fr_put (σ : gM) (x1 x2 x3 : Int) : Option (gM × Int) := lim (fun n => fn_fr_put 119 n [(2, 8), (0, x1), (0, x2), (0, x3)] σ)
theorem fr_put_l (σ : gM) (x1 x2 x3 : Int) : Lm (fun n => fn_fr_put 119 n [(2, 8), (0, x1), (0, x2), (0, x3)] σ) (fr_put σ x1 x2 x3) := .of fun n => mo_fr_put 119 n [(2, 8), (0, x1), (0, x2), (0, x3)] σ
theorem fr_put_e (σ : gM) (x1 x2 x3 : Int) : fr_put σ x1 x2 x3 =
  (if 0 ≤ σ 8 16 ∧ σ 8 16 < 164000 then
  (if 0 ≤ σ 8 16 ∧ σ 8 16 < 164000 then
    (if 0 ≤ σ 8 16 ∧ σ 8 16 < 164000 then
      (some (gW (gW (gW (gW σ 20 (σ 8 16) x1) 21 (σ 8 16) x2) 22 (σ 8 16) x3) 8 16 (w32 ((σ 8 16) + 1)), w32 ((w32 ((σ 8 16) + 1)) - 1)))
      else none)
    else none)
  else none) := Lm.eqn (fr_put_l ..) (.ite (.ite (.ite .cst .cst) .cst) .cst) fun n => (rfl)
def k_fr_constant : List gC := [(0, 1, .aload_n 0, [], none), (1, 3, .getfield 33, [], none), (4, 1, .iload_n 1, [], none), (5, 1, .iload_n 2, [], none),
  (6, 1, .iastore, [], none), (7, 1, .aload_n 0, [], none), (8, 3, .getfield 36, [], none), (11, 1, .iload_n 1, [], none),
  (12, 1, .lload_n 3, [], none), (13, 1, .lastore, [], none), (14, 1, .aload_n 0, [], none), (15, 1, .iconst 0, [], none),
  (16, 1, .iconst 0, [], none), (17, 1, .iload_n 1, [], none), (18, 3, .invokevirtual 237, [], none), (21, 1, .pop, [], none),
  (22, 1, .return_, [], none)]
def e_fr_constant (m : Nat) : gE := (k_fr_constant, f_fr, c_fr, [(237, 4, 11, 0, .inl (fn_fr_put m))], [], (m, 248661618204893321077691124073410420050228075398673858720231988446579748506266695303168), 5)
theorem ok_fr_constant : gchk cX3_constant 5 k_fr_constant = true := by decide +kernel
def fn_fr_constant (m : Nat) : gFn := gF (e_fr_constant m) 5
theorem mo_fr_constant (m : Nat) : gMo (.inl (fn_fr_constant m)) := gF_mo (E := e_fr_constant m) ⟨mo_fr_put m, trivial⟩
noncomputable def fr_constant (σ : gM) (x1 x2 x3 : Int) : Option (gM × Int) := lim (fun n => fn_fr_constant 119 n [(2, 8), (0, x1), (0, x2), (1, x3)] σ)
theorem fr_constant_l (σ : gM) (x1 x2 x3 : Int) : Lm (fun n => fn_fr_constant 119 n [(2, 8), (0, x1), (0, x2), (1, x3)] σ) (fr_constant σ x1 x2 x3) := .of fun n => mo_fr_constant 119 n [(2, 8), (0, x1), (0, x2), (1, x3)] σ
theorem fr_constant_e (σ : gM) (x1 x2 x3 : Int) : fr_constant σ x1 x2 x3 =
  (if 0 ≤ x1 ∧ x1 < 16000 then
  (if 0 ≤ x1 ∧ x1 < 16000 then
    ((fr_put (gW (gW σ 16 x1 x2) 17 x1 x3) 0 0 x1).bind fun p1 =>
      some (p1.1, 0))
    else none)
  else none) := Lm.eqn (fr_constant_l ..) (.ite (.ite (.bind (fr_put_l ..) fun p1 => .cst) .cst) .cst) fun n => (rfl)
def k_fr_number : List gC := [(0, 1, .aload_n 0, [], none), (1, 3, .getfield 99, [], none), (4, 1, .lconst 0, [], none), (5, 3, .invokevirtual 284, [], none),
  (8, 1, .iconst 0, [], none), (9, 1, .istore_n 3, [], none), (10, 1, .iload_n 3, [], some [true, true, true, true]), (11, 1, .aload_n 0, [], none),
  (12, 3, .getfield 191, [], none), (15, 3, .getfield 275, [], none), (18, 1, .iload_n 2, [], none), (19, 1, .iaload, [], none),
  (20, 3, .if_icmp .ge 41, [(0, 61)], none), (23, 1, .aload_n 0, [], none), (24, 3, .getfield 99, [], none), (27, 1, .aload_n 0, [], none),
  (28, 3, .getfield 195, [], none), (31, 1, .aload_n 0, [], none), (32, 3, .getfield 198, [], none), (35, 1, .aload_n 0, [], none),
  (36, 3, .getfield 191, [], none), (39, 3, .getfield 272, [], none), (42, 1, .iload_n 2, [], none), (43, 1, .iaload, [], none),
  (44, 1, .iadd, [], none), (45, 1, .iload_n 3, [], none), (46, 1, .iadd, [], none), (47, 1, .baload, [], none),
  (48, 2, .bipush 48, [], none), (50, 1, .isub, [], none), (51, 3, .invokevirtual 287, [], none), (54, 1, .pop, [], none),
  (55, 3, .iinc 3 1, [], none), (58, 3, .goto (-48), [(0, 10)], none), (61, 1, .aload_n 0, [], none), (62, 3, .getfield 99, [], none),
  (65, 3, .invokevirtual 291, [], none), (68, 3, .ifCond .eq 19, [(0, 87)], none), (71, 1, .aload_n 0, [], none), (72, 1, .iload_n 1, [], none),
  (73, 1, .iconst 0, [], none), (74, 1, .aload_n 0, [], none), (75, 3, .getfield 99, [], none), (78, 3, .getfield 295, [], none),
  (81, 3, .invokevirtual 278, [], none), (84, 3, .goto 22, [(0, 106)], none), (87, 1, .aload_n 0, [], none), (88, 1, .iload_n 1, [], none),
  (89, 1, .iconst 1, [], none), (90, 1, .aload_n 0, [], none), (91, 3, .getfield 128, [], none), (94, 1, .aload_n 0, [], none),
  (95, 3, .getfield 99, [], none), (98, 1, .iconst 1, [], none), (99, 3, .invokevirtual 299, [], none), (102, 1, .i2l, [], none),
  (103, 3, .invokevirtual 278, [], none), (106, 1, .return_, [], none)]
def e_fr_number (m : Nat) : gE := (k_fr_number, f_fr, c_fr, [(284, 2, 12, 5, .inl (fn_wl_of m)), (287, 2, 12, 0, .inl (fn_wl_more m)), (291, 1, 12, 0, .inl (fn_wl_isLong m)), (278, 4, 11, 5, .inl (fn_fr_constant m)), (299, 3, 10, 0, .inl (fn_hp_whole m))], [], (m, 218048290085049122186965648269380388605798471070416818246500095669040815157396522248921976855995409309237828991707686633454348765692096), 5)
theorem ok_fr_number : gchk cX3_number 4 k_fr_number = true := by decide +kernel
def fn_fr_number (m : Nat) : gFn := gF (e_fr_number m) 4
theorem mo_fr_number (m : Nat) : gMo (.inl (fn_fr_number m)) := gF_mo (E := e_fr_number m) ⟨mo_wl_of m, ⟨mo_wl_more m, ⟨mo_wl_isLong m, ⟨mo_fr_constant m, ⟨mo_hp_whole m, trivial⟩⟩⟩⟩⟩
noncomputable def fr_number (σ : gM) (x1 x2 : Int) : Option (gM × Int) := lim (fun n => fn_fr_number 119 n [(2, 8), (0, x1), (0, x2)] σ)
theorem fr_number_l (σ : gM) (x1 x2 : Int) : Lm (fun n => fn_fr_number 119 n [(2, 8), (0, x1), (0, x2)] σ) (fr_number σ x1 x2) := .of fun n => mo_fr_number 119 n [(2, 8), (0, x1), (0, x2)] σ
theorem mb_fr_number : gMos (e_fr_number 119).2.2.2.1 := ⟨mo_wl_of 119, ⟨mo_wl_more 119, ⟨mo_wl_isLong 119, ⟨mo_fr_constant 119, ⟨mo_hp_whole 119, trivial⟩⟩⟩⟩⟩
noncomputable def fr_number_b10 (σ : gM) (x1 x2 x3 : Int) : Option (gM × Int) := lim (fun n => gB (e_fr_number 119) rF tF n 10 [(2, 8), (0, x1), (0, x2), (0, x3)] [] σ)
theorem fr_number_b10_l (σ : gM) (x1 x2 x3 : Int) : Lm (fun n => gB (e_fr_number 119) rF tF n 10 [(2, 8), (0, x1), (0, x2), (0, x3)] [] σ) (fr_number_b10 σ x1 x2 x3) := .of fun n => gB_le (gMos_spec (mb_fr_number)) n _ _ _ σ
theorem fr_number_e (σ : gM) (x1 x2 : Int) : fr_number σ x1 x2 =
  ((wl_of σ 36 0).bind fun p1 =>
  fr_number_b10 p1.1 x1 x2 0) := Lm.eqn (fr_number_l ..) (.bind (wl_of_l ..) fun p1 => (fr_number_b10_l ..)) fun n => (rfl)
theorem fr_number_b10_e (σ : gM) (x1 x2 x3 : Int) : fr_number_b10 σ x1 x2 x3 =
  (if 0 ≤ σ 8 32 then
  (if 0 ≤ x2 ∧ x2 < 4200 then
    (if x3 < σ 77 x2 then
      (if 0 ≤ σ 8 33 then
        (if 0 ≤ σ 8 32 then
          (if 0 ≤ x2 ∧ x2 < 4200 then
            (gisb 119 (σ 8 33) (if 0 ≤ w32 ((w32 ((σ 8 34) + (σ 76 x2))) + x3) ∧ w32 ((w32 ((σ 8 34) + (σ 76 x2))) + x3) < gN (σ 8 33) then
              ((wl_more σ 36 (w32 ((σ (σ 8 33) (w32 ((w32 ((σ 8 34) + (σ 76 x2))) + x3))) - 48))).bind fun p5 =>
                fr_number_b10 p5.1 x1 x2 (w32 (x3 + 1)))
              else none))
            else none)
          else none)
        else none)
      else
      ((wl_isLong σ 36).bind fun p1 =>
        if p1.2 = 0 then
        ((hp_whole p1.1 36 1).bind fun p2 =>
          (fr_constant p2.1 x1 1 p2.2).bind fun p3 =>
          some (p3.1, 0))
        else
        ((fr_constant p1.1 x1 0 (p1.1 36 3)).bind fun p4 =>
          some (p4.1, 0))))
    else none)
  else none) := Lm.eqn (fr_number_b10_l ..) (.ite (.ite (.ite (.ite (.ite (.ite (.xisb (.ite (.bind (wl_more_l ..) fun p5 => (fr_number_b10_l ..)) .cst)) .cst) .cst) .cst) (.bind (wl_isLong_l ..) fun p1 => (.ite (.bind (hp_whole_l ..) fun p2 => (.bind (fr_constant_l ..) fun p3 => .cst)) (.bind (fr_constant_l ..) fun p4 => .cst)))) .cst) .cst) fun n => (rfl)
def k_fr_property : List gC := [(0, 1, .aload_n 0, [], none), (1, 1, .aload_n 0, [], none), (2, 3, .getfield 191, [], none), (5, 3, .getfield 249, [], none),
  (8, 1, .iload_n 2, [], none), (9, 1, .iaload, [], none), (10, 3, .invokevirtual 252, [], none), (13, 1, .aload_n 0, [], none),
  (14, 3, .getfield 191, [], none), (17, 3, .getfield 255, [], none), (20, 1, .iload_n 2, [], none), (21, 1, .iaload, [], none),
  (22, 3, .ifCond .lt 19, [(0, 41)], none), (25, 1, .aload_n 0, [], none), (26, 1, .aload_n 0, [], none), (27, 3, .getfield 191, [], none),
  (30, 3, .getfield 255, [], none), (33, 1, .iload_n 2, [], none), (34, 1, .iaload, [], none), (35, 3, .invokevirtual 252, [], none),
  (38, 3, .goto 58, [(0, 96)], none), (41, 1, .aload_n 0, [], none), (42, 3, .getfield 27, [], none), (45, 1, .iload_n 1, [], none),
  (46, 1, .iconst 1, [], none), (47, 1, .iastore, [], none), (48, 1, .aload_n 0, [], none), (49, 3, .getfield 33, [], none),
  (52, 1, .iload_n 1, [], none), (53, 1, .iconst 2, [], none), (54, 1, .iastore, [], none), (55, 1, .aload_n 0, [], none),
  (56, 3, .getfield 36, [], none), (59, 1, .iload_n 1, [], none), (60, 1, .aload_n 0, [], none), (61, 3, .getfield 128, [], none),
  (64, 1, .aload_n 0, [], none), (65, 3, .getfield 195, [], none), (68, 1, .aload_n 0, [], none), (69, 3, .getfield 198, [], none),
  (72, 1, .aload_n 0, [], none), (73, 3, .getfield 191, [], none), (76, 3, .getfield 272, [], none), (79, 1, .iload_n 2, [], none),
  (80, 1, .iaload, [], none), (81, 1, .iadd, [], none), (82, 1, .aload_n 0, [], none), (83, 3, .getfield 191, [], none),
  (86, 3, .getfield 275, [], none), (89, 1, .iload_n 2, [], none), (90, 1, .iaload, [], none), (91, 3, .invokevirtual 183, [], none),
  (94, 1, .i2l, [], none), (95, 1, .lastore, [], none), (96, 1, .aload_n 0, [], some [true, true, true]), (97, 3, .getfield 191, [], none),
  (100, 3, .getfield 241, [], none), (103, 1, .iload_n 2, [], none), (104, 1, .iaload, [], none), (105, 2, .bipush 22, [], none),
  (107, 3, .if_icmp .ne 16, [(0, 123)], none), (110, 1, .aload_n 0, [], none), (111, 1, .aload_n 0, [], none), (112, 3, .getfield 191, [], none),
  (115, 3, .getfield 258, [], none), (118, 1, .iload_n 2, [], none), (119, 1, .iaload, [], none), (120, 3, .invokevirtual 252, [], none),
  (123, 1, .aload_n 0, [], some [true, true, true]), (124, 1, .aload_n 0, [], none), (125, 3, .getfield 191, [], none), (128, 3, .getfield 241, [], none),
  (131, 1, .iload_n 2, [], none), (132, 1, .iaload, [], none), (133, 2, .bipush 22, [], none), (135, 3, .if_icmp .ne 8, [(0, 143)], none),
  (138, 2, .bipush 8, [], none), (140, 3, .goto 5, [(0, 145)], none), (143, 2, .bipush 7, [], none), (145, 1, .iconst 0, [], some [false, true, false]),
  (146, 1, .iload_n 1, [], none), (147, 3, .invokevirtual 237, [], none), (150, 1, .pop, [], none), (151, 1, .return_, [], none)]
def e_fr_property (m : Nat) (r : Nat → gFn) : gE := (k_fr_property, f_fr, c_fr, [(252, 2, 11, 5, .inl (r 1)), (183, 4, 10, 0, .inl (fn_hp_string m)), (237, 4, 11, 0, .inl (fn_fr_put m))], [], (m, 218048290085049122186965648269380388605798471072421652587741210337359118887889652003913097329552891406775675989709948114824765743038206), 5)
theorem ok_fr_property : gchk cX3_property 3 k_fr_property = true := by decide +kernel
def k_fr_work_2 : List gC := [(0, 1, .aload_n 0, [], none), (1, 3, .getfield 191, [], none), (4, 3, .getfield 241, [], none), (7, 1, .iload_n 1, [], none),
  (8, 1, .iaload, [], none), (9, 107, .tableswitch 468 1 23 #[107, 116, 164, 191, 242, 268, 201, 468, 468, 468, 468, 468, 468, 468, 468, 468, 468, 307, 307, 362, 387, 387, 396], [(0, 477), (1, 116), (2, 125), (3, 173), (4, 200), (5, 251), (6, 277), (7, 210), (18, 316), (19, 316), (20, 371), (21, 396), (22, 396), (23, 405)], none), (116, 1, .aload_n 0, [], none), (117, 1, .iload_n 2, [], none),
  (118, 1, .iload_n 1, [], none), (119, 3, .invokevirtual 270, [], none), (122, 3, .goto 389, [(0, 511)], none), (125, 1, .aload_n 0, [], none),
  (126, 1, .iload_n 2, [], none), (127, 1, .iconst 2, [], none), (128, 1, .aload_n 0, [], none), (129, 3, .getfield 128, [], none),
  (132, 1, .aload_n 0, [], none), (133, 3, .getfield 195, [], none), (136, 1, .aload_n 0, [], none), (137, 3, .getfield 198, [], none),
  (140, 1, .aload_n 0, [], none), (141, 3, .getfield 191, [], none), (144, 3, .getfield 272, [], none), (147, 1, .iload_n 1, [], none),
  (148, 1, .iaload, [], none), (149, 1, .iadd, [], none), (150, 1, .iconst 1, [], none), (151, 1, .iadd, [], none),
  (152, 1, .aload_n 0, [], none), (153, 3, .getfield 191, [], none), (156, 3, .getfield 275, [], none), (159, 1, .iload_n 1, [], none),
  (160, 1, .iaload, [], none), (161, 1, .iconst 2, [], none), (162, 1, .isub, [], none), (163, 3, .invokevirtual 183, [], none),
  (166, 1, .i2l, [], none), (167, 3, .invokevirtual 278, [], none), (170, 3, .goto 341, [(0, 511)], none), (173, 1, .aload_n 0, [], none),
  (174, 1, .iload_n 2, [], none), (175, 1, .iconst 3, [], none), (176, 1, .aload_n 0, [], none), (177, 3, .getfield 191, [], none),
  (180, 3, .getfield 275, [], none), (183, 1, .iload_n 1, [], none), (184, 1, .iaload, [], none), (185, 1, .iconst 4, [], none),
  (186, 3, .if_icmp .ne 7, [(0, 193)], none), (189, 1, .lconst 1, [], none), (190, 3, .goto 4, [(0, 194)], none), (193, 1, .lconst 0, [], none),
  (194, 3, .invokevirtual 278, [], some [false, false, false, false]), (197, 3, .goto 314, [(0, 511)], none), (200, 1, .aload_n 0, [], none), (201, 1, .iload_n 2, [], none),
  (202, 1, .iconst 4, [], none), (203, 1, .lconst 0, [], none), (204, 3, .invokevirtual 278, [], none), (207, 3, .goto 304, [(0, 511)], none),
  (210, 1, .aload_n 0, [], none), (211, 1, .iload_n 2, [], none), (212, 1, .iconst 5, [], none), (213, 1, .aload_n 0, [], none),
  (214, 1, .aload_n 0, [], none), (215, 3, .getfield 195, [], none), (218, 1, .aload_n 0, [], none), (219, 3, .getfield 198, [], none),
  (222, 1, .aload_n 0, [], none), (223, 3, .getfield 191, [], none), (226, 3, .getfield 272, [], none), (229, 1, .iload_n 1, [], none),
  (230, 1, .iaload, [], none), (231, 1, .iadd, [], none), (232, 1, .aload_n 0, [], none), (233, 3, .getfield 191, [], none),
  (236, 3, .getfield 275, [], none), (239, 1, .iload_n 1, [], none), (240, 1, .iaload, [], none), (241, 3, .invokevirtual 169, [], none),
  (244, 1, .i2l, [], none), (245, 3, .invokevirtual 278, [], none), (248, 3, .goto 263, [(0, 511)], none), (251, 1, .aload_n 0, [], none),
  (252, 3, .getfield 24, [], none), (255, 1, .iload_n 2, [], none), (256, 1, .aload_n 0, [], none), (257, 3, .getfield 191, [], none),
  (260, 3, .getfield 272, [], none), (263, 1, .iload_n 1, [], none), (264, 1, .iaload, [], none), (265, 1, .iastore, [], none),
  (266, 1, .aload_n 0, [], none), (267, 1, .iconst 1, [], none), (268, 1, .iconst 0, [], none), (269, 1, .iload_n 2, [], none),
  (270, 3, .invokevirtual 237, [], none), (273, 1, .pop, [], none), (274, 3, .goto 237, [(0, 511)], none), (277, 1, .aload_n 0, [], none),
  (278, 3, .getfield 24, [], none), (281, 1, .iload_n 2, [], none), (282, 1, .aload_n 0, [], none), (283, 3, .getfield 191, [], none),
  (286, 3, .getfield 272, [], none), (289, 1, .iload_n 1, [], none), (290, 1, .iaload, [], none), (291, 1, .iastore, [], none),
  (292, 1, .aload_n 0, [], none), (293, 1, .aload_n 0, [], none), (294, 3, .getfield 191, [], none), (297, 3, .getfield 258, [], none),
  (300, 1, .iload_n 1, [], none), (301, 1, .iaload, [], none), (302, 3, .invokevirtual 252, [], none), (305, 1, .aload_n 0, [], none),
  (306, 1, .iconst 2, [], none), (307, 1, .iconst 0, [], none), (308, 1, .iload_n 2, [], none), (309, 3, .invokevirtual 237, [], none),
  (312, 1, .pop, [], none), (313, 3, .goto 198, [(0, 511)], none), (316, 1, .aload_n 0, [], none), (317, 1, .aload_n 0, [], none),
  (318, 3, .getfield 191, [], none), (321, 3, .getfield 249, [], none), (324, 1, .iload_n 1, [], none), (325, 1, .iaload, [], none),
  (326, 3, .invokevirtual 252, [], none), (329, 1, .aload_n 0, [], none), (330, 1, .iconst 4, [], none), (331, 1, .iconst 0, [], none),
  (332, 1, .iload_n 2, [], none), (333, 3, .invokevirtual 237, [], none), (336, 1, .istore_n 3, [], none), (337, 1, .aload_n 0, [], none),
  (338, 1, .aload_n 0, [], none), (339, 3, .getfield 191, [], none), (342, 3, .getfield 255, [], none), (345, 1, .iload_n 1, [], none),
  (346, 1, .iaload, [], none), (347, 3, .invokevirtual 252, [], none), (350, 1, .aload_n 0, [], none), (351, 1, .iconst 5, [], none),
  (352, 1, .iconst 0, [], none), (353, 1, .iload_n 2, [], none), (354, 3, .invokevirtual 237, [], none), (357, 1, .pop, [], none),
  (358, 1, .aload_n 0, [], none), (359, 3, .getfield 51, [], none), (362, 1, .iload_n 3, [], none), (363, 1, .aload_n 0, [], none),
  (364, 3, .getfield 142, [], none), (367, 1, .iastore, [], none), (368, 3, .goto 143, [(0, 511)], none), (371, 1, .aload_n 0, [], none),
  (372, 1, .aload_n 0, [], none), (373, 3, .getfield 191, [], none), (376, 3, .getfield 249, [], none), (379, 1, .iload_n 1, [], none),
  (380, 1, .iaload, [], none), (381, 3, .invokevirtual 252, [], none), (384, 1, .aload_n 0, [], none), (385, 2, .bipush 6, [], none),
  (387, 1, .iconst 0, [], none), (388, 1, .iload_n 2, [], none), (389, 3, .invokevirtual 237, [], none), (392, 1, .pop, [], none),
  (393, 3, .goto 118, [(0, 511)], none), (396, 1, .aload_n 0, [], none), (397, 1, .iload_n 2, [], none), (398, 1, .iload_n 1, [], none),
  (399, 3, .invokevirtual 281, [], none), (402, 3, .goto 109, [(0, 511)], none), (405, 1, .aload_n 0, [], none), (406, 1, .aload_n 0, [], none),
  (407, 3, .getfield 191, [], none), (410, 3, .getfield 249, [], none), (413, 1, .iload_n 1, [], none), (414, 1, .iaload, [], none),
  (415, 3, .invokevirtual 252, [], none), (418, 1, .aload_n 0, [], none), (419, 3, .getfield 27, [], none), (422, 1, .iload_n 2, [], none),
  (423, 1, .aload_n 0, [], none), (424, 3, .getfield 191, [], none), (427, 3, .getfield 272, [], none), (430, 1, .iload_n 1, [], none),
  (431, 1, .iaload, [], none), (432, 1, .iastore, [], none), (433, 1, .aload_n 0, [], none), (434, 3, .getfield 191, [], none),
  (437, 3, .getfield 255, [], none), (440, 1, .iload_n 1, [], none), (441, 1, .iaload, [], none), (442, 1, .istore_n 3, [], none),
  (443, 1, .iload_n 3, [], some [true, false, true, true]), (444, 3, .ifCond .lt 21, [(0, 465)], none), (447, 1, .aload_n 0, [], none), (448, 1, .iload_n 3, [], none),
  (449, 3, .invokevirtual 252, [], none), (452, 1, .aload_n 0, [], none), (453, 3, .getfield 191, [], none), (456, 3, .getfield 246, [], none),
  (459, 1, .iload_n 3, [], none), (460, 1, .iaload, [], none), (461, 1, .istore_n 3, [], none), (462, 3, .goto (-19), [(0, 443)], none),
  (465, 1, .aload_n 0, [], none), (466, 2, .bipush 9, [], none), (468, 1, .iconst 0, [], none), (469, 1, .iload_n 2, [], none),
  (470, 3, .invokevirtual 237, [], none), (473, 1, .pop, [], none), (474, 3, .goto 37, [(0, 511)], none), (477, 1, .aload_n 0, [], none),
  (478, 1, .aload_n 0, [], none), (479, 3, .getfield 191, [], none), (482, 3, .getfield 249, [], none), (485, 1, .iload_n 1, [], none),
  (486, 1, .iaload, [], none), (487, 3, .invokevirtual 252, [], none), (490, 1, .aload_n 0, [], none), (491, 1, .aload_n 0, [], none),
  (492, 3, .getfield 191, [], none), (495, 3, .getfield 255, [], none), (498, 1, .iload_n 1, [], none), (499, 1, .iaload, [], none),
  (500, 3, .invokevirtual 252, [], none), (503, 1, .aload_n 0, [], none), (504, 1, .iconst 3, [], none), (505, 1, .iconst 0, [], none),
  (506, 1, .iload_n 2, [], none), (507, 3, .invokevirtual 237, [], none), (510, 1, .pop, [], none), (511, 1, .return_, [], none)]
def e_fr_work_2 (m : Nat) (r : Nat → gFn) : gE := (k_fr_work_2, f_fr, c_fr, [(270, 3, 11, 5, .inl (fn_fr_number m)), (183, 4, 10, 0, .inl (fn_hp_string m)), (278, 4, 11, 5, .inl (fn_fr_constant m)), (169, 4, 11, 0, .inl (fn_fr_function m)), (237, 4, 11, 0, .inl (fn_fr_put m)), (252, 2, 11, 5, .inl (r 1)), (281, 3, 11, 5, .inl (r 0))], [], (m, 218048290085049122186965648269380388605798471072421652587741210337359118887889652003913097329552891406775675989709948114824765743038206), 5)
theorem ok_fr_work_2 : gchk cX3_work_2 4 k_fr_work_2 = true := by decide +kernel
def k_fr_work : List gC := [(0, 1, .aload_n 0, [], none), (1, 1, .iload_n 1, [], none), (2, 3, .invokevirtual 221, [], none), (5, 1, .istore_n 2, [], none),
  (6, 1, .aload_n 0, [], none), (7, 1, .iload_n 1, [], none), (8, 1, .iload_n 2, [], none), (9, 3, .invokevirtual 268, [], none),
  (12, 1, .aload_n 0, [], none), (13, 3, .getfield 30, [], none), (16, 1, .iload_n 2, [], none), (17, 1, .aload_n 0, [], none),
  (18, 3, .getfield 138, [], none), (21, 1, .iastore, [], none), (22, 1, .return_, [], none)]
def e_fr_work (m : Nat) (r : Nat → gFn) : gE := (k_fr_work, f_fr, c_fr, [(221, 2, 11, 0, .inl (fn_fr_node m)), (268, 3, 11, 5, .inl (r 2))], [], (m, 218048290085049122186965648269380388605798471072421652587741210337359118887889652003913097329552891406775675989709948114824765743038206), 5)
theorem ok_fr_work : gchk cX3_work 3 k_fr_work = true := by decide +kernel
def rec_fr_property (m : Nat) : Nat → Nat → gFn
  | 0, _ => fun _ _ _ => none
  | d + 1, k => match k with
    | 0 => gF (e_fr_property m (rec_fr_property m d)) 3
    | 1 => gF (e_fr_work m (rec_fr_property m d)) 3
    | _ => gF (e_fr_work_2 m (rec_fr_property m d)) 4
theorem mo_rec_fr_property (m : Nat) : ∀ (d k : Nat), gMo (.inl (rec_fr_property m d k))
  | 0, _ => gMo_none
  | d + 1, 0 => gF_mo (E := e_fr_property m (rec_fr_property m d)) ⟨mo_rec_fr_property m d 1, ⟨mo_hp_string m, ⟨mo_fr_put m, trivial⟩⟩⟩
  | d + 1, 1 => gF_mo (E := e_fr_work m (rec_fr_property m d)) ⟨mo_fr_node m, ⟨mo_rec_fr_property m d 2, trivial⟩⟩
  | d + 1, _ + 2 => gF_mo (E := e_fr_work_2 m (rec_fr_property m d)) ⟨mo_fr_number m, ⟨mo_hp_string m, ⟨mo_fr_constant m, ⟨mo_fr_function m, ⟨mo_fr_put m, ⟨mo_rec_fr_property m d 1, ⟨mo_rec_fr_property m d 0, trivial⟩⟩⟩⟩⟩⟩⟩
noncomputable def fr_property (d : Nat) (σ : gM) (x1 x2 : Int) : Option (gM × Int) := lim (fun n => rec_fr_property 119 d 0 n [(2, 8), (0, x1), (0, x2)] σ)
theorem fr_property_l (d : Nat) (σ : gM) (x1 x2 : Int) : Lm (fun n => rec_fr_property 119 d 0 n [(2, 8), (0, x1), (0, x2)] σ) (fr_property d σ x1 x2) := .of fun n => mo_rec_fr_property 119 d 0 n [(2, 8), (0, x1), (0, x2)] σ
theorem mb_fr_property (d : Nat) : gMos (e_fr_property 119 (rec_fr_property 119 d)).2.2.2.1 := ⟨mo_rec_fr_property 119 d 1, ⟨mo_hp_string 119, ⟨mo_fr_put 119, trivial⟩⟩⟩
noncomputable def fr_property_b96 (d : Nat) (σ : gM) (x1 x2 : Int) : Option (gM × Int) := lim (fun n => gB (e_fr_property 119 (rec_fr_property 119 d)) rF tF n 96 [(2, 8), (0, x1), (0, x2)] [] σ)
theorem fr_property_b96_l (d : Nat) (σ : gM) (x1 x2 : Int) : Lm (fun n => gB (e_fr_property 119 (rec_fr_property 119 d)) rF tF n 96 [(2, 8), (0, x1), (0, x2)] [] σ) (fr_property_b96 d σ x1 x2) := .of fun n => gB_le (gMos_spec (mb_fr_property d)) n _ _ _ σ
noncomputable def fr_property_b123 (d : Nat) (σ : gM) (x1 x2 : Int) : Option (gM × Int) := lim (fun n => gB (e_fr_property 119 (rec_fr_property 119 d)) rF tF n 123 [(2, 8), (0, x1), (0, x2)] [] σ)
theorem fr_property_b123_l (d : Nat) (σ : gM) (x1 x2 : Int) : Lm (fun n => gB (e_fr_property 119 (rec_fr_property 119 d)) rF tF n 123 [(2, 8), (0, x1), (0, x2)] [] σ) (fr_property_b123 d σ x1 x2) := .of fun n => gB_le (gMos_spec (mb_fr_property d)) n _ _ _ σ
noncomputable def fr_property_b145 (d : Nat) (σ : gM) (x1 y0 : Int) : Option (gM × Int) := lim (fun n => gB (e_fr_property 119 (rec_fr_property 119 d)) rF tF n 145 [(9, 0), (0, x1), (9, 0)] [(0, y0), (2, 8)] σ)
theorem fr_property_b145_l (d : Nat) (σ : gM) (x1 y0 : Int) : Lm (fun n => gB (e_fr_property 119 (rec_fr_property 119 d)) rF tF n 145 [(9, 0), (0, x1), (9, 0)] [(0, y0), (2, 8)] σ) (fr_property_b145 d σ x1 y0) := .of fun n => gB_le (gMos_spec (mb_fr_property d)) n _ _ _ σ
noncomputable def fr_work_2 (d : Nat) (σ : gM) (x1 x2 : Int) : Option (gM × Int) := lim (fun n => rec_fr_property 119 d 2 n [(2, 8), (0, x1), (0, x2)] σ)
theorem fr_work_2_l (d : Nat) (σ : gM) (x1 x2 : Int) : Lm (fun n => rec_fr_property 119 d 2 n [(2, 8), (0, x1), (0, x2)] σ) (fr_work_2 d σ x1 x2) := .of fun n => mo_rec_fr_property 119 d 2 n [(2, 8), (0, x1), (0, x2)] σ
theorem mb_fr_work_2 (d : Nat) : gMos (e_fr_work_2 119 (rec_fr_property 119 d)).2.2.2.1 := ⟨mo_fr_number 119, ⟨mo_hp_string 119, ⟨mo_fr_constant 119, ⟨mo_fr_function 119, ⟨mo_fr_put 119, ⟨mo_rec_fr_property 119 d 1, ⟨mo_rec_fr_property 119 d 0, trivial⟩⟩⟩⟩⟩⟩⟩
noncomputable def fr_work_2_b194 (d : Nat) (σ : gM) (y0 y1 y2 : Int) : Option (gM × Int) := lim (fun n => gB (e_fr_work_2 119 (rec_fr_property 119 d)) rF tF n 194 [(9, 0), (9, 0), (9, 0), (9, 0)] [(1, y0), (0, y1), (0, y2), (2, 8)] σ)
theorem fr_work_2_b194_l (d : Nat) (σ : gM) (y0 y1 y2 : Int) : Lm (fun n => gB (e_fr_work_2 119 (rec_fr_property 119 d)) rF tF n 194 [(9, 0), (9, 0), (9, 0), (9, 0)] [(1, y0), (0, y1), (0, y2), (2, 8)] σ) (fr_work_2_b194 d σ y0 y1 y2) := .of fun n => gB_le (gMos_spec (mb_fr_work_2 d)) n _ _ _ σ
noncomputable def fr_work_2_b443 (d : Nat) (σ : gM) (x2 x3 : Int) : Option (gM × Int) := lim (fun n => gB (e_fr_work_2 119 (rec_fr_property 119 d)) rF tF n 443 [(2, 8), (9, 0), (0, x2), (0, x3)] [] σ)
theorem fr_work_2_b443_l (d : Nat) (σ : gM) (x2 x3 : Int) : Lm (fun n => gB (e_fr_work_2 119 (rec_fr_property 119 d)) rF tF n 443 [(2, 8), (9, 0), (0, x2), (0, x3)] [] σ) (fr_work_2_b443 d σ x2 x3) := .of fun n => gB_le (gMos_spec (mb_fr_work_2 d)) n _ _ _ σ
noncomputable def fr_work (d : Nat) (σ : gM) (x1 : Int) : Option (gM × Int) := lim (fun n => rec_fr_property 119 d 1 n [(2, 8), (0, x1)] σ)
theorem fr_work_l (d : Nat) (σ : gM) (x1 : Int) : Lm (fun n => rec_fr_property 119 d 1 n [(2, 8), (0, x1)] σ) (fr_work d σ x1) := .of fun n => mo_rec_fr_property 119 d 1 n [(2, 8), (0, x1)] σ
theorem fr_property_e (d : Nat) (σ : gM) (x1 x2 : Int) : fr_property (d + 1) σ x1 x2 =
  (if 0 ≤ σ 8 32 then
  (if 0 ≤ x2 ∧ x2 < 4200 then
    ((fr_work d σ (σ 72 x2)).bind fun p1 =>
      if 0 ≤ p1.1 8 32 then
      (if 0 ≤ x2 ∧ x2 < 4200 then
        (if p1.1 73 x2 < 0 then
          (if 0 ≤ x1 ∧ x1 < 16000 then
            (if 0 ≤ x1 ∧ x1 < 16000 then
              (if 0 ≤ p1.1 8 33 then
                (if 0 ≤ p1.1 8 32 then
                  (if 0 ≤ x2 ∧ x2 < 4200 then
                    (if 0 ≤ p1.1 8 32 then
                      (if 0 ≤ x2 ∧ x2 < 4200 then
                        ((hp_string (gW (gW p1.1 14 x1 1) 16 x1 2) (p1.1 8 33) (w32 ((p1.1 8 34) + (p1.1 76 x2))) (p1.1 77 x2)).bind fun p2 =>
                          if 0 ≤ x1 ∧ x1 < 16000 then
                          (fr_property_b96 d (gW p2.1 17 x1 p2.2) x1 x2)
                          else none)
                        else none)
                      else none)
                    else none)
                  else none)
                else none)
              else none)
            else none)
          else
          (if 0 ≤ p1.1 8 32 then
            (if 0 ≤ x2 ∧ x2 < 4200 then
              ((fr_work d p1.1 (p1.1 73 x2)).bind fun p3 =>
                fr_property_b96 d p3.1 x1 x2)
              else none)
            else none))
        else none)
      else none)
    else none)
  else none) := Lm.eqn (fr_property_l ..) (.ite (.ite (.bind (fr_work_l ..) fun p1 => (.ite (.ite (.ite (.ite (.ite (.ite (.ite (.ite (.ite (.ite (.bind (hp_string_l ..) fun p2 => (.ite (fr_property_b96_l ..) .cst)) .cst) .cst) .cst) .cst) .cst) .cst) .cst) (.ite (.ite (.bind (fr_work_l ..) fun p3 => (fr_property_b96_l ..)) .cst) .cst)) .cst) .cst)) .cst) .cst) fun n => (rfl)
theorem fr_property_b96_e (d : Nat) (σ : gM) (x1 x2 : Int) : fr_property_b96 d σ x1 x2 =
  (if 0 ≤ σ 8 32 then
  (if 0 ≤ x2 ∧ x2 < 4200 then
    (if σ 70 x2 = 22 then
      (if 0 ≤ σ 8 32 then
        (if 0 ≤ x2 ∧ x2 < 4200 then
          ((fr_work d σ (σ 74 x2)).bind fun p1 =>
            fr_property_b123 d p1.1 x1 x2)
          else none)
        else none)
      else
      (fr_property_b123 d σ x1 x2))
    else none)
  else none) := Lm.eqn (fr_property_b96_l ..) (.ite (.ite (.ite (.ite (.ite (.bind (fr_work_l ..) fun p1 => (fr_property_b123_l ..)) .cst) .cst) (fr_property_b123_l ..)) .cst) .cst) fun n => (rfl)
theorem fr_property_b123_e (d : Nat) (σ : gM) (x1 x2 : Int) : fr_property_b123 d σ x1 x2 =
  (if 0 ≤ σ 8 32 then
  (if 0 ≤ x2 ∧ x2 < 4200 then
    (if σ 70 x2 = 22 then
      (fr_property_b145 d σ x1 8)
      else
      (fr_property_b145 d σ x1 7))
    else none)
  else none) := Lm.eqn (fr_property_b123_l ..) (.ite (.ite (.ite (fr_property_b145_l ..) (fr_property_b145_l ..)) .cst) .cst) fun n => (rfl)
theorem fr_property_b145_e (d : Nat) (σ : gM) (x1 y0 : Int) : fr_property_b145 d σ x1 y0 =
  ((fr_put σ y0 0 x1).bind fun p1 =>
  some (p1.1, 0)) := Lm.eqn (fr_property_b145_l ..) (.bind (fr_put_l ..) fun p1 => .cst) fun n => (rfl)
theorem fr_work_2_e (d : Nat) (σ : gM) (x1 x2 : Int) : fr_work_2 (d + 1) σ x1 x2 =
  (if 0 ≤ σ 8 32 then
  (if 0 ≤ x1 ∧ x1 < 4200 then
    (if σ 70 x1 = 1 then
      ((fr_number σ x2 x1).bind fun p1 =>
        some (p1.1, 0))
      else if σ 70 x1 = 2 then
      (if 0 ≤ σ 8 33 then
        (if 0 ≤ σ 8 32 then
          (if 0 ≤ x1 ∧ x1 < 4200 then
            (if 0 ≤ σ 8 32 then
              (if 0 ≤ x1 ∧ x1 < 4200 then
                ((hp_string σ (σ 8 33) (w32 ((w32 ((σ 8 34) + (σ 76 x1))) + 1)) (w32 ((σ 77 x1) - 2))).bind fun p2 =>
                  (fr_constant p2.1 x2 2 p2.2).bind fun p3 =>
                  some (p3.1, 0))
                else none)
              else none)
            else none)
          else none)
        else none)
      else if σ 70 x1 = 3 then
      (if 0 ≤ σ 8 32 then
        (if 0 ≤ x1 ∧ x1 < 4200 then
          (if σ 77 x1 = 4 then
            (fr_work_2_b194 d σ 1 3 x2)
            else
            (fr_work_2_b194 d σ 0 3 x2))
          else none)
        else none)
      else if σ 70 x1 = 4 then
      ((fr_constant σ x2 4 0).bind fun p4 =>
        some (p4.1, 0))
      else if σ 70 x1 = 5 then
      (if 0 ≤ σ 8 32 then
        (if 0 ≤ x1 ∧ x1 < 4200 then
          (if 0 ≤ x2 ∧ x2 < 16000 then
            ((fr_put (gW σ 13 x2 (σ 76 x1)) 1 0 x2).bind fun p5 =>
              some (p5.1, 0))
            else none)
          else none)
        else none)
      else if σ 70 x1 = 6 then
      (if 0 ≤ σ 8 32 then
        (if 0 ≤ x1 ∧ x1 < 4200 then
          (if 0 ≤ x2 ∧ x2 < 16000 then
            (if 0 ≤ σ 8 32 then
              (if 0 ≤ x1 ∧ x1 < 4200 then
                ((fr_work d (gW σ 13 x2 (σ 76 x1)) (σ 74 x1)).bind fun p6 =>
                  (fr_put p6.1 2 0 x2).bind fun p7 =>
                  some (p7.1, 0))
                else none)
              else none)
            else none)
          else none)
        else none)
      else if σ 70 x1 = 7 then
      (if 0 ≤ σ 8 33 then
        (if 0 ≤ σ 8 32 then
          (if 0 ≤ x1 ∧ x1 < 4200 then
            (if 0 ≤ σ 8 32 then
              (if 0 ≤ x1 ∧ x1 < 4200 then
                ((fr_function σ (σ 8 33) (w32 ((σ 8 34) + (σ 76 x1))) (σ 77 x1)).bind fun p8 =>
                  (fr_constant p8.1 x2 5 p8.2).bind fun p9 =>
                  some (p9.1, 0))
                else none)
              else none)
            else none)
          else none)
        else none)
      else if σ 70 x1 = 18 then
      (if 0 ≤ σ 8 32 then
        (if 0 ≤ x1 ∧ x1 < 4200 then
          ((fr_work d σ (σ 72 x1)).bind fun p10 =>
            (fr_put p10.1 4 0 x2).bind fun p11 =>
            if 0 ≤ p11.1 8 32 then
            (if 0 ≤ x1 ∧ x1 < 4200 then
              ((fr_work d p11.1 (p11.1 73 x1)).bind fun p12 =>
                (fr_put p12.1 5 0 x2).bind fun p13 =>
                if 0 ≤ p11.2 ∧ p11.2 < 164000 then
                (some (gW p13.1 21 p11.2 (p13.1 8 16), 0))
                else none)
              else none)
            else none)
          else none)
        else none)
      else if σ 70 x1 = 19 then
      (if 0 ≤ σ 8 32 then
        (if 0 ≤ x1 ∧ x1 < 4200 then
          ((fr_work d σ (σ 72 x1)).bind fun p14 =>
            (fr_put p14.1 4 0 x2).bind fun p15 =>
            if 0 ≤ p15.1 8 32 then
            (if 0 ≤ x1 ∧ x1 < 4200 then
              ((fr_work d p15.1 (p15.1 73 x1)).bind fun p16 =>
                (fr_put p16.1 5 0 x2).bind fun p17 =>
                if 0 ≤ p15.2 ∧ p15.2 < 164000 then
                (some (gW p17.1 21 p15.2 (p17.1 8 16), 0))
                else none)
              else none)
            else none)
          else none)
        else none)
      else if σ 70 x1 = 20 then
      (if 0 ≤ σ 8 32 then
        (if 0 ≤ x1 ∧ x1 < 4200 then
          ((fr_work d σ (σ 72 x1)).bind fun p18 =>
            (fr_put p18.1 6 0 x2).bind fun p19 =>
            some (p19.1, 0))
          else none)
        else none)
      else if σ 70 x1 = 21 then
      ((fr_property d σ x2 x1).bind fun p20 =>
        some (p20.1, 0))
      else if σ 70 x1 = 22 then
      ((fr_property d σ x2 x1).bind fun p21 =>
        some (p21.1, 0))
      else if σ 70 x1 = 23 then
      (if 0 ≤ σ 8 32 then
        (if 0 ≤ x1 ∧ x1 < 4200 then
          ((fr_work d σ (σ 72 x1)).bind fun p22 =>
            if 0 ≤ p22.1 8 32 then
            (if 0 ≤ x1 ∧ x1 < 4200 then
              (if 0 ≤ x2 ∧ x2 < 16000 then
                (if 0 ≤ p22.1 8 32 then
                  (if 0 ≤ x1 ∧ x1 < 4200 then
                    (fr_work_2_b443 d (gW p22.1 14 x2 (p22.1 76 x1)) x2 (p22.1 73 x1))
                    else none)
                  else none)
                else none)
              else none)
            else none)
          else none)
        else none)
      else (if 0 ≤ σ 8 32 then
        (if 0 ≤ x1 ∧ x1 < 4200 then
          ((fr_work d σ (σ 72 x1)).bind fun p23 =>
            if 0 ≤ p23.1 8 32 then
            (if 0 ≤ x1 ∧ x1 < 4200 then
              ((fr_work d p23.1 (p23.1 73 x1)).bind fun p24 =>
                (fr_put p24.1 3 0 x2).bind fun p25 =>
                some (p25.1, 0))
              else none)
            else none)
          else none)
        else none))
    else none)
  else none) := Lm.eqn (fr_work_2_l ..) (.ite (.ite (.ite (.bind (fr_number_l ..) fun p1 => .cst) (.ite (.ite (.ite (.ite (.ite (.ite (.bind (hp_string_l ..) fun p2 => (.bind (fr_constant_l ..) fun p3 => .cst)) .cst) .cst) .cst) .cst) .cst) (.ite (.ite (.ite (.ite (fr_work_2_b194_l ..) (fr_work_2_b194_l ..)) .cst) .cst) (.ite (.bind (fr_constant_l ..) fun p4 => .cst) (.ite (.ite (.ite (.ite (.bind (fr_put_l ..) fun p5 => .cst) .cst) .cst) .cst) (.ite (.ite (.ite (.ite (.ite (.ite (.bind (fr_work_l ..) fun p6 => (.bind (fr_put_l ..) fun p7 => .cst)) .cst) .cst) .cst) .cst) .cst) (.ite (.ite (.ite (.ite (.ite (.ite (.bind (fr_function_l ..) fun p8 => (.bind (fr_constant_l ..) fun p9 => .cst)) .cst) .cst) .cst) .cst) .cst) (.ite (.ite (.ite (.bind (fr_work_l ..) fun p10 => (.bind (fr_put_l ..) fun p11 => (.ite (.ite (.bind (fr_work_l ..) fun p12 => (.bind (fr_put_l ..) fun p13 => (.ite .cst .cst))) .cst) .cst))) .cst) .cst) (.ite (.ite (.ite (.bind (fr_work_l ..) fun p14 => (.bind (fr_put_l ..) fun p15 => (.ite (.ite (.bind (fr_work_l ..) fun p16 => (.bind (fr_put_l ..) fun p17 => (.ite .cst .cst))) .cst) .cst))) .cst) .cst) (.ite (.ite (.ite (.bind (fr_work_l ..) fun p18 => (.bind (fr_put_l ..) fun p19 => .cst)) .cst) .cst) (.ite (.bind (fr_property_l ..) fun p20 => .cst) (.ite (.bind (fr_property_l ..) fun p21 => .cst) (.ite (.ite (.ite (.bind (fr_work_l ..) fun p22 => (.ite (.ite (.ite (.ite (.ite (fr_work_2_b443_l ..) .cst) .cst) .cst) .cst) .cst)) .cst) .cst) (.ite (.ite (.bind (fr_work_l ..) fun p23 => (.ite (.ite (.bind (fr_work_l ..) fun p24 => (.bind (fr_put_l ..) fun p25 => .cst)) .cst) .cst)) .cst) .cst)))))))))))))) .cst) .cst) fun n => (rfl)
theorem fr_work_2_b194_e (d : Nat) (σ : gM) (y0 y1 y2 : Int) : fr_work_2_b194 d σ y0 y1 y2 =
  ((fr_constant σ y2 y1 y0).bind fun p1 =>
  some (p1.1, 0)) := Lm.eqn (fr_work_2_b194_l ..) (.bind (fr_constant_l ..) fun p1 => .cst) fun n => (rfl)
theorem fr_work_2_b443_e (d : Nat) (σ : gM) (x2 x3 : Int) : fr_work_2_b443 d σ x2 x3 =
  (if x3 < 0 then
  ((fr_put σ 9 0 x2).bind fun p1 =>
    some (p1.1, 0))
  else
  ((fr_work d σ x3).bind fun p2 =>
    if 0 ≤ p2.1 8 32 then
    (if 0 ≤ x3 ∧ x3 < 4200 then
      (fr_work_2_b443 d p2.1 x2 (p2.1 75 x3))
      else none)
    else none)) := Lm.eqn (fr_work_2_b443_l ..) (.ite (.bind (fr_put_l ..) fun p1 => .cst) (.bind (fr_work_l ..) fun p2 => (.ite (.ite (fr_work_2_b443_l ..) .cst) .cst))) fun n => (rfl)
theorem fr_work_e (d : Nat) (σ : gM) (x1 : Int) : fr_work (d + 1) σ x1 =
  ((fr_node σ x1).bind fun p1 =>
  (fr_work_2 d p1.1 x1 p1.2).bind fun p2 =>
  if 0 ≤ p1.2 ∧ p1.2 < 16000 then
  (some (gW p2.1 15 p1.2 (p2.1 8 12), 0))
  else none) := Lm.eqn (fr_work_l ..) (.bind (fr_node_l ..) fun p1 => (.bind (fr_work_2_l ..) fun p2 => (.ite .cst .cst))) fun n => (rfl)
def k_fr_land : List gC := [(0, 1, .iload_n 1, [], none), (1, 1, .istore_n 2, [], none), (2, 1, .iload_n 2, [], some [true, false, true, false]), (3, 3, .ifCond .lt 25, [(0, 28)], none),
  (6, 1, .aload_n 0, [], none), (7, 3, .getfield 51, [], none), (10, 1, .iload_n 2, [], none), (11, 1, .iaload, [], none),
  (12, 1, .istore_n 3, [], none), (13, 1, .aload_n 0, [], none), (14, 3, .getfield 51, [], none), (17, 1, .iload_n 2, [], none),
  (18, 1, .aload_n 0, [], none), (19, 3, .getfield 142, [], none), (22, 1, .iastore, [], none), (23, 1, .iload_n 3, [], none),
  (24, 1, .istore_n 2, [], none), (25, 3, .goto (-23), [(0, 2)], none), (28, 1, .return_, [], none)]
def e_fr_land (m : Nat) : gE := (k_fr_land, f_fr, c_fr, [], [], (m, 2097152), 5)
theorem ok_fr_land : gchk cX3_land 4 k_fr_land = true := by decide +kernel
def fn_fr_land (m : Nat) : gFn := gF (e_fr_land m) 4
theorem mo_fr_land (m : Nat) : gMo (.inl (fn_fr_land m)) := gF_mo (E := e_fr_land m) trivial
noncomputable def fr_land (σ : gM) (x1 : Int) : Option (gM × Int) := lim (fun n => fn_fr_land 119 n [(2, 8), (0, x1)] σ)
theorem fr_land_l (σ : gM) (x1 : Int) : Lm (fun n => fn_fr_land 119 n [(2, 8), (0, x1)] σ) (fr_land σ x1) := .of fun n => mo_fr_land 119 n [(2, 8), (0, x1)] σ
theorem mb_fr_land : gMos (e_fr_land 119).2.2.2.1 := trivial
noncomputable def fr_land_b2 (σ : gM) (x2 : Int) : Option (gM × Int) := lim (fun n => gB (e_fr_land 119) rF tF n 2 [(2, 8), (9, 0), (0, x2), (9, 0)] [] σ)
theorem fr_land_b2_l (σ : gM) (x2 : Int) : Lm (fun n => gB (e_fr_land 119) rF tF n 2 [(2, 8), (9, 0), (0, x2), (9, 0)] [] σ) (fr_land_b2 σ x2) := .of fun n => gB_le (gMos_spec (mb_fr_land)) n _ _ _ σ
theorem fr_land_e (σ : gM) (x1 : Int) : fr_land σ x1 =
  (fr_land_b2 σ x1) := Lm.eqn (fr_land_l ..) (fr_land_b2_l ..) fun n => (rfl)
theorem fr_land_b2_e (σ : gM) (x2 : Int) : fr_land_b2 σ x2 =
  (if x2 < 0 then
  (some (σ, 0))
  else
  (if 0 ≤ x2 ∧ x2 < 164000 then
    (if 0 ≤ x2 ∧ x2 < 164000 then
      (fr_land_b2 (gW σ 21 x2 (σ 8 16)) (σ 21 x2))
      else none)
    else none)) := Lm.eqn (fr_land_b2_l ..) (.ite .cst (.ite (.ite (fr_land_b2_l ..) .cst) .cst)) fun n => (rfl)
def k_fr_loop : List gC := [(0, 1, .aload_n 0, [], none), (1, 3, .getfield 224, [], none), (4, 1, .istore_n 3, [], none), (5, 1, .aload_n 0, [], none),
  (6, 3, .getfield 227, [], none), (9, 2, .istore 4, [], none), (11, 1, .aload_n 0, [], none), (12, 1, .iconst (-1), [], none),
  (13, 3, .putfield 224, [], none), (16, 1, .aload_n 0, [], none), (17, 1, .iconst (-1), [], none), (18, 3, .putfield 227, [], none),
  (21, 1, .aload_n 0, [], none), (22, 3, .getfield 142, [], none), (25, 2, .istore 5, [], none), (27, 1, .aload_n 0, [], none),
  (28, 1, .aload_n 0, [], none), (29, 3, .getfield 191, [], none), (32, 3, .getfield 249, [], none), (35, 1, .iload_n 1, [], none),
  (36, 1, .iaload, [], none), (37, 3, .invokevirtual 252, [], none), (40, 1, .aload_n 0, [], none), (41, 2, .bipush 12, [], none),
  (43, 1, .iconst 0, [], none), (44, 1, .iload_n 2, [], none), (45, 3, .invokevirtual 237, [], none), (48, 2, .istore 6, [], none),
  (50, 1, .aload_n 0, [], none), (51, 1, .aload_n 0, [], none), (52, 3, .getfield 191, [], none), (55, 3, .getfield 255, [], none),
  (58, 1, .iload_n 1, [], none), (59, 1, .iaload, [], none), (60, 3, .invokevirtual 233, [], none), (63, 1, .aload_n 0, [], none),
  (64, 1, .aload_n 0, [], none), (65, 3, .getfield 227, [], none), (68, 3, .invokevirtual 265, [], none), (71, 1, .aload_n 0, [], none),
  (72, 2, .bipush 13, [], none), (74, 2, .iload 5, [], none), (76, 1, .iload_n 2, [], none), (77, 3, .invokevirtual 237, [], none),
  (80, 1, .pop, [], none), (81, 1, .aload_n 0, [], none), (82, 3, .getfield 51, [], none), (85, 2, .iload 6, [], none),
  (87, 1, .aload_n 0, [], none), (88, 3, .getfield 142, [], none), (91, 1, .iastore, [], none), (92, 1, .aload_n 0, [], none),
  (93, 1, .aload_n 0, [], none), (94, 3, .getfield 224, [], none), (97, 3, .invokevirtual 265, [], none), (100, 1, .aload_n 0, [], none),
  (101, 1, .iload_n 3, [], none), (102, 3, .putfield 224, [], none), (105, 1, .aload_n 0, [], none), (106, 2, .iload 4, [], none),
  (108, 3, .putfield 227, [], none), (111, 1, .return_, [], none)]
def e_fr_loop (m : Nat) (r : Nat → gFn) : gE := (k_fr_loop, f_fr, c_fr, [(252, 2, 11, 5, .inl (rec_fr_property m 1000 1)), (237, 4, 11, 0, .inl (fn_fr_put m)), (233, 2, 11, 5, .inl (r 2)), (265, 2, 11, 5, .inl (fn_fr_land m))], [], (m, 218048290085049122186965648269380388605799253294236565030398337420503468089103495767776265049073135684708228072129057236119940167630590), 5)
theorem ok_fr_loop : gchk cX3_loop 7 k_fr_loop = true := by decide +kernel
def k_fr_statement : List gC := [(0, 1, .aload_n 0, [], none), (1, 2, .bipush 10, [], none), (3, 1, .iconst 0, [], none), (4, 1, .aload_n 0, [], none),
  (5, 3, .getfield 138, [], none), (8, 3, .invokevirtual 237, [], none), (11, 1, .istore_n 2, [], none), (12, 1, .aload_n 0, [], none),
  (13, 3, .getfield 191, [], none), (16, 3, .getfield 241, [], none), (19, 1, .iload_n 1, [], none), (20, 1, .iaload, [], none),
  (21, 35, .tableswitch 241 24 28 #[35, 125, 138, 193, 217], [(0, 262), (24, 56), (25, 146), (26, 159), (27, 214), (28, 238)], none), (56, 1, .aload_n 0, [], none), (57, 1, .iload_n 1, [], none), (58, 3, .invokevirtual 221, [], none),
  (61, 1, .istore_n 3, [], none), (62, 1, .aload_n 0, [], none), (63, 1, .aload_n 0, [], none), (64, 3, .getfield 191, [], none),
  (67, 3, .getfield 249, [], none), (70, 1, .iload_n 1, [], none), (71, 1, .iaload, [], none), (72, 3, .invokevirtual 252, [], none),
  (75, 1, .aload_n 0, [], none), (76, 2, .bipush 11, [], none), (78, 1, .iconst 0, [], none), (79, 1, .iload_n 3, [], none),
  (80, 3, .invokevirtual 237, [], none), (83, 2, .istore 4, [], none), (85, 1, .aload_n 0, [], none), (86, 1, .aload_n 0, [], none),
  (87, 3, .getfield 191, [], none), (90, 3, .getfield 255, [], none), (93, 1, .iload_n 1, [], none), (94, 1, .iaload, [], none),
  (95, 3, .invokevirtual 233, [], none), (98, 1, .aload_n 0, [], none), (99, 2, .bipush 14, [], none), (101, 1, .iconst 0, [], none),
  (102, 1, .iconst (-1), [], none), (103, 3, .invokevirtual 237, [], none), (106, 2, .istore 5, [], none), (108, 1, .aload_n 0, [], none),
  (109, 3, .getfield 51, [], none), (112, 2, .iload 4, [], none), (114, 1, .aload_n 0, [], none), (115, 3, .getfield 142, [], none),
  (118, 1, .iastore, [], none), (119, 1, .aload_n 0, [], none), (120, 1, .aload_n 0, [], none), (121, 3, .getfield 191, [], none),
  (124, 3, .getfield 258, [], none), (127, 1, .iload_n 1, [], none), (128, 1, .iaload, [], none), (129, 3, .invokevirtual 233, [], none),
  (132, 1, .aload_n 0, [], none), (133, 3, .getfield 51, [], none), (136, 2, .iload 5, [], none), (138, 1, .aload_n 0, [], none),
  (139, 3, .getfield 142, [], none), (142, 1, .iastore, [], none), (143, 3, .goto 141, [(0, 284)], none), (146, 1, .aload_n 0, [], none),
  (147, 1, .iload_n 1, [], none), (148, 1, .aload_n 0, [], none), (149, 1, .iload_n 1, [], none), (150, 3, .invokevirtual 221, [], none),
  (153, 3, .invokevirtual 261, [], none), (156, 3, .goto 128, [(0, 284)], none), (159, 1, .aload_n 0, [], none), (160, 1, .iload_n 1, [], none),
  (161, 3, .invokevirtual 221, [], none), (164, 1, .istore_n 3, [], none), (165, 1, .aload_n 0, [], none), (166, 3, .getfield 191, [], none),
  (169, 3, .getfield 249, [], none), (172, 1, .iload_n 1, [], none), (173, 1, .iaload, [], none), (174, 3, .ifCond .ge 15, [(0, 189)], none),
  (177, 1, .aload_n 0, [], none), (178, 2, .bipush 17, [], none), (180, 1, .iconst 0, [], none), (181, 1, .iconst (-1), [], none),
  (182, 3, .invokevirtual 237, [], none), (185, 1, .pop, [], none), (186, 3, .goto 16, [(0, 202)], none), (189, 1, .aload_n 0, [], none),
  (190, 1, .aload_n 0, [], none), (191, 3, .getfield 191, [], none), (194, 3, .getfield 249, [], none), (197, 1, .iload_n 1, [], none),
  (198, 1, .iaload, [], none), (199, 3, .invokevirtual 252, [], none), (202, 1, .aload_n 0, [], some [true, false, false, true, false, false]), (203, 2, .bipush 16, [], none),
  (205, 1, .iconst 0, [], none), (206, 1, .iload_n 3, [], none), (207, 3, .invokevirtual 237, [], none), (210, 1, .pop, [], none),
  (211, 3, .goto 73, [(0, 284)], none), (214, 1, .aload_n 0, [], none), (215, 1, .iload_n 1, [], none), (216, 3, .invokevirtual 221, [], none),
  (219, 1, .pop, [], none), (220, 1, .aload_n 0, [], none), (221, 1, .aload_n 0, [], none), (222, 2, .bipush 14, [], none),
  (224, 1, .aload_n 0, [], none), (225, 3, .getfield 224, [], none), (228, 1, .iconst (-1), [], none), (229, 3, .invokevirtual 237, [], none),
  (232, 3, .putfield 224, [], none), (235, 3, .goto 49, [(0, 284)], none), (238, 1, .aload_n 0, [], none), (239, 1, .iload_n 1, [], none),
  (240, 3, .invokevirtual 221, [], none), (243, 1, .pop, [], none), (244, 1, .aload_n 0, [], none), (245, 1, .aload_n 0, [], none),
  (246, 2, .bipush 14, [], none), (248, 1, .aload_n 0, [], none), (249, 3, .getfield 227, [], none), (252, 1, .iconst (-1), [], none),
  (253, 3, .invokevirtual 237, [], none), (256, 3, .putfield 227, [], none), (259, 3, .goto 25, [(0, 284)], none), (262, 1, .aload_n 0, [], none),
  (263, 1, .aload_n 0, [], none), (264, 3, .getfield 191, [], none), (267, 3, .getfield 249, [], none), (270, 1, .iload_n 1, [], none),
  (271, 1, .iaload, [], none), (272, 3, .invokevirtual 252, [], none), (275, 1, .aload_n 0, [], none), (276, 2, .bipush 15, [], none),
  (278, 1, .iconst 0, [], none), (279, 1, .iconst (-1), [], none), (280, 3, .invokevirtual 237, [], none), (283, 1, .pop, [], none),
  (284, 1, .return_, [], none)]
def e_fr_statement (m : Nat) (r : Nat → gFn) : gE := (k_fr_statement, f_fr, c_fr, [(237, 4, 11, 0, .inl (fn_fr_put m)), (221, 2, 11, 0, .inl (fn_fr_node m)), (252, 2, 11, 5, .inl (rec_fr_property m 1000 1)), (233, 2, 11, 5, .inl (r 2)), (261, 3, 11, 5, .inl (r 0))], [], (m, 218048290085049122186965648269380388605799253294236565030398337420503468089103495767776265049073135684708228072129057236119940167630590), 5)
theorem ok_fr_statement : gchk cX3_statement 6 k_fr_statement = true := by decide +kernel
def k_fr_statements : List gC := [(0, 1, .iload_n 1, [], none), (1, 1, .istore_n 2, [], none), (2, 1, .iload_n 2, [], some [true, false, true]), (3, 3, .ifCond .lt 21, [(0, 24)], none),
  (6, 1, .aload_n 0, [], none), (7, 1, .iload_n 2, [], none), (8, 3, .invokevirtual 243, [], none), (11, 1, .aload_n 0, [], none),
  (12, 3, .getfield 191, [], none), (15, 3, .getfield 246, [], none), (18, 1, .iload_n 2, [], none), (19, 1, .iaload, [], none),
  (20, 1, .istore_n 2, [], none), (21, 3, .goto (-19), [(0, 2)], none), (24, 1, .return_, [], none)]
def e_fr_statements (m : Nat) (r : Nat → gFn) : gE := (k_fr_statements, f_fr, c_fr, [(243, 2, 11, 5, .inl (r 1))], [], (m, 218048290085049122186965648269380388605799253294236565030398337420503468089103495767776265049073135684708228072129057236119940167630590), 5)
theorem ok_fr_statements : gchk cX3_statements 3 k_fr_statements = true := by decide +kernel
def rec_fr_loop (m : Nat) : Nat → Nat → gFn
  | 0, _ => fun _ _ _ => none
  | d + 1, k => match k with
    | 0 => gF (e_fr_loop m (rec_fr_loop m d)) 7
    | 1 => gF (e_fr_statement m (rec_fr_loop m d)) 6
    | _ => gF (e_fr_statements m (rec_fr_loop m d)) 3
theorem mo_rec_fr_loop (m : Nat) : ∀ (d k : Nat), gMo (.inl (rec_fr_loop m d k))
  | 0, _ => gMo_none
  | d + 1, 0 => gF_mo (E := e_fr_loop m (rec_fr_loop m d)) ⟨mo_rec_fr_property m 1000 1, ⟨mo_fr_put m, ⟨mo_rec_fr_loop m d 2, ⟨mo_fr_land m, trivial⟩⟩⟩⟩
  | d + 1, 1 => gF_mo (E := e_fr_statement m (rec_fr_loop m d)) ⟨mo_fr_put m, ⟨mo_fr_node m, ⟨mo_rec_fr_property m 1000 1, ⟨mo_rec_fr_loop m d 2, ⟨mo_rec_fr_loop m d 0, trivial⟩⟩⟩⟩⟩
  | d + 1, _ + 2 => gF_mo (E := e_fr_statements m (rec_fr_loop m d)) ⟨mo_rec_fr_loop m d 1, trivial⟩
noncomputable def fr_loop (d : Nat) (σ : gM) (x1 x2 : Int) : Option (gM × Int) := lim (fun n => rec_fr_loop 119 d 0 n [(2, 8), (0, x1), (0, x2)] σ)
theorem fr_loop_l (d : Nat) (σ : gM) (x1 x2 : Int) : Lm (fun n => rec_fr_loop 119 d 0 n [(2, 8), (0, x1), (0, x2)] σ) (fr_loop d σ x1 x2) := .of fun n => mo_rec_fr_loop 119 d 0 n [(2, 8), (0, x1), (0, x2)] σ
noncomputable def fr_statement (d : Nat) (σ : gM) (x1 : Int) : Option (gM × Int) := lim (fun n => rec_fr_loop 119 d 1 n [(2, 8), (0, x1)] σ)
theorem fr_statement_l (d : Nat) (σ : gM) (x1 : Int) : Lm (fun n => rec_fr_loop 119 d 1 n [(2, 8), (0, x1)] σ) (fr_statement d σ x1) := .of fun n => mo_rec_fr_loop 119 d 1 n [(2, 8), (0, x1)] σ
theorem mb_fr_statement (d : Nat) : gMos (e_fr_statement 119 (rec_fr_loop 119 d)).2.2.2.1 := ⟨mo_fr_put 119, ⟨mo_fr_node 119, ⟨mo_rec_fr_property 119 1000 1, ⟨mo_rec_fr_loop 119 d 2, ⟨mo_rec_fr_loop 119 d 0, trivial⟩⟩⟩⟩⟩
noncomputable def fr_statement_b202 (d : Nat) (σ : gM) (x3 : Int) : Option (gM × Int) := lim (fun n => gB (e_fr_statement 119 (rec_fr_loop 119 d)) rF tF n 202 [(2, 8), (9, 0), (9, 0), (0, x3), (9, 0), (9, 0)] [] σ)
theorem fr_statement_b202_l (d : Nat) (σ : gM) (x3 : Int) : Lm (fun n => gB (e_fr_statement 119 (rec_fr_loop 119 d)) rF tF n 202 [(2, 8), (9, 0), (9, 0), (0, x3), (9, 0), (9, 0)] [] σ) (fr_statement_b202 d σ x3) := .of fun n => gB_le (gMos_spec (mb_fr_statement d)) n _ _ _ σ
noncomputable def fr_statements (d : Nat) (σ : gM) (x1 : Int) : Option (gM × Int) := lim (fun n => rec_fr_loop 119 d 2 n [(2, 8), (0, x1)] σ)
theorem fr_statements_l (d : Nat) (σ : gM) (x1 : Int) : Lm (fun n => rec_fr_loop 119 d 2 n [(2, 8), (0, x1)] σ) (fr_statements d σ x1) := .of fun n => mo_rec_fr_loop 119 d 2 n [(2, 8), (0, x1)] σ
theorem mb_fr_statements (d : Nat) : gMos (e_fr_statements 119 (rec_fr_loop 119 d)).2.2.2.1 := ⟨mo_rec_fr_loop 119 d 1, trivial⟩
noncomputable def fr_statements_b2 (d : Nat) (σ : gM) (x2 : Int) : Option (gM × Int) := lim (fun n => gB (e_fr_statements 119 (rec_fr_loop 119 d)) rF tF n 2 [(2, 8), (9, 0), (0, x2)] [] σ)
theorem fr_statements_b2_l (d : Nat) (σ : gM) (x2 : Int) : Lm (fun n => gB (e_fr_statements 119 (rec_fr_loop 119 d)) rF tF n 2 [(2, 8), (9, 0), (0, x2)] [] σ) (fr_statements_b2 d σ x2) := .of fun n => gB_le (gMos_spec (mb_fr_statements d)) n _ _ _ σ
theorem fr_loop_e (d : Nat) (σ : gM) (x1 x2 : Int) : fr_loop (d + 1) σ x1 x2 =
  (if 0 ≤ σ 8 32 then
  (if 0 ≤ x1 ∧ x1 < 4200 then
    ((fr_work 1000 (gW (gW σ 8 36 (-1)) 8 37 (-1)) (σ 72 x1)).bind fun p1 =>
      (fr_put p1.1 12 0 x2).bind fun p2 =>
      if 0 ≤ p2.1 8 32 then
      (if 0 ≤ x1 ∧ x1 < 4200 then
        ((fr_statements d p2.1 (p2.1 73 x1)).bind fun p3 =>
          (fr_land p3.1 (p3.1 8 37)).bind fun p4 =>
          (fr_put p4.1 13 (σ 8 16) x2).bind fun p5 =>
          if 0 ≤ p2.2 ∧ p2.2 < 164000 then
          ((fr_land (gW p5.1 21 p2.2 (p5.1 8 16)) (p5.1 8 36)).bind fun p6 =>
            some (gW (gW p6.1 8 36 (σ 8 36)) 8 37 (σ 8 37), 0))
          else none)
        else none)
      else none)
    else none)
  else none) := Lm.eqn (fr_loop_l ..) (.ite (.ite (.bind (fr_work_l ..) fun p1 => (.bind (fr_put_l ..) fun p2 => (.ite (.ite (.bind (fr_statements_l ..) fun p3 => (.bind (fr_land_l ..) fun p4 => (.bind (fr_put_l ..) fun p5 => (.ite (.bind (fr_land_l ..) fun p6 => .cst) .cst)))) .cst) .cst))) .cst) .cst) fun n => (rfl)
theorem fr_statement_e (d : Nat) (σ : gM) (x1 : Int) : fr_statement (d + 1) σ x1 =
  ((fr_put σ 10 0 (σ 8 12)).bind fun p1 =>
  if 0 ≤ p1.1 8 32 then
  (if 0 ≤ x1 ∧ x1 < 4200 then
    (if p1.1 70 x1 = 24 then
      ((fr_node p1.1 x1).bind fun p2 =>
        if 0 ≤ p2.1 8 32 then
        (if 0 ≤ x1 ∧ x1 < 4200 then
          ((fr_work 1000 p2.1 (p2.1 72 x1)).bind fun p3 =>
            (fr_put p3.1 11 0 p2.2).bind fun p4 =>
            if 0 ≤ p4.1 8 32 then
            (if 0 ≤ x1 ∧ x1 < 4200 then
              ((fr_statements d p4.1 (p4.1 73 x1)).bind fun p5 =>
                (fr_put p5.1 14 0 (-1)).bind fun p6 =>
                if 0 ≤ p4.2 ∧ p4.2 < 164000 then
                (if 0 ≤ p6.1 8 32 then
                  (if 0 ≤ x1 ∧ x1 < 4200 then
                    ((fr_statements d (gW p6.1 21 p4.2 (p6.1 8 16)) (p6.1 74 x1)).bind fun p7 =>
                      if 0 ≤ p6.2 ∧ p6.2 < 164000 then
                      (some (gW p7.1 21 p6.2 (p7.1 8 16), 0))
                      else none)
                    else none)
                  else none)
                else none)
              else none)
            else none)
          else none)
        else none)
      else if p1.1 70 x1 = 25 then
      ((fr_node p1.1 x1).bind fun p8 =>
        (fr_loop d p8.1 x1 p8.2).bind fun p9 =>
        some (p9.1, 0))
      else if p1.1 70 x1 = 26 then
      ((fr_node p1.1 x1).bind fun p10 =>
        if 0 ≤ p10.1 8 32 then
        (if 0 ≤ x1 ∧ x1 < 4200 then
          (if p10.1 72 x1 < 0 then
            ((fr_put p10.1 17 0 (-1)).bind fun p12 =>
              fr_statement_b202 d p12.1 p10.2)
            else
            (if 0 ≤ p10.1 8 32 then
              (if 0 ≤ x1 ∧ x1 < 4200 then
                ((fr_work 1000 p10.1 (p10.1 72 x1)).bind fun p11 =>
                  fr_statement_b202 d p11.1 p10.2)
                else none)
              else none))
          else none)
        else none)
      else if p1.1 70 x1 = 27 then
      ((fr_node p1.1 x1).bind fun p13 =>
        (fr_put p13.1 14 (p13.1 8 36) (-1)).bind fun p14 =>
        some (gW p14.1 8 36 p14.2, 0))
      else if p1.1 70 x1 = 28 then
      ((fr_node p1.1 x1).bind fun p15 =>
        (fr_put p15.1 14 (p15.1 8 37) (-1)).bind fun p16 =>
        some (gW p16.1 8 37 p16.2, 0))
      else (if 0 ≤ p1.1 8 32 then
        (if 0 ≤ x1 ∧ x1 < 4200 then
          ((fr_work 1000 p1.1 (p1.1 72 x1)).bind fun p17 =>
            (fr_put p17.1 15 0 (-1)).bind fun p18 =>
            some (p18.1, 0))
          else none)
        else none))
    else none)
  else none) := Lm.eqn (fr_statement_l ..) (.bind (fr_put_l ..) fun p1 => (.ite (.ite (.ite (.bind (fr_node_l ..) fun p2 => (.ite (.ite (.bind (fr_work_l ..) fun p3 => (.bind (fr_put_l ..) fun p4 => (.ite (.ite (.bind (fr_statements_l ..) fun p5 => (.bind (fr_put_l ..) fun p6 => (.ite (.ite (.ite (.bind (fr_statements_l ..) fun p7 => (.ite .cst .cst)) .cst) .cst) .cst))) .cst) .cst))) .cst) .cst)) (.ite (.bind (fr_node_l ..) fun p8 => (.bind (fr_loop_l ..) fun p9 => .cst)) (.ite (.bind (fr_node_l ..) fun p10 => (.ite (.ite (.ite (.bind (fr_put_l ..) fun p12 => (fr_statement_b202_l ..)) (.ite (.ite (.bind (fr_work_l ..) fun p11 => (fr_statement_b202_l ..)) .cst) .cst)) .cst) .cst)) (.ite (.bind (fr_node_l ..) fun p13 => (.bind (fr_put_l ..) fun p14 => .cst)) (.ite (.bind (fr_node_l ..) fun p15 => (.bind (fr_put_l ..) fun p16 => .cst)) (.ite (.ite (.bind (fr_work_l ..) fun p17 => (.bind (fr_put_l ..) fun p18 => .cst)) .cst) .cst)))))) .cst) .cst)) fun n => (rfl)
theorem fr_statement_b202_e (d : Nat) (σ : gM) (x3 : Int) : fr_statement_b202 d σ x3 =
  ((fr_put σ 16 0 x3).bind fun p1 =>
  some (p1.1, 0)) := Lm.eqn (fr_statement_b202_l ..) (.bind (fr_put_l ..) fun p1 => .cst) fun n => (rfl)
theorem fr_statements_e (d : Nat) (σ : gM) (x1 : Int) : fr_statements (d + 1) σ x1 =
  (fr_statements_b2 d σ x1) := Lm.eqn (fr_statements_l ..) (fr_statements_b2_l ..) fun n => (rfl)
theorem fr_statements_b2_e (d : Nat) (σ : gM) (x2 : Int) : fr_statements_b2 d σ x2 =
  (if x2 < 0 then
  (some (σ, 0))
  else
  ((fr_statement d σ x2).bind fun p1 =>
    if 0 ≤ p1.1 8 32 then
    (if 0 ≤ x2 ∧ x2 < 4200 then
      (fr_statements_b2 d p1.1 (p1.1 75 x2))
      else none)
    else none)) := Lm.eqn (fr_statements_b2_l ..) (.ite .cst (.bind (fr_statement_l ..) fun p1 => (.ite (.ite (fr_statements_b2_l ..) .cst) .cst))) fun n => (rfl)
def k_fr_plant_2 : List gC := [(0, 1, .aload_n 0, [], none), (1, 1, .aload_n 1, [], none), (2, 3, .putfield 191, [], none), (5, 1, .aload_n 0, [], none),
  (6, 1, .aload_n 2, [], none), (7, 3, .putfield 195, [], none), (10, 1, .aload_n 0, [], none), (11, 1, .iload_n 3, [], none),
  (12, 3, .putfield 198, [], none), (15, 1, .aload_n 0, [], none), (16, 1, .aload_n 0, [], none), (17, 1, .aload_n 0, [], none),
  (18, 1, .aload_n 2, [], none), (19, 1, .iload_n 3, [], none), (20, 1, .aload_n 0, [], none), (21, 3, .getfield 191, [], none),
  (24, 3, .getfield 201, [], none), (27, 2, .iload 4, [], none), (29, 1, .iaload, [], none), (30, 1, .iadd, [], none),
  (31, 1, .aload_n 0, [], none), (32, 3, .getfield 191, [], none), (35, 3, .getfield 206, [], none), (38, 2, .iload 4, [], none),
  (40, 1, .iaload, [], none), (41, 3, .invokevirtual 169, [], none), (44, 3, .invokevirtual 172, [], none), (47, 3, .putfield 209, [], none),
  (50, 1, .aload_n 0, [], none), (51, 3, .getfield 78, [], none), (54, 1, .aload_n 0, [], none), (55, 3, .getfield 209, [], none),
  (58, 1, .aload_n 0, [], none), (59, 3, .getfield 191, [], none), (62, 3, .getfield 212, [], none), (65, 2, .iload 4, [], none),
  (67, 1, .iaload, [], none), (68, 1, .iastore, [], none), (69, 1, .aload_n 0, [], none), (70, 3, .getfield 81, [], none),
  (73, 1, .aload_n 0, [], none), (74, 3, .getfield 209, [], none), (77, 1, .aload_n 0, [], none), (78, 3, .getfield 191, [], none),
  (81, 3, .getfield 215, [], none), (84, 2, .iload 4, [], none), (86, 1, .iaload, [], none), (87, 1, .iastore, [], none),
  (88, 1, .iconst 0, [], none), (89, 2, .istore 5, [], none), (91, 2, .iload 5, [], some [true, false, false, false, true, true]), (93, 1, .aload_n 0, [], none),
  (94, 3, .getfield 191, [], none), (97, 3, .getfield 212, [], none), (100, 2, .iload 4, [], none), (102, 1, .iaload, [], none),
  (103, 3, .if_icmp .ge 33, [(0, 136)], none), (106, 1, .aload_n 0, [], none), (107, 3, .getfield 24, [], none), (110, 1, .aload_n 0, [], none),
  (111, 1, .aload_n 0, [], none), (112, 3, .getfield 191, [], none), (115, 3, .getfield 218, [], none), (118, 2, .iload 4, [], none),
  (120, 1, .iaload, [], none), (121, 2, .iload 5, [], none), (123, 1, .iadd, [], none), (124, 3, .invokevirtual 221, [], none),
  (127, 2, .iload 5, [], none), (129, 1, .iastore, [], none), (130, 3, .iinc 5 1, [], none), (133, 3, .goto (-42), [(0, 91)], none),
  (136, 1, .aload_n 0, [], none), (137, 1, .iconst (-1), [], none), (138, 3, .putfield 224, [], none), (141, 1, .aload_n 0, [], none),
  (142, 1, .iconst (-1), [], none), (143, 3, .putfield 227, [], none), (146, 1, .aload_n 0, [], none), (147, 1, .aload_n 0, [], none),
  (148, 3, .getfield 191, [], none), (151, 3, .getfield 230, [], none), (154, 2, .iload 4, [], none), (156, 1, .iaload, [], none),
  (157, 3, .invokevirtual 233, [], none), (160, 1, .aload_n 0, [], none), (161, 2, .bipush 17, [], none), (163, 1, .iconst 0, [], none),
  (164, 1, .iconst (-1), [], none), (165, 3, .invokevirtual 237, [], none), (168, 1, .pop, [], none), (169, 1, .aload_n 0, [], none),
  (170, 2, .bipush 16, [], none), (172, 1, .iconst 0, [], none), (173, 1, .iconst (-1), [], none), (174, 3, .invokevirtual 237, [], none),
  (177, 1, .pop, [], none), (178, 1, .aload_n 0, [], none), (179, 3, .getfield 69, [], none), (182, 1, .aload_n 0, [], none),
  (183, 3, .getfield 209, [], none), (186, 1, .aload_n 0, [], none), (187, 3, .getfield 138, [], none), (190, 1, .aload_n 0, [], none),
  (191, 3, .getfield 66, [], none), (194, 1, .aload_n 0, [], none), (195, 3, .getfield 209, [], none), (198, 1, .iaload, [], none),
  (199, 1, .isub, [], none), (200, 1, .iastore, [], none), (201, 1, .aload_n 0, [], none), (202, 3, .getfield 75, [], none),
  (205, 1, .aload_n 0, [], none), (206, 3, .getfield 209, [], none), (209, 1, .aload_n 0, [], none), (210, 3, .getfield 142, [], none),
  (213, 1, .aload_n 0, [], none), (214, 3, .getfield 72, [], none), (217, 1, .aload_n 0, [], none), (218, 3, .getfield 209, [], none),
  (221, 1, .iaload, [], none), (222, 1, .isub, [], none), (223, 1, .iastore, [], none), (224, 1, .aload_n 0, [], none),
  (225, 3, .getfield 209, [], none), (228, 1, .ireturn, [], none)]
def e_fr_plant_2 (m : Nat) : gE := (k_fr_plant_2, f_fr, c_fr, [(169, 4, 11, 0, .inl (fn_fr_function m)), (172, 2, 11, 0, .inl (fn_fr_rootOf m)), (221, 2, 11, 0, .inl (fn_fr_node m)), (233, 2, 11, 5, .inl (rec_fr_loop m 120 2)), (237, 4, 11, 0, .inl (fn_fr_put m))], [], (m, 218048290085049122186965648269380388605799505886697630506673034707768830851995466149857079625168214566123948015410227889871575594827518), 0)
theorem ok_fr_plant_2 : gchk cX3_plant_2 6 k_fr_plant_2 = true := by decide +kernel
def fn_fr_plant_2 (m : Nat) : gFn := gF (e_fr_plant_2 m) 6
theorem mo_fr_plant_2 (m : Nat) : gMo (.inl (fn_fr_plant_2 m)) := gF_mo (E := e_fr_plant_2 m) ⟨mo_fr_function m, ⟨mo_fr_rootOf m, ⟨mo_fr_node m, ⟨mo_rec_fr_loop m 120 2, ⟨mo_fr_put m, trivial⟩⟩⟩⟩⟩
noncomputable def fr_plant_2 (σ : gM) (x2 x3 x4 : Int) : Option (gM × Int) := lim (fun n => fn_fr_plant_2 119 n [(2, 8), (2, 68), (2, x2), (0, x3), (0, x4)] σ)
theorem fr_plant_2_l (σ : gM) (x2 x3 x4 : Int) : Lm (fun n => fn_fr_plant_2 119 n [(2, 8), (2, 68), (2, x2), (0, x3), (0, x4)] σ) (fr_plant_2 σ x2 x3 x4) := .of fun n => mo_fr_plant_2 119 n [(2, 8), (2, 68), (2, x2), (0, x3), (0, x4)] σ
theorem mb_fr_plant_2 : gMos (e_fr_plant_2 119).2.2.2.1 := ⟨mo_fr_function 119, ⟨mo_fr_rootOf 119, ⟨mo_fr_node 119, ⟨mo_rec_fr_loop 119 120 2, ⟨mo_fr_put 119, trivial⟩⟩⟩⟩⟩
noncomputable def fr_plant_2_b91 (σ : gM) (x4 x5 : Int) : Option (gM × Int) := lim (fun n => gB (e_fr_plant_2 119) rF tF n 91 [(2, 8), (9, 0), (9, 0), (9, 0), (0, x4), (0, x5)] [] σ)
theorem fr_plant_2_b91_l (σ : gM) (x4 x5 : Int) : Lm (fun n => gB (e_fr_plant_2 119) rF tF n 91 [(2, 8), (9, 0), (9, 0), (9, 0), (0, x4), (0, x5)] [] σ) (fr_plant_2_b91 σ x4 x5) := .of fun n => gB_le (gMos_spec (mb_fr_plant_2)) n _ _ _ σ
theorem fr_plant_2_e (σ : gM) (x2 x3 x4 : Int) : fr_plant_2 σ x2 x3 x4 =
  (if 0 ≤ x2 then
  (if 0 ≤ 68 then
    (if 0 ≤ x4 ∧ x4 < 50 then
      (if 0 ≤ 68 then
        (if 0 ≤ x4 ∧ x4 < 50 then
          ((fr_function (gW (gW (gW σ 8 32 68) 8 33 x2) 8 34 x3) x2 (w32 (x3 + (σ 79 x4))) (σ 80 x4)).bind fun p1 =>
            (fr_rootOf p1.1 p1.2).bind fun p2 =>
            if 0 ≤ p2.1 8 32 then
            (if 0 ≤ x4 ∧ x4 < 50 then
              (if 0 ≤ p2.2 ∧ p2.2 < 60 then
                (if 0 ≤ p2.1 8 32 then
                  (if 0 ≤ x4 ∧ x4 < 50 then
                    (if 0 ≤ p2.2 ∧ p2.2 < 60 then
                      (fr_plant_2_b91 (gW (gW (gW p2.1 8 35 p2.2) 30 p2.2 (p2.1 83 x4)) 31 p2.2 (p2.1 84 x4)) x4 0)
                      else none)
                    else none)
                  else none)
                else none)
              else none)
            else none)
          else none)
        else none)
      else none)
    else none)
  else none) := Lm.eqn (fr_plant_2_l ..) (.ite (.ite (.ite (.ite (.ite (.bind (fr_function_l ..) fun p1 => (.bind (fr_rootOf_l ..) fun p2 => (.ite (.ite (.ite (.ite (.ite (.ite (fr_plant_2_b91_l ..) .cst) .cst) .cst) .cst) .cst) .cst))) .cst) .cst) .cst) .cst) .cst) fun n => (rfl)
theorem fr_plant_2_b91_e (σ : gM) (x4 x5 : Int) : fr_plant_2_b91 σ x4 x5 =
  (if 0 ≤ σ 8 32 then
  (if 0 ≤ x4 ∧ x4 < 50 then
    (if x5 < σ 83 x4 then
      (if 0 ≤ σ 8 32 then
        (if 0 ≤ x4 ∧ x4 < 50 then
          ((fr_node σ (w32 ((σ 81 x4) + x5))).bind fun p4 =>
            if 0 ≤ p4.2 ∧ p4.2 < 16000 then
            (fr_plant_2_b91 (gW p4.1 13 p4.2 x5) x4 (w32 (x5 + 1)))
            else none)
          else none)
        else none)
      else
      (if 0 ≤ σ 8 32 then
        (if 0 ≤ x4 ∧ x4 < 50 then
          ((fr_statements 120 (gW (gW σ 8 36 (-1)) 8 37 (-1)) (σ 82 x4)).bind fun p1 =>
            (fr_put p1.1 17 0 (-1)).bind fun p2 =>
            (fr_put p2.1 16 0 (-1)).bind fun p3 =>
            if 0 ≤ p3.1 8 35 ∧ p3.1 8 35 < 60 then
            (if 0 ≤ p3.1 8 35 ∧ p3.1 8 35 < 60 then
              (if 0 ≤ p3.1 8 35 ∧ p3.1 8 35 < 60 then
                (if 0 ≤ p3.1 8 35 ∧ p3.1 8 35 < 60 then
                  (some (gW (gW p3.1 27 (p3.1 8 35) (w32 ((p3.1 8 12) - (p3.1 26 (p3.1 8 35))))) 29 (p3.1 8 35) (w32 ((p3.1 8 16) - (p3.1 28 (p3.1 8 35)))), p3.1 8 35))
                  else none)
                else none)
              else none)
            else none)
          else none)
        else none))
    else none)
  else none) := Lm.eqn (fr_plant_2_b91_l ..) (.ite (.ite (.ite (.ite (.ite (.bind (fr_node_l ..) fun p4 => (.ite (fr_plant_2_b91_l ..) .cst)) .cst) .cst) (.ite (.ite (.bind (fr_statements_l ..) fun p1 => (.bind (fr_put_l ..) fun p2 => (.bind (fr_put_l ..) fun p3 => (.ite (.ite (.ite (.ite .cst .cst) .cst) .cst) .cst)))) .cst) .cst)) .cst) .cst) fun n => (rfl)
def k_fr_named : List gC := [(0, 1, .iconst 0, [], none), (1, 1, .istore_n 2, [], none), (2, 1, .iload_n 2, [], some [true, true, true, false, false, false]), (3, 1, .aload_n 0, [], none),
  (4, 3, .getfield 145, [], none), (7, 3, .if_icmp .ge 105, [(0, 112)], none), (10, 1, .aload_n 0, [], none), (11, 3, .getfield 57, [], none),
  (14, 1, .iload_n 2, [], none), (15, 1, .iaload, [], none), (16, 1, .istore_n 3, [], none), (17, 1, .aload_n 0, [], none),
  (18, 3, .getfield 128, [], none), (21, 3, .getfield 185, [], none), (24, 1, .iload_n 3, [], none), (25, 1, .iaload, [], none),
  (26, 1, .aload_n 1, [], none), (27, 3, .invokevirtual 176, [], none), (30, 3, .if_icmp .ne 7, [(0, 37)], none), (33, 1, .iconst 1, [], none),
  (34, 3, .goto 4, [(0, 38)], none), (37, 1, .iconst 0, [], none), (38, 2, .istore 4, [], some [true, true, true, true, false, false]), (40, 1, .iconst 0, [], none),
  (41, 2, .istore 5, [], none), (43, 2, .iload 5, [], some [true, true, true, true, true, true]), (45, 1, .aload_n 1, [], none), (46, 3, .invokevirtual 176, [], none),
  (49, 3, .if_icmp .ge 50, [(0, 99)], none), (52, 2, .iload 4, [], none), (54, 3, .ifCond .eq 45, [(0, 99)], none), (57, 1, .aload_n 0, [], none),
  (58, 3, .getfield 128, [], none), (61, 3, .getfield 187, [], none), (64, 1, .aload_n 0, [], none), (65, 3, .getfield 128, [], none),
  (68, 3, .getfield 190, [], none), (71, 1, .iload_n 3, [], none), (72, 1, .iaload, [], none), (73, 2, .iload 5, [], none),
  (75, 1, .iadd, [], none), (76, 1, .baload, [], none), (77, 1, .aload_n 1, [], none), (78, 2, .iload 5, [], none),
  (80, 3, .invokevirtual 179, [], none), (83, 3, .if_icmp .ne 7, [(0, 90)], none), (86, 1, .iconst 1, [], none), (87, 3, .goto 4, [(0, 91)], none),
  (90, 1, .iconst 0, [], none), (91, 2, .istore 4, [], some [true, true, true, true, false, true]), (93, 3, .iinc 5 1, [], none), (96, 3, .goto (-53), [(0, 43)], none),
  (99, 2, .iload 4, [], some [true, true, true, false, true, false]), (101, 3, .ifCond .eq 5, [(0, 106)], none), (104, 1, .iload_n 2, [], none), (105, 1, .ireturn, [], none),
  (106, 3, .iinc 2 1, [], none), (109, 3, .goto (-107), [(0, 2)], none), (112, 1, .iconst (-1), [], none), (113, 1, .ireturn, [], none)]
def e_fr_named (m : Nat) : gE := (k_fr_named, f_fr, c_fr, [(176, 1, 100, 0, .inl (fn_st_length 0)), (179, 2, 100, 0, .inl (fn_st_charAt 0))], [], (m, 0), 0)
theorem ok_fr_named : gchk cX3_named 6 k_fr_named = true := by decide +kernel
def fn_fr_named (m : Nat) : gFn := gF (e_fr_named m) 6
theorem mo_fr_named (m : Nat) : gMo (.inl (fn_fr_named m)) := gF_mo (E := e_fr_named m) ⟨mo_st_length 0, ⟨mo_st_charAt 0, trivial⟩⟩
noncomputable def fr_named (σ : gM) (x1 : Int) : Option (gM × Int) := lim (fun n => fn_fr_named 119 n [(2, 8), (3, x1)] σ)
theorem fr_named_l (σ : gM) (x1 : Int) : Lm (fun n => fn_fr_named 119 n [(2, 8), (3, x1)] σ) (fr_named σ x1) := .of fun n => mo_fr_named 119 n [(2, 8), (3, x1)] σ
theorem mb_fr_named : gMos (e_fr_named 119).2.2.2.1 := ⟨mo_st_length 0, ⟨mo_st_charAt 0, trivial⟩⟩
noncomputable def fr_named_b2 (σ : gM) (x1 x2 : Int) : Option (gM × Int) := lim (fun n => gB (e_fr_named 119) rF tF n 2 [(2, 8), (3, x1), (0, x2), (9, 0), (9, 0), (9, 0)] [] σ)
theorem fr_named_b2_l (σ : gM) (x1 x2 : Int) : Lm (fun n => gB (e_fr_named 119) rF tF n 2 [(2, 8), (3, x1), (0, x2), (9, 0), (9, 0), (9, 0)] [] σ) (fr_named_b2 σ x1 x2) := .of fun n => gB_le (gMos_spec (mb_fr_named)) n _ _ _ σ
noncomputable def fr_named_b38 (σ : gM) (x1 x2 x3 y0 : Int) : Option (gM × Int) := lim (fun n => gB (e_fr_named 119) rF tF n 38 [(2, 8), (3, x1), (0, x2), (0, x3), (9, 0), (9, 0)] [(0, y0)] σ)
theorem fr_named_b38_l (σ : gM) (x1 x2 x3 y0 : Int) : Lm (fun n => gB (e_fr_named 119) rF tF n 38 [(2, 8), (3, x1), (0, x2), (0, x3), (9, 0), (9, 0)] [(0, y0)] σ) (fr_named_b38 σ x1 x2 x3 y0) := .of fun n => gB_le (gMos_spec (mb_fr_named)) n _ _ _ σ
noncomputable def fr_named_b43 (σ : gM) (x1 x2 x3 x4 x5 : Int) : Option (gM × Int) := lim (fun n => gB (e_fr_named 119) rF tF n 43 [(2, 8), (3, x1), (0, x2), (0, x3), (0, x4), (0, x5)] [] σ)
theorem fr_named_b43_l (σ : gM) (x1 x2 x3 x4 x5 : Int) : Lm (fun n => gB (e_fr_named 119) rF tF n 43 [(2, 8), (3, x1), (0, x2), (0, x3), (0, x4), (0, x5)] [] σ) (fr_named_b43 σ x1 x2 x3 x4 x5) := .of fun n => gB_le (gMos_spec (mb_fr_named)) n _ _ _ σ
noncomputable def fr_named_b91 (σ : gM) (x1 x2 x3 x5 y0 : Int) : Option (gM × Int) := lim (fun n => gB (e_fr_named 119) rF tF n 91 [(2, 8), (3, x1), (0, x2), (0, x3), (9, 0), (0, x5)] [(0, y0)] σ)
theorem fr_named_b91_l (σ : gM) (x1 x2 x3 x5 y0 : Int) : Lm (fun n => gB (e_fr_named 119) rF tF n 91 [(2, 8), (3, x1), (0, x2), (0, x3), (9, 0), (0, x5)] [(0, y0)] σ) (fr_named_b91 σ x1 x2 x3 x5 y0) := .of fun n => gB_le (gMos_spec (mb_fr_named)) n _ _ _ σ
noncomputable def fr_named_b99 (σ : gM) (x1 x2 x4 : Int) : Option (gM × Int) := lim (fun n => gB (e_fr_named 119) rF tF n 99 [(2, 8), (3, x1), (0, x2), (9, 0), (0, x4), (9, 0)] [] σ)
theorem fr_named_b99_l (σ : gM) (x1 x2 x4 : Int) : Lm (fun n => gB (e_fr_named 119) rF tF n 99 [(2, 8), (3, x1), (0, x2), (9, 0), (0, x4), (9, 0)] [] σ) (fr_named_b99 σ x1 x2 x4) := .of fun n => gB_le (gMos_spec (mb_fr_named)) n _ _ _ σ
theorem fr_named_e (σ : gM) (x1 : Int) : fr_named σ x1 =
  (fr_named_b2 σ x1 0) := Lm.eqn (fr_named_l ..) (fr_named_b2_l ..) fun n => (rfl)
theorem fr_named_b2_e (σ : gM) (x1 x2 : Int) : fr_named_b2 σ x1 x2 =
  (if x2 < σ 8 19 then
  (if 0 ≤ x2 ∧ x2 < 9000 then
    (if 0 ≤ σ 23 x2 ∧ σ 23 x2 < 108000 then
      (gtx x1 ((st_length σ x1).bind fun p1 =>
        if σ 3 (σ 23 x2) = p1.2 then
        (fr_named_b38 p1.1 x1 x2 (σ 23 x2) 1)
        else
        (fr_named_b38 p1.1 x1 x2 (σ 23 x2) 0)))
      else none)
    else none)
  else
  (some (σ, (-1)))) := Lm.eqn (fr_named_b2_l ..) (.ite (.ite (.ite (.xtx (.bind (st_length_l ..) fun p1 => (.ite (fr_named_b38_l ..) (fr_named_b38_l ..)))) .cst) .cst) .cst) fun n => (rfl)
theorem fr_named_b38_e (σ : gM) (x1 x2 x3 y0 : Int) : fr_named_b38 σ x1 x2 x3 y0 =
  (fr_named_b43 σ x1 x2 x3 y0 0) := Lm.eqn (fr_named_b38_l ..) (fr_named_b43_l ..) fun n => (rfl)
theorem fr_named_b43_e (σ : gM) (x1 x2 x3 x4 x5 : Int) : fr_named_b43 σ x1 x2 x3 x4 x5 =
  (gtx x1 ((st_length σ x1).bind fun p1 =>
  if x5 < p1.2 then
  (if x4 = 0 then
    (fr_named_b99 p1.1 x1 x2 x4)
    else
    (if 0 ≤ x3 ∧ x3 < 108000 then
      (if 0 ≤ w32 ((p1.1 2 x3) + x5) ∧ w32 ((p1.1 2 x3) + x5) < 124600 then
        (gtx x1 ((st_charAt p1.1 x1 x5).bind fun p2 =>
          if p1.1 1 (w32 ((p1.1 2 x3) + x5)) = p2.2 then
          (fr_named_b91 p2.1 x1 x2 x3 x5 1)
          else
          (fr_named_b91 p2.1 x1 x2 x3 x5 0)))
        else none)
      else none))
  else
  (fr_named_b99 p1.1 x1 x2 x4))) := Lm.eqn (fr_named_b43_l ..) (.xtx (.bind (st_length_l ..) fun p1 => (.ite (.ite (fr_named_b99_l ..) (.ite (.ite (.xtx (.bind (st_charAt_l ..) fun p2 => (.ite (fr_named_b91_l ..) (fr_named_b91_l ..)))) .cst) .cst)) (fr_named_b99_l ..)))) fun n => (rfl)
theorem fr_named_b91_e (σ : gM) (x1 x2 x3 x5 y0 : Int) : fr_named_b91 σ x1 x2 x3 x5 y0 =
  (fr_named_b43 σ x1 x2 x3 y0 (w32 (x5 + 1))) := Lm.eqn (fr_named_b91_l ..) (fr_named_b43_l ..) fun n => (rfl)
theorem fr_named_b99_e (σ : gM) (x1 x2 x4 : Int) : fr_named_b99 σ x1 x2 x4 =
  (if x4 = 0 then
  (fr_named_b2 σ x1 (w32 (x2 + 1)))
  else
  (some (σ, x2))) := Lm.eqn (fr_named_b99_l ..) (.ite (fr_named_b2_l ..) .cst) fun n => (rfl)
def k_fr_isNewest : List gC := [(0, 1, .aload_n 0, [], none), (1, 3, .getfield 60, [], none), (4, 1, .aload_n 0, [], none), (5, 3, .getfield 63, [], none),
  (8, 1, .iload_n 1, [], none), (9, 1, .iaload, [], none), (10, 1, .iaload, [], none), (11, 1, .iload_n 1, [], none),
  (12, 3, .if_icmp .ne 7, [(0, 19)], none), (15, 1, .iconst 1, [], none), (16, 3, .goto 4, [(0, 20)], none), (19, 1, .iconst 0, [], none),
  (20, 1, .ireturn, [], none)]
def e_fr_isNewest (m : Nat) : gE := (k_fr_isNewest, f_fr, c_fr, [], [], (m, 0), 6)
theorem ok_fr_isNewest : gchk cX3_isNewest 2 k_fr_isNewest = true := by decide +kernel
def fn_fr_isNewest (m : Nat) : gFn := gF (e_fr_isNewest m) 2
theorem mo_fr_isNewest (m : Nat) : gMo (.inl (fn_fr_isNewest m)) := gF_mo (E := e_fr_isNewest m) trivial
noncomputable def fr_isNewest (σ : gM) (x1 : Int) : Option (gM × Int) := lim (fun n => fn_fr_isNewest 119 n [(2, 8), (0, x1)] σ)
theorem fr_isNewest_l (σ : gM) (x1 : Int) : Lm (fun n => fn_fr_isNewest 119 n [(2, 8), (0, x1)] σ) (fr_isNewest σ x1) := .of fun n => mo_fr_isNewest 119 n [(2, 8), (0, x1)] σ
theorem fr_isNewest_e (σ : gM) (x1 : Int) : fr_isNewest σ x1 =
  (if 0 ≤ x1 ∧ x1 < 60 then
  (if 0 ≤ σ 25 x1 ∧ σ 25 x1 < 9000 then
    (if σ 24 (σ 25 x1) = x1 then
      (some (σ, 1))
      else
      (some (σ, 0)))
    else none)
  else none) := Lm.eqn (fr_isNewest_l ..) (.ite (.ite (.ite .cst .cst) .cst) .cst) fun n => (rfl)
def k_fr_sort : List gC := [(0, 1, .aload_n 0, [], none), (1, 3, .getfield 93, [], none), (4, 2, .bipush 12, [], none), (6, 1, .iload_n 1, [], none),
  (7, 1, .imul, [], none), (8, 1, .iload_n 2, [], none), (9, 1, .iadd, [], none), (10, 1, .iaload, [], none),
  (11, 1, .ireturn, [], none)]
def e_fr_sort (m : Nat) : gE := (k_fr_sort, f_fr, c_fr, [], [], (m, 0), 0)
theorem ok_fr_sort : gchk cX3_sort 3 k_fr_sort = true := by decide +kernel
def fn_fr_sort (m : Nat) : gFn := gF (e_fr_sort m) 3
theorem mo_fr_sort (m : Nat) : gMo (.inl (fn_fr_sort m)) := gF_mo (E := e_fr_sort m) trivial
noncomputable def fr_sort (σ : gM) (x1 x2 : Int) : Option (gM × Int) := lim (fun n => fn_fr_sort 119 n [(2, 8), (0, x1), (0, x2)] σ)
theorem fr_sort_l (σ : gM) (x1 x2 : Int) : Lm (fun n => fn_fr_sort 119 n [(2, 8), (0, x1), (0, x2)] σ) (fr_sort σ x1 x2) := .of fun n => mo_fr_sort 119 n [(2, 8), (0, x1), (0, x2)] σ
theorem fr_sort_e (σ : gM) (x1 x2 : Int) : fr_sort σ x1 x2 =
  (if 0 ≤ w32 ((w32 (12 * x1)) + x2) ∧ w32 ((w32 (12 * x1)) + x2) < 720 then
  (some (σ, σ 35 (w32 ((w32 (12 * x1)) + x2))))
  else none) := Lm.eqn (fr_sort_l ..) (.ite .cst .cst) fun n => (rfl)
def f_sp : List (Nat × Nat × Int × Nat) := [(9, 13, 1, 2), (15, 13, 2, 2), (18, 13, 3, 2), (21, 13, 4, 2), (24, 13, 5, 2), (28, 13, 7, 2), (32, 13, 8, 2), (35, 13, 9, 2), (38, 13, 12, 2), (41, 13, 0, 2), (48, 13, 6, 0), (52, 13, 10, 0), (55, 13, 11, 0), (58, 10, 4, 2), (63, 10, 3, 2), (68, 10, 2, 2), (69, 10, 0, 2), (70, 10, 1, 2)]
def c_sp : List (Nat × gV) := []
def k_sp_clear : List gC := [(0, 1, .aload_n 0, [], none), (1, 1, .iconst 1, [], none), (2, 3, .putfield 48, [], none), (5, 1, .aload_n 0, [], none),
  (6, 3, .getfield 9, [], none), (9, 1, .iconst 0, [], none), (10, 1, .iconst (-1), [], none), (11, 1, .iastore, [], none),
  (12, 1, .aload_n 0, [], none), (13, 3, .getfield 15, [], none), (16, 1, .iconst 0, [], none), (17, 1, .iconst (-1), [], none),
  (18, 1, .iastore, [], none), (19, 1, .aload_n 0, [], none), (20, 3, .getfield 18, [], none), (23, 1, .iconst 0, [], none),
  (24, 1, .iconst (-1), [], none), (25, 1, .iastore, [], none), (26, 1, .aload_n 0, [], none), (27, 3, .getfield 21, [], none),
  (30, 1, .iconst 0, [], none), (31, 1, .iconst (-1), [], none), (32, 1, .iastore, [], none), (33, 1, .aload_n 0, [], none),
  (34, 3, .getfield 24, [], none), (37, 1, .iconst 0, [], none), (38, 1, .iconst 0, [], none), (39, 1, .iastore, [], none),
  (40, 1, .aload_n 0, [], none), (41, 1, .iconst 0, [], none), (42, 3, .putfield 52, [], none), (45, 1, .aload_n 0, [], none),
  (46, 1, .iconst 0, [], none), (47, 3, .putfield 55, [], none), (50, 1, .return_, [], none)]
def e_sp_clear (m : Nat) : gE := (k_sp_clear, f_sp, c_sp, [], [], (m, 837306918080996752298848508818464428924260172763807885819240310266310132506011095609273816962826240), 5)
theorem ok_sp_clear : gchk cX5_clear 1 k_sp_clear = true := by decide +kernel
def fn_sp_clear (m : Nat) : gFn := gF (e_sp_clear m) 1
theorem mo_sp_clear (m : Nat) : gMo (.inl (fn_sp_clear m)) := gF_mo (E := e_sp_clear m) trivial
noncomputable def sp_clear (σ : gM) : Option (gM × Int) := lim (fun n => fn_sp_clear 119 n [(2, 42)] σ)
theorem sp_clear_l (σ : gM) : Lm (fun n => fn_sp_clear 119 n [(2, 42)] σ) (sp_clear σ) := .of fun n => mo_sp_clear 119 n [(2, 42)] σ
theorem sp_clear_e (σ : gM) : sp_clear σ =
  (if (0 : Int) ≤ 0 ∧ (0 : Int) < 200 then
  (if (0 : Int) ≤ 0 ∧ (0 : Int) < 200 then
    (if (0 : Int) ≤ 0 ∧ (0 : Int) < 200 then
      (if (0 : Int) ≤ 0 ∧ (0 : Int) < 200 then
        (if (0 : Int) ≤ 0 ∧ (0 : Int) < 200 then
          (some (gW (gW (gW (gW (gW (gW (gW (gW σ 42 6 1) 43 0 (-1)) 44 0 (-1)) 45 0 (-1)) 46 0 (-1)) 47 0 0) 42 10 0) 42 11 0, 0))
          else none)
        else none)
      else none)
    else none)
  else none) := Lm.eqn (sp_clear_l ..) (.ite (.ite (.ite (.ite (.ite .cst .cst) .cst) .cst) .cst) .cst) fun n => (rfl)
def k_sp_nameOf : List gC := [(0, 1, .aload_n 0, [], none), (1, 3, .getfield 41, [], none), (4, 3, .getfield 58, [], none), (7, 1, .iload_n 1, [], none),
  (8, 1, .iaload, [], none), (9, 1, .istore_n 2, [], none), (10, 1, .iload_n 2, [], some [true, true, true]), (11, 1, .aload_n 0, [], none),
  (12, 3, .getfield 52, [], none), (15, 3, .if_icmp .ge 58, [(0, 73)], none), (18, 1, .aload_n 0, [], none), (19, 3, .getfield 41, [], none),
  (22, 3, .getfield 63, [], none), (25, 1, .iload_n 1, [], none), (26, 1, .iaload, [], none), (27, 3, .ifCond .ge 46, [(0, 73)], none),
  (30, 1, .aload_n 0, [], none), (31, 3, .getfield 41, [], none), (34, 1, .iload_n 1, [], none), (35, 1, .aload_n 0, [], none),
  (36, 3, .getfield 28, [], none), (39, 1, .aload_n 0, [], none), (40, 3, .getfield 32, [], none), (43, 1, .iload_n 2, [], none),
  (44, 1, .iaload, [], none), (45, 1, .aload_n 0, [], none), (46, 3, .getfield 35, [], none), (49, 1, .iload_n 2, [], none),
  (50, 1, .iaload, [], none), (51, 3, .invokevirtual 64, [], none), (54, 3, .ifCond .eq 13, [(0, 67)], none), (57, 1, .aload_n 0, [], none),
  (58, 3, .getfield 41, [], none), (61, 3, .getfield 63, [], none), (64, 1, .iload_n 1, [], none), (65, 1, .iload_n 2, [], none),
  (66, 1, .iastore, [], none), (67, 3, .iinc 2 1, [], some [true, true, true]), (70, 3, .goto (-60), [(0, 10)], none), (73, 1, .aload_n 0, [], some [true, true, false]),
  (74, 3, .getfield 41, [], none), (77, 3, .getfield 58, [], none), (80, 1, .iload_n 1, [], none), (81, 1, .aload_n 0, [], none),
  (82, 3, .getfield 52, [], none), (85, 1, .iastore, [], none), (86, 1, .aload_n 0, [], none), (87, 3, .getfield 41, [], none),
  (90, 3, .getfield 63, [], none), (93, 1, .iload_n 1, [], none), (94, 1, .iaload, [], none), (95, 1, .ireturn, [], none)]
def e_sp_nameOf (m : Nat) : gE := (k_sp_nameOf, f_sp, c_sp, [(64, 5, 10, 0, .inl (fn_hp_is m))], [], (m, 48), 0)
theorem ok_sp_nameOf : gchk cX5_nameOf 3 k_sp_nameOf = true := by decide +kernel
def fn_sp_nameOf (m : Nat) : gFn := gF (e_sp_nameOf m) 3
theorem mo_sp_nameOf (m : Nat) : gMo (.inl (fn_sp_nameOf m)) := gF_mo (E := e_sp_nameOf m) ⟨mo_hp_is m, trivial⟩
noncomputable def sp_nameOf (σ : gM) (x1 : Int) : Option (gM × Int) := lim (fun n => fn_sp_nameOf 119 n [(2, 42), (0, x1)] σ)
theorem sp_nameOf_l (σ : gM) (x1 : Int) : Lm (fun n => fn_sp_nameOf 119 n [(2, 42), (0, x1)] σ) (sp_nameOf σ x1) := .of fun n => mo_sp_nameOf 119 n [(2, 42), (0, x1)] σ
theorem mb_sp_nameOf : gMos (e_sp_nameOf 119).2.2.2.1 := ⟨mo_hp_is 119, trivial⟩
noncomputable def sp_nameOf_b10 (σ : gM) (x1 x2 : Int) : Option (gM × Int) := lim (fun n => gB (e_sp_nameOf 119) rF tF n 10 [(2, 42), (0, x1), (0, x2)] [] σ)
theorem sp_nameOf_b10_l (σ : gM) (x1 x2 : Int) : Lm (fun n => gB (e_sp_nameOf 119) rF tF n 10 [(2, 42), (0, x1), (0, x2)] [] σ) (sp_nameOf_b10 σ x1 x2) := .of fun n => gB_le (gMos_spec (mb_sp_nameOf)) n _ _ _ σ
noncomputable def sp_nameOf_b67 (σ : gM) (x1 x2 : Int) : Option (gM × Int) := lim (fun n => gB (e_sp_nameOf 119) rF tF n 67 [(2, 42), (0, x1), (0, x2)] [] σ)
theorem sp_nameOf_b67_l (σ : gM) (x1 x2 : Int) : Lm (fun n => gB (e_sp_nameOf 119) rF tF n 67 [(2, 42), (0, x1), (0, x2)] [] σ) (sp_nameOf_b67 σ x1 x2) := .of fun n => gB_le (gMos_spec (mb_sp_nameOf)) n _ _ _ σ
noncomputable def sp_nameOf_b73 (σ : gM) (x1 : Int) : Option (gM × Int) := lim (fun n => gB (e_sp_nameOf 119) rF tF n 73 [(2, 42), (0, x1), (9, 0)] [] σ)
theorem sp_nameOf_b73_l (σ : gM) (x1 : Int) : Lm (fun n => gB (e_sp_nameOf 119) rF tF n 73 [(2, 42), (0, x1), (9, 0)] [] σ) (sp_nameOf_b73 σ x1) := .of fun n => gB_le (gMos_spec (mb_sp_nameOf)) n _ _ _ σ
theorem sp_nameOf_e (σ : gM) (x1 : Int) : sp_nameOf σ x1 =
  (if 0 ≤ x1 ∧ x1 < 108000 then
  (sp_nameOf_b10 σ x1 (σ 5 x1))
  else none) := Lm.eqn (sp_nameOf_l ..) (.ite (sp_nameOf_b10_l ..) .cst) fun n => (rfl)
theorem sp_nameOf_b10_e (σ : gM) (x1 x2 : Int) : sp_nameOf_b10 σ x1 x2 =
  (if x2 < σ 42 10 then
  (if 0 ≤ x1 ∧ x1 < 108000 then
    (if σ 4 x1 < 0 then
      (if 0 ≤ x2 ∧ x2 < 200 then
        (if 0 ≤ x2 ∧ x2 < 200 then
          ((hp_is σ x1 48 (σ 49 x2) (σ 50 x2)).bind fun p1 =>
            if p1.2 = 0 then
            (sp_nameOf_b67 p1.1 x1 x2)
            else
            (if 0 ≤ x1 ∧ x1 < 108000 then
              (sp_nameOf_b67 (gW p1.1 4 x1 x2) x1 x2)
              else none))
          else none)
        else none)
      else
      (sp_nameOf_b73 σ x1))
    else none)
  else
  (sp_nameOf_b73 σ x1)) := Lm.eqn (sp_nameOf_b10_l ..) (.ite (.ite (.ite (.ite (.ite (.bind (hp_is_l ..) fun p1 => (.ite (sp_nameOf_b67_l ..) (.ite (sp_nameOf_b67_l ..) .cst))) .cst) .cst) (sp_nameOf_b73_l ..)) .cst) (sp_nameOf_b73_l ..)) fun n => (rfl)
theorem sp_nameOf_b67_e (σ : gM) (x1 x2 : Int) : sp_nameOf_b67 σ x1 x2 =
  (sp_nameOf_b10 σ x1 (w32 (x2 + 1))) := Lm.eqn (sp_nameOf_b67_l ..) (sp_nameOf_b10_l ..) fun n => (rfl)
theorem sp_nameOf_b73_e (σ : gM) (x1 : Int) : sp_nameOf_b73 σ x1 =
  (if 0 ≤ x1 ∧ x1 < 108000 then
  (if 0 ≤ x1 ∧ x1 < 108000 then
    (some (gW σ 5 x1 (σ 42 10), σ 4 x1))
    else none)
  else none) := Lm.eqn (sp_nameOf_b73_l ..) (.ite (.ite .cst .cst) .cst) fun n => (rfl)
def k_sp_place : List gC := [(0, 1, .iload_n 1, [], none), (1, 1, .istore_n 3, [], none), (2, 1, .iload_n 3, [], some [true, false, true, true]), (3, 3, .ifCond .le 32, [(0, 35)], none),
  (6, 1, .aload_n 0, [], none), (7, 3, .getfield 15, [], none), (10, 1, .iload_n 3, [], none), (11, 1, .iaload, [], none),
  (12, 1, .iload_n 2, [], none), (13, 3, .if_icmp .ne 12, [(0, 25)], none), (16, 1, .aload_n 0, [], none), (17, 3, .getfield 24, [], none),
  (20, 1, .iload_n 3, [], none), (21, 1, .iaload, [], none), (22, 1, .iconst 1, [], none), (23, 1, .isub, [], none),
  (24, 1, .ireturn, [], none), (25, 1, .aload_n 0, [], none), (26, 3, .getfield 9, [], none), (29, 1, .iload_n 3, [], none),
  (30, 1, .iaload, [], none), (31, 1, .istore_n 3, [], none), (32, 3, .goto (-30), [(0, 2)], none), (35, 1, .iconst (-1), [], none),
  (36, 1, .ireturn, [], none)]
def e_sp_place (m : Nat) : gE := (k_sp_place, f_sp, c_sp, [], [], (m, 0), 0)
theorem ok_sp_place : gchk cX5_place 4 k_sp_place = true := by decide +kernel
def fn_sp_place (m : Nat) : gFn := gF (e_sp_place m) 4
theorem mo_sp_place (m : Nat) : gMo (.inl (fn_sp_place m)) := gF_mo (E := e_sp_place m) trivial
noncomputable def sp_place (σ : gM) (x1 x2 : Int) : Option (gM × Int) := lim (fun n => fn_sp_place 119 n [(2, 42), (0, x1), (0, x2)] σ)
theorem sp_place_l (σ : gM) (x1 x2 : Int) : Lm (fun n => fn_sp_place 119 n [(2, 42), (0, x1), (0, x2)] σ) (sp_place σ x1 x2) := .of fun n => mo_sp_place 119 n [(2, 42), (0, x1), (0, x2)] σ
theorem mb_sp_place : gMos (e_sp_place 119).2.2.2.1 := trivial
noncomputable def sp_place_b2 (σ : gM) (x2 x3 : Int) : Option (gM × Int) := lim (fun n => gB (e_sp_place 119) rF tF n 2 [(2, 42), (9, 0), (0, x2), (0, x3)] [] σ)
theorem sp_place_b2_l (σ : gM) (x2 x3 : Int) : Lm (fun n => gB (e_sp_place 119) rF tF n 2 [(2, 42), (9, 0), (0, x2), (0, x3)] [] σ) (sp_place_b2 σ x2 x3) := .of fun n => gB_le (gMos_spec (mb_sp_place)) n _ _ _ σ
theorem sp_place_e (σ : gM) (x1 x2 : Int) : sp_place σ x1 x2 =
  (sp_place_b2 σ x2 x1) := Lm.eqn (sp_place_l ..) (sp_place_b2_l ..) fun n => (rfl)
theorem sp_place_b2_e (σ : gM) (x2 x3 : Int) : sp_place_b2 σ x2 x3 =
  (if 0 < x3 then
  (if 0 ≤ x3 ∧ x3 < 200 then
    (if σ 44 x3 = x2 then
      (if 0 ≤ x3 ∧ x3 < 200 then
        (some (σ, w32 ((σ 47 x3) - 1)))
        else none)
      else
      (if 0 ≤ x3 ∧ x3 < 200 then
        (sp_place_b2 σ x2 (σ 43 x3))
        else none))
    else none)
  else
  (some (σ, (-1)))) := Lm.eqn (sp_place_b2_l ..) (.ite (.ite (.ite (.ite .cst .cst) (.ite (sp_place_b2_l ..) .cst)) .cst) .cst) fun n => (rfl)
def k_sp_last : List gC := [(0, 1, .iload_n 1, [], none), (1, 1, .istore_n 2, [], none), (2, 1, .aload_n 0, [], some [true, false, true]), (3, 3, .getfield 21, [], none),
  (6, 1, .iload_n 2, [], none), (7, 1, .iaload, [], none), (8, 3, .ifCond .lt 13, [(0, 21)], none), (11, 1, .aload_n 0, [], none),
  (12, 3, .getfield 21, [], none), (15, 1, .iload_n 2, [], none), (16, 1, .iaload, [], none), (17, 1, .istore_n 2, [], none),
  (18, 3, .goto (-16), [(0, 2)], none), (21, 1, .iload_n 2, [], none), (22, 1, .ireturn, [], none)]
def e_sp_last (m : Nat) : gE := (k_sp_last, f_sp, c_sp, [], [], (m, 0), 0)
theorem ok_sp_last : gchk cX5_last 3 k_sp_last = true := by decide +kernel
def fn_sp_last (m : Nat) : gFn := gF (e_sp_last m) 3
theorem mo_sp_last (m : Nat) : gMo (.inl (fn_sp_last m)) := gF_mo (E := e_sp_last m) trivial
noncomputable def sp_last (σ : gM) (x1 : Int) : Option (gM × Int) := lim (fun n => fn_sp_last 119 n [(2, 42), (0, x1)] σ)
theorem sp_last_l (σ : gM) (x1 : Int) : Lm (fun n => fn_sp_last 119 n [(2, 42), (0, x1)] σ) (sp_last σ x1) := .of fun n => mo_sp_last 119 n [(2, 42), (0, x1)] σ
theorem mb_sp_last : gMos (e_sp_last 119).2.2.2.1 := trivial
noncomputable def sp_last_b2 (σ : gM) (x2 : Int) : Option (gM × Int) := lim (fun n => gB (e_sp_last 119) rF tF n 2 [(2, 42), (9, 0), (0, x2)] [] σ)
theorem sp_last_b2_l (σ : gM) (x2 : Int) : Lm (fun n => gB (e_sp_last 119) rF tF n 2 [(2, 42), (9, 0), (0, x2)] [] σ) (sp_last_b2 σ x2) := .of fun n => gB_le (gMos_spec (mb_sp_last)) n _ _ _ σ
theorem sp_last_e (σ : gM) (x1 : Int) : sp_last σ x1 =
  (sp_last_b2 σ x1) := Lm.eqn (sp_last_l ..) (sp_last_b2_l ..) fun n => (rfl)
theorem sp_last_b2_e (σ : gM) (x2 : Int) : sp_last_b2 σ x2 =
  (if 0 ≤ x2 ∧ x2 < 200 then
  (if σ 46 x2 < 0 then
    (some (σ, x2))
    else
    (if 0 ≤ x2 ∧ x2 < 200 then
      (sp_last_b2 σ (σ 46 x2))
      else none))
  else none) := Lm.eqn (sp_last_b2_l ..) (.ite (.ite .cst (.ite (sp_last_b2_l ..) .cst)) .cst) fun n => (rfl)
def k_sp_sortAt : List gC := [(0, 1, .iload_n 1, [], none), (1, 1, .istore_n 3, [], none), (2, 1, .aload_n 0, [], some [true, false, true, true]), (3, 3, .getfield 24, [], none),
  (6, 1, .iload_n 3, [], none), (7, 1, .iaload, [], none), (8, 1, .iload_n 2, [], none), (9, 1, .iconst 1, [], none),
  (10, 1, .iadd, [], none), (11, 3, .if_icmp .le 13, [(0, 24)], none), (14, 1, .aload_n 0, [], none), (15, 3, .getfield 9, [], none),
  (18, 1, .iload_n 3, [], none), (19, 1, .iaload, [], none), (20, 1, .istore_n 3, [], none), (21, 3, .goto (-19), [(0, 2)], none),
  (24, 1, .aload_n 0, [], none), (25, 3, .getfield 18, [], none), (28, 1, .iload_n 3, [], none), (29, 1, .iaload, [], none),
  (30, 1, .ireturn, [], none)]
def e_sp_sortAt (m : Nat) : gE := (k_sp_sortAt, f_sp, c_sp, [], [], (m, 0), 0)
theorem ok_sp_sortAt : gchk cX5_sortAt 4 k_sp_sortAt = true := by decide +kernel
def fn_sp_sortAt (m : Nat) : gFn := gF (e_sp_sortAt m) 4
theorem mo_sp_sortAt (m : Nat) : gMo (.inl (fn_sp_sortAt m)) := gF_mo (E := e_sp_sortAt m) trivial
noncomputable def sp_sortAt (σ : gM) (x1 x2 : Int) : Option (gM × Int) := lim (fun n => fn_sp_sortAt 119 n [(2, 42), (0, x1), (0, x2)] σ)
theorem sp_sortAt_l (σ : gM) (x1 x2 : Int) : Lm (fun n => fn_sp_sortAt 119 n [(2, 42), (0, x1), (0, x2)] σ) (sp_sortAt σ x1 x2) := .of fun n => mo_sp_sortAt 119 n [(2, 42), (0, x1), (0, x2)] σ
theorem mb_sp_sortAt : gMos (e_sp_sortAt 119).2.2.2.1 := trivial
noncomputable def sp_sortAt_b2 (σ : gM) (x2 x3 : Int) : Option (gM × Int) := lim (fun n => gB (e_sp_sortAt 119) rF tF n 2 [(2, 42), (9, 0), (0, x2), (0, x3)] [] σ)
theorem sp_sortAt_b2_l (σ : gM) (x2 x3 : Int) : Lm (fun n => gB (e_sp_sortAt 119) rF tF n 2 [(2, 42), (9, 0), (0, x2), (0, x3)] [] σ) (sp_sortAt_b2 σ x2 x3) := .of fun n => gB_le (gMos_spec (mb_sp_sortAt)) n _ _ _ σ
theorem sp_sortAt_e (σ : gM) (x1 x2 : Int) : sp_sortAt σ x1 x2 =
  (sp_sortAt_b2 σ x2 x1) := Lm.eqn (sp_sortAt_l ..) (sp_sortAt_b2_l ..) fun n => (rfl)
theorem sp_sortAt_b2_e (σ : gM) (x2 x3 : Int) : sp_sortAt_b2 σ x2 x3 =
  (if 0 ≤ x3 ∧ x3 < 200 then
  (if w32 (x2 + 1) < σ 47 x3 then
    (if 0 ≤ x3 ∧ x3 < 200 then
      (sp_sortAt_b2 σ x2 (σ 43 x3))
      else none)
    else
    (if 0 ≤ x3 ∧ x3 < 200 then
      (some (σ, σ 45 x3))
      else none))
  else none) := Lm.eqn (sp_sortAt_b2_l ..) (.ite (.ite (.ite (sp_sortAt_b2_l ..) .cst) (.ite .cst .cst)) .cst) fun n => (rfl)
def k_sp_child : List gC := [(0, 1, .iconst 1, [], none), (1, 2, .istore 4, [], none), (3, 2, .iload 4, [], some [true, true, true, true, true]), (5, 1, .aload_n 0, [], none),
  (6, 3, .getfield 48, [], none), (9, 3, .if_icmp .ge 45, [(0, 54)], none), (12, 1, .aload_n 0, [], none), (13, 3, .getfield 9, [], none),
  (16, 2, .iload 4, [], none), (18, 1, .iaload, [], none), (19, 1, .iload_n 1, [], none), (20, 3, .if_icmp .ne 28, [(0, 48)], none),
  (23, 1, .aload_n 0, [], none), (24, 3, .getfield 15, [], none), (27, 2, .iload 4, [], none), (29, 1, .iaload, [], none),
  (30, 1, .iload_n 2, [], none), (31, 3, .if_icmp .ne 17, [(0, 48)], none), (34, 1, .aload_n 0, [], none), (35, 3, .getfield 18, [], none),
  (38, 2, .iload 4, [], none), (40, 1, .iaload, [], none), (41, 1, .iload_n 3, [], none), (42, 3, .if_icmp .ne 6, [(0, 48)], none),
  (45, 2, .iload 4, [], none), (47, 1, .ireturn, [], none), (48, 3, .iinc 4 1, [], some [true, true, true, true, true]), (51, 3, .goto (-48), [(0, 3)], none),
  (54, 1, .iconst (-1), [], none), (55, 1, .ireturn, [], none)]
def e_sp_child (m : Nat) : gE := (k_sp_child, f_sp, c_sp, [], [], (m, 0), 0)
theorem ok_sp_child : gchk cX5_child 5 k_sp_child = true := by decide +kernel
def fn_sp_child (m : Nat) : gFn := gF (e_sp_child m) 5
theorem mo_sp_child (m : Nat) : gMo (.inl (fn_sp_child m)) := gF_mo (E := e_sp_child m) trivial
noncomputable def sp_child (σ : gM) (x1 x2 x3 : Int) : Option (gM × Int) := lim (fun n => fn_sp_child 119 n [(2, 42), (0, x1), (0, x2), (0, x3)] σ)
theorem sp_child_l (σ : gM) (x1 x2 x3 : Int) : Lm (fun n => fn_sp_child 119 n [(2, 42), (0, x1), (0, x2), (0, x3)] σ) (sp_child σ x1 x2 x3) := .of fun n => mo_sp_child 119 n [(2, 42), (0, x1), (0, x2), (0, x3)] σ
theorem mb_sp_child : gMos (e_sp_child 119).2.2.2.1 := trivial
noncomputable def sp_child_b3 (σ : gM) (x1 x2 x3 x4 : Int) : Option (gM × Int) := lim (fun n => gB (e_sp_child 119) rF tF n 3 [(2, 42), (0, x1), (0, x2), (0, x3), (0, x4)] [] σ)
theorem sp_child_b3_l (σ : gM) (x1 x2 x3 x4 : Int) : Lm (fun n => gB (e_sp_child 119) rF tF n 3 [(2, 42), (0, x1), (0, x2), (0, x3), (0, x4)] [] σ) (sp_child_b3 σ x1 x2 x3 x4) := .of fun n => gB_le (gMos_spec (mb_sp_child)) n _ _ _ σ
noncomputable def sp_child_b48 (σ : gM) (x1 x2 x3 x4 : Int) : Option (gM × Int) := lim (fun n => gB (e_sp_child 119) rF tF n 48 [(2, 42), (0, x1), (0, x2), (0, x3), (0, x4)] [] σ)
theorem sp_child_b48_l (σ : gM) (x1 x2 x3 x4 : Int) : Lm (fun n => gB (e_sp_child 119) rF tF n 48 [(2, 42), (0, x1), (0, x2), (0, x3), (0, x4)] [] σ) (sp_child_b48 σ x1 x2 x3 x4) := .of fun n => gB_le (gMos_spec (mb_sp_child)) n _ _ _ σ
theorem sp_child_e (σ : gM) (x1 x2 x3 : Int) : sp_child σ x1 x2 x3 =
  (sp_child_b3 σ x1 x2 x3 1) := Lm.eqn (sp_child_l ..) (sp_child_b3_l ..) fun n => (rfl)
theorem sp_child_b3_e (σ : gM) (x1 x2 x3 x4 : Int) : sp_child_b3 σ x1 x2 x3 x4 =
  (if x4 < σ 42 6 then
  (if 0 ≤ x4 ∧ x4 < 200 then
    (if σ 43 x4 = x1 then
      (if 0 ≤ x4 ∧ x4 < 200 then
        (if σ 44 x4 = x2 then
          (if 0 ≤ x4 ∧ x4 < 200 then
            (if σ 45 x4 = x3 then
              (some (σ, x4))
              else
              (sp_child_b48 σ x1 x2 x3 x4))
            else none)
          else
          (sp_child_b48 σ x1 x2 x3 x4))
        else none)
      else
      (sp_child_b48 σ x1 x2 x3 x4))
    else none)
  else
  (some (σ, (-1)))) := Lm.eqn (sp_child_b3_l ..) (.ite (.ite (.ite (.ite (.ite (.ite (.ite .cst (sp_child_b48_l ..)) .cst) (sp_child_b48_l ..)) .cst) (sp_child_b48_l ..)) .cst) .cst) fun n => (rfl)
theorem sp_child_b48_e (σ : gM) (x1 x2 x3 x4 : Int) : sp_child_b48 σ x1 x2 x3 x4 =
  (sp_child_b3 σ x1 x2 x3 (w32 (x4 + 1))) := Lm.eqn (sp_child_b48_l ..) (sp_child_b3_l ..) fun n => (rfl)
def k_sp_newName : List gC := [(0, 1, .aload_n 0, [], none), (1, 3, .getfield 32, [], none), (4, 1, .aload_n 0, [], none), (5, 3, .getfield 52, [], none),
  (8, 1, .aload_n 0, [], none), (9, 3, .getfield 55, [], none), (12, 1, .iastore, [], none), (13, 1, .aload_n 0, [], none),
  (14, 3, .getfield 35, [], none), (17, 1, .aload_n 0, [], none), (18, 3, .getfield 52, [], none), (21, 1, .aload_n 0, [], none),
  (22, 3, .getfield 41, [], none), (25, 3, .getfield 68, [], none), (28, 1, .iload_n 1, [], none), (29, 1, .iaload, [], none),
  (30, 1, .iastore, [], none), (31, 1, .aload_n 0, [], none), (32, 3, .getfield 41, [], none), (35, 3, .getfield 69, [], none),
  (38, 1, .aload_n 0, [], none), (39, 3, .getfield 41, [], none), (42, 3, .getfield 70, [], none), (45, 1, .iload_n 1, [], none),
  (46, 1, .iaload, [], none), (47, 1, .aload_n 0, [], none), (48, 3, .getfield 28, [], none), (51, 1, .aload_n 0, [], none),
  (52, 3, .getfield 55, [], none), (55, 1, .aload_n 0, [], none), (56, 3, .getfield 35, [], none), (59, 1, .aload_n 0, [], none),
  (60, 3, .getfield 52, [], none), (63, 1, .iaload, [], none), (64, 3, .invokestatic 71, [], none), (67, 1, .aload_n 0, [], none),
  (68, 1, .dup, [], none), (69, 3, .getfield 55, [], none), (72, 1, .aload_n 0, [], none), (73, 3, .getfield 35, [], none),
  (76, 1, .aload_n 0, [], none), (77, 3, .getfield 52, [], none), (80, 1, .iaload, [], none), (81, 1, .iadd, [], none),
  (82, 3, .putfield 55, [], none), (85, 1, .aload_n 0, [], none), (86, 1, .dup, [], none), (87, 3, .getfield 52, [], none),
  (90, 1, .iconst 1, [], none), (91, 1, .iadd, [], none), (92, 3, .putfield 52, [], none), (95, 1, .aload_n 0, [], none),
  (96, 3, .getfield 52, [], none), (99, 1, .iconst 1, [], none), (100, 1, .isub, [], none), (101, 1, .ireturn, [], none)]
def e_sp_newName (m : Nat) : gE := (k_sp_newName, f_sp, c_sp, [(71, 5, 0, 5, .inl (jcopy (m, 820219021793629471639688335169108012007438536584954663659663977403732374699765971210787766220619776)))], [], (m, 820219021793629471639688335169108012007438536584954663659663977403732374699765971210787766220619776), 0)
theorem ok_sp_newName : gchk cX5_newName 2 k_sp_newName = true := by decide +kernel
def fn_sp_newName (m : Nat) : gFn := gF (e_sp_newName m) 2
theorem mo_sp_newName (m : Nat) : gMo (.inl (fn_sp_newName m)) := gF_mo (E := e_sp_newName m) ⟨gMo_copy, trivial⟩
noncomputable def sp_newName (σ : gM) (x1 : Int) : Option (gM × Int) := lim (fun n => fn_sp_newName 119 n [(2, 42), (0, x1)] σ)
theorem sp_newName_l (σ : gM) (x1 : Int) : Lm (fun n => fn_sp_newName 119 n [(2, 42), (0, x1)] σ) (sp_newName σ x1) := .of fun n => mo_sp_newName 119 n [(2, 42), (0, x1)] σ
theorem sp_newName_e (σ : gM) (x1 : Int) : sp_newName σ x1 =
  (if 0 ≤ σ 42 10 ∧ σ 42 10 < 200 then
  (if 0 ≤ x1 ∧ x1 < 108000 then
    (if 0 ≤ σ 42 10 ∧ σ 42 10 < 200 then
      (if 0 ≤ x1 ∧ x1 < 108000 then
        (if 0 ≤ σ 42 10 ∧ σ 42 10 < 200 then
          ((jcopy (119, 820219021793629471639688335169108012007438536584954663659663977403732374699765971210787766220619776) 0 [(2, 1), (0, σ 2 x1), (2, 48), (0, σ 42 11), (0, (gW (gW σ 49 (σ 42 10) (σ 42 11)) 50 (σ 42 10) (σ 3 x1)) 50 (σ 42 10))] (gW (gW σ 49 (σ 42 10) (σ 42 11)) 50 (σ 42 10) (σ 3 x1))).bind fun p1 =>
            if 0 ≤ p1.1 42 10 ∧ p1.1 42 10 < 200 then
            (some (gW (gW p1.1 42 11 (w32 ((p1.1 42 11) + (p1.1 50 (p1.1 42 10))))) 42 10 (w32 ((p1.1 42 10) + 1)), w32 ((w32 ((p1.1 42 10) + 1)) - 1)))
            else none)
          else none)
        else none)
      else none)
    else none)
  else none) := Lm.eqn (sp_newName_l ..) (.ite (.ite (.ite (.ite (.ite (.bind .cst fun p1 => (.ite .cst .cst)) .cst) .cst) .cst) .cst) .cst) fun n => (rfl)
def k_sp_add : List gC := [(0, 1, .aload_n 0, [], none), (1, 3, .getfield 48, [], none), (4, 2, .istore 4, [], none), (6, 1, .aload_n 0, [], none),
  (7, 1, .dup, [], none), (8, 3, .getfield 48, [], none), (11, 1, .iconst 1, [], none), (12, 1, .iadd, [], none),
  (13, 3, .putfield 48, [], none), (16, 1, .aload_n 0, [], none), (17, 3, .getfield 9, [], none), (20, 2, .iload 4, [], none),
  (22, 1, .iload_n 1, [], none), (23, 1, .iastore, [], none), (24, 1, .aload_n 0, [], none), (25, 3, .getfield 15, [], none),
  (28, 2, .iload 4, [], none), (30, 1, .iload_n 2, [], none), (31, 1, .iastore, [], none), (32, 1, .aload_n 0, [], none),
  (33, 3, .getfield 18, [], none), (36, 2, .iload 4, [], none), (38, 1, .iload_n 3, [], none), (39, 1, .iastore, [], none),
  (40, 1, .aload_n 0, [], none), (41, 3, .getfield 21, [], none), (44, 2, .iload 4, [], none), (46, 1, .iconst (-1), [], none),
  (47, 1, .iastore, [], none), (48, 1, .aload_n 0, [], none), (49, 3, .getfield 24, [], none), (52, 2, .iload 4, [], none),
  (54, 1, .aload_n 0, [], none), (55, 3, .getfield 24, [], none), (58, 1, .iload_n 1, [], none), (59, 1, .iaload, [], none),
  (60, 1, .iconst 1, [], none), (61, 1, .iadd, [], none), (62, 1, .iastore, [], none), (63, 2, .iload 4, [], none),
  (65, 1, .ireturn, [], none)]
def e_sp_add (m : Nat) : gE := (k_sp_add, f_sp, c_sp, [], [], (m, 17087896287367280659160173649356416916821636178853222159576332862577757806245124400456375579181056), 0)
theorem ok_sp_add : gchk cX5_add 5 k_sp_add = true := by decide +kernel
def fn_sp_add (m : Nat) : gFn := gF (e_sp_add m) 5
theorem mo_sp_add (m : Nat) : gMo (.inl (fn_sp_add m)) := gF_mo (E := e_sp_add m) trivial
noncomputable def sp_add (σ : gM) (x1 x2 x3 : Int) : Option (gM × Int) := lim (fun n => fn_sp_add 119 n [(2, 42), (0, x1), (0, x2), (0, x3)] σ)
theorem sp_add_l (σ : gM) (x1 x2 x3 : Int) : Lm (fun n => fn_sp_add 119 n [(2, 42), (0, x1), (0, x2), (0, x3)] σ) (sp_add σ x1 x2 x3) := .of fun n => mo_sp_add 119 n [(2, 42), (0, x1), (0, x2), (0, x3)] σ
theorem sp_add_e (σ : gM) (x1 x2 x3 : Int) : sp_add σ x1 x2 x3 =
  (if 0 ≤ σ 42 6 ∧ σ 42 6 < 200 then
  (if 0 ≤ σ 42 6 ∧ σ 42 6 < 200 then
    (if 0 ≤ σ 42 6 ∧ σ 42 6 < 200 then
      (if 0 ≤ σ 42 6 ∧ σ 42 6 < 200 then
        (if 0 ≤ x1 ∧ x1 < 200 then
          (if 0 ≤ σ 42 6 ∧ σ 42 6 < 200 then
            (some (gW (gW (gW (gW (gW (gW σ 42 6 (w32 ((σ 42 6) + 1))) 43 (σ 42 6) x1) 44 (σ 42 6) x2) 45 (σ 42 6) x3) 46 (σ 42 6) (-1)) 47 (σ 42 6) (w32 ((σ 47 x1) + 1)), σ 42 6))
            else none)
          else none)
        else none)
      else none)
    else none)
  else none) := Lm.eqn (sp_add_l ..) (.ite (.ite (.ite (.ite (.ite (.ite .cst .cst) .cst) .cst) .cst) .cst) .cst) fun n => (rfl)
def k_sp_childFor : List gC := [(0, 1, .aload_n 0, [], none), (1, 1, .iload_n 2, [], none), (2, 3, .invokevirtual 77, [], none), (5, 2, .istore 4, [], none),
  (7, 2, .iload 4, [], none), (9, 3, .ifCond .ge 7, [(0, 16)], none), (12, 1, .iconst (-1), [], none), (13, 3, .goto 11, [(0, 24)], none),
  (16, 1, .aload_n 0, [], none), (17, 1, .iload_n 1, [], none), (18, 2, .iload 4, [], none), (20, 1, .iload_n 3, [], none),
  (21, 3, .invokevirtual 81, [], none), (24, 2, .istore 5, [], some [true, true, true, true, true, false]), (26, 2, .iload 5, [], none), (28, 3, .ifCond .ge 13, [(0, 41)], none),
  (31, 1, .aload_n 0, [], none), (32, 3, .getfield 48, [], none), (35, 3, .sipush 200, [], none), (38, 3, .if_icmp .ne 6, [(0, 44)], none),
  (41, 2, .iload 5, [], none), (43, 1, .ireturn, [], none), (44, 1, .aload_n 0, [], none), (45, 1, .iload_n 1, [], none),
  (46, 2, .iload 4, [], none), (48, 3, .ifCond .ge 11, [(0, 59)], none), (51, 1, .aload_n 0, [], none), (52, 1, .iload_n 2, [], none),
  (53, 3, .invokevirtual 85, [], none), (56, 3, .goto 5, [(0, 61)], none), (59, 2, .iload 4, [], none), (61, 1, .iload_n 3, [], some [false, false, false, true, false, false]),
  (62, 3, .invokevirtual 88, [], none), (65, 1, .ireturn, [], none)]
def e_sp_childFor (m : Nat) : gE := (k_sp_childFor, f_sp, c_sp, [(77, 2, 13, 0, .inl (fn_sp_nameOf m)), (81, 4, 13, 0, .inl (fn_sp_child m)), (85, 2, 13, 0, .inl (fn_sp_newName m)), (88, 4, 13, 0, .inl (fn_sp_add m))], [], (m, 837306918080996752298848508818464428924260172763807885819240310266310132506011095611244141799800880), 0)
theorem ok_sp_childFor : gchk cX5_childFor 6 k_sp_childFor = true := by decide +kernel
def fn_sp_childFor (m : Nat) : gFn := gF (e_sp_childFor m) 6
theorem mo_sp_childFor (m : Nat) : gMo (.inl (fn_sp_childFor m)) := gF_mo (E := e_sp_childFor m) ⟨mo_sp_nameOf m, ⟨mo_sp_child m, ⟨mo_sp_newName m, ⟨mo_sp_add m, trivial⟩⟩⟩⟩
noncomputable def sp_childFor (σ : gM) (x1 x2 x3 : Int) : Option (gM × Int) := lim (fun n => fn_sp_childFor 119 n [(2, 42), (0, x1), (0, x2), (0, x3)] σ)
theorem sp_childFor_l (σ : gM) (x1 x2 x3 : Int) : Lm (fun n => fn_sp_childFor 119 n [(2, 42), (0, x1), (0, x2), (0, x3)] σ) (sp_childFor σ x1 x2 x3) := .of fun n => mo_sp_childFor 119 n [(2, 42), (0, x1), (0, x2), (0, x3)] σ
theorem mb_sp_childFor : gMos (e_sp_childFor 119).2.2.2.1 := ⟨mo_sp_nameOf 119, ⟨mo_sp_child 119, ⟨mo_sp_newName 119, ⟨mo_sp_add 119, trivial⟩⟩⟩⟩
noncomputable def sp_childFor_b24 (σ : gM) (x1 x2 x3 x4 y0 : Int) : Option (gM × Int) := lim (fun n => gB (e_sp_childFor 119) rF tF n 24 [(2, 42), (0, x1), (0, x2), (0, x3), (0, x4), (9, 0)] [(0, y0)] σ)
theorem sp_childFor_b24_l (σ : gM) (x1 x2 x3 x4 y0 : Int) : Lm (fun n => gB (e_sp_childFor 119) rF tF n 24 [(2, 42), (0, x1), (0, x2), (0, x3), (0, x4), (9, 0)] [(0, y0)] σ) (sp_childFor_b24 σ x1 x2 x3 x4 y0) := .of fun n => gB_le (gMos_spec (mb_sp_childFor)) n _ _ _ σ
noncomputable def sp_childFor_b61 (σ : gM) (x3 y0 y1 : Int) : Option (gM × Int) := lim (fun n => gB (e_sp_childFor 119) rF tF n 61 [(9, 0), (9, 0), (9, 0), (0, x3), (9, 0), (9, 0)] [(0, y0), (0, y1), (2, 42)] σ)
theorem sp_childFor_b61_l (σ : gM) (x3 y0 y1 : Int) : Lm (fun n => gB (e_sp_childFor 119) rF tF n 61 [(9, 0), (9, 0), (9, 0), (0, x3), (9, 0), (9, 0)] [(0, y0), (0, y1), (2, 42)] σ) (sp_childFor_b61 σ x3 y0 y1) := .of fun n => gB_le (gMos_spec (mb_sp_childFor)) n _ _ _ σ
theorem sp_childFor_e (σ : gM) (x1 x2 x3 : Int) : sp_childFor σ x1 x2 x3 =
  ((sp_nameOf σ x2).bind fun p1 =>
  if p1.2 < 0 then
  (sp_childFor_b24 p1.1 x1 x2 x3 p1.2 (-1))
  else
  ((sp_child p1.1 x1 p1.2 x3).bind fun p2 =>
    sp_childFor_b24 p2.1 x1 x2 x3 p1.2 p2.2)) := Lm.eqn (sp_childFor_l ..) (.bind (sp_nameOf_l ..) fun p1 => (.ite (sp_childFor_b24_l ..) (.bind (sp_child_l ..) fun p2 => (sp_childFor_b24_l ..)))) fun n => (rfl)
theorem sp_childFor_b24_e (σ : gM) (x1 x2 x3 x4 y0 : Int) : sp_childFor_b24 σ x1 x2 x3 x4 y0 =
  (if y0 < 0 then
  (if σ 42 6 = 200 then
    (some (σ, y0))
    else
    (if x4 < 0 then
      ((sp_newName σ x2).bind fun p1 =>
        sp_childFor_b61 p1.1 x3 p1.2 x1)
      else
      (sp_childFor_b61 σ x3 x4 x1)))
  else
  (some (σ, y0))) := Lm.eqn (sp_childFor_b24_l ..) (.ite (.ite .cst (.ite (.bind (sp_newName_l ..) fun p1 => (sp_childFor_b61_l ..)) (sp_childFor_b61_l ..))) .cst) fun n => (rfl)
theorem sp_childFor_b61_e (σ : gM) (x3 y0 y1 : Int) : sp_childFor_b61 σ x3 y0 y1 =
  ((sp_add σ y1 y0 x3).bind fun p1 =>
  some (p1.1, p1.2)) := Lm.eqn (sp_childFor_b61_l ..) (.bind (sp_add_l ..) fun p1 => .cst) fun n => (rfl)
def k_sp_wider : List gC := [(0, 1, .aload_n 0, [], none), (1, 3, .getfield 24, [], none), (4, 1, .iload_n 1, [], none), (5, 1, .iaload, [], none),
  (6, 1, .istore_n 3, [], none), (7, 1, .iload_n 1, [], none), (8, 2, .istore 4, [], none), (10, 2, .iload 4, [], some [true, false, true, true, true, false, false, false]),
  (12, 3, .ifCond .le 31, [(0, 43)], none), (15, 1, .aload_n 0, [], none), (16, 3, .getfield 38, [], none), (19, 1, .aload_n 0, [], none),
  (20, 3, .getfield 24, [], none), (23, 2, .iload 4, [], none), (25, 1, .iaload, [], none), (26, 1, .iconst 1, [], none),
  (27, 1, .isub, [], none), (28, 2, .iload 4, [], none), (30, 1, .iastore, [], none), (31, 1, .aload_n 0, [], none),
  (32, 3, .getfield 9, [], none), (35, 2, .iload 4, [], none), (37, 1, .iaload, [], none), (38, 2, .istore 4, [], none),
  (40, 3, .goto (-30), [(0, 10)], none), (43, 1, .iconst 0, [], none), (44, 2, .istore 4, [], none), (46, 1, .iconst 0, [], none),
  (47, 2, .istore 5, [], none), (49, 1, .iconst 0, [], none), (50, 2, .istore 6, [], none), (52, 2, .iload 6, [], some [true, false, true, true, true, true, true, false]),
  (54, 1, .iload_n 3, [], none), (55, 3, .if_icmp .ge 75, [(0, 130)], none), (58, 2, .iload 5, [], none), (60, 3, .ifCond .le 7, [(0, 67)], none),
  (63, 1, .iconst (-1), [], none), (64, 3, .goto 43, [(0, 107)], none), (67, 1, .aload_n 0, [], none), (68, 2, .iload 4, [], none),
  (70, 1, .aload_n 0, [], none), (71, 3, .getfield 15, [], none), (74, 1, .aload_n 0, [], none), (75, 3, .getfield 38, [], none),
  (78, 2, .iload 6, [], none), (80, 1, .iaload, [], none), (81, 1, .iaload, [], none), (82, 2, .iload 6, [], none),
  (84, 1, .iload_n 2, [], none), (85, 3, .if_icmp .ne 7, [(0, 92)], none), (88, 1, .iconst 3, [], none), (89, 3, .goto 15, [(0, 104)], none),
  (92, 1, .aload_n 0, [], none), (93, 3, .getfield 18, [], none), (96, 1, .aload_n 0, [], none), (97, 3, .getfield 38, [], none),
  (100, 2, .iload 6, [], none), (102, 1, .iaload, [], none), (103, 1, .iaload, [], none), (104, 3, .invokevirtual 81, [], some [true, false, true, true, true, true, true, false]),
  (107, 2, .istore 7, [], some [true, false, true, true, true, true, true, false]), (109, 2, .iload 7, [], none), (111, 3, .ifCond .ge 9, [(0, 120)], none), (114, 3, .iinc 5 1, [], none),
  (117, 3, .goto 7, [(0, 124)], none), (120, 2, .iload 7, [], none), (122, 2, .istore 4, [], none), (124, 3, .iinc 6 1, [], some [true, false, true, true, true, true, true, false]),
  (127, 3, .goto (-75), [(0, 52)], none), (130, 1, .aload_n 0, [], none), (131, 3, .getfield 48, [], none), (134, 2, .iload 5, [], none),
  (136, 1, .iadd, [], none), (137, 3, .sipush 200, [], none), (140, 3, .if_icmp .le 5, [(0, 145)], none), (143, 1, .iconst (-1), [], none),
  (144, 1, .ireturn, [], none), (145, 1, .iload_n 3, [], none), (146, 2, .iload 5, [], none), (148, 1, .isub, [], none),
  (149, 2, .istore 6, [], none), (151, 2, .iload 6, [], some [true, false, true, true, true, false, true, false]), (153, 1, .iload_n 3, [], none), (154, 3, .if_icmp .ge 51, [(0, 205)], none),
  (157, 1, .aload_n 0, [], none), (158, 2, .iload 4, [], none), (160, 1, .aload_n 0, [], none), (161, 3, .getfield 15, [], none),
  (164, 1, .aload_n 0, [], none), (165, 3, .getfield 38, [], none), (168, 2, .iload 6, [], none), (170, 1, .iaload, [], none),
  (171, 1, .iaload, [], none), (172, 2, .iload 6, [], none), (174, 1, .iload_n 2, [], none), (175, 3, .if_icmp .ne 7, [(0, 182)], none),
  (178, 1, .iconst 3, [], none), (179, 3, .goto 15, [(0, 194)], none), (182, 1, .aload_n 0, [], none), (183, 3, .getfield 18, [], none),
  (186, 1, .aload_n 0, [], none), (187, 3, .getfield 38, [], none), (190, 2, .iload 6, [], none), (192, 1, .iaload, [], none),
  (193, 1, .iaload, [], none), (194, 3, .invokevirtual 88, [], some [true, false, true, true, false, false, true, false]), (197, 2, .istore 4, [], none), (199, 3, .iinc 6 1, [], none),
  (202, 3, .goto (-51), [(0, 151)], none), (205, 2, .iload 4, [], none), (207, 1, .ireturn, [], none)]
def e_sp_wider (m : Nat) : gE := (k_sp_wider, f_sp, c_sp, [(81, 4, 13, 0, .inl (fn_sp_child m)), (88, 4, 13, 0, .inl (fn_sp_add m))], [], (m, 17087896287367280659160173649356416916821636178853222159576332862577757806245124402708175392866304), 0)
theorem ok_sp_wider : gchk cX5_wider 8 k_sp_wider = true := by decide +kernel
def fn_sp_wider (m : Nat) : gFn := gF (e_sp_wider m) 8
theorem mo_sp_wider (m : Nat) : gMo (.inl (fn_sp_wider m)) := gF_mo (E := e_sp_wider m) ⟨mo_sp_child m, ⟨mo_sp_add m, trivial⟩⟩
noncomputable def sp_wider (σ : gM) (x1 x2 : Int) : Option (gM × Int) := lim (fun n => fn_sp_wider 119 n [(2, 42), (0, x1), (0, x2)] σ)
theorem sp_wider_l (σ : gM) (x1 x2 : Int) : Lm (fun n => fn_sp_wider 119 n [(2, 42), (0, x1), (0, x2)] σ) (sp_wider σ x1 x2) := .of fun n => mo_sp_wider 119 n [(2, 42), (0, x1), (0, x2)] σ
theorem mb_sp_wider : gMos (e_sp_wider 119).2.2.2.1 := ⟨mo_sp_child 119, ⟨mo_sp_add 119, trivial⟩⟩
noncomputable def sp_wider_b10 (σ : gM) (x2 x3 x4 : Int) : Option (gM × Int) := lim (fun n => gB (e_sp_wider 119) rF tF n 10 [(2, 42), (9, 0), (0, x2), (0, x3), (0, x4), (9, 0), (9, 0), (9, 0)] [] σ)
theorem sp_wider_b10_l (σ : gM) (x2 x3 x4 : Int) : Lm (fun n => gB (e_sp_wider 119) rF tF n 10 [(2, 42), (9, 0), (0, x2), (0, x3), (0, x4), (9, 0), (9, 0), (9, 0)] [] σ) (sp_wider_b10 σ x2 x3 x4) := .of fun n => gB_le (gMos_spec (mb_sp_wider)) n _ _ _ σ
noncomputable def sp_wider_b52 (σ : gM) (x2 x3 x4 x5 x6 : Int) : Option (gM × Int) := lim (fun n => gB (e_sp_wider 119) rF tF n 52 [(2, 42), (9, 0), (0, x2), (0, x3), (0, x4), (0, x5), (0, x6), (9, 0)] [] σ)
theorem sp_wider_b52_l (σ : gM) (x2 x3 x4 x5 x6 : Int) : Lm (fun n => gB (e_sp_wider 119) rF tF n 52 [(2, 42), (9, 0), (0, x2), (0, x3), (0, x4), (0, x5), (0, x6), (9, 0)] [] σ) (sp_wider_b52 σ x2 x3 x4 x5 x6) := .of fun n => gB_le (gMos_spec (mb_sp_wider)) n _ _ _ σ
noncomputable def sp_wider_b104 (σ : gM) (x2 x3 x4 x5 x6 y0 y1 y2 : Int) : Option (gM × Int) := lim (fun n => gB (e_sp_wider 119) rF tF n 104 [(2, 42), (9, 0), (0, x2), (0, x3), (0, x4), (0, x5), (0, x6), (9, 0)] [(0, y0), (0, y1), (0, y2), (2, 42)] σ)
theorem sp_wider_b104_l (σ : gM) (x2 x3 x4 x5 x6 y0 y1 y2 : Int) : Lm (fun n => gB (e_sp_wider 119) rF tF n 104 [(2, 42), (9, 0), (0, x2), (0, x3), (0, x4), (0, x5), (0, x6), (9, 0)] [(0, y0), (0, y1), (0, y2), (2, 42)] σ) (sp_wider_b104 σ x2 x3 x4 x5 x6 y0 y1 y2) := .of fun n => gB_le (gMos_spec (mb_sp_wider)) n _ _ _ σ
noncomputable def sp_wider_b107 (σ : gM) (x2 x3 x4 x5 x6 y0 : Int) : Option (gM × Int) := lim (fun n => gB (e_sp_wider 119) rF tF n 107 [(2, 42), (9, 0), (0, x2), (0, x3), (0, x4), (0, x5), (0, x6), (9, 0)] [(0, y0)] σ)
theorem sp_wider_b107_l (σ : gM) (x2 x3 x4 x5 x6 y0 : Int) : Lm (fun n => gB (e_sp_wider 119) rF tF n 107 [(2, 42), (9, 0), (0, x2), (0, x3), (0, x4), (0, x5), (0, x6), (9, 0)] [(0, y0)] σ) (sp_wider_b107 σ x2 x3 x4 x5 x6 y0) := .of fun n => gB_le (gMos_spec (mb_sp_wider)) n _ _ _ σ
noncomputable def sp_wider_b124 (σ : gM) (x2 x3 x4 x5 x6 : Int) : Option (gM × Int) := lim (fun n => gB (e_sp_wider 119) rF tF n 124 [(2, 42), (9, 0), (0, x2), (0, x3), (0, x4), (0, x5), (0, x6), (9, 0)] [] σ)
theorem sp_wider_b124_l (σ : gM) (x2 x3 x4 x5 x6 : Int) : Lm (fun n => gB (e_sp_wider 119) rF tF n 124 [(2, 42), (9, 0), (0, x2), (0, x3), (0, x4), (0, x5), (0, x6), (9, 0)] [] σ) (sp_wider_b124 σ x2 x3 x4 x5 x6) := .of fun n => gB_le (gMos_spec (mb_sp_wider)) n _ _ _ σ
noncomputable def sp_wider_b151 (σ : gM) (x2 x3 x4 x6 : Int) : Option (gM × Int) := lim (fun n => gB (e_sp_wider 119) rF tF n 151 [(2, 42), (9, 0), (0, x2), (0, x3), (0, x4), (9, 0), (0, x6), (9, 0)] [] σ)
theorem sp_wider_b151_l (σ : gM) (x2 x3 x4 x6 : Int) : Lm (fun n => gB (e_sp_wider 119) rF tF n 151 [(2, 42), (9, 0), (0, x2), (0, x3), (0, x4), (9, 0), (0, x6), (9, 0)] [] σ) (sp_wider_b151 σ x2 x3 x4 x6) := .of fun n => gB_le (gMos_spec (mb_sp_wider)) n _ _ _ σ
noncomputable def sp_wider_b194 (σ : gM) (x2 x3 x6 y0 y1 y2 : Int) : Option (gM × Int) := lim (fun n => gB (e_sp_wider 119) rF tF n 194 [(2, 42), (9, 0), (0, x2), (0, x3), (9, 0), (9, 0), (0, x6), (9, 0)] [(0, y0), (0, y1), (0, y2), (2, 42)] σ)
theorem sp_wider_b194_l (σ : gM) (x2 x3 x6 y0 y1 y2 : Int) : Lm (fun n => gB (e_sp_wider 119) rF tF n 194 [(2, 42), (9, 0), (0, x2), (0, x3), (9, 0), (9, 0), (0, x6), (9, 0)] [(0, y0), (0, y1), (0, y2), (2, 42)] σ) (sp_wider_b194 σ x2 x3 x6 y0 y1 y2) := .of fun n => gB_le (gMos_spec (mb_sp_wider)) n _ _ _ σ
theorem sp_wider_e (σ : gM) (x1 x2 : Int) : sp_wider σ x1 x2 =
  (if 0 ≤ x1 ∧ x1 < 200 then
  (sp_wider_b10 σ x2 (σ 47 x1) x1)
  else none) := Lm.eqn (sp_wider_l ..) (.ite (sp_wider_b10_l ..) .cst) fun n => (rfl)
theorem sp_wider_b10_e (σ : gM) (x2 x3 x4 : Int) : sp_wider_b10 σ x2 x3 x4 =
  (if 0 < x4 then
  (if 0 ≤ x4 ∧ x4 < 200 then
    (if 0 ≤ w32 ((σ 47 x4) - 1) ∧ w32 ((σ 47 x4) - 1) < 12 then
      (if 0 ≤ x4 ∧ x4 < 200 then
        (sp_wider_b10 (gW σ 51 (w32 ((σ 47 x4) - 1)) x4) x2 x3 (σ 43 x4))
        else none)
      else none)
    else none)
  else
  (sp_wider_b52 σ x2 x3 0 0 0)) := Lm.eqn (sp_wider_b10_l ..) (.ite (.ite (.ite (.ite (sp_wider_b10_l ..) .cst) .cst) .cst) (sp_wider_b52_l ..)) fun n => (rfl)
theorem sp_wider_b52_e (σ : gM) (x2 x3 x4 x5 x6 : Int) : sp_wider_b52 σ x2 x3 x4 x5 x6 =
  (if x6 < x3 then
  (if 0 < x5 then
    (sp_wider_b107 σ x2 x3 x4 x5 x6 (-1))
    else
    (if 0 ≤ x6 ∧ x6 < 12 then
      (if 0 ≤ σ 51 x6 ∧ σ 51 x6 < 200 then
        (if x6 = x2 then
          (sp_wider_b104 σ x2 x3 x4 x5 x6 3 (σ 44 (σ 51 x6)) x4)
          else
          (if 0 ≤ x6 ∧ x6 < 12 then
            (if 0 ≤ σ 51 x6 ∧ σ 51 x6 < 200 then
              (sp_wider_b104 σ x2 x3 x4 x5 x6 (σ 45 (σ 51 x6)) (σ 44 (σ 51 x6)) x4)
              else none)
            else none))
        else none)
      else none))
  else
  (if 200 < w32 ((σ 42 6) + x5) then
    (some (σ, (-1)))
    else
    (sp_wider_b151 σ x2 x3 x4 (w32 (x3 - x5))))) := Lm.eqn (sp_wider_b52_l ..) (.ite (.ite (sp_wider_b107_l ..) (.ite (.ite (.ite (sp_wider_b104_l ..) (.ite (.ite (sp_wider_b104_l ..) .cst) .cst)) .cst) .cst)) (.ite .cst (sp_wider_b151_l ..))) fun n => (rfl)
theorem sp_wider_b104_e (σ : gM) (x2 x3 x4 x5 x6 y0 y1 y2 : Int) : sp_wider_b104 σ x2 x3 x4 x5 x6 y0 y1 y2 =
  ((sp_child σ y2 y1 y0).bind fun p1 =>
  sp_wider_b107 p1.1 x2 x3 x4 x5 x6 p1.2) := Lm.eqn (sp_wider_b104_l ..) (.bind (sp_child_l ..) fun p1 => (sp_wider_b107_l ..)) fun n => (rfl)
theorem sp_wider_b107_e (σ : gM) (x2 x3 x4 x5 x6 y0 : Int) : sp_wider_b107 σ x2 x3 x4 x5 x6 y0 =
  (if y0 < 0 then
  (sp_wider_b124 σ x2 x3 x4 (w32 (x5 + 1)) x6)
  else
  (sp_wider_b124 σ x2 x3 y0 x5 x6)) := Lm.eqn (sp_wider_b107_l ..) (.ite (sp_wider_b124_l ..) (sp_wider_b124_l ..)) fun n => (rfl)
theorem sp_wider_b124_e (σ : gM) (x2 x3 x4 x5 x6 : Int) : sp_wider_b124 σ x2 x3 x4 x5 x6 =
  (sp_wider_b52 σ x2 x3 x4 x5 (w32 (x6 + 1))) := Lm.eqn (sp_wider_b124_l ..) (sp_wider_b52_l ..) fun n => (rfl)
theorem sp_wider_b151_e (σ : gM) (x2 x3 x4 x6 : Int) : sp_wider_b151 σ x2 x3 x4 x6 =
  (if x6 < x3 then
  (if 0 ≤ x6 ∧ x6 < 12 then
    (if 0 ≤ σ 51 x6 ∧ σ 51 x6 < 200 then
      (if x6 = x2 then
        (sp_wider_b194 σ x2 x3 x6 3 (σ 44 (σ 51 x6)) x4)
        else
        (if 0 ≤ x6 ∧ x6 < 12 then
          (if 0 ≤ σ 51 x6 ∧ σ 51 x6 < 200 then
            (sp_wider_b194 σ x2 x3 x6 (σ 45 (σ 51 x6)) (σ 44 (σ 51 x6)) x4)
            else none)
          else none))
      else none)
    else none)
  else
  (some (σ, x4))) := Lm.eqn (sp_wider_b151_l ..) (.ite (.ite (.ite (.ite (sp_wider_b194_l ..) (.ite (.ite (sp_wider_b194_l ..) .cst) .cst)) .cst) .cst) .cst) fun n => (rfl)
theorem sp_wider_b194_e (σ : gM) (x2 x3 x6 y0 y1 y2 : Int) : sp_wider_b194 σ x2 x3 x6 y0 y1 y2 =
  ((sp_add σ y2 y1 y0).bind fun p1 =>
  sp_wider_b151 p1.1 x2 x3 p1.2 (w32 (x6 + 1))) := Lm.eqn (sp_wider_b194_l ..) (.bind (sp_add_l ..) fun p1 => (sp_wider_b151_l ..)) fun n => (rfl)
