set_option maxRecDepth 100000
def f_gt : List (Nat × Nat × Int × Nat) := [(10, 18, 0, 2), (21, 18, 1, 2), (28, 18, 2, 2), (37, 18, 3, 2), (44, 18, 4, 2), (48, 18, 6, 2), (52, 18, 9, 0), (70, 18, 5, 2), (77, 18, 7, 0), (88, 15, 0, 2), (92, 16, 8, 0), (97, 18, 8, 0), (98, 16, 9, 0), (105, 15, 19, 0), (112, 11, 31, 0), (121, 11, 18, 2), (133, 17, 23, 0), (136, 17, 25, 0), (139, 17, 26, 0), (142, 17, 27, 0), (145, 17, 35, 0), (148, 17, 33, 2), (151, 17, 34, 0), (154, 17, 32, 2), (161, 11, 17, 2), (164, 11, 20, 2), (167, 11, 26, 2), (173, 10, 2, 2), (176, 10, 0, 2), (179, 10, 1, 2), (182, 11, 22, 2), (185, 11, 27, 2), (188, 11, 29, 2), (191, 11, 28, 2), (201, 11, 4, 2), (204, 11, 21, 2), (205, 11, 1, 2), (208, 11, 10, 2), (211, 11, 2, 2), (214, 11, 3, 2), (216, 11, 11, 2), (219, 11, 5, 2), (222, 13, 6, 0), (224, 13, 2, 2), (227, 13, 9, 2), (228, 13, 7, 2), (229, 13, 8, 2), (230, 13, 1, 2), (233, 13, 3, 2), (235, 13, 4, 2), (238, 13, 5, 2), (241, 14, 10, 0), (242, 14, 3, 2), (245, 14, 13, 2), (248, 14, 2, 2), (251, 14, 1, 2), (254, 14, 9, 2), (258, 14, 4, 2), (261, 14, 5, 2), (264, 14, 6, 2), (267, 14, 7, 2), (270, 14, 8, 2), (273, 17, 19, 0), (275, 17, 9, 2), (278, 17, 17, 2), (281, 17, 12, 2), (284, 17, 13, 2), (287, 17, 15, 2), (290, 17, 24, 0), (293, 17, 20, 0), (296, 17, 31, 0), (299, 14, 19, 0), (302, 17, 36, 0), (304, 17, 37, 0), (306, 17, 38, 0), (308, 17, 39, 0), (310, 17, 40, 0), (313, 17, 41, 0), (316, 17, 42, 0)]
def c_gt : List (Nat × gV) := [(115, 3, 0)]
def k_gt_four : List gC := [(0, 2, .bipush 24, [], none), (2, 1, .istore_n 2, [], none), (3, 1, .iload_n 2, [], some [true, true, true]), (4, 3, .ifCond .lt 32, [(0, 36)], none),
  (7, 1, .aload_n 0, [], none), (8, 3, .getfield 48, [], none), (11, 1, .aload_n 0, [], none), (12, 3, .getfield 77, [], none),
  (15, 1, .iload_n 1, [], none), (16, 1, .iload_n 2, [], none), (17, 1, .ishr, [], none), (18, 1, .i2b, [], none),
  (19, 1, .bastore, [], none), (20, 1, .aload_n 0, [], none), (21, 1, .dup, [], none), (22, 3, .getfield 77, [], none),
  (25, 1, .iconst 1, [], none), (26, 1, .iadd, [], none), (27, 3, .putfield 77, [], none), (30, 3, .iinc 2 (-8), [], none),
  (33, 3, .goto (-30), [(0, 3)], none), (36, 1, .return_, [], none)]
def e_gt_four (m : Nat) : gE := (k_gt_four, f_gt, c_gt, [], [], (m, 46517678354918840995156723704832290198633047083988355858015372747560914439257467092876227245680868196221108381747264355972166269301424128), 5)
theorem ok_gt_four : gchk cX1_four 3 k_gt_four = true := by decide +kernel
def fn_gt_four (m : Nat) : gFn := gF (e_gt_four m) 3
theorem mo_gt_four (m : Nat) : gMo (.inl (fn_gt_four m)) := gF_mo (E := e_gt_four m) trivial
noncomputable def gt_four (σ : gM) (x1 : Int) : Option (gM × Int) := lim (fun n => fn_gt_four 119 n [(2, 117), (0, x1)] σ)
theorem gt_four_l (σ : gM) (x1 : Int) : Lm (fun n => fn_gt_four 119 n [(2, 117), (0, x1)] σ) (gt_four σ x1) := .of fun n => mo_gt_four 119 n [(2, 117), (0, x1)] σ
theorem mb_gt_four : gMos (e_gt_four 119).2.2.2.1 := trivial
noncomputable def gt_four_b3 (σ : gM) (x1 x2 : Int) : Option (gM × Int) := lim (fun n => gB (e_gt_four 119) rF tF n 3 [(2, 117), (0, x1), (0, x2)] [] σ)
theorem gt_four_b3_l (σ : gM) (x1 x2 : Int) : Lm (fun n => gB (e_gt_four 119) rF tF n 3 [(2, 117), (0, x1), (0, x2)] [] σ) (gt_four_b3 σ x1 x2) := .of fun n => gB_le (gMos_spec (mb_gt_four)) n _ _ _ σ
theorem gt_four_e (σ : gM) (x1 : Int) : gt_four σ x1 =
  (gt_four_b3 σ x1 24) := Lm.eqn (gt_four_l ..) (gt_four_b3_l ..) fun n => (rfl)
theorem gt_four_b3_e (σ : gM) (x1 x2 : Int) : gt_four_b3 σ x1 x2 =
  (if x2 < 0 then
  (some (σ, 0))
  else
  (if 0 ≤ σ 117 7 ∧ σ 117 7 < 4000 then
    (gt_four_b3 (gW (gW σ 118 (σ 117 7) (w8 (w8 (i_shr x1 x2)))) 117 7 (w32 ((σ 117 7) + 1))) x1 (w32 (x2 + (-8))))
    else none)) := Lm.eqn (gt_four_b3_l ..) (.ite .cst (.ite (gt_four_b3_l ..) .cst)) fun n => (rfl)
def k_gt_feed : List gC := [(0, 1, .aload_n 0, [], none), (1, 3, .getfield 77, [], none), (4, 2, .bipush 20, [], none), (6, 1, .iadd, [], none),
  (7, 3, .sipush 4000, [], none), (10, 3, .if_icmp .le 5, [(0, 15)], none), (13, 1, .iconst (-1), [], none), (14, 1, .ireturn, [], none),
  (15, 1, .aload_n 0, [], none), (16, 1, .iload_n 1, [], none), (17, 3, .invokevirtual 80, [], none), (20, 1, .aload_n 0, [], none),
  (21, 1, .iload_n 2, [], none), (22, 3, .invokevirtual 80, [], none), (25, 1, .aload_n 0, [], none), (26, 1, .iload_n 3, [], none),
  (27, 3, .invokevirtual 80, [], none), (30, 1, .aload_n 0, [], none), (31, 2, .iload 4, [], none), (33, 3, .invokevirtual 80, [], none),
  (36, 1, .aload_n 0, [], none), (37, 2, .iload 5, [], none), (39, 3, .invokevirtual 80, [], none), (42, 1, .aload_n 0, [], none),
  (43, 3, .getfield 77, [], none), (46, 1, .ireturn, [], none)]
def e_gt_feed (m : Nat) : gE := (k_gt_feed, f_gt, c_gt, [(80, 2, 18, 5, .inl (fn_gt_four m))], [], (m, 46517678354918840995156723704832290198633047083988355858015372747560914439257467092876227245680868196221108381747264355972166269301424128), 0)
theorem ok_gt_feed : gchk cX1_feed 6 k_gt_feed = true := by decide +kernel
def fn_gt_feed (m : Nat) : gFn := gF (e_gt_feed m) 6
theorem mo_gt_feed (m : Nat) : gMo (.inl (fn_gt_feed m)) := gF_mo (E := e_gt_feed m) ⟨mo_gt_four m, trivial⟩
noncomputable def gt_feed (σ : gM) (x1 x2 x3 x4 x5 : Int) : Option (gM × Int) := lim (fun n => fn_gt_feed 119 n [(2, 117), (0, x1), (0, x2), (0, x3), (0, x4), (0, x5)] σ)
theorem gt_feed_l (σ : gM) (x1 x2 x3 x4 x5 : Int) : Lm (fun n => fn_gt_feed 119 n [(2, 117), (0, x1), (0, x2), (0, x3), (0, x4), (0, x5)] σ) (gt_feed σ x1 x2 x3 x4 x5) := .of fun n => mo_gt_feed 119 n [(2, 117), (0, x1), (0, x2), (0, x3), (0, x4), (0, x5)] σ
theorem gt_feed_e (σ : gM) (x1 x2 x3 x4 x5 : Int) : gt_feed σ x1 x2 x3 x4 x5 =
  (if 4000 < w32 ((σ 117 7) + 20) then
  (some (σ, (-1)))
  else
  ((gt_four σ x1).bind fun p1 =>
    (gt_four p1.1 x2).bind fun p2 =>
    (gt_four p2.1 x3).bind fun p3 =>
    (gt_four p3.1 x4).bind fun p4 =>
    (gt_four p4.1 x5).bind fun p5 =>
    some (p5.1, p5.1 117 7))) := Lm.eqn (gt_feed_l ..) (.ite .cst (.bind (gt_four_l ..) fun p1 => (.bind (gt_four_l ..) fun p2 => (.bind (gt_four_l ..) fun p3 => (.bind (gt_four_l ..) fun p4 => (.bind (gt_four_l ..) fun p5 => .cst)))))) fun n => (rfl)
def k_gt_load : List gC := [(0, 1, .iload_n 1, [], none), (1, 3, .ifCond .lt 11, [(0, 12)], none), (4, 1, .iload_n 1, [], none), (5, 1, .aload_n 0, [], none),
  (6, 3, .getfield 77, [], none), (9, 3, .if_icmp .le 6, [(0, 15)], none), (12, 2, .bipush (-2), [], none), (14, 1, .ireturn, [], none),
  (15, 1, .aload_n 0, [], none), (16, 1, .iconst 0, [], none), (17, 3, .putfield 77, [], none), (20, 1, .aload_n 0, [], none),
  (21, 3, .getfield 44, [], none), (24, 1, .aload_n 0, [], none), (25, 3, .getfield 48, [], none), (28, 1, .iconst 0, [], none),
  (29, 1, .iload_n 1, [], none), (30, 3, .invokevirtual 84, [], none), (33, 1, .istore_n 2, [], none), (34, 1, .aload_n 0, [], none),
  (35, 1, .iload_n 2, [], none), (36, 3, .ifCond .eq 7, [(0, 43)], none), (39, 1, .iconst 0, [], none), (40, 3, .goto 13, [(0, 53)], none),
  (43, 1, .aload_n 0, [], none), (44, 3, .getfield 44, [], none), (47, 3, .getfield 88, [], none), (50, 3, .getfield 92, [], none),
  (53, 3, .putfield 97, [], some [true, false, true, false]), (56, 1, .aload_n 0, [], none), (57, 1, .iload_n 2, [], none), (58, 3, .ifCond .eq 7, [(0, 65)], none),
  (61, 1, .iconst (-1), [], none), (62, 3, .goto 13, [(0, 75)], none), (65, 1, .aload_n 0, [], none), (66, 3, .getfield 44, [], none),
  (69, 3, .getfield 88, [], none), (72, 3, .getfield 98, [], none), (75, 3, .putfield 52, [], some [true, false, true, false]), (78, 1, .iload_n 2, [], none),
  (79, 3, .ifCond .ne 12, [(0, 91)], none), (82, 1, .aload_n 0, [], none), (83, 3, .getfield 70, [], none), (86, 3, .invokevirtual 99, [], none),
  (89, 1, .iconst (-1), [], none), (90, 1, .ireturn, [], none), (91, 1, .aload_n 0, [], none), (92, 3, .getfield 21, [], none),
  (95, 3, .invokevirtual 102, [], none), (98, 1, .aload_n 0, [], none), (99, 3, .getfield 28, [], none), (102, 3, .invokevirtual 103, [], none),
  (105, 1, .aload_n 0, [], none), (106, 3, .getfield 37, [], none), (109, 3, .invokevirtual 104, [], none), (112, 1, .aload_n 0, [], none),
  (113, 3, .getfield 70, [], none), (116, 3, .invokevirtual 74, [], none), (119, 1, .iconst 0, [], none), (120, 1, .istore_n 3, [], none),
  (121, 1, .iload_n 3, [], some [true, false, false, true]), (122, 1, .aload_n 0, [], none), (123, 3, .getfield 44, [], none), (126, 3, .getfield 105, [], none),
  (129, 3, .if_icmp .ge 27, [(0, 156)], none), (132, 1, .aload_n 0, [], none), (133, 3, .getfield 21, [], none), (136, 1, .aload_n 0, [], none),
  (137, 3, .getfield 44, [], none), (140, 1, .aload_n 0, [], none), (141, 3, .getfield 48, [], none), (144, 1, .iconst 0, [], none),
  (145, 1, .iload_n 3, [], none), (146, 3, .invokevirtual 108, [], none), (149, 1, .pop, [], none), (150, 3, .iinc 3 1, [], none),
  (153, 3, .goto (-32), [(0, 121)], none), (156, 1, .aload_n 0, [], none), (157, 3, .getfield 21, [], none), (160, 3, .getfield 112, [], none),
  (163, 1, .ireturn, [], none)]
def e_gt_load (m : Nat) : gE := (k_gt_load, f_gt, c_gt, [(84, 4, 15, 0, .inl (fn_ps_read m)), (99, 1, 17, 5, .inl (fn_mc_none m)), (102, 1, 11, 5, .inl (fn_fr_clear m)), (103, 1, 13, 5, .inl (fn_sp_clear m)), (104, 1, 14, 5, .inl (fn_cd_clear m)), (74, 1, 17, 5, .inl (fn_mc_clear m)), (108, 5, 11, 0, .inl (fn_fr_plant_2 m))], [], (m, 325841796947513826731780548714361181823336157785193335127997586177594912556460120503854027485558301235143994147209457884489059797334228734), 0)
theorem ok_gt_load : gchk cX1_load 4 k_gt_load = true := by decide +kernel
def fn_gt_load (m : Nat) : gFn := gF (e_gt_load m) 4
theorem mo_gt_load (m : Nat) : gMo (.inl (fn_gt_load m)) := gF_mo (E := e_gt_load m) ⟨mo_ps_read m, ⟨mo_mc_none m, ⟨mo_fr_clear m, ⟨mo_sp_clear m, ⟨mo_cd_clear m, ⟨mo_mc_clear m, ⟨mo_fr_plant_2 m, trivial⟩⟩⟩⟩⟩⟩⟩
noncomputable def gt_load (σ : gM) (x1 : Int) : Option (gM × Int) := lim (fun n => fn_gt_load 119 n [(2, 117), (0, x1)] σ)
theorem gt_load_l (σ : gM) (x1 : Int) : Lm (fun n => fn_gt_load 119 n [(2, 117), (0, x1)] σ) (gt_load σ x1) := .of fun n => mo_gt_load 119 n [(2, 117), (0, x1)] σ
theorem mb_gt_load : gMos (e_gt_load 119).2.2.2.1 := ⟨mo_ps_read 119, ⟨mo_mc_none 119, ⟨mo_fr_clear 119, ⟨mo_sp_clear 119, ⟨mo_cd_clear 119, ⟨mo_mc_clear 119, ⟨mo_fr_plant_2 119, trivial⟩⟩⟩⟩⟩⟩⟩
noncomputable def gt_load_b53 (σ : gM) (x2 y0 : Int) : Option (gM × Int) := lim (fun n => gB (e_gt_load 119) rF tF n 53 [(2, 117), (9, 0), (0, x2), (9, 0)] [(0, y0), (2, 117)] σ)
theorem gt_load_b53_l (σ : gM) (x2 y0 : Int) : Lm (fun n => gB (e_gt_load 119) rF tF n 53 [(2, 117), (9, 0), (0, x2), (9, 0)] [(0, y0), (2, 117)] σ) (gt_load_b53 σ x2 y0) := .of fun n => gB_le (gMos_spec (mb_gt_load)) n _ _ _ σ
noncomputable def gt_load_b75 (σ : gM) (x2 y0 : Int) : Option (gM × Int) := lim (fun n => gB (e_gt_load 119) rF tF n 75 [(2, 117), (9, 0), (0, x2), (9, 0)] [(0, y0), (2, 117)] σ)
theorem gt_load_b75_l (σ : gM) (x2 y0 : Int) : Lm (fun n => gB (e_gt_load 119) rF tF n 75 [(2, 117), (9, 0), (0, x2), (9, 0)] [(0, y0), (2, 117)] σ) (gt_load_b75 σ x2 y0) := .of fun n => gB_le (gMos_spec (mb_gt_load)) n _ _ _ σ
noncomputable def gt_load_b121 (σ : gM) (x3 : Int) : Option (gM × Int) := lim (fun n => gB (e_gt_load 119) rF tF n 121 [(2, 117), (9, 0), (9, 0), (0, x3)] [] σ)
theorem gt_load_b121_l (σ : gM) (x3 : Int) : Lm (fun n => gB (e_gt_load 119) rF tF n 121 [(2, 117), (9, 0), (9, 0), (0, x3)] [] σ) (gt_load_b121 σ x3) := .of fun n => gB_le (gMos_spec (mb_gt_load)) n _ _ _ σ
theorem gt_load_e (σ : gM) (x1 : Int) : gt_load σ x1 =
  (if x1 < 0 then
  (some (σ, (-2)))
  else
  (if σ 117 7 < x1 then
    (some (σ, (-2)))
    else
    ((ps_read (gW σ 117 7 0) 118 0 x1).bind fun p1 =>
      if p1.2 = 0 then
      (gt_load_b53 p1.1 p1.2 (p1.1 69 8))
      else
      (gt_load_b53 p1.1 p1.2 0)))) := Lm.eqn (gt_load_l ..) (.ite .cst (.ite .cst (.bind (ps_read_l ..) fun p1 => (.ite (gt_load_b53_l ..) (gt_load_b53_l ..))))) fun n => (rfl)
theorem gt_load_b53_e (σ : gM) (x2 y0 : Int) : gt_load_b53 σ x2 y0 =
  (if x2 = 0 then
  (gt_load_b75 (gW σ 117 8 y0) x2 (σ 69 9))
  else
  (gt_load_b75 (gW σ 117 8 y0) x2 (-1))) := Lm.eqn (gt_load_b53_l ..) (.ite (gt_load_b75_l ..) (gt_load_b75_l ..)) fun n => (rfl)
theorem gt_load_b75_e (σ : gM) (x2 y0 : Int) : gt_load_b75 σ x2 y0 =
  (if x2 = 0 then
  ((mc_none (gW σ 117 9 y0)).bind fun p5 =>
    some (p5.1, (-1)))
  else
  ((fr_clear (gW σ 117 9 y0)).bind fun p1 =>
    (sp_clear p1.1).bind fun p2 =>
    (cd_clear p2.1).bind fun p3 =>
    (mc_clear p3.1).bind fun p4 =>
    gt_load_b121 p4.1 0)) := Lm.eqn (gt_load_b75_l ..) (.ite (.bind (mc_none_l ..) fun p5 => .cst) (.bind (fr_clear_l ..) fun p1 => (.bind (sp_clear_l ..) fun p2 => (.bind (cd_clear_l ..) fun p3 => (.bind (mc_clear_l ..) fun p4 => (gt_load_b121_l ..)))))) fun n => (rfl)
theorem gt_load_b121_e (σ : gM) (x3 : Int) : gt_load_b121 σ x3 =
  (if x3 < σ 68 19 then
  ((fr_plant_2 σ 118 0 x3).bind fun p1 =>
    gt_load_b121 p1.1 (w32 (x3 + 1)))
  else
  (some (σ, σ 8 31))) := Lm.eqn (gt_load_b121_l ..) (.ite (.bind (fr_plant_2_l ..) fun p1 => (gt_load_b121_l ..)) .cst) fun n => (rfl)
def k_gt_fault : List gC := [(0, 1, .iload_n 1, [], none), (1, 3, .ifCond .ne 10, [(0, 11)], none), (4, 1, .aload_n 0, [], none), (5, 3, .getfield 97, [], none),
  (8, 3, .goto 16, [(0, 24)], none), (11, 1, .iload_n 1, [], none), (12, 1, .iconst 1, [], none), (13, 3, .if_icmp .ne 10, [(0, 23)], none),
  (16, 1, .aload_n 0, [], none), (17, 3, .getfield 52, [], none), (20, 3, .goto 4, [(0, 24)], none), (23, 1, .iconst (-1), [], none),
  (24, 1, .ireturn, [], none)]
def e_gt_fault (m : Nat) : gE := (k_gt_fault, f_gt, c_gt, [], [], (m, 0), 0)
theorem ok_gt_fault : gchk cX1_fault 2 k_gt_fault = true := by decide +kernel
def fn_gt_fault (m : Nat) : gFn := gF (e_gt_fault m) 2
theorem mo_gt_fault (m : Nat) : gMo (.inl (fn_gt_fault m)) := gF_mo (E := e_gt_fault m) trivial
noncomputable def gt_fault (σ : gM) (x1 : Int) : Option (gM × Int) := lim (fun n => fn_gt_fault 119 n [(2, 117), (0, x1)] σ)
theorem gt_fault_l (σ : gM) (x1 : Int) : Lm (fun n => fn_gt_fault 119 n [(2, 117), (0, x1)] σ) (gt_fault σ x1) := .of fun n => mo_gt_fault 119 n [(2, 117), (0, x1)] σ
theorem gt_fault_e (σ : gM) (x1 : Int) : gt_fault σ x1 =
  (if x1 = 0 then
  (some (σ, σ 117 8))
  else
  (if x1 = 1 then
    (some (σ, σ 117 9))
    else
    (some (σ, (-1))))) := Lm.eqn (gt_fault_l ..) (.ite .cst (.ite .cst .cst)) fun n => (rfl)
def k_gt_start : List gC := [(0, 1, .aload_n 0, [], none), (1, 3, .getfield 21, [], none), (4, 2, .ldc 115, [], none), (6, 3, .invokevirtual 117, [], none),
  (9, 2, .istore 5, [], none), (11, 2, .iload 5, [], none), (13, 3, .ifCond .lt 16, [(0, 29)], none), (16, 1, .aload_n 0, [], none),
  (17, 3, .getfield 21, [], none), (20, 3, .getfield 121, [], none), (23, 2, .iload 5, [], none), (25, 1, .iaload, [], none),
  (26, 3, .ifCond .ge 5, [(0, 31)], none), (29, 1, .iconst 0, [], none), (30, 1, .ireturn, [], none), (31, 1, .aload_n 0, [], none),
  (32, 3, .getfield 70, [], none), (35, 1, .aload_n 0, [], none), (36, 3, .getfield 21, [], none), (39, 3, .getfield 121, [], none),
  (42, 2, .iload 5, [], none), (44, 1, .iaload, [], none), (45, 1, .lload_n 1, [], none), (46, 1, .lload_n 3, [], none),
  (47, 3, .invokevirtual 125, [], none), (50, 1, .iconst 1, [], none), (51, 1, .ireturn, [], none)]
def e_gt_start (m : Nat) : gE := (k_gt_start, f_gt, c_gt, [(117, 2, 11, 0, .inl (fn_fr_named m)), (125, 4, 17, 5, .inl (fn_mc_start m))], [], (m, 218051235755724175348688815293827212915506292709766418533773842766234728498606976758385251314834966876303365494352457565182420991344382), 6)
theorem ok_gt_start : gchk cX1_start 6 k_gt_start = true := by decide +kernel
def fn_gt_start (m : Nat) : gFn := gF (e_gt_start m) 6
theorem mo_gt_start (m : Nat) : gMo (.inl (fn_gt_start m)) := gF_mo (E := e_gt_start m) ⟨mo_fr_named m, ⟨mo_mc_start m, trivial⟩⟩
noncomputable def gt_start (σ : gM) (x1 x3 : Int) : Option (gM × Int) := lim (fun n => fn_gt_start 119 n [(2, 117), (1, x1), (1, x3)] σ)
theorem gt_start_l (σ : gM) (x1 x3 : Int) : Lm (fun n => fn_gt_start 119 n [(2, 117), (1, x1), (1, x3)] σ) (gt_start σ x1 x3) := .of fun n => mo_gt_start 119 n [(2, 117), (1, x1), (1, x3)] σ
theorem gt_start_e (σ : gM) (x1 x3 : Int) : gt_start σ x1 x3 =
  ((fr_named σ 0).bind fun p1 =>
  if p1.2 < 0 then
  (some (p1.1, 0))
  else
  (if 0 ≤ p1.2 ∧ p1.2 < 9000 then
    (if p1.1 24 p1.2 < 0 then
      (some (p1.1, 0))
      else
      (if 0 ≤ p1.2 ∧ p1.2 < 9000 then
        ((mc_start p1.1 (p1.1 24 p1.2) x1 x3).bind fun p2 =>
          some (p2.1, 1))
        else none))
    else none)) := Lm.eqn (gt_start_l ..) (.bind (fr_named_l ..) fun p1 => (.ite .cst (.ite (.ite .cst (.ite (.bind (mc_start_l ..) fun p2 => .cst) .cst)) .cst))) fun n => (rfl)
def k_gt_run : List gC := [(0, 1, .iload_n 1, [], none), (1, 1, .iconst 1, [], none), (2, 3, .if_icmp .ge 7, [(0, 9)], none), (5, 1, .iconst 0, [], none),
  (6, 3, .goto 11, [(0, 17)], none), (9, 1, .aload_n 0, [], none), (10, 3, .getfield 70, [], none), (13, 1, .iload_n 1, [], none),
  (14, 3, .invokevirtual 129, [], none), (17, 1, .ireturn, [], none)]
def e_gt_run (m : Nat) : gE := (k_gt_run, f_gt, c_gt, [(129, 2, 17, 0, .inl (fn_mc_go m))], [], (m, 218051235755724175348688815293827212915506292709766418533773842766234728498606976758385251314834966876303365494352457565182420991344382), 0)
theorem ok_gt_run : gchk cX1_run 2 k_gt_run = true := by decide +kernel
def fn_gt_run (m : Nat) : gFn := gF (e_gt_run m) 2
theorem mo_gt_run (m : Nat) : gMo (.inl (fn_gt_run m)) := gF_mo (E := e_gt_run m) ⟨mo_mc_go m, trivial⟩
noncomputable def gt_run (σ : gM) (x1 : Int) : Option (gM × Int) := lim (fun n => fn_gt_run 119 n [(2, 117), (0, x1)] σ)
theorem gt_run_l (σ : gM) (x1 : Int) : Lm (fun n => fn_gt_run 119 n [(2, 117), (0, x1)] σ) (gt_run σ x1) := .of fun n => mo_gt_run 119 n [(2, 117), (0, x1)] σ
theorem gt_run_e (σ : gM) (x1 : Int) : gt_run σ x1 =
  (if x1 < 1 then
  (some (σ, 0))
  else
  ((mc_go σ x1).bind fun p1 =>
    some (p1.1, p1.2))) := Lm.eqn (gt_run_l ..) (.ite .cst (.bind (mc_go_l ..) fun p1 => .cst)) fun n => (rfl)
def k_gt_state : List gC := [(0, 1, .aload_n 0, [], none), (1, 3, .getfield 70, [], none), (4, 3, .getfield 133, [], none), (7, 1, .ireturn, [], none)]
def e_gt_state (m : Nat) : gE := (k_gt_state, f_gt, c_gt, [], [], (m, 0), 0)
theorem ok_gt_state : gchk cX1_state 1 k_gt_state = true := by decide +kernel
def fn_gt_state (m : Nat) : gFn := gF (e_gt_state m) 1
theorem mo_gt_state (m : Nat) : gMo (.inl (fn_gt_state m)) := gF_mo (E := e_gt_state m) trivial
noncomputable def gt_state (σ : gM) : Option (gM × Int) := lim (fun n => fn_gt_state 119 n [(2, 117)] σ)
theorem gt_state_l (σ : gM) : Lm (fun n => fn_gt_state 119 n [(2, 117)] σ) (gt_state σ) := .of fun n => mo_gt_state 119 n [(2, 117)] σ
theorem gt_state_e (σ : gM) : gt_state σ =
  (some (σ, σ 87 23)) := Lm.eqn (gt_state_l ..) .cst fun n => (rfl)
def k_gt_error : List gC := [(0, 1, .aload_n 0, [], none), (1, 3, .getfield 70, [], none), (4, 3, .getfield 133, [], none), (7, 1, .iconst 3, [], none),
  (8, 3, .if_icmp .eq 5, [(0, 13)], none), (11, 1, .iconst (-1), [], none), (12, 1, .ireturn, [], none), (13, 1, .iload_n 1, [], none),
  (14, 3, .ifCond .ne 13, [(0, 27)], none), (17, 1, .aload_n 0, [], none), (18, 3, .getfield 70, [], none), (21, 3, .getfield 136, [], none),
  (24, 3, .goto 34, [(0, 58)], none), (27, 1, .iload_n 1, [], none), (28, 1, .iconst 1, [], none), (29, 3, .if_icmp .ne 13, [(0, 42)], none),
  (32, 1, .aload_n 0, [], none), (33, 3, .getfield 70, [], none), (36, 3, .getfield 139, [], none), (39, 3, .goto 19, [(0, 58)], none),
  (42, 1, .iload_n 1, [], none), (43, 1, .iconst 2, [], none), (44, 3, .if_icmp .ne 13, [(0, 57)], none), (47, 1, .aload_n 0, [], none),
  (48, 3, .getfield 70, [], none), (51, 3, .getfield 142, [], none), (54, 3, .goto 4, [(0, 58)], none), (57, 1, .iconst (-1), [], none),
  (58, 1, .ireturn, [], none)]
def e_gt_error (m : Nat) : gE := (k_gt_error, f_gt, c_gt, [], [], (m, 0), 0)
theorem ok_gt_error : gchk cX1_error 2 k_gt_error = true := by decide +kernel
def fn_gt_error (m : Nat) : gFn := gF (e_gt_error m) 2
theorem mo_gt_error (m : Nat) : gMo (.inl (fn_gt_error m)) := gF_mo (E := e_gt_error m) trivial
noncomputable def gt_error (σ : gM) (x1 : Int) : Option (gM × Int) := lim (fun n => fn_gt_error 119 n [(2, 117), (0, x1)] σ)
theorem gt_error_l (σ : gM) (x1 : Int) : Lm (fun n => fn_gt_error 119 n [(2, 117), (0, x1)] σ) (gt_error σ x1) := .of fun n => mo_gt_error 119 n [(2, 117), (0, x1)] σ
theorem gt_error_e (σ : gM) (x1 : Int) : gt_error σ x1 =
  (if σ 87 23 = 3 then
  (if x1 = 0 then
    (some (σ, σ 87 25))
    else
    (if x1 = 1 then
      (some (σ, σ 87 26))
      else
      (if x1 = 2 then
        (some (σ, σ 87 27))
        else
        (some (σ, (-1))))))
  else
  (some (σ, (-1)))) := Lm.eqn (gt_error_l ..) (.ite (.ite .cst (.ite .cst (.ite .cst .cst))) .cst) fun n => (rfl)
def k_gt_result : List gC := [(0, 1, .aload_n 0, [], none), (1, 3, .getfield 70, [], none), (4, 3, .getfield 133, [], none), (7, 1, .iconst 2, [], none),
  (8, 3, .if_icmp .ne 30, [(0, 38)], none), (11, 1, .iload_n 1, [], none), (12, 3, .ifCond .lt 26, [(0, 38)], none), (15, 1, .iload_n 1, [], none),
  (16, 1, .aload_n 0, [], none), (17, 3, .getfield 70, [], none), (20, 3, .getfield 145, [], none), (23, 3, .if_icmp .ge 15, [(0, 38)], none),
  (26, 1, .aload_n 0, [], none), (27, 3, .getfield 70, [], none), (30, 3, .getfield 148, [], none), (33, 1, .iload_n 1, [], none),
  (34, 1, .baload, [], none), (35, 3, .goto 4, [(0, 39)], none), (38, 1, .iconst (-1), [], none), (39, 1, .ireturn, [], none)]
def e_gt_result (m : Nat) : gE := (k_gt_result, f_gt, c_gt, [], [], (m, 0), 0)
theorem ok_gt_result : gchk cX1_result 2 k_gt_result = true := by decide +kernel
def fn_gt_result (m : Nat) : gFn := gF (e_gt_result m) 2
theorem mo_gt_result (m : Nat) : gMo (.inl (fn_gt_result m)) := gF_mo (E := e_gt_result m) trivial
noncomputable def gt_result (σ : gM) (x1 : Int) : Option (gM × Int) := lim (fun n => fn_gt_result 119 n [(2, 117), (0, x1)] σ)
theorem gt_result_l (σ : gM) (x1 : Int) : Lm (fun n => fn_gt_result 119 n [(2, 117), (0, x1)] σ) (gt_result σ x1) := .of fun n => mo_gt_result 119 n [(2, 117), (0, x1)] σ
theorem gt_result_e (σ : gM) (x1 : Int) : gt_result σ x1 =
  (if σ 87 23 = 2 then
  (if x1 < 0 then
    (some (σ, (-1)))
    else
    (if x1 < σ 87 35 then
      (if 0 ≤ x1 ∧ x1 < 200 then
        (some (σ, σ 104 x1))
        else none)
      else
      (some (σ, (-1)))))
  else
  (some (σ, (-1)))) := Lm.eqn (gt_result_l ..) (.ite (.ite .cst (.ite (.ite .cst .cst) .cst)) .cst) fun n => (rfl)
def k_gt_out : List gC := [(0, 1, .aload_n 0, [], none), (1, 3, .getfield 70, [], none), (4, 3, .getfield 133, [], none), (7, 3, .ifCond .eq 36, [(0, 43)], none),
  (10, 1, .iload_n 1, [], none), (11, 3, .ifCond .lt 32, [(0, 43)], none), (14, 1, .iload_n 1, [], none), (15, 3, .sipush 2000, [], none),
  (18, 1, .aload_n 0, [], none), (19, 3, .getfield 70, [], none), (22, 3, .getfield 151, [], none), (25, 3, .invokestatic 58, [], none),
  (28, 3, .if_icmp .ge 15, [(0, 43)], none), (31, 1, .aload_n 0, [], none), (32, 3, .getfield 70, [], none), (35, 3, .getfield 154, [], none),
  (38, 1, .iload_n 1, [], none), (39, 1, .baload, [], none), (40, 3, .goto 4, [(0, 44)], none), (43, 1, .iconst (-1), [], none),
  (44, 1, .ireturn, [], none)]
def e_gt_out (m : Nat) : gE := (k_gt_out, f_gt, c_gt, [(58, 2, 0, 0, .inl (fn_jm_min 0))], [], (m, 0), 0)
theorem ok_gt_out : gchk cX1_out 2 k_gt_out = true := by decide +kernel
def fn_gt_out (m : Nat) : gFn := gF (e_gt_out m) 2
theorem mo_gt_out (m : Nat) : gMo (.inl (fn_gt_out m)) := gF_mo (E := e_gt_out m) ⟨mo_jm_min 0, trivial⟩
noncomputable def gt_out (σ : gM) (x1 : Int) : Option (gM × Int) := lim (fun n => fn_gt_out 119 n [(2, 117), (0, x1)] σ)
theorem gt_out_l (σ : gM) (x1 : Int) : Lm (fun n => fn_gt_out 119 n [(2, 117), (0, x1)] σ) (gt_out σ x1) := .of fun n => mo_gt_out 119 n [(2, 117), (0, x1)] σ
theorem gt_out_e (σ : gM) (x1 : Int) : gt_out σ x1 =
  (if σ 87 23 = 0 then
  (some (σ, (-1)))
  else
  (if x1 < 0 then
    (some (σ, (-1)))
    else
    ((jm_min σ 2000 (σ 87 34)).bind fun p1 =>
      if x1 < p1.2 then
      (if 0 ≤ x1 ∧ x1 < 2000 then
        (some (p1.1, p1.1 103 x1))
        else none)
      else
      (some (p1.1, (-1)))))) := Lm.eqn (gt_out_l ..) (.ite .cst (.ite .cst (.bind (jm_min_l ..) fun p1 => (.ite (.ite .cst .cst) .cst)))) fun n => (rfl)
def k_gt_compile : List gC := [(0, 1, .aload_n 0, [], none), (1, 3, .getfield 37, [], none), (4, 3, .invokevirtual 157, [], none), (7, 1, .ireturn, [], none)]
def e_gt_compile (m : Nat) : gE := (k_gt_compile, f_gt, c_gt, [(157, 1, 14, 0, .inl (fn_cd_compile m))], [], (m, 1162427521190280385279312543615022580345134013064783108613094343400207981142503530652970557905969968316416), 0)
theorem ok_gt_compile : gchk cX1_compile 1 k_gt_compile = true := by decide +kernel
def fn_gt_compile (m : Nat) : gFn := gF (e_gt_compile m) 1
theorem mo_gt_compile (m : Nat) : gMo (.inl (fn_gt_compile m)) := gF_mo (E := e_gt_compile m) ⟨mo_cd_compile m, trivial⟩
noncomputable def gt_compile (σ : gM) : Option (gM × Int) := lim (fun n => fn_gt_compile 119 n [(2, 117)] σ)
theorem gt_compile_l (σ : gM) : Lm (fun n => fn_gt_compile 119 n [(2, 117)] σ) (gt_compile σ) := .of fun n => mo_gt_compile 119 n [(2, 117)] σ
theorem gt_compile_e (σ : gM) : gt_compile σ =
  ((cd_compile σ).bind fun p1 =>
  some (p1.1, p1.2)) := Lm.eqn (gt_compile_l ..) (.bind (cd_compile_l ..) fun p1 => .cst) fun n => (rfl)
def k_gt_root : List gC := [(0, 1, .iload_n 1, [], none), (1, 3, .ifCond .lt 14, [(0, 15)], none), (4, 1, .iload_n 1, [], none), (5, 1, .aload_n 0, [], none),
  (6, 3, .getfield 21, [], none), (9, 3, .getfield 112, [], none), (12, 3, .if_icmp .lt 5, [(0, 17)], none), (15, 1, .iconst (-1), [], none),
  (16, 1, .ireturn, [], none), (17, 1, .aload_n 0, [], none), (18, 3, .getfield 21, [], none), (21, 3, .getfield 161, [], none),
  (24, 1, .aload_n 0, [], none), (25, 3, .getfield 21, [], none), (28, 3, .getfield 164, [], none), (31, 1, .iload_n 1, [], none),
  (32, 1, .iaload, [], none), (33, 1, .iaload, [], none), (34, 1, .istore_n 3, [], none), (35, 1, .iload_n 2, [], none),
  (36, 2, .bipush 10, [], none), (38, 3, .if_icmp .lt 32, [(0, 70)], none), (41, 1, .iload_n 2, [], none), (42, 2, .bipush 10, [], none),
  (44, 1, .aload_n 0, [], none), (45, 3, .getfield 21, [], none), (48, 3, .getfield 167, [], none), (51, 1, .iload_n 1, [], none),
  (52, 1, .iaload, [], none), (53, 1, .iadd, [], none), (54, 3, .if_icmp .ge 16, [(0, 70)], none), (57, 1, .aload_n 0, [], none),
  (58, 3, .getfield 21, [], none), (61, 1, .iload_n 1, [], none), (62, 1, .iload_n 2, [], none), (63, 2, .bipush 10, [], none),
  (65, 1, .isub, [], none), (66, 3, .invokevirtual 170, [], none), (69, 1, .ireturn, [], none), (70, 1, .iload_n 2, [], some [true, true, true, true, false, false]),
  (71, 2, .bipush 30, [], none), (73, 3, .if_icmp .lt 42, [(0, 115)], none), (76, 1, .iload_n 2, [], none), (77, 2, .bipush 30, [], none),
  (79, 1, .isub, [], none), (80, 1, .aload_n 0, [], none), (81, 3, .getfield 10, [], none), (84, 3, .getfield 173, [], none),
  (87, 1, .iload_n 3, [], none), (88, 1, .iaload, [], none), (89, 3, .if_icmp .ge 26, [(0, 115)], none), (92, 1, .aload_n 0, [], none),
  (93, 3, .getfield 10, [], none), (96, 3, .getfield 176, [], none), (99, 1, .aload_n 0, [], none), (100, 3, .getfield 10, [], none),
  (103, 3, .getfield 179, [], none), (106, 1, .iload_n 3, [], none), (107, 1, .iaload, [], none), (108, 1, .iload_n 2, [], none),
  (109, 1, .iadd, [], none), (110, 2, .bipush 30, [], none), (112, 1, .isub, [], none), (113, 1, .baload, [], none),
  (114, 1, .ireturn, [], none), (115, 1, .iload_n 2, [], some [true, true, true, false, false, false]), (116, 48, .tableswitch 178 0 7 #[48, 58, 68, 78, 88, 98, 107, 124], [(0, 294), (0, 164), (1, 174), (2, 184), (3, 194), (4, 204), (5, 214), (6, 223), (7, 240)], none), (164, 1, .aload_n 0, [], none),
  (165, 3, .getfield 21, [], none), (168, 3, .getfield 182, [], none), (171, 1, .iload_n 1, [], none), (172, 1, .iaload, [], none),
  (173, 1, .ireturn, [], none), (174, 1, .aload_n 0, [], none), (175, 3, .getfield 21, [], none), (178, 3, .getfield 167, [], none),
  (181, 1, .iload_n 1, [], none), (182, 1, .iaload, [], none), (183, 1, .ireturn, [], none), (184, 1, .aload_n 0, [], none),
  (185, 3, .getfield 21, [], none), (188, 3, .getfield 185, [], none), (191, 1, .iload_n 1, [], none), (192, 1, .iaload, [], none),
  (193, 1, .ireturn, [], none), (194, 1, .aload_n 0, [], none), (195, 3, .getfield 21, [], none), (198, 3, .getfield 188, [], none),
  (201, 1, .iload_n 1, [], none), (202, 1, .iaload, [], none), (203, 1, .ireturn, [], none), (204, 1, .aload_n 0, [], none),
  (205, 3, .getfield 21, [], none), (208, 3, .getfield 191, [], none), (211, 1, .iload_n 1, [], none), (212, 1, .iaload, [], none),
  (213, 1, .ireturn, [], none), (214, 1, .aload_n 0, [], none), (215, 3, .getfield 37, [], none), (218, 1, .iload_n 1, [], none),
  (219, 3, .invokevirtual 194, [], none), (222, 1, .ireturn, [], none), (223, 1, .aload_n 0, [], none), (224, 3, .getfield 21, [], none),
  (227, 1, .iload_n 1, [], none), (228, 3, .invokevirtual 197, [], none), (231, 3, .ifCond .eq 7, [(0, 238)], none), (234, 1, .iconst 1, [], none),
  (235, 3, .goto 4, [(0, 239)], none), (238, 1, .iconst 0, [], none), (239, 1, .ireturn, [], none), (240, 1, .iconst 0, [], none),
  (241, 2, .istore 4, [], none), (243, 1, .iconst 0, [], none), (244, 2, .istore 5, [], none), (246, 2, .iload 5, [], some [true, true, false, false, true, true]),
  (248, 1, .aload_n 0, [], none), (249, 3, .getfield 21, [], none), (252, 3, .getfield 182, [], none), (255, 1, .iload_n 1, [], none),
  (256, 1, .iaload, [], none), (257, 3, .if_icmp .ge 34, [(0, 291)], none), (260, 2, .iload 4, [], none), (262, 1, .aload_n 0, [], none),
  (263, 3, .getfield 21, [], none), (266, 3, .getfield 201, [], none), (269, 1, .aload_n 0, [], none), (270, 3, .getfield 21, [], none),
  (273, 3, .getfield 204, [], none), (276, 1, .iload_n 1, [], none), (277, 1, .iaload, [], none), (278, 2, .iload 5, [], none),
  (280, 1, .iadd, [], none), (281, 1, .iaload, [], none), (282, 1, .iadd, [], none), (283, 2, .istore 4, [], none),
  (285, 3, .iinc 5 1, [], none), (288, 3, .goto (-42), [(0, 246)], none), (291, 2, .iload 4, [], none), (293, 1, .ireturn, [], none),
  (294, 1, .iconst (-1), [], none), (295, 1, .ireturn, [], none)]
def e_gt_root (m : Nat) : gE := (k_gt_root, f_gt, c_gt, [(170, 3, 11, 0, .inl (fn_fr_sort m)), (194, 2, 14, 0, .inl (fn_cd_place m)), (197, 2, 11, 0, .inl (fn_fr_isNewest m))], [], (m, 0), 0)
theorem ok_gt_root : gchk cX1_root 6 k_gt_root = true := by decide +kernel
def fn_gt_root (m : Nat) : gFn := gF (e_gt_root m) 6
theorem mo_gt_root (m : Nat) : gMo (.inl (fn_gt_root m)) := gF_mo (E := e_gt_root m) ⟨mo_fr_sort m, ⟨mo_cd_place m, ⟨mo_fr_isNewest m, trivial⟩⟩⟩
noncomputable def gt_root (σ : gM) (x1 x2 : Int) : Option (gM × Int) := lim (fun n => fn_gt_root 119 n [(2, 117), (0, x1), (0, x2)] σ)
theorem gt_root_l (σ : gM) (x1 x2 : Int) : Lm (fun n => fn_gt_root 119 n [(2, 117), (0, x1), (0, x2)] σ) (gt_root σ x1 x2) := .of fun n => mo_gt_root 119 n [(2, 117), (0, x1), (0, x2)] σ
theorem mb_gt_root : gMos (e_gt_root 119).2.2.2.1 := ⟨mo_fr_sort 119, ⟨mo_cd_place 119, ⟨mo_fr_isNewest 119, trivial⟩⟩⟩
noncomputable def gt_root_b70 (σ : gM) (x1 x2 x3 : Int) : Option (gM × Int) := lim (fun n => gB (e_gt_root 119) rF tF n 70 [(2, 117), (0, x1), (0, x2), (0, x3), (9, 0), (9, 0)] [] σ)
theorem gt_root_b70_l (σ : gM) (x1 x2 x3 : Int) : Lm (fun n => gB (e_gt_root 119) rF tF n 70 [(2, 117), (0, x1), (0, x2), (0, x3), (9, 0), (9, 0)] [] σ) (gt_root_b70 σ x1 x2 x3) := .of fun n => gB_le (gMos_spec (mb_gt_root)) n _ _ _ σ
noncomputable def gt_root_b115 (σ : gM) (x1 x2 : Int) : Option (gM × Int) := lim (fun n => gB (e_gt_root 119) rF tF n 115 [(2, 117), (0, x1), (0, x2), (9, 0), (9, 0), (9, 0)] [] σ)
theorem gt_root_b115_l (σ : gM) (x1 x2 : Int) : Lm (fun n => gB (e_gt_root 119) rF tF n 115 [(2, 117), (0, x1), (0, x2), (9, 0), (9, 0), (9, 0)] [] σ) (gt_root_b115 σ x1 x2) := .of fun n => gB_le (gMos_spec (mb_gt_root)) n _ _ _ σ
noncomputable def gt_root_b246 (σ : gM) (x1 x4 x5 : Int) : Option (gM × Int) := lim (fun n => gB (e_gt_root 119) rF tF n 246 [(2, 117), (0, x1), (9, 0), (9, 0), (0, x4), (0, x5)] [] σ)
theorem gt_root_b246_l (σ : gM) (x1 x4 x5 : Int) : Lm (fun n => gB (e_gt_root 119) rF tF n 246 [(2, 117), (0, x1), (9, 0), (9, 0), (0, x4), (0, x5)] [] σ) (gt_root_b246 σ x1 x4 x5) := .of fun n => gB_le (gMos_spec (mb_gt_root)) n _ _ _ σ
theorem gt_root_e (σ : gM) (x1 x2 : Int) : gt_root σ x1 x2 =
  (if x1 < 0 then
  (some (σ, (-1)))
  else
  (if x1 < σ 8 31 then
    (if 0 ≤ x1 ∧ x1 < 60 then
      (if 0 ≤ σ 25 x1 ∧ σ 25 x1 < 9000 then
        (if x2 < 10 then
          (gt_root_b70 σ x1 x2 (σ 23 (σ 25 x1)))
          else
          (if 0 ≤ x1 ∧ x1 < 60 then
            (if x2 < w32 (10 + (σ 31 x1)) then
              ((fr_sort σ x1 (w32 (x2 - 10))).bind fun p1 =>
                some (p1.1, p1.2))
              else
              (gt_root_b70 σ x1 x2 (σ 23 (σ 25 x1))))
            else none))
        else none)
      else none)
    else
    (some (σ, (-1))))) := Lm.eqn (gt_root_l ..) (.ite .cst (.ite (.ite (.ite (.ite (gt_root_b70_l ..) (.ite (.ite (.bind (fr_sort_l ..) fun p1 => .cst) (gt_root_b70_l ..)) .cst)) .cst) .cst) .cst)) fun n => (rfl)
theorem gt_root_b70_e (σ : gM) (x1 x2 x3 : Int) : gt_root_b70 σ x1 x2 x3 =
  (if x2 < 30 then
  (gt_root_b115 σ x1 x2)
  else
  (if 0 ≤ x3 ∧ x3 < 108000 then
    (if w32 (x2 - 30) < σ 3 x3 then
      (if 0 ≤ x3 ∧ x3 < 108000 then
        (if 0 ≤ w32 ((w32 ((σ 2 x3) + x2)) - 30) ∧ w32 ((w32 ((σ 2 x3) + x2)) - 30) < 124600 then
          (some (σ, σ 1 (w32 ((w32 ((σ 2 x3) + x2)) - 30))))
          else none)
        else none)
      else
      (gt_root_b115 σ x1 x2))
    else none)) := Lm.eqn (gt_root_b70_l ..) (.ite (gt_root_b115_l ..) (.ite (.ite (.ite (.ite .cst .cst) .cst) (gt_root_b115_l ..)) .cst)) fun n => (rfl)
theorem gt_root_b115_e (σ : gM) (x1 x2 : Int) : gt_root_b115 σ x1 x2 =
  (if x2 = 0 then
  (if 0 ≤ x1 ∧ x1 < 60 then
    (some (σ, σ 27 x1))
    else none)
  else if x2 = 1 then
  (if 0 ≤ x1 ∧ x1 < 60 then
    (some (σ, σ 31 x1))
    else none)
  else if x2 = 2 then
  (if 0 ≤ x1 ∧ x1 < 60 then
    (some (σ, σ 32 x1))
    else none)
  else if x2 = 3 then
  (if 0 ≤ x1 ∧ x1 < 60 then
    (some (σ, σ 34 x1))
    else none)
  else if x2 = 4 then
  (if 0 ≤ x1 ∧ x1 < 60 then
    (some (σ, σ 33 x1))
    else none)
  else if x2 = 5 then
  ((cd_place σ x1).bind fun p1 =>
    some (p1.1, p1.2))
  else if x2 = 6 then
  ((fr_isNewest σ x1).bind fun p2 =>
    if p2.2 = 0 then
    (some (p2.1, 0))
    else
    (some (p2.1, 1)))
  else if x2 = 7 then
  (gt_root_b246 σ x1 0 0)
  else (some (σ, (-1)))) := Lm.eqn (gt_root_b115_l ..) (.ite (.ite .cst .cst) (.ite (.ite .cst .cst) (.ite (.ite .cst .cst) (.ite (.ite .cst .cst) (.ite (.ite .cst .cst) (.ite (.bind (cd_place_l ..) fun p1 => .cst) (.ite (.bind (fr_isNewest_l ..) fun p2 => (.ite .cst .cst)) (.ite (gt_root_b246_l ..) .cst)))))))) fun n => (rfl)
theorem gt_root_b246_e (σ : gM) (x1 x4 x5 : Int) : gt_root_b246 σ x1 x4 x5 =
  (if 0 ≤ x1 ∧ x1 < 60 then
  (if x5 < σ 27 x1 then
    (if 0 ≤ x1 ∧ x1 < 60 then
      (if 0 ≤ w32 ((σ 26 x1) + x5) ∧ w32 ((σ 26 x1) + x5) < 16000 then
        (gt_root_b246 σ x1 (w32 (x4 + (σ 12 (w32 ((σ 26 x1) + x5))))) (w32 (x5 + 1)))
        else none)
      else none)
    else
    (some (σ, x4)))
  else none) := Lm.eqn (gt_root_b246_l ..) (.ite (.ite (.ite (.ite (gt_root_b246_l ..) .cst) .cst) .cst) .cst) fun n => (rfl)
def k_gt_node : List gC := [(0, 1, .iload_n 1, [], none), (1, 3, .ifCond .lt 31, [(0, 32)], none), (4, 1, .iload_n 1, [], none), (5, 1, .aload_n 0, [], none),
  (6, 3, .getfield 21, [], none), (9, 3, .getfield 112, [], none), (12, 3, .if_icmp .ge 20, [(0, 32)], none), (15, 1, .iload_n 2, [], none),
  (16, 3, .ifCond .lt 16, [(0, 32)], none), (19, 1, .iload_n 2, [], none), (20, 1, .aload_n 0, [], none), (21, 3, .getfield 21, [], none),
  (24, 3, .getfield 182, [], none), (27, 1, .iload_n 1, [], none), (28, 1, .iaload, [], none), (29, 3, .if_icmp .lt 5, [(0, 34)], none),
  (32, 1, .iconst (-1), [], none), (33, 1, .ireturn, [], none), (34, 1, .aload_n 0, [], none), (35, 3, .getfield 21, [], none),
  (38, 3, .getfield 204, [], none), (41, 1, .iload_n 1, [], none), (42, 1, .iaload, [], none), (43, 1, .iload_n 2, [], none),
  (44, 1, .iadd, [], none), (45, 2, .istore 4, [], none), (47, 1, .aload_n 0, [], none), (48, 3, .getfield 21, [], none),
  (51, 3, .getfield 205, [], none), (54, 2, .iload 4, [], none), (56, 1, .iaload, [], none), (57, 2, .istore 5, [], none),
  (59, 2, .iload 5, [], none), (61, 2, .bipush 21, [], none), (63, 3, .if_icmp .eq 17, [(0, 80)], none), (66, 2, .iload 5, [], none),
  (68, 2, .bipush 22, [], none), (70, 3, .if_icmp .eq 10, [(0, 80)], none), (73, 2, .iload 5, [], none), (75, 2, .bipush 23, [], none),
  (77, 3, .if_icmp .ne 7, [(0, 84)], none), (80, 1, .iconst 1, [], some [true, false, false, true, true, true, false, false, false]), (81, 3, .goto 4, [(0, 85)], none), (84, 1, .iconst 0, [], none),
  (85, 2, .istore 6, [], some [true, false, false, true, true, true, false, false, false]), (87, 1, .iload_n 3, [], none), (88, 1, .iconst 5, [], none), (89, 3, .if_icmp .lt 15, [(0, 104)], none),
  (92, 1, .iload_n 3, [], none), (93, 2, .bipush 7, [], none), (95, 3, .if_icmp .gt 9, [(0, 104)], none), (98, 1, .iload_n 3, [], none),
  (99, 1, .iconst 5, [], none), (100, 1, .isub, [], none), (101, 3, .goto 7, [(0, 108)], none), (104, 1, .iload_n 3, [], some [true, false, false, true, true, true, true, false, false]),
  (105, 2, .bipush 8, [], none), (107, 1, .isub, [], none), (108, 2, .istore 7, [], some [true, false, false, true, true, true, true, false, false]), (110, 2, .iload 6, [], none),
  (112, 3, .ifCond .eq 27, [(0, 139)], none), (115, 2, .iload 7, [], none), (117, 3, .ifCond .lt 22, [(0, 139)], none), (120, 2, .iload 7, [], none),
  (122, 1, .aload_n 0, [], none), (123, 3, .getfield 21, [], none), (126, 3, .getfield 208, [], none), (129, 2, .iload 4, [], none),
  (131, 1, .iaload, [], none), (132, 3, .if_icmp .ge 7, [(0, 139)], none), (135, 1, .iconst 1, [], none), (136, 3, .goto 4, [(0, 140)], none),
  (139, 1, .iconst 0, [], some [true, false, false, true, true, true, true, true, false]), (140, 2, .istore 8, [], some [true, false, false, true, true, true, true, true, false]), (142, 1, .iload_n 3, [], none), (143, 61, .tableswitch 193 0 11 #[61, 64, 75, 86, 97, 117, 117, 117, 145, 145, 145, 182], [(0, 336), (0, 204), (1, 207), (2, 218), (3, 229), (4, 240), (5, 260), (6, 260), (7, 260), (8, 288), (9, 288), (10, 288), (11, 325)], none),
  (204, 2, .iload 5, [], none), (206, 1, .ireturn, [], none), (207, 1, .aload_n 0, [], none), (208, 3, .getfield 21, [], none),
  (211, 3, .getfield 211, [], none), (214, 2, .iload 4, [], none), (216, 1, .iaload, [], none), (217, 1, .ireturn, [], none),
  (218, 1, .aload_n 0, [], none), (219, 3, .getfield 21, [], none), (222, 3, .getfield 214, [], none), (225, 2, .iload 4, [], none),
  (227, 1, .iaload, [], none), (228, 1, .ireturn, [], none), (229, 1, .aload_n 0, [], none), (230, 3, .getfield 21, [], none),
  (233, 3, .getfield 201, [], none), (236, 2, .iload 4, [], none), (238, 1, .iaload, [], none), (239, 1, .ireturn, [], none),
  (240, 2, .iload 6, [], none), (242, 3, .ifCond .eq 16, [(0, 258)], none), (245, 1, .aload_n 0, [], none), (246, 3, .getfield 21, [], none),
  (249, 3, .getfield 208, [], none), (252, 2, .iload 4, [], none), (254, 1, .iaload, [], none), (255, 3, .goto 4, [(0, 259)], none),
  (258, 1, .iconst (-1), [], none), (259, 1, .ireturn, [], none), (260, 2, .iload 8, [], none), (262, 3, .ifCond .eq 24, [(0, 286)], none),
  (265, 1, .aload_n 0, [], none), (266, 3, .getfield 21, [], none), (269, 3, .getfield 216, [], none), (272, 2, .bipush 9, [], none),
  (274, 2, .iload 4, [], none), (276, 1, .imul, [], none), (277, 1, .iconst 3, [], none), (278, 2, .iload 7, [], none),
  (280, 1, .imul, [], none), (281, 1, .iadd, [], none), (282, 1, .iaload, [], none), (283, 3, .goto 4, [(0, 287)], none),
  (286, 1, .iconst (-1), [], none), (287, 1, .ireturn, [], none), (288, 2, .iload 8, [], none), (290, 3, .ifCond .eq 33, [(0, 323)], none),
  (293, 2, .iload 5, [], none), (295, 2, .bipush 22, [], none), (297, 3, .if_icmp .ne 26, [(0, 323)], none), (300, 1, .aload_n 0, [], none),
  (301, 3, .getfield 21, [], none), (304, 3, .getfield 216, [], none), (307, 2, .bipush 9, [], none), (309, 2, .iload 4, [], none),
  (311, 1, .imul, [], none), (312, 1, .iconst 3, [], none), (313, 2, .iload 7, [], none), (315, 1, .imul, [], none),
  (316, 1, .iadd, [], none), (317, 1, .iconst 2, [], none), (318, 1, .iadd, [], none), (319, 1, .iaload, [], none),
  (320, 3, .goto 4, [(0, 324)], none), (323, 1, .iconst (-1), [], none), (324, 1, .ireturn, [], none), (325, 1, .aload_n 0, [], none),
  (326, 3, .getfield 21, [], none), (329, 3, .getfield 219, [], none), (332, 2, .iload 4, [], none), (334, 1, .iaload, [], none),
  (335, 1, .ireturn, [], none), (336, 1, .iconst (-1), [], none), (337, 1, .ireturn, [], none)]
def e_gt_node (m : Nat) : gE := (k_gt_node, f_gt, c_gt, [], [], (m, 0), 0)
theorem ok_gt_node : gchk cX1_node 9 k_gt_node = true := by decide +kernel
def fn_gt_node (m : Nat) : gFn := gF (e_gt_node m) 9
theorem mo_gt_node (m : Nat) : gMo (.inl (fn_gt_node m)) := gF_mo (E := e_gt_node m) trivial
noncomputable def gt_node (σ : gM) (x1 x2 x3 : Int) : Option (gM × Int) := lim (fun n => fn_gt_node 119 n [(2, 117), (0, x1), (0, x2), (0, x3)] σ)
theorem gt_node_l (σ : gM) (x1 x2 x3 : Int) : Lm (fun n => fn_gt_node 119 n [(2, 117), (0, x1), (0, x2), (0, x3)] σ) (gt_node σ x1 x2 x3) := .of fun n => mo_gt_node 119 n [(2, 117), (0, x1), (0, x2), (0, x3)] σ
theorem mb_gt_node : gMos (e_gt_node 119).2.2.2.1 := trivial
noncomputable def gt_node_b80 (σ : gM) (x3 x4 x5 : Int) : Option (gM × Int) := lim (fun n => gB (e_gt_node 119) rF tF n 80 [(2, 117), (9, 0), (9, 0), (0, x3), (0, x4), (0, x5), (9, 0), (9, 0), (9, 0)] [] σ)
theorem gt_node_b80_l (σ : gM) (x3 x4 x5 : Int) : Lm (fun n => gB (e_gt_node 119) rF tF n 80 [(2, 117), (9, 0), (9, 0), (0, x3), (0, x4), (0, x5), (9, 0), (9, 0), (9, 0)] [] σ) (gt_node_b80 σ x3 x4 x5) := .of fun n => gB_le (gMos_spec (mb_gt_node)) n _ _ _ σ
noncomputable def gt_node_b85 (σ : gM) (x3 x4 x5 y0 : Int) : Option (gM × Int) := lim (fun n => gB (e_gt_node 119) rF tF n 85 [(2, 117), (9, 0), (9, 0), (0, x3), (0, x4), (0, x5), (9, 0), (9, 0), (9, 0)] [(0, y0)] σ)
theorem gt_node_b85_l (σ : gM) (x3 x4 x5 y0 : Int) : Lm (fun n => gB (e_gt_node 119) rF tF n 85 [(2, 117), (9, 0), (9, 0), (0, x3), (0, x4), (0, x5), (9, 0), (9, 0), (9, 0)] [(0, y0)] σ) (gt_node_b85 σ x3 x4 x5 y0) := .of fun n => gB_le (gMos_spec (mb_gt_node)) n _ _ _ σ
noncomputable def gt_node_b104 (σ : gM) (x3 x4 x5 x6 : Int) : Option (gM × Int) := lim (fun n => gB (e_gt_node 119) rF tF n 104 [(2, 117), (9, 0), (9, 0), (0, x3), (0, x4), (0, x5), (0, x6), (9, 0), (9, 0)] [] σ)
theorem gt_node_b104_l (σ : gM) (x3 x4 x5 x6 : Int) : Lm (fun n => gB (e_gt_node 119) rF tF n 104 [(2, 117), (9, 0), (9, 0), (0, x3), (0, x4), (0, x5), (0, x6), (9, 0), (9, 0)] [] σ) (gt_node_b104 σ x3 x4 x5 x6) := .of fun n => gB_le (gMos_spec (mb_gt_node)) n _ _ _ σ
noncomputable def gt_node_b108 (σ : gM) (x3 x4 x5 x6 y0 : Int) : Option (gM × Int) := lim (fun n => gB (e_gt_node 119) rF tF n 108 [(2, 117), (9, 0), (9, 0), (0, x3), (0, x4), (0, x5), (0, x6), (9, 0), (9, 0)] [(0, y0)] σ)
theorem gt_node_b108_l (σ : gM) (x3 x4 x5 x6 y0 : Int) : Lm (fun n => gB (e_gt_node 119) rF tF n 108 [(2, 117), (9, 0), (9, 0), (0, x3), (0, x4), (0, x5), (0, x6), (9, 0), (9, 0)] [(0, y0)] σ) (gt_node_b108 σ x3 x4 x5 x6 y0) := .of fun n => gB_le (gMos_spec (mb_gt_node)) n _ _ _ σ
noncomputable def gt_node_b139 (σ : gM) (x3 x4 x5 x6 x7 : Int) : Option (gM × Int) := lim (fun n => gB (e_gt_node 119) rF tF n 139 [(2, 117), (9, 0), (9, 0), (0, x3), (0, x4), (0, x5), (0, x6), (0, x7), (9, 0)] [] σ)
theorem gt_node_b139_l (σ : gM) (x3 x4 x5 x6 x7 : Int) : Lm (fun n => gB (e_gt_node 119) rF tF n 139 [(2, 117), (9, 0), (9, 0), (0, x3), (0, x4), (0, x5), (0, x6), (0, x7), (9, 0)] [] σ) (gt_node_b139 σ x3 x4 x5 x6 x7) := .of fun n => gB_le (gMos_spec (mb_gt_node)) n _ _ _ σ
noncomputable def gt_node_b140 (σ : gM) (x3 x4 x5 x6 x7 y0 : Int) : Option (gM × Int) := lim (fun n => gB (e_gt_node 119) rF tF n 140 [(2, 117), (9, 0), (9, 0), (0, x3), (0, x4), (0, x5), (0, x6), (0, x7), (9, 0)] [(0, y0)] σ)
theorem gt_node_b140_l (σ : gM) (x3 x4 x5 x6 x7 y0 : Int) : Lm (fun n => gB (e_gt_node 119) rF tF n 140 [(2, 117), (9, 0), (9, 0), (0, x3), (0, x4), (0, x5), (0, x6), (0, x7), (9, 0)] [(0, y0)] σ) (gt_node_b140 σ x3 x4 x5 x6 x7 y0) := .of fun n => gB_le (gMos_spec (mb_gt_node)) n _ _ _ σ
theorem gt_node_e (σ : gM) (x1 x2 x3 : Int) : gt_node σ x1 x2 x3 =
  (if x1 < 0 then
  (some (σ, (-1)))
  else
  (if x1 < σ 8 31 then
    (if x2 < 0 then
      (some (σ, (-1)))
      else
      (if 0 ≤ x1 ∧ x1 < 60 then
        (if x2 < σ 27 x1 then
          (if 0 ≤ x1 ∧ x1 < 60 then
            (if 0 ≤ w32 ((σ 26 x1) + x2) ∧ w32 ((σ 26 x1) + x2) < 16000 then
              (if σ 9 (w32 ((σ 26 x1) + x2)) = 21 then
                (gt_node_b80 σ x3 (w32 ((σ 26 x1) + x2)) (σ 9 (w32 ((σ 26 x1) + x2))))
                else
                (if σ 9 (w32 ((σ 26 x1) + x2)) = 22 then
                  (gt_node_b80 σ x3 (w32 ((σ 26 x1) + x2)) (σ 9 (w32 ((σ 26 x1) + x2))))
                  else
                  (if σ 9 (w32 ((σ 26 x1) + x2)) = 23 then
                    (gt_node_b80 σ x3 (w32 ((σ 26 x1) + x2)) (σ 9 (w32 ((σ 26 x1) + x2))))
                    else
                    (gt_node_b85 σ x3 (w32 ((σ 26 x1) + x2)) (σ 9 (w32 ((σ 26 x1) + x2))) 0))))
              else none)
            else none)
          else
          (some (σ, (-1))))
        else none))
    else
    (some (σ, (-1))))) := Lm.eqn (gt_node_l ..) (.ite .cst (.ite (.ite .cst (.ite (.ite (.ite (.ite (.ite (gt_node_b80_l ..) (.ite (gt_node_b80_l ..) (.ite (gt_node_b80_l ..) (gt_node_b85_l ..)))) .cst) .cst) .cst) .cst)) .cst)) fun n => (rfl)
theorem gt_node_b80_e (σ : gM) (x3 x4 x5 : Int) : gt_node_b80 σ x3 x4 x5 =
  (gt_node_b85 σ x3 x4 x5 1) := Lm.eqn (gt_node_b80_l ..) (gt_node_b85_l ..) fun n => (rfl)
theorem gt_node_b85_e (σ : gM) (x3 x4 x5 y0 : Int) : gt_node_b85 σ x3 x4 x5 y0 =
  (if x3 < 5 then
  (gt_node_b104 σ x3 x4 x5 y0)
  else
  (if 7 < x3 then
    (gt_node_b104 σ x3 x4 x5 y0)
    else
    (gt_node_b108 σ x3 x4 x5 y0 (w32 (x3 - 5))))) := Lm.eqn (gt_node_b85_l ..) (.ite (gt_node_b104_l ..) (.ite (gt_node_b104_l ..) (gt_node_b108_l ..))) fun n => (rfl)
theorem gt_node_b104_e (σ : gM) (x3 x4 x5 x6 : Int) : gt_node_b104 σ x3 x4 x5 x6 =
  (gt_node_b108 σ x3 x4 x5 x6 (w32 (x3 - 8))) := Lm.eqn (gt_node_b104_l ..) (gt_node_b108_l ..) fun n => (rfl)
theorem gt_node_b108_e (σ : gM) (x3 x4 x5 x6 y0 : Int) : gt_node_b108 σ x3 x4 x5 x6 y0 =
  (if x6 = 0 then
  (gt_node_b139 σ x3 x4 x5 x6 y0)
  else
  (if y0 < 0 then
    (gt_node_b139 σ x3 x4 x5 x6 y0)
    else
    (if 0 ≤ x4 ∧ x4 < 16000 then
      (if y0 < σ 18 x4 then
        (gt_node_b140 σ x3 x4 x5 x6 y0 1)
        else
        (gt_node_b139 σ x3 x4 x5 x6 y0))
      else none))) := Lm.eqn (gt_node_b108_l ..) (.ite (gt_node_b139_l ..) (.ite (gt_node_b139_l ..) (.ite (.ite (gt_node_b140_l ..) (gt_node_b139_l ..)) .cst))) fun n => (rfl)
theorem gt_node_b139_e (σ : gM) (x3 x4 x5 x6 x7 : Int) : gt_node_b139 σ x3 x4 x5 x6 x7 =
  (gt_node_b140 σ x3 x4 x5 x6 x7 0) := Lm.eqn (gt_node_b139_l ..) (gt_node_b140_l ..) fun n => (rfl)
theorem gt_node_b140_e (σ : gM) (x3 x4 x5 x6 x7 y0 : Int) : gt_node_b140 σ x3 x4 x5 x6 x7 y0 =
  (if x3 = 0 then
  (some (σ, x5))
  else if x3 = 1 then
  (if 0 ≤ x4 ∧ x4 < 16000 then
    (some (σ, σ 10 x4))
    else none)
  else if x3 = 2 then
  (if 0 ≤ x4 ∧ x4 < 16000 then
    (some (σ, σ 11 x4))
    else none)
  else if x3 = 3 then
  (if 0 ≤ x4 ∧ x4 < 16000 then
    (some (σ, σ 12 x4))
    else none)
  else if x3 = 4 then
  (if x6 = 0 then
    (some (σ, (-1)))
    else
    (if 0 ≤ x4 ∧ x4 < 16000 then
      (some (σ, σ 18 x4))
      else none))
  else if x3 = 5 then
  (if y0 = 0 then
    (some (σ, (-1)))
    else
    (if 0 ≤ w32 ((w32 (9 * x4)) + (w32 (3 * x7))) ∧ w32 ((w32 (9 * x4)) + (w32 (3 * x7))) < 144000 then
      (some (σ, σ 19 (w32 ((w32 (9 * x4)) + (w32 (3 * x7))))))
      else none))
  else if x3 = 6 then
  (if y0 = 0 then
    (some (σ, (-1)))
    else
    (if 0 ≤ w32 ((w32 (9 * x4)) + (w32 (3 * x7))) ∧ w32 ((w32 (9 * x4)) + (w32 (3 * x7))) < 144000 then
      (some (σ, σ 19 (w32 ((w32 (9 * x4)) + (w32 (3 * x7))))))
      else none))
  else if x3 = 7 then
  (if y0 = 0 then
    (some (σ, (-1)))
    else
    (if 0 ≤ w32 ((w32 (9 * x4)) + (w32 (3 * x7))) ∧ w32 ((w32 (9 * x4)) + (w32 (3 * x7))) < 144000 then
      (some (σ, σ 19 (w32 ((w32 (9 * x4)) + (w32 (3 * x7))))))
      else none))
  else if x3 = 8 then
  (if y0 = 0 then
    (some (σ, (-1)))
    else
    (if x5 = 22 then
      (if 0 ≤ w32 ((w32 ((w32 (9 * x4)) + (w32 (3 * x7)))) + 2) ∧ w32 ((w32 ((w32 (9 * x4)) + (w32 (3 * x7)))) + 2) < 144000 then
        (some (σ, σ 19 (w32 ((w32 ((w32 (9 * x4)) + (w32 (3 * x7)))) + 2))))
        else none)
      else
      (some (σ, (-1)))))
  else if x3 = 9 then
  (if y0 = 0 then
    (some (σ, (-1)))
    else
    (if x5 = 22 then
      (if 0 ≤ w32 ((w32 ((w32 (9 * x4)) + (w32 (3 * x7)))) + 2) ∧ w32 ((w32 ((w32 (9 * x4)) + (w32 (3 * x7)))) + 2) < 144000 then
        (some (σ, σ 19 (w32 ((w32 ((w32 (9 * x4)) + (w32 (3 * x7)))) + 2))))
        else none)
      else
      (some (σ, (-1)))))
  else if x3 = 10 then
  (if y0 = 0 then
    (some (σ, (-1)))
    else
    (if x5 = 22 then
      (if 0 ≤ w32 ((w32 ((w32 (9 * x4)) + (w32 (3 * x7)))) + 2) ∧ w32 ((w32 ((w32 (9 * x4)) + (w32 (3 * x7)))) + 2) < 144000 then
        (some (σ, σ 19 (w32 ((w32 ((w32 (9 * x4)) + (w32 (3 * x7)))) + 2))))
        else none)
      else
      (some (σ, (-1)))))
  else if x3 = 11 then
  (if 0 ≤ x4 ∧ x4 < 16000 then
    (some (σ, σ 13 x4))
    else none)
  else (some (σ, (-1)))) := Lm.eqn (gt_node_b140_l ..) (.ite .cst (.ite (.ite .cst .cst) (.ite (.ite .cst .cst) (.ite (.ite .cst .cst) (.ite (.ite .cst (.ite .cst .cst)) (.ite (.ite .cst (.ite .cst .cst)) (.ite (.ite .cst (.ite .cst .cst)) (.ite (.ite .cst (.ite .cst .cst)) (.ite (.ite .cst (.ite (.ite .cst .cst) .cst)) (.ite (.ite .cst (.ite (.ite .cst .cst) .cst)) (.ite (.ite .cst (.ite (.ite .cst .cst) .cst)) (.ite (.ite .cst .cst) .cst)))))))))))) fun n => (rfl)
def k_gt_shape : List gC := [(0, 1, .iload_n 1, [], none), (1, 3, .ifCond .lt 14, [(0, 15)], none), (4, 1, .iload_n 1, [], none), (5, 1, .aload_n 0, [], none),
  (6, 3, .getfield 28, [], none), (9, 3, .getfield 222, [], none), (12, 3, .if_icmp .lt 5, [(0, 17)], none), (15, 1, .iconst (-1), [], none),
  (16, 1, .ireturn, [], none), (17, 1, .aload_n 0, [], none), (18, 3, .getfield 28, [], none), (21, 3, .getfield 224, [], none),
  (24, 1, .iload_n 1, [], none), (25, 1, .iaload, [], none), (26, 1, .istore_n 3, [], none), (27, 1, .iload_n 2, [], none),
  (28, 1, .iconst 4, [], none), (29, 3, .if_icmp .lt 44, [(0, 73)], none), (32, 1, .iload_n 1, [], none), (33, 3, .ifCond .le 40, [(0, 73)], none),
  (36, 1, .iload_n 2, [], none), (37, 1, .iconst 4, [], none), (38, 1, .isub, [], none), (39, 1, .aload_n 0, [], none),
  (40, 3, .getfield 28, [], none), (43, 3, .getfield 227, [], none), (46, 1, .iload_n 3, [], none), (47, 1, .iaload, [], none),
  (48, 3, .if_icmp .ge 25, [(0, 73)], none), (51, 1, .aload_n 0, [], none), (52, 3, .getfield 28, [], none), (55, 3, .getfield 228, [], none),
  (58, 1, .aload_n 0, [], none), (59, 3, .getfield 28, [], none), (62, 3, .getfield 229, [], none), (65, 1, .iload_n 3, [], none),
  (66, 1, .iaload, [], none), (67, 1, .iload_n 2, [], none), (68, 1, .iadd, [], none), (69, 1, .iconst 4, [], none),
  (70, 1, .isub, [], none), (71, 1, .baload, [], none), (72, 1, .ireturn, [], none), (73, 1, .iload_n 2, [], some [true, true, true, false]),
  (74, 3, .ifCond .ne 15, [(0, 89)], none), (77, 1, .aload_n 0, [], none), (78, 3, .getfield 28, [], none), (81, 3, .getfield 230, [], none),
  (84, 1, .iload_n 1, [], none), (85, 1, .iaload, [], none), (86, 3, .goto 55, [(0, 141)], none), (89, 1, .iload_n 2, [], none),
  (90, 1, .iconst 1, [], none), (91, 3, .if_icmp .ne 15, [(0, 106)], none), (94, 1, .aload_n 0, [], none), (95, 3, .getfield 28, [], none),
  (98, 3, .getfield 233, [], none), (101, 1, .iload_n 1, [], none), (102, 1, .iaload, [], none), (103, 3, .goto 38, [(0, 141)], none),
  (106, 1, .iload_n 2, [], none), (107, 1, .iconst 2, [], none), (108, 3, .if_icmp .ne 15, [(0, 123)], none), (111, 1, .aload_n 0, [], none),
  (112, 3, .getfield 28, [], none), (115, 3, .getfield 235, [], none), (118, 1, .iload_n 1, [], none), (119, 1, .iaload, [], none),
  (120, 3, .goto 21, [(0, 141)], none), (123, 1, .iload_n 2, [], none), (124, 1, .iconst 3, [], none), (125, 3, .if_icmp .ne 15, [(0, 140)], none),
  (128, 1, .aload_n 0, [], none), (129, 3, .getfield 28, [], none), (132, 3, .getfield 238, [], none), (135, 1, .iload_n 1, [], none),
  (136, 1, .iaload, [], none), (137, 3, .goto 4, [(0, 141)], none), (140, 1, .iconst (-1), [], none), (141, 1, .ireturn, [], none)]
def e_gt_shape (m : Nat) : gE := (k_gt_shape, f_gt, c_gt, [], [], (m, 0), 0)
theorem ok_gt_shape : gchk cX1_shape 4 k_gt_shape = true := by decide +kernel
def fn_gt_shape (m : Nat) : gFn := gF (e_gt_shape m) 4
theorem mo_gt_shape (m : Nat) : gMo (.inl (fn_gt_shape m)) := gF_mo (E := e_gt_shape m) trivial
noncomputable def gt_shape (σ : gM) (x1 x2 : Int) : Option (gM × Int) := lim (fun n => fn_gt_shape 119 n [(2, 117), (0, x1), (0, x2)] σ)
theorem gt_shape_l (σ : gM) (x1 x2 : Int) : Lm (fun n => fn_gt_shape 119 n [(2, 117), (0, x1), (0, x2)] σ) (gt_shape σ x1 x2) := .of fun n => mo_gt_shape 119 n [(2, 117), (0, x1), (0, x2)] σ
theorem mb_gt_shape : gMos (e_gt_shape 119).2.2.2.1 := trivial
noncomputable def gt_shape_b73 (σ : gM) (x1 x2 : Int) : Option (gM × Int) := lim (fun n => gB (e_gt_shape 119) rF tF n 73 [(2, 117), (0, x1), (0, x2), (9, 0)] [] σ)
theorem gt_shape_b73_l (σ : gM) (x1 x2 : Int) : Lm (fun n => gB (e_gt_shape 119) rF tF n 73 [(2, 117), (0, x1), (0, x2), (9, 0)] [] σ) (gt_shape_b73 σ x1 x2) := .of fun n => gB_le (gMos_spec (mb_gt_shape)) n _ _ _ σ
theorem gt_shape_e (σ : gM) (x1 x2 : Int) : gt_shape σ x1 x2 =
  (if x1 < 0 then
  (some (σ, (-1)))
  else
  (if x1 < σ 42 6 then
    (if 0 ≤ x1 ∧ x1 < 200 then
      (if x2 < 4 then
        (gt_shape_b73 σ x1 x2)
        else
        (if 0 < x1 then
          (if 0 ≤ σ 44 x1 ∧ σ 44 x1 < 200 then
            (if w32 (x2 - 4) < σ 50 (σ 44 x1) then
              (if 0 ≤ σ 44 x1 ∧ σ 44 x1 < 200 then
                (if 0 ≤ w32 ((w32 ((σ 49 (σ 44 x1)) + x2)) - 4) ∧ w32 ((w32 ((σ 49 (σ 44 x1)) + x2)) - 4) < 40000 then
                  (some (σ, σ 48 (w32 ((w32 ((σ 49 (σ 44 x1)) + x2)) - 4))))
                  else none)
                else none)
              else
              (gt_shape_b73 σ x1 x2))
            else none)
          else
          (gt_shape_b73 σ x1 x2)))
      else none)
    else
    (some (σ, (-1))))) := Lm.eqn (gt_shape_l ..) (.ite .cst (.ite (.ite (.ite (gt_shape_b73_l ..) (.ite (.ite (.ite (.ite (.ite .cst .cst) .cst) (gt_shape_b73_l ..)) .cst) (gt_shape_b73_l ..))) .cst) .cst)) fun n => (rfl)
theorem gt_shape_b73_e (σ : gM) (x1 x2 : Int) : gt_shape_b73 σ x1 x2 =
  (if x2 = 0 then
  (if 0 ≤ x1 ∧ x1 < 200 then
    (some (σ, σ 43 x1))
    else none)
  else
  (if x2 = 1 then
    (if 0 ≤ x1 ∧ x1 < 200 then
      (some (σ, σ 45 x1))
      else none)
    else
    (if x2 = 2 then
      (if 0 ≤ x1 ∧ x1 < 200 then
        (some (σ, σ 46 x1))
        else none)
      else
      (if x2 = 3 then
        (if 0 ≤ x1 ∧ x1 < 200 then
          (some (σ, σ 47 x1))
          else none)
        else
        (some (σ, (-1))))))) := Lm.eqn (gt_shape_b73_l ..) (.ite (.ite .cst .cst) (.ite (.ite .cst .cst) (.ite (.ite .cst .cst) (.ite (.ite .cst .cst) .cst)))) fun n => (rfl)
def k_gt_code : List gC := [(0, 1, .iload_n 1, [], none), (1, 3, .ifCond .lt 14, [(0, 15)], none), (4, 1, .iload_n 1, [], none), (5, 1, .aload_n 0, [], none),
  (6, 3, .getfield 37, [], none), (9, 3, .getfield 241, [], none), (12, 3, .if_icmp .lt 5, [(0, 17)], none), (15, 1, .iconst (-1), [], none),
  (16, 1, .ireturn, [], none), (17, 1, .iload_n 2, [], none), (18, 2, .bipush 10, [], none), (20, 3, .if_icmp .lt 42, [(0, 62)], none),
  (23, 1, .iload_n 2, [], none), (24, 2, .bipush 10, [], none), (26, 1, .isub, [], none), (27, 1, .aload_n 0, [], none),
  (28, 3, .getfield 37, [], none), (31, 3, .getfield 242, [], none), (34, 1, .iload_n 1, [], none), (35, 1, .iaload, [], none),
  (36, 3, .if_icmp .ge 26, [(0, 62)], none), (39, 1, .aload_n 0, [], none), (40, 3, .getfield 37, [], none), (43, 3, .getfield 245, [], none),
  (46, 1, .aload_n 0, [], none), (47, 3, .getfield 37, [], none), (50, 3, .getfield 248, [], none), (53, 1, .iload_n 1, [], none),
  (54, 1, .iaload, [], none), (55, 1, .iload_n 2, [], none), (56, 1, .iadd, [], none), (57, 2, .bipush 10, [], none),
  (59, 1, .isub, [], none), (60, 1, .iaload, [], none), (61, 1, .ireturn, [], none), (62, 1, .iload_n 2, [], some [true, true, true]),
  (63, 45, .tableswitch 133 0 7 #[45, 55, 73, 83, 93, 103, 113, 123], [(0, 196), (0, 108), (1, 118), (2, 136), (3, 146), (4, 156), (5, 166), (6, 176), (7, 186)], none), (108, 1, .aload_n 0, [], none), (109, 3, .getfield 37, [], none), (112, 3, .getfield 251, [], none),
  (115, 1, .iload_n 1, [], none), (116, 1, .iaload, [], none), (117, 1, .ireturn, [], none), (118, 1, .aload_n 0, [], none),
  (119, 3, .getfield 37, [], none), (122, 3, .getfield 254, [], none), (125, 1, .iload_n 1, [], none), (126, 1, .baload, [], none),
  (127, 3, .ifCond .eq 7, [(0, 134)], none), (130, 1, .iconst 1, [], none), (131, 3, .goto 4, [(0, 135)], none), (134, 1, .iconst 0, [], none),
  (135, 1, .ireturn, [], none), (136, 1, .aload_n 0, [], none), (137, 3, .getfield 37, [], none), (140, 3, .getfield 242, [], none),
  (143, 1, .iload_n 1, [], none), (144, 1, .iaload, [], none), (145, 1, .ireturn, [], none), (146, 1, .aload_n 0, [], none),
  (147, 3, .getfield 37, [], none), (150, 3, .getfield 258, [], none), (153, 1, .iload_n 1, [], none), (154, 1, .iaload, [], none),
  (155, 1, .ireturn, [], none), (156, 1, .aload_n 0, [], none), (157, 3, .getfield 37, [], none), (160, 3, .getfield 261, [], none),
  (163, 1, .iload_n 1, [], none), (164, 1, .iaload, [], none), (165, 1, .ireturn, [], none), (166, 1, .aload_n 0, [], none),
  (167, 3, .getfield 37, [], none), (170, 3, .getfield 264, [], none), (173, 1, .iload_n 1, [], none), (174, 1, .iaload, [], none),
  (175, 1, .ireturn, [], none), (176, 1, .aload_n 0, [], none), (177, 3, .getfield 37, [], none), (180, 3, .getfield 267, [], none),
  (183, 1, .iload_n 1, [], none), (184, 1, .iaload, [], none), (185, 1, .ireturn, [], none), (186, 1, .aload_n 0, [], none),
  (187, 3, .getfield 37, [], none), (190, 3, .getfield 270, [], none), (193, 1, .iload_n 1, [], none), (194, 1, .iaload, [], none),
  (195, 1, .ireturn, [], none), (196, 1, .iconst (-1), [], none), (197, 1, .ireturn, [], none)]
def e_gt_code (m : Nat) : gE := (k_gt_code, f_gt, c_gt, [], [], (m, 0), 0)
theorem ok_gt_code : gchk cX1_code 3 k_gt_code = true := by decide +kernel
def fn_gt_code (m : Nat) : gFn := gF (e_gt_code m) 3
theorem mo_gt_code (m : Nat) : gMo (.inl (fn_gt_code m)) := gF_mo (E := e_gt_code m) trivial
noncomputable def gt_code (σ : gM) (x1 x2 : Int) : Option (gM × Int) := lim (fun n => fn_gt_code 119 n [(2, 117), (0, x1), (0, x2)] σ)
theorem gt_code_l (σ : gM) (x1 x2 : Int) : Lm (fun n => fn_gt_code 119 n [(2, 117), (0, x1), (0, x2)] σ) (gt_code σ x1 x2) := .of fun n => mo_gt_code 119 n [(2, 117), (0, x1), (0, x2)] σ
theorem mb_gt_code : gMos (e_gt_code 119).2.2.2.1 := trivial
noncomputable def gt_code_b62 (σ : gM) (x1 x2 : Int) : Option (gM × Int) := lim (fun n => gB (e_gt_code 119) rF tF n 62 [(2, 117), (0, x1), (0, x2)] [] σ)
theorem gt_code_b62_l (σ : gM) (x1 x2 : Int) : Lm (fun n => gB (e_gt_code 119) rF tF n 62 [(2, 117), (0, x1), (0, x2)] [] σ) (gt_code_b62 σ x1 x2) := .of fun n => gB_le (gMos_spec (mb_gt_code)) n _ _ _ σ
theorem gt_code_e (σ : gM) (x1 x2 : Int) : gt_code σ x1 x2 =
  (if x1 < 0 then
  (some (σ, (-1)))
  else
  (if x1 < σ 52 10 then
    (if x2 < 10 then
      (gt_code_b62 σ x1 x2)
      else
      (if 0 ≤ x1 ∧ x1 < 100 then
        (if w32 (x2 - 10) < σ 55 x1 then
          (if 0 ≤ x1 ∧ x1 < 100 then
            (if 0 ≤ w32 ((w32 ((σ 54 x1) + x2)) - 10) ∧ w32 ((w32 ((σ 54 x1) + x2)) - 10) < 16000 then
              (some (σ, σ 62 (w32 ((w32 ((σ 54 x1) + x2)) - 10))))
              else none)
            else none)
          else
          (gt_code_b62 σ x1 x2))
        else none))
    else
    (some (σ, (-1))))) := Lm.eqn (gt_code_l ..) (.ite .cst (.ite (.ite (gt_code_b62_l ..) (.ite (.ite (.ite (.ite .cst .cst) .cst) (gt_code_b62_l ..)) .cst)) .cst)) fun n => (rfl)
theorem gt_code_b62_e (σ : gM) (x1 x2 : Int) : gt_code_b62 σ x1 x2 =
  (if x2 = 0 then
  (if 0 ≤ x1 ∧ x1 < 100 then
    (some (σ, σ 53 x1))
    else none)
  else if x2 = 1 then
  (if 0 ≤ x1 ∧ x1 < 100 then
    (if σ 61 x1 = 0 then
      (some (σ, 0))
      else
      (some (σ, 1)))
    else none)
  else if x2 = 2 then
  (if 0 ≤ x1 ∧ x1 < 100 then
    (some (σ, σ 55 x1))
    else none)
  else if x2 = 3 then
  (if 0 ≤ x1 ∧ x1 < 100 then
    (some (σ, σ 56 x1))
    else none)
  else if x2 = 4 then
  (if 0 ≤ x1 ∧ x1 < 100 then
    (some (σ, σ 57 x1))
    else none)
  else if x2 = 5 then
  (if 0 ≤ x1 ∧ x1 < 100 then
    (some (σ, σ 58 x1))
    else none)
  else if x2 = 6 then
  (if 0 ≤ x1 ∧ x1 < 100 then
    (some (σ, σ 59 x1))
    else none)
  else if x2 = 7 then
  (if 0 ≤ x1 ∧ x1 < 100 then
    (some (σ, σ 60 x1))
    else none)
  else (some (σ, (-1)))) := Lm.eqn (gt_code_b62_l ..) (.ite (.ite .cst .cst) (.ite (.ite (.ite .cst .cst) .cst) (.ite (.ite .cst .cst) (.ite (.ite .cst .cst) (.ite (.ite .cst .cst) (.ite (.ite .cst .cst) (.ite (.ite .cst .cst) (.ite (.ite .cst .cst) .cst)))))))) fun n => (rfl)
def k_gt_frame : List gC := [(0, 1, .iload_n 1, [], none), (1, 3, .ifCond .lt 14, [(0, 15)], none), (4, 1, .iload_n 1, [], none), (5, 1, .aload_n 0, [], none),
  (6, 3, .getfield 70, [], none), (9, 3, .getfield 273, [], none), (12, 3, .if_icmp .lt 5, [(0, 17)], none), (15, 1, .iconst (-1), [], none),
  (16, 1, .ireturn, [], none), (17, 1, .aload_n 0, [], none), (18, 3, .getfield 70, [], none), (21, 3, .getfield 273, [], none),
  (24, 1, .iconst 1, [], none), (25, 1, .isub, [], none), (26, 1, .iload_n 1, [], none), (27, 1, .isub, [], none),
  (28, 1, .istore_n 3, [], none), (29, 1, .iload_n 2, [], none), (30, 2, .bipush 10, [], none), (32, 3, .if_icmp .lt 45, [(0, 77)], none),
  (35, 1, .iload_n 2, [], none), (36, 2, .bipush 10, [], none), (38, 1, .aload_n 0, [], none), (39, 3, .getfield 21, [], none),
  (42, 3, .getfield 167, [], none), (45, 1, .aload_n 0, [], none), (46, 3, .getfield 70, [], none), (49, 3, .getfield 275, [], none),
  (52, 1, .iload_n 3, [], none), (53, 1, .iaload, [], none), (54, 1, .iaload, [], none), (55, 1, .iadd, [], none),
  (56, 3, .if_icmp .ge 21, [(0, 77)], none), (59, 1, .aload_n 0, [], none), (60, 3, .getfield 70, [], none), (63, 3, .getfield 278, [], none),
  (66, 2, .bipush 12, [], none), (68, 1, .iload_n 3, [], none), (69, 1, .imul, [], none), (70, 1, .iload_n 2, [], none),
  (71, 1, .iadd, [], none), (72, 2, .bipush 10, [], none), (74, 1, .isub, [], none), (75, 1, .iaload, [], none),
  (76, 1, .ireturn, [], none), (77, 1, .iload_n 2, [], some [true, false, true, true]), (78, 3, .ifCond .ne 15, [(0, 93)], none), (81, 1, .aload_n 0, [], none),
  (82, 3, .getfield 70, [], none), (85, 3, .getfield 275, [], none), (88, 1, .iload_n 3, [], none), (89, 1, .iaload, [], none),
  (90, 3, .goto 63, [(0, 153)], none), (93, 1, .iload_n 2, [], none), (94, 1, .iconst 1, [], none), (95, 3, .if_icmp .ne 15, [(0, 110)], none),
  (98, 1, .aload_n 0, [], none), (99, 3, .getfield 70, [], none), (102, 3, .getfield 281, [], none), (105, 1, .iload_n 3, [], none),
  (106, 1, .iaload, [], none), (107, 3, .goto 46, [(0, 153)], none), (110, 1, .iload_n 2, [], none), (111, 1, .iconst 2, [], none),
  (112, 3, .if_icmp .ne 15, [(0, 127)], none), (115, 1, .aload_n 0, [], none), (116, 3, .getfield 70, [], none), (119, 3, .getfield 284, [], none),
  (122, 1, .iload_n 3, [], none), (123, 1, .iaload, [], none), (124, 3, .goto 29, [(0, 153)], none), (127, 1, .iload_n 2, [], none),
  (128, 1, .iconst 3, [], none), (129, 3, .if_icmp .ne 23, [(0, 152)], none), (132, 1, .aload_n 0, [], none), (133, 3, .getfield 70, [], none),
  (136, 3, .getfield 287, [], none), (139, 1, .iload_n 3, [], none), (140, 1, .baload, [], none), (141, 3, .ifCond .eq 7, [(0, 148)], none),
  (144, 1, .iconst 1, [], none), (145, 3, .goto 8, [(0, 153)], none), (148, 1, .iconst 0, [], none), (149, 3, .goto 4, [(0, 153)], none),
  (152, 1, .iconst (-1), [], none), (153, 1, .ireturn, [], none)]
def e_gt_frame (m : Nat) : gE := (k_gt_frame, f_gt, c_gt, [], [], (m, 0), 0)
theorem ok_gt_frame : gchk cX1_frame 4 k_gt_frame = true := by decide +kernel
def fn_gt_frame (m : Nat) : gFn := gF (e_gt_frame m) 4
theorem mo_gt_frame (m : Nat) : gMo (.inl (fn_gt_frame m)) := gF_mo (E := e_gt_frame m) trivial
noncomputable def gt_frame (σ : gM) (x1 x2 : Int) : Option (gM × Int) := lim (fun n => fn_gt_frame 119 n [(2, 117), (0, x1), (0, x2)] σ)
theorem gt_frame_l (σ : gM) (x1 x2 : Int) : Lm (fun n => fn_gt_frame 119 n [(2, 117), (0, x1), (0, x2)] σ) (gt_frame σ x1 x2) := .of fun n => mo_gt_frame 119 n [(2, 117), (0, x1), (0, x2)] σ
theorem mb_gt_frame : gMos (e_gt_frame 119).2.2.2.1 := trivial
noncomputable def gt_frame_b77 (σ : gM) (x2 x3 : Int) : Option (gM × Int) := lim (fun n => gB (e_gt_frame 119) rF tF n 77 [(2, 117), (9, 0), (0, x2), (0, x3)] [] σ)
theorem gt_frame_b77_l (σ : gM) (x2 x3 : Int) : Lm (fun n => gB (e_gt_frame 119) rF tF n 77 [(2, 117), (9, 0), (0, x2), (0, x3)] [] σ) (gt_frame_b77 σ x2 x3) := .of fun n => gB_le (gMos_spec (mb_gt_frame)) n _ _ _ σ
theorem gt_frame_e (σ : gM) (x1 x2 : Int) : gt_frame σ x1 x2 =
  (if x1 < 0 then
  (some (σ, (-1)))
  else
  (if x1 < σ 87 19 then
    (if x2 < 10 then
      (gt_frame_b77 σ x2 (w32 ((w32 ((σ 87 19) - 1)) - x1)))
      else
      (if 0 ≤ w32 ((w32 ((σ 87 19) - 1)) - x1) ∧ w32 ((w32 ((σ 87 19) - 1)) - x1) < 60 then
        (if 0 ≤ σ 90 (w32 ((w32 ((σ 87 19) - 1)) - x1)) ∧ σ 90 (w32 ((w32 ((σ 87 19) - 1)) - x1)) < 60 then
          (if x2 < w32 (10 + (σ 31 (σ 90 (w32 ((w32 ((σ 87 19) - 1)) - x1))))) then
            (if 0 ≤ w32 ((w32 ((w32 (12 * (w32 ((w32 ((σ 87 19) - 1)) - x1)))) + x2)) - 10) ∧ w32 ((w32 ((w32 (12 * (w32 ((w32 ((σ 87 19) - 1)) - x1)))) + x2)) - 10) < 720 then
              (some (σ, σ 98 (w32 ((w32 ((w32 (12 * (w32 ((w32 ((σ 87 19) - 1)) - x1)))) + x2)) - 10))))
              else none)
            else
            (gt_frame_b77 σ x2 (w32 ((w32 ((σ 87 19) - 1)) - x1))))
          else none)
        else none))
    else
    (some (σ, (-1))))) := Lm.eqn (gt_frame_l ..) (.ite .cst (.ite (.ite (gt_frame_b77_l ..) (.ite (.ite (.ite (.ite .cst .cst) (gt_frame_b77_l ..)) .cst) .cst)) .cst)) fun n => (rfl)
theorem gt_frame_b77_e (σ : gM) (x2 x3 : Int) : gt_frame_b77 σ x2 x3 =
  (if x2 = 0 then
  (if 0 ≤ x3 ∧ x3 < 60 then
    (some (σ, σ 90 x3))
    else none)
  else
  (if x2 = 1 then
    (if 0 ≤ x3 ∧ x3 < 60 then
      (some (σ, σ 93 x3))
      else none)
    else
    (if x2 = 2 then
      (if 0 ≤ x3 ∧ x3 < 60 then
        (some (σ, σ 94 x3))
        else none)
      else
      (if x2 = 3 then
        (if 0 ≤ x3 ∧ x3 < 60 then
          (if σ 96 x3 = 0 then
            (some (σ, 0))
            else
            (some (σ, 1)))
          else none)
        else
        (some (σ, (-1))))))) := Lm.eqn (gt_frame_b77_l ..) (.ite (.ite .cst .cst) (.ite (.ite .cst .cst) (.ite (.ite .cst .cst) (.ite (.ite (.ite .cst .cst) .cst) .cst)))) fun n => (rfl)
def k_gt_total : List gC := [(0, 1, .iload_n 1, [], none), (1, 79, .tableswitch 207 0 15 #[79, 87, 95, 103, 111, 119, 127, 135, 143, 151, 159, 167, 175, 183, 191, 199], [(0, 208), (0, 80), (1, 88), (2, 96), (3, 104), (4, 112), (5, 120), (6, 128), (7, 136), (8, 144), (9, 152), (10, 160), (11, 168), (12, 176), (13, 184), (14, 192), (15, 200)], none), (80, 1, .aload_n 0, [], none), (81, 3, .getfield 70, [], none),
  (84, 3, .getfield 290, [], none), (87, 1, .ireturn, [], none), (88, 1, .aload_n 0, [], none), (89, 3, .getfield 70, [], none),
  (92, 3, .getfield 273, [], none), (95, 1, .ireturn, [], none), (96, 1, .aload_n 0, [], none), (97, 3, .getfield 70, [], none),
  (100, 3, .getfield 293, [], none), (103, 1, .ireturn, [], none), (104, 1, .aload_n 0, [], none), (105, 3, .getfield 70, [], none),
  (108, 3, .getfield 296, [], none), (111, 1, .ireturn, [], none), (112, 1, .aload_n 0, [], none), (113, 3, .getfield 70, [], none),
  (116, 3, .getfield 151, [], none), (119, 1, .ireturn, [], none), (120, 1, .aload_n 0, [], none), (121, 3, .getfield 21, [], none),
  (124, 3, .getfield 112, [], none), (127, 1, .ireturn, [], none), (128, 1, .aload_n 0, [], none), (129, 3, .getfield 28, [], none),
  (132, 3, .getfield 222, [], none), (135, 1, .ireturn, [], none), (136, 1, .aload_n 0, [], none), (137, 3, .getfield 37, [], none),
  (140, 3, .getfield 241, [], none), (143, 1, .ireturn, [], none), (144, 1, .aload_n 0, [], none), (145, 3, .getfield 37, [], none),
  (148, 3, .getfield 299, [], none), (151, 1, .ireturn, [], none), (152, 1, .aload_n 0, [], none), (153, 3, .getfield 70, [], none),
  (156, 3, .getfield 302, [], none), (159, 1, .ireturn, [], none), (160, 1, .aload_n 0, [], none), (161, 3, .getfield 70, [], none),
  (164, 3, .getfield 304, [], none), (167, 1, .ireturn, [], none), (168, 1, .aload_n 0, [], none), (169, 3, .getfield 70, [], none),
  (172, 3, .getfield 306, [], none), (175, 1, .ireturn, [], none), (176, 1, .aload_n 0, [], none), (177, 3, .getfield 70, [], none),
  (180, 3, .getfield 308, [], none), (183, 1, .ireturn, [], none), (184, 1, .aload_n 0, [], none), (185, 3, .getfield 70, [], none),
  (188, 3, .getfield 310, [], none), (191, 1, .ireturn, [], none), (192, 1, .aload_n 0, [], none), (193, 3, .getfield 70, [], none),
  (196, 3, .getfield 313, [], none), (199, 1, .ireturn, [], none), (200, 1, .aload_n 0, [], none), (201, 3, .getfield 70, [], none),
  (204, 3, .getfield 316, [], none), (207, 1, .ireturn, [], none), (208, 1, .iconst (-1), [], none), (209, 1, .ireturn, [], none)]
def e_gt_total (m : Nat) : gE := (k_gt_total, f_gt, c_gt, [], [], (m, 0), 0)
theorem ok_gt_total : gchk cX1_total 2 k_gt_total = true := by decide +kernel
def fn_gt_total (m : Nat) : gFn := gF (e_gt_total m) 2
theorem mo_gt_total (m : Nat) : gMo (.inl (fn_gt_total m)) := gF_mo (E := e_gt_total m) trivial
noncomputable def gt_total (σ : gM) (x1 : Int) : Option (gM × Int) := lim (fun n => fn_gt_total 119 n [(2, 117), (0, x1)] σ)
theorem gt_total_l (σ : gM) (x1 : Int) : Lm (fun n => fn_gt_total 119 n [(2, 117), (0, x1)] σ) (gt_total σ x1) := .of fun n => mo_gt_total 119 n [(2, 117), (0, x1)] σ
theorem gt_total_e (σ : gM) (x1 : Int) : gt_total σ x1 =
  (if x1 = 0 then
  (some (σ, σ 87 24))
  else if x1 = 1 then
  (some (σ, σ 87 19))
  else if x1 = 2 then
  (some (σ, σ 87 20))
  else if x1 = 3 then
  (some (σ, σ 87 31))
  else if x1 = 4 then
  (some (σ, σ 87 34))
  else if x1 = 5 then
  (some (σ, σ 8 31))
  else if x1 = 6 then
  (some (σ, σ 42 6))
  else if x1 = 7 then
  (some (σ, σ 52 10))
  else if x1 = 8 then
  (some (σ, σ 52 19))
  else if x1 = 9 then
  (some (σ, σ 87 36))
  else if x1 = 10 then
  (some (σ, σ 87 37))
  else if x1 = 11 then
  (some (σ, σ 87 38))
  else if x1 = 12 then
  (some (σ, σ 87 39))
  else if x1 = 13 then
  (some (σ, σ 87 40))
  else if x1 = 14 then
  (some (σ, σ 87 41))
  else if x1 = 15 then
  (some (σ, σ 87 42))
  else (some (σ, (-1)))) := Lm.eqn (gt_total_l ..) (.ite .cst (.ite .cst (.ite .cst (.ite .cst (.ite .cst (.ite .cst (.ite .cst (.ite .cst (.ite .cst (.ite .cst (.ite .cst (.ite .cst (.ite .cst (.ite .cst (.ite .cst (.ite .cst .cst)))))))))))))))) fun n => (rfl)
