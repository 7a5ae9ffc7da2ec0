set_option maxRecDepth 100000
def f_md : List (Nat × Nat × Int × Nat) := [(10, 20, 0, 2), (17, 20, 2, 2), (22, 20, 3, 2), (26, 20, 4, 2), (29, 20, 5, 2), (32, 20, 6, 2), (35, 20, 7, 2), (38, 20, 8, 2), (42, 20, 14, 2), (45, 20, 17, 2), (48, 20, 18, 2), (51, 20, 19, 2), (54, 20, 20, 2), (57, 20, 21, 2), (61, 20, 22, 2), (64, 20, 32, 2), (67, 20, 33, 2), (73, 20, 35, 2), (76, 20, 36, 2), (79, 20, 37, 2), (82, 20, 38, 2), (85, 20, 39, 2), (88, 20, 40, 2), (91, 20, 41, 2), (94, 20, 42, 2), (98, 20, 45, 2), (101, 20, 46, 2), (104, 20, 47, 2), (107, 20, 48, 2), (110, 20, 49, 2), (113, 20, 50, 2), (116, 20, 51, 2), (119, 20, 52, 2), (122, 20, 53, 2), (125, 20, 58, 2), (128, 20, 59, 2), (131, 20, 60, 2), (134, 20, 61, 2), (137, 20, 62, 2), (140, 20, 63, 2), (143, 20, 64, 2), (146, 20, 65, 2), (149, 20, 66, 2), (152, 20, 67, 2), (155, 20, 68, 2), (158, 20, 69, 2), (161, 20, 70, 2), (164, 20, 71, 2), (167, 20, 72, 2), (170, 20, 73, 2), (173, 20, 74, 2), (176, 20, 75, 2), (179, 20, 76, 2), (182, 20, 77, 2), (185, 20, 78, 2), (188, 20, 79, 2), (191, 20, 80, 2), (194, 20, 81, 2), (197, 20, 82, 2), (200, 20, 83, 2), (203, 20, 84, 2), (207, 20, 85, 2), (210, 20, 86, 2), (213, 20, 87, 2), (216, 20, 88, 2), (219, 20, 90, 2), (222, 20, 91, 2), (225, 20, 96, 2), (228, 20, 97, 2), (231, 20, 98, 2), (234, 20, 99, 2), (237, 20, 100, 2), (240, 20, 101, 2), (243, 20, 102, 2), (246, 20, 103, 2), (249, 20, 105, 2), (252, 20, 106, 2), (255, 20, 107, 2), (258, 20, 108, 2), (261, 20, 109, 2), (264, 20, 110, 2), (267, 20, 111, 2), (270, 20, 112, 2), (273, 20, 113, 2), (276, 20, 114, 2), (279, 20, 115, 2), (282, 20, 116, 2), (285, 20, 129, 0), (289, 20, 130, 0), (292, 20, 131, 2), (295, 20, 132, 2), (298, 20, 133, 2), (301, 20, 134, 2), (304, 20, 135, 2), (307, 20, 136, 2), (310, 20, 137, 2), (313, 20, 138, 2), (316, 20, 139, 2), (319, 20, 140, 2), (323, 20, 141, 2), (326, 20, 142, 2), (329, 20, 143, 2), (332, 20, 144, 2), (335, 20, 145, 2), (338, 20, 146, 2), (341, 20, 147, 2), (344, 20, 150, 2), (347, 20, 152, 2), (350, 20, 155, 0), (353, 20, 1, 8), (367, 20, 10, 0), (370, 20, 9, 0), (386, 20, 13, 0), (389, 20, 12, 0), (414, 20, 30, 0), (417, 20, 31, 0), (420, 20, 23, 0), (423, 20, 24, 0), (433, 20, 26, 0), (436, 20, 25, 0), (460, 20, 27, 0), (467, 20, 43, 0), (470, 20, 44, 0), (473, 20, 28, 0), (485, 20, 54, 0), (498, 20, 29, 0), (558, 20, 56, 0), (561, 20, 15, 0), (564, 20, 55, 0), (567, 20, 57, 0), (570, 20, 89, 0), (573, 20, 94, 0), (576, 20, 104, 0), (607, 20, 92, 1), (613, 20, 93, 1), (685, 20, 121, 0), (688, 20, 123, 0), (704, 20, 128, 0), (707, 20, 125, 0), (710, 20, 124, 0), (713, 20, 119, 0), (716, 20, 120, 0), (719, 20, 127, 7), (723, 20, 118, 0), (729, 20, 122, 0), (766, 20, 148, 0), (769, 20, 149, 1), (772, 20, 117, 0), (844, 20, 11, 0), (851, 20, 16, 0), (854, 20, 151, 0), (913, 20, 95, 0), (919, 20, 126, 0), (927, 20, 153, 0), (933, 20, 154, 0)]
def c_md : List (Nat × gV) := [(206, 0, 60000), (396, 1, 1000000000), (406, 0, 1000000000), (407, 0, 100000000), (408, 1, 10), (410, 1, 223372036854775808), (412, 1, 1000000000000000000), (463, 3, 14), (465, 3, 13), (579, 3, 1), (581, 3, 2), (583, 3, 3), (584, 3, 4), (595, 3, 5), (597, 3, 6), (599, 3, 7), (601, 3, 8), (602, 3, 9), (603, 3, 10), (605, 3, 11), (611, 3, 12), (847, 0, 100000), (936, 3, 0)]
def k_md_hash : List gC := [(0, 1, .iload_n 2, [], none), (1, 1, .iload_n 1, [], none), (2, 1, .isub, [], none), (3, 1, .istore_n 3, [], none),
  (4, 1, .iload_n 1, [], none), (5, 2, .istore 4, [], none), (7, 2, .iload 4, [], some [true, false, true, true, true]), (9, 1, .iload_n 2, [], none),
  (10, 3, .if_icmp .ge 19, [(0, 29)], none), (13, 2, .bipush 31, [], none), (15, 1, .iload_n 3, [], none), (16, 1, .imul, [], none),
  (17, 1, .aload_n 0, [], none), (18, 2, .iload 4, [], none), (20, 1, .baload, [], none), (21, 1, .iadd, [], none),
  (22, 1, .istore_n 3, [], none), (23, 3, .iinc 4 1, [], none), (26, 3, .goto (-19), [(0, 7)], none), (29, 1, .iload_n 3, [], none),
  (30, 1, .iload_n 3, [], none), (31, 2, .bipush 15, [], none), (33, 1, .iushr, [], none), (34, 1, .ixor, [], none),
  (35, 1, .ireturn, [], none)]
def e_md_hash (m : Nat) : gE := (k_md_hash, f_md, c_md, [], [], (m, 0), 0)
theorem ok_md_hash : gchk cX10_hash 5 k_md_hash = true := by decide +kernel
def fn_md_hash (m : Nat) : gFn := gF (e_md_hash m) 5
theorem mo_md_hash (m : Nat) : gMo (.inl (fn_md_hash m)) := gF_mo (E := e_md_hash m) trivial
noncomputable def md_hash (σ : gM) (x0 x1 x2 : Int) : Option (gM × Int) := lim (fun n => fn_md_hash 227 n [(2, x0), (0, x1), (0, x2)] σ)
theorem md_hash_l (σ : gM) (x0 x1 x2 : Int) : Lm (fun n => fn_md_hash 227 n [(2, x0), (0, x1), (0, x2)] σ) (md_hash σ x0 x1 x2) := .of fun n => mo_md_hash 227 n [(2, x0), (0, x1), (0, x2)] σ
theorem mb_md_hash : gMos (e_md_hash 227).2.2.2.1 := trivial
noncomputable def md_hash_b7 (σ : gM) (x0 x2 x3 x4 : Int) : Option (gM × Int) := lim (fun n => gB (e_md_hash 227) rF tF n 7 [(2, x0), (9, 0), (0, x2), (0, x3), (0, x4)] [] σ)
theorem md_hash_b7_l (σ : gM) (x0 x2 x3 x4 : Int) : Lm (fun n => gB (e_md_hash 227) rF tF n 7 [(2, x0), (9, 0), (0, x2), (0, x3), (0, x4)] [] σ) (md_hash_b7 σ x0 x2 x3 x4) := .of fun n => gB_le (gMos_spec (mb_md_hash)) n _ _ _ σ
theorem md_hash_e (σ : gM) (x0 x1 x2 : Int) : md_hash σ x0 x1 x2 =
  (md_hash_b7 σ x0 x2 (w32 (x2 - x1)) x1) := Lm.eqn (md_hash_l ..) (md_hash_b7_l ..) fun n => (rfl)
theorem md_hash_b7_e (σ : gM) (x0 x2 x3 x4 : Int) : md_hash_b7 σ x0 x2 x3 x4 =
  (if x4 < x2 then
  (gisb 227 x0 (if 0 ≤ x4 ∧ x4 < gN x0 then
    (md_hash_b7 σ x0 x2 (w32 ((w32 (31 * x3)) + (σ x0 x4))) (w32 (x4 + 1)))
    else none))
  else
  (some (σ, i_xor x3 (i_ushr x3 15)))) := Lm.eqn (md_hash_b7_l ..) (.ite (.xisb (.ite (md_hash_b7_l ..) .cst)) .cst) fun n => (rfl)
def k_md_find : List gC := [(0, 1, .iload_n 1, [], none), (1, 2, .istore 5, [], none), (3, 2, .iload 5, [], some [true, false, true, true, true, true, false, false]), (5, 1, .iconst (-1), [], none),
  (6, 3, .if_icmp .eq 96, [(0, 102)], none), (9, 1, .aload_n 0, [], none), (10, 3, .getfield 26, [], none), (13, 2, .iload 5, [], none),
  (15, 1, .iaload, [], none), (16, 2, .iload 4, [], none), (18, 1, .iload_n 3, [], none), (19, 1, .isub, [], none),
  (20, 3, .if_icmp .ne 7, [(0, 27)], none), (23, 1, .iconst 1, [], none), (24, 3, .goto 4, [(0, 28)], none), (27, 1, .iconst 0, [], none),
  (28, 2, .istore 6, [], some [true, false, true, true, true, true, false, false]), (30, 1, .iload_n 3, [], none), (31, 2, .istore 7, [], none), (33, 2, .iload 7, [], some [true, false, true, true, true, true, true, true]),
  (35, 2, .iload 4, [], none), (37, 3, .if_icmp .ge 45, [(0, 82)], none), (40, 2, .iload 6, [], none), (42, 3, .ifCond .eq 40, [(0, 82)], none),
  (45, 1, .aload_n 0, [], none), (46, 3, .getfield 17, [], none), (49, 1, .aload_n 0, [], none), (50, 3, .getfield 22, [], none),
  (53, 2, .iload 5, [], none), (55, 1, .iaload, [], none), (56, 2, .iload 7, [], none), (58, 1, .iadd, [], none),
  (59, 1, .iload_n 3, [], none), (60, 1, .isub, [], none), (61, 1, .baload, [], none), (62, 1, .aload_n 2, [], none),
  (63, 2, .iload 7, [], none), (65, 1, .baload, [], none), (66, 3, .if_icmp .ne 7, [(0, 73)], none), (69, 1, .iconst 1, [], none),
  (70, 3, .goto 4, [(0, 74)], none), (73, 1, .iconst 0, [], none), (74, 2, .istore 6, [], some [true, false, true, true, true, true, false, true]), (76, 3, .iinc 7 1, [], none),
  (79, 3, .goto (-46), [(0, 33)], none), (82, 2, .iload 6, [], some [true, false, true, true, true, true, true, false]), (84, 3, .ifCond .eq 6, [(0, 90)], none), (87, 2, .iload 5, [], none),
  (89, 1, .ireturn, [], none), (90, 1, .aload_n 0, [], none), (91, 3, .getfield 29, [], none), (94, 2, .iload 5, [], none),
  (96, 1, .iaload, [], none), (97, 2, .istore 5, [], none), (99, 3, .goto (-96), [(0, 3)], none), (102, 1, .iconst (-1), [], none),
  (103, 1, .ireturn, [], none)]
def e_md_find (m : Nat) : gE := (k_md_find, f_md, c_md, [], [], (m, 0), 0)
theorem ok_md_find : gchk cX10_find 8 k_md_find = true := by decide +kernel
def fn_md_find (m : Nat) : gFn := gF (e_md_find m) 8
theorem mo_md_find (m : Nat) : gMo (.inl (fn_md_find m)) := gF_mo (E := e_md_find m) trivial
noncomputable def md_find (σ : gM) (x1 x2 x3 x4 : Int) : Option (gM × Int) := lim (fun n => fn_md_find 227 n [(2, 119), (0, x1), (2, x2), (0, x3), (0, x4)] σ)
theorem md_find_l (σ : gM) (x1 x2 x3 x4 : Int) : Lm (fun n => fn_md_find 227 n [(2, 119), (0, x1), (2, x2), (0, x3), (0, x4)] σ) (md_find σ x1 x2 x3 x4) := .of fun n => mo_md_find 227 n [(2, 119), (0, x1), (2, x2), (0, x3), (0, x4)] σ
theorem mb_md_find : gMos (e_md_find 227).2.2.2.1 := trivial
noncomputable def md_find_b3 (σ : gM) (x2 x3 x4 x5 : Int) : Option (gM × Int) := lim (fun n => gB (e_md_find 227) rF tF n 3 [(2, 119), (9, 0), (2, x2), (0, x3), (0, x4), (0, x5), (9, 0), (9, 0)] [] σ)
theorem md_find_b3_l (σ : gM) (x2 x3 x4 x5 : Int) : Lm (fun n => gB (e_md_find 227) rF tF n 3 [(2, 119), (9, 0), (2, x2), (0, x3), (0, x4), (0, x5), (9, 0), (9, 0)] [] σ) (md_find_b3 σ x2 x3 x4 x5) := .of fun n => gB_le (gMos_spec (mb_md_find)) n _ _ _ σ
noncomputable def md_find_b28 (σ : gM) (x2 x3 x4 x5 y0 : Int) : Option (gM × Int) := lim (fun n => gB (e_md_find 227) rF tF n 28 [(2, 119), (9, 0), (2, x2), (0, x3), (0, x4), (0, x5), (9, 0), (9, 0)] [(0, y0)] σ)
theorem md_find_b28_l (σ : gM) (x2 x3 x4 x5 y0 : Int) : Lm (fun n => gB (e_md_find 227) rF tF n 28 [(2, 119), (9, 0), (2, x2), (0, x3), (0, x4), (0, x5), (9, 0), (9, 0)] [(0, y0)] σ) (md_find_b28 σ x2 x3 x4 x5 y0) := .of fun n => gB_le (gMos_spec (mb_md_find)) n _ _ _ σ
noncomputable def md_find_b33 (σ : gM) (x2 x3 x4 x5 x6 x7 : Int) : Option (gM × Int) := lim (fun n => gB (e_md_find 227) rF tF n 33 [(2, 119), (9, 0), (2, x2), (0, x3), (0, x4), (0, x5), (0, x6), (0, x7)] [] σ)
theorem md_find_b33_l (σ : gM) (x2 x3 x4 x5 x6 x7 : Int) : Lm (fun n => gB (e_md_find 227) rF tF n 33 [(2, 119), (9, 0), (2, x2), (0, x3), (0, x4), (0, x5), (0, x6), (0, x7)] [] σ) (md_find_b33 σ x2 x3 x4 x5 x6 x7) := .of fun n => gB_le (gMos_spec (mb_md_find)) n _ _ _ σ
noncomputable def md_find_b74 (σ : gM) (x2 x3 x4 x5 x7 y0 : Int) : Option (gM × Int) := lim (fun n => gB (e_md_find 227) rF tF n 74 [(2, 119), (9, 0), (2, x2), (0, x3), (0, x4), (0, x5), (9, 0), (0, x7)] [(0, y0)] σ)
theorem md_find_b74_l (σ : gM) (x2 x3 x4 x5 x7 y0 : Int) : Lm (fun n => gB (e_md_find 227) rF tF n 74 [(2, 119), (9, 0), (2, x2), (0, x3), (0, x4), (0, x5), (9, 0), (0, x7)] [(0, y0)] σ) (md_find_b74 σ x2 x3 x4 x5 x7 y0) := .of fun n => gB_le (gMos_spec (mb_md_find)) n _ _ _ σ
noncomputable def md_find_b82 (σ : gM) (x2 x3 x4 x5 x6 : Int) : Option (gM × Int) := lim (fun n => gB (e_md_find 227) rF tF n 82 [(2, 119), (9, 0), (2, x2), (0, x3), (0, x4), (0, x5), (0, x6), (9, 0)] [] σ)
theorem md_find_b82_l (σ : gM) (x2 x3 x4 x5 x6 : Int) : Lm (fun n => gB (e_md_find 227) rF tF n 82 [(2, 119), (9, 0), (2, x2), (0, x3), (0, x4), (0, x5), (0, x6), (9, 0)] [] σ) (md_find_b82 σ x2 x3 x4 x5 x6) := .of fun n => gB_le (gMos_spec (mb_md_find)) n _ _ _ σ
theorem md_find_e (σ : gM) (x1 x2 x3 x4 : Int) : md_find σ x1 x2 x3 x4 =
  (md_find_b3 σ x2 x3 x4 x1) := Lm.eqn (md_find_l ..) (md_find_b3_l ..) fun n => (rfl)
theorem md_find_b3_e (σ : gM) (x2 x3 x4 x5 : Int) : md_find_b3 σ x2 x3 x4 x5 =
  (if x5 = (-1) then
  (some (σ, (-1)))
  else
  (if 0 ≤ x5 ∧ x5 < 109004 then
    (if σ 123 x5 = w32 (x4 - x3) then
      (md_find_b28 σ x2 x3 x4 x5 1)
      else
      (md_find_b28 σ x2 x3 x4 x5 0))
    else none)) := Lm.eqn (md_find_b3_l ..) (.ite .cst (.ite (.ite (md_find_b28_l ..) (md_find_b28_l ..)) .cst)) fun n => (rfl)
theorem md_find_b28_e (σ : gM) (x2 x3 x4 x5 y0 : Int) : md_find_b28 σ x2 x3 x4 x5 y0 =
  (md_find_b33 σ x2 x3 x4 x5 y0 x3) := Lm.eqn (md_find_b28_l ..) (md_find_b33_l ..) fun n => (rfl)
theorem md_find_b33_e (σ : gM) (x2 x3 x4 x5 x6 x7 : Int) : md_find_b33 σ x2 x3 x4 x5 x6 x7 =
  (if x7 < x4 then
  (if x6 = 0 then
    (md_find_b82 σ x2 x3 x4 x5 x6)
    else
    (if 0 ≤ x5 ∧ x5 < 109004 then
      (if 0 ≤ w32 ((w32 ((σ 122 x5) + x7)) - x3) ∧ w32 ((w32 ((σ 122 x5) + x7)) - x3) < 160400 then
        (gisb 227 x2 (if 0 ≤ x7 ∧ x7 < gN x2 then
          (if σ 121 (w32 ((w32 ((σ 122 x5) + x7)) - x3)) = σ x2 x7 then
            (md_find_b74 σ x2 x3 x4 x5 x7 1)
            else
            (md_find_b74 σ x2 x3 x4 x5 x7 0))
          else none))
        else none)
      else none))
  else
  (md_find_b82 σ x2 x3 x4 x5 x6)) := Lm.eqn (md_find_b33_l ..) (.ite (.ite (md_find_b82_l ..) (.ite (.ite (.xisb (.ite (.ite (md_find_b74_l ..) (md_find_b74_l ..)) .cst)) .cst) .cst)) (md_find_b82_l ..)) fun n => (rfl)
theorem md_find_b74_e (σ : gM) (x2 x3 x4 x5 x7 y0 : Int) : md_find_b74 σ x2 x3 x4 x5 x7 y0 =
  (md_find_b33 σ x2 x3 x4 x5 y0 (w32 (x7 + 1))) := Lm.eqn (md_find_b74_l ..) (md_find_b33_l ..) fun n => (rfl)
theorem md_find_b82_e (σ : gM) (x2 x3 x4 x5 x6 : Int) : md_find_b82 σ x2 x3 x4 x5 x6 =
  (if x6 = 0 then
  (if 0 ≤ x5 ∧ x5 < 109004 then
    (md_find_b3 σ x2 x3 x4 (σ 124 x5))
    else none)
  else
  (some (σ, x5))) := Lm.eqn (md_find_b82_l ..) (.ite (.ite (md_find_b3_l ..) .cst) .cst) fun n => (rfl)
def k_md_keep_2 : List gC := [(0, 1, .aload_n 1, [], none), (1, 1, .iload_n 2, [], none), (2, 1, .iload_n 3, [], none), (3, 3, .invokestatic 359, [], none),
  (6, 2, .istore 4, [], none), (8, 1, .aload_n 0, [], none), (9, 1, .aload_n 0, [], none), (10, 3, .getfield 35, [], none),
  (13, 2, .iload 4, [], none), (15, 3, .sipush 4095, [], none), (18, 1, .iand, [], none), (19, 1, .iaload, [], none),
  (20, 1, .aload_n 1, [], none), (21, 1, .iload_n 2, [], none), (22, 1, .iload_n 3, [], none), (23, 3, .invokevirtual 363, [], none),
  (26, 2, .istore 5, [], none), (28, 2, .iload 5, [], none), (30, 3, .ifCond .lt 6, [(0, 36)], none), (33, 2, .iload 5, [], none),
  (35, 1, .ireturn, [], none), (36, 1, .aload_n 0, [], none), (37, 3, .getfield 367, [], none), (40, 2, .istore 5, [], none),
  (42, 1, .aload_n 0, [], none), (43, 1, .dup, [], none), (44, 3, .getfield 367, [], none), (47, 1, .iconst 1, [], none),
  (48, 1, .iadd, [], none), (49, 3, .putfield 367, [], none), (52, 1, .aload_n 0, [], none), (53, 3, .getfield 22, [], none),
  (56, 2, .iload 5, [], none), (58, 1, .aload_n 0, [], none), (59, 3, .getfield 370, [], none), (62, 1, .iastore, [], none),
  (63, 1, .aload_n 0, [], none), (64, 3, .getfield 26, [], none), (67, 2, .iload 5, [], none), (69, 1, .iload_n 3, [], none),
  (70, 1, .iload_n 2, [], none), (71, 1, .isub, [], none), (72, 1, .iastore, [], none), (73, 1, .iload_n 2, [], none),
  (74, 2, .istore 6, [], none), (76, 2, .iload 6, [], some [true, true, true, true, true, true, true]), (78, 1, .iload_n 3, [], none), (79, 3, .if_icmp .ge 27, [(0, 106)], none),
  (82, 1, .aload_n 0, [], none), (83, 3, .getfield 17, [], none), (86, 1, .aload_n 0, [], none), (87, 3, .getfield 370, [], none),
  (90, 2, .iload 6, [], none), (92, 1, .iadd, [], none), (93, 1, .iload_n 2, [], none), (94, 1, .isub, [], none),
  (95, 1, .aload_n 1, [], none), (96, 2, .iload 6, [], none), (98, 1, .baload, [], none), (99, 1, .bastore, [], none),
  (100, 3, .iinc 6 1, [], none), (103, 3, .goto (-27), [(0, 76)], none), (106, 1, .aload_n 0, [], none), (107, 1, .dup, [], none),
  (108, 3, .getfield 370, [], none), (111, 1, .iload_n 3, [], none), (112, 1, .iload_n 2, [], none), (113, 1, .isub, [], none),
  (114, 1, .iadd, [], none), (115, 3, .putfield 370, [], none), (118, 1, .aload_n 0, [], none), (119, 3, .getfield 29, [], none),
  (122, 2, .iload 5, [], none), (124, 1, .aload_n 0, [], none), (125, 3, .getfield 35, [], none), (128, 2, .iload 4, [], none),
  (130, 3, .sipush 4095, [], none), (133, 1, .iand, [], none), (134, 1, .iaload, [], none), (135, 1, .iastore, [], none),
  (136, 1, .aload_n 0, [], none), (137, 3, .getfield 35, [], none), (140, 2, .iload 4, [], none), (142, 3, .sipush 4095, [], none),
  (145, 1, .iand, [], none), (146, 2, .iload 5, [], none), (148, 1, .iastore, [], none), (149, 1, .aload_n 0, [], none),
  (150, 3, .getfield 32, [], none), (153, 2, .iload 5, [], none), (155, 2, .iload 5, [], none), (157, 1, .iastore, [], none),
  (158, 1, .aload_n 0, [], none), (159, 1, .aload_n 0, [], none), (160, 3, .getfield 38, [], none), (163, 2, .iload 4, [], none),
  (165, 3, .sipush 16383, [], none), (168, 1, .iand, [], none), (169, 1, .iaload, [], none), (170, 1, .aload_n 1, [], none),
  (171, 1, .iload_n 2, [], none), (172, 1, .iload_n 3, [], none), (173, 3, .invokevirtual 363, [], none), (176, 2, .istore 6, [], none),
  (178, 2, .iload 6, [], none), (180, 3, .ifCond .lt 12, [(0, 192)], none), (183, 1, .aload_n 0, [], none), (184, 3, .getfield 32, [], none),
  (187, 2, .iload 6, [], none), (189, 2, .iload 5, [], none), (191, 1, .iastore, [], none), (192, 2, .iload 5, [], none),
  (194, 1, .ireturn, [], none)]
def e_md_keep_2 (m : Nat) : gE := (k_md_keep_2, f_md, c_md, [(359, 3, 0, 0, .inl (fn_md_hash m)), (363, 5, 20, 0, .inl (fn_md_find m))], [], (m, 571609231625242718148485820884979181960802882568048916783292900322028516629595755637263080394926508391249074119328022244611363517590004563968), 0)
theorem ok_md_keep_2 : gchk cX10_keep_2 7 k_md_keep_2 = true := by decide +kernel
def fn_md_keep_2 (m : Nat) : gFn := gF (e_md_keep_2 m) 7
theorem mo_md_keep_2 (m : Nat) : gMo (.inl (fn_md_keep_2 m)) := gF_mo (E := e_md_keep_2 m) ⟨mo_md_hash m, ⟨mo_md_find m, trivial⟩⟩
noncomputable def md_keep_2 (σ : gM) (x1 x2 x3 : Int) : Option (gM × Int) := lim (fun n => fn_md_keep_2 227 n [(2, 119), (2, x1), (0, x2), (0, x3)] σ)
theorem md_keep_2_l (σ : gM) (x1 x2 x3 : Int) : Lm (fun n => fn_md_keep_2 227 n [(2, 119), (2, x1), (0, x2), (0, x3)] σ) (md_keep_2 σ x1 x2 x3) := .of fun n => mo_md_keep_2 227 n [(2, 119), (2, x1), (0, x2), (0, x3)] σ
theorem mb_md_keep_2 : gMos (e_md_keep_2 227).2.2.2.1 := ⟨mo_md_hash 227, ⟨mo_md_find 227, trivial⟩⟩
noncomputable def md_keep_2_b76 (σ : gM) (x1 x2 x3 x4 x5 x6 : Int) : Option (gM × Int) := lim (fun n => gB (e_md_keep_2 227) rF tF n 76 [(2, 119), (2, x1), (0, x2), (0, x3), (0, x4), (0, x5), (0, x6)] [] σ)
theorem md_keep_2_b76_l (σ : gM) (x1 x2 x3 x4 x5 x6 : Int) : Lm (fun n => gB (e_md_keep_2 227) rF tF n 76 [(2, 119), (2, x1), (0, x2), (0, x3), (0, x4), (0, x5), (0, x6)] [] σ) (md_keep_2_b76 σ x1 x2 x3 x4 x5 x6) := .of fun n => gB_le (gMos_spec (mb_md_keep_2)) n _ _ _ σ
theorem md_keep_2_e (σ : gM) (x1 x2 x3 : Int) : md_keep_2 σ x1 x2 x3 =
  ((md_hash σ x1 x2 x3).bind fun p1 =>
  if 0 ≤ i_and p1.2 4095 ∧ i_and p1.2 4095 < 4096 then
  ((md_find p1.1 (p1.1 126 (i_and p1.2 4095)) x1 x2 x3).bind fun p2 =>
    if p2.2 < 0 then
    (if 0 ≤ p2.1 119 10 ∧ p2.1 119 10 < 109004 then
      (if 0 ≤ p2.1 119 10 ∧ p2.1 119 10 < 109004 then
        (md_keep_2_b76 (gW (gW (gW p2.1 119 10 (w32 ((p2.1 119 10) + 1))) 122 (p2.1 119 10) (p2.1 119 9)) 123 (p2.1 119 10) (w32 (x3 - x2))) x1 x2 x3 p1.2 (p2.1 119 10) x2)
        else none)
      else none)
    else
    (some (p2.1, p2.2)))
  else none) := Lm.eqn (md_keep_2_l ..) (.bind (md_hash_l ..) fun p1 => (.ite (.bind (md_find_l ..) fun p2 => (.ite (.ite (.ite (md_keep_2_b76_l ..) .cst) .cst) .cst)) .cst)) fun n => (rfl)
theorem md_keep_2_b76_e (σ : gM) (x1 x2 x3 x4 x5 x6 : Int) : md_keep_2_b76 σ x1 x2 x3 x4 x5 x6 =
  (if x6 < x3 then
  (gisb 227 x1 (if 0 ≤ x6 ∧ x6 < gN x1 then
    (if 0 ≤ w32 ((w32 ((σ 119 9) + x6)) - x2) ∧ w32 ((w32 ((σ 119 9) + x6)) - x2) < 160400 then
      (md_keep_2_b76 (gW σ 121 (w32 ((w32 ((σ 119 9) + x6)) - x2)) (w8 (σ x1 x6))) x1 x2 x3 x4 x5 (w32 (x6 + 1)))
      else none)
    else none))
  else
  (if 0 ≤ i_and x4 4095 ∧ i_and x4 4095 < 4096 then
    (if 0 ≤ x5 ∧ x5 < 109004 then
      (if 0 ≤ i_and x4 4095 ∧ i_and x4 4095 < 4096 then
        (if 0 ≤ x5 ∧ x5 < 109004 then
          (if 0 ≤ i_and x4 16383 ∧ i_and x4 16383 < 16384 then
            ((md_find (gW (gW (gW (gW σ 119 9 (w32 ((σ 119 9) + (w32 (x3 - x2))))) 124 x5 (σ 126 (i_and x4 4095))) 126 (i_and x4 4095) x5) 125 x5 x5) (σ 127 (i_and x4 16383)) x1 x2 x3).bind fun p1 =>
              if p1.2 < 0 then
              (some (p1.1, x5))
              else
              (if 0 ≤ p1.2 ∧ p1.2 < 109004 then
                (some (gW p1.1 125 p1.2 x5, x5))
                else none))
            else none)
          else none)
        else none)
      else none)
    else none)) := Lm.eqn (md_keep_2_b76_l ..) (.ite (.xisb (.ite (.ite (md_keep_2_b76_l ..) .cst) .cst)) (.ite (.ite (.ite (.ite (.ite (.bind (md_find_l ..) fun p1 => (.ite .cst (.ite .cst .cst))) .cst) .cst) .cst) .cst) .cst)) fun n => (rfl)
def k_md_keep : List gC := [(0, 1, .iconst 0, [], none), (1, 1, .istore_n 2, [], none), (2, 1, .iload_n 2, [], some [true, true, true]), (3, 1, .aload_n 1, [], none),
  (4, 3, .invokevirtual 373, [], none), (7, 3, .if_icmp .ge 21, [(0, 28)], none), (10, 1, .aload_n 0, [], none), (11, 3, .getfield 344, [], none),
  (14, 1, .iload_n 2, [], none), (15, 1, .aload_n 1, [], none), (16, 1, .iload_n 2, [], none), (17, 3, .invokevirtual 379, [], none),
  (20, 1, .i2b, [], none), (21, 1, .bastore, [], none), (22, 3, .iinc 2 1, [], none), (25, 3, .goto (-23), [(0, 2)], none),
  (28, 1, .aload_n 0, [], none), (29, 1, .aload_n 0, [], none), (30, 3, .getfield 344, [], none), (33, 1, .iconst 0, [], none),
  (34, 1, .aload_n 1, [], none), (35, 3, .invokevirtual 373, [], none), (38, 3, .invokevirtual 383, [], none), (41, 1, .ireturn, [], none)]
def e_md_keep (m : Nat) : gE := (k_md_keep, f_md, c_md, [(373, 1, 100, 0, .inl (fn_st_length 0)), (379, 2, 100, 0, .inl (fn_st_charAt 0)), (383, 4, 20, 0, .inl (fn_md_keep_2 m))], [], (m, 571609231625242718148485820884979181960802882568048916783292900322028516683515648971564359984260538565288335466602311089692508479797225062400), 0)
theorem ok_md_keep : gchk cX10_keep 3 k_md_keep = true := by decide +kernel
def fn_md_keep (m : Nat) : gFn := gF (e_md_keep m) 3
theorem mo_md_keep (m : Nat) : gMo (.inl (fn_md_keep m)) := gF_mo (E := e_md_keep m) ⟨mo_st_length 0, ⟨mo_st_charAt 0, ⟨mo_md_keep_2 m, trivial⟩⟩⟩
noncomputable def md_keep (σ : gM) (x1 : Int) : Option (gM × Int) := lim (fun n => fn_md_keep 227 n [(2, 119), (3, x1)] σ)
theorem md_keep_l (σ : gM) (x1 : Int) : Lm (fun n => fn_md_keep 227 n [(2, 119), (3, x1)] σ) (md_keep σ x1) := .of fun n => mo_md_keep 227 n [(2, 119), (3, x1)] σ
theorem mb_md_keep : gMos (e_md_keep 227).2.2.2.1 := ⟨mo_st_length 0, ⟨mo_st_charAt 0, ⟨mo_md_keep_2 227, trivial⟩⟩⟩
noncomputable def md_keep_b2 (σ : gM) (x1 x2 : Int) : Option (gM × Int) := lim (fun n => gB (e_md_keep 227) rF tF n 2 [(2, 119), (3, x1), (0, x2)] [] σ)
theorem md_keep_b2_l (σ : gM) (x1 x2 : Int) : Lm (fun n => gB (e_md_keep 227) rF tF n 2 [(2, 119), (3, x1), (0, x2)] [] σ) (md_keep_b2 σ x1 x2) := .of fun n => gB_le (gMos_spec (mb_md_keep)) n _ _ _ σ
theorem md_keep_e (σ : gM) (x1 : Int) : md_keep σ x1 =
  (md_keep_b2 σ x1 0) := Lm.eqn (md_keep_l ..) (md_keep_b2_l ..) fun n => (rfl)
theorem md_keep_b2_e (σ : gM) (x1 x2 : Int) : md_keep_b2 σ x1 x2 =
  (gtx x1 ((st_length σ x1).bind fun p1 =>
  if x2 < p1.2 then
  (gtx x1 ((st_charAt p1.1 x1 x2).bind fun p4 =>
    if 0 ≤ x2 ∧ x2 < 420 then
    (md_keep_b2 (gW p4.1 225 x2 (w8 (w8 p4.2))) x1 (w32 (x2 + 1)))
    else none))
  else
  (gtx x1 ((st_length p1.1 x1).bind fun p2 =>
    (md_keep_2 p2.1 225 0 p2.2).bind fun p3 =>
    some (p3.1, p3.2))))) := Lm.eqn (md_keep_b2_l ..) (.xtx (.bind (st_length_l ..) fun p1 => (.ite (.xtx (.bind (st_charAt_l ..) fun p4 => (.ite (md_keep_b2_l ..) .cst))) (.xtx (.bind (st_length_l ..) fun p2 => (.bind (md_keep_2_l ..) fun p3 => .cst)))))) fun n => (rfl)
def k_md_functionOf : List gC := [(0, 1, .aload_n 0, [], none), (1, 3, .getfield 219, [], none), (4, 1, .iload_n 1, [], none), (5, 1, .iaload, [], none),
  (6, 3, .ifCond .lt 10, [(0, 16)], none), (9, 1, .aload_n 0, [], none), (10, 3, .getfield 219, [], none), (13, 1, .iload_n 1, [], none),
  (14, 1, .iaload, [], none), (15, 1, .ireturn, [], none), (16, 1, .aload_n 0, [], none), (17, 3, .getfield 125, [], none),
  (20, 1, .aload_n 0, [], none), (21, 3, .getfield 558, [], none), (24, 1, .iload_n 1, [], none), (25, 1, .iastore, [], none),
  (26, 1, .aload_n 0, [], none), (27, 3, .getfield 128, [], none), (30, 1, .aload_n 0, [], none), (31, 3, .getfield 558, [], none),
  (34, 1, .iconst (-1), [], none), (35, 1, .iastore, [], none), (36, 1, .aload_n 0, [], none), (37, 3, .getfield 219, [], none),
  (40, 1, .iload_n 1, [], none), (41, 1, .aload_n 0, [], none), (42, 3, .getfield 558, [], none), (45, 1, .iastore, [], none),
  (46, 1, .aload_n 0, [], none), (47, 1, .dup, [], none), (48, 3, .getfield 558, [], none), (51, 1, .iconst 1, [], none),
  (52, 1, .iadd, [], none), (53, 3, .putfield 558, [], none), (56, 1, .aload_n 0, [], none), (57, 3, .getfield 558, [], none),
  (60, 1, .iconst 1, [], none), (61, 1, .isub, [], none), (62, 1, .ireturn, [], none)]
def e_md_functionOf (m : Nat) : gE := (k_md_functionOf, f_md, c_md, [], [], (m, 26815615859885194199148049996411692254958731641184786755447122887443528060147093953603748596333806953459778468805637536413866084839133958643704210506383360), 0)
theorem ok_md_functionOf : gchk cX10_functionOf 2 k_md_functionOf = true := by decide +kernel
def fn_md_functionOf (m : Nat) : gFn := gF (e_md_functionOf m) 2
theorem mo_md_functionOf (m : Nat) : gMo (.inl (fn_md_functionOf m)) := gF_mo (E := e_md_functionOf m) trivial
noncomputable def md_functionOf (σ : gM) (x1 : Int) : Option (gM × Int) := lim (fun n => fn_md_functionOf 227 n [(2, 119), (0, x1)] σ)
theorem md_functionOf_l (σ : gM) (x1 : Int) : Lm (fun n => fn_md_functionOf 227 n [(2, 119), (0, x1)] σ) (md_functionOf σ x1) := .of fun n => mo_md_functionOf 227 n [(2, 119), (0, x1)] σ
theorem md_functionOf_e (σ : gM) (x1 : Int) : md_functionOf σ x1 =
  (if 0 ≤ x1 ∧ x1 < 9000 then
  (if σ 186 x1 < 0 then
    (if 0 ≤ σ 119 56 ∧ σ 119 56 < 9000 then
      (if 0 ≤ σ 119 56 ∧ σ 119 56 < 9000 then
        (if 0 ≤ x1 ∧ x1 < 9000 then
          (some (gW (gW (gW (gW σ 155 (σ 119 56) x1) 156 (σ 119 56) (-1)) 186 x1 (σ 119 56)) 119 56 (w32 ((σ 119 56) + 1)), w32 ((w32 ((σ 119 56) + 1)) - 1)))
          else none)
        else none)
      else none)
    else
    (if 0 ≤ x1 ∧ x1 < 9000 then
      (some (σ, σ 186 x1))
      else none))
  else none) := Lm.eqn (md_functionOf_l ..) (.ite (.ite (.ite (.ite (.ite .cst .cst) .cst) .cst) (.ite .cst .cst)) .cst) fun n => (rfl)
def k_md_unit : List gC := [(0, 3, .sipush 152, [], none), (3, 1, .iload_n 1, [], none), (4, 1, .imul, [], none), (5, 1, .iload_n 2, [], none),
  (6, 1, .iadd, [], none), (7, 1, .ireturn, [], none)]
def e_md_unit (m : Nat) : gE := (k_md_unit, f_md, c_md, [], [], (m, 0), 0)
theorem ok_md_unit : gchk cX10_unit 3 k_md_unit = true := by decide +kernel
def fn_md_unit (m : Nat) : gFn := gF (e_md_unit m) 3
theorem mo_md_unit (m : Nat) : gMo (.inl (fn_md_unit m)) := gF_mo (E := e_md_unit m) trivial
noncomputable def md_unit (σ : gM) (x1 x2 : Int) : Option (gM × Int) := lim (fun n => fn_md_unit 227 n [(2, 119), (0, x1), (0, x2)] σ)
theorem md_unit_l (σ : gM) (x1 x2 : Int) : Lm (fun n => fn_md_unit 227 n [(2, 119), (0, x1), (0, x2)] σ) (md_unit σ x1 x2) := .of fun n => mo_md_unit 227 n [(2, 119), (0, x1), (0, x2)] σ
theorem md_unit_e (σ : gM) (x1 x2 : Int) : md_unit σ x1 x2 =
  (some (σ, w32 ((w32 (152 * x1)) + x2))) := Lm.eqn (md_unit_l ..) .cst fun n => (rfl)
def k_md_endCode : List gC := [(0, 1, .aload_n 0, [], none), (1, 3, .getfield 270, [], none), (4, 1, .iload_n 1, [], none), (5, 1, .iconst 0, [], none),
  (6, 1, .bastore, [], none), (7, 1, .aload_n 0, [], none), (8, 3, .getfield 152, [], none), (11, 1, .aload_n 0, [], none),
  (12, 3, .getfield 249, [], none), (15, 1, .iload_n 1, [], none), (16, 1, .iaload, [], none), (17, 1, .iconst (-1), [], none),
  (18, 1, .iastore, [], none), (19, 1, .aload_n 0, [], none), (20, 3, .getfield 149, [], none), (23, 1, .aload_n 0, [], none),
  (24, 3, .getfield 249, [], none), (27, 1, .iload_n 1, [], none), (28, 1, .iaload, [], none), (29, 1, .iconst 0, [], none),
  (30, 1, .iastore, [], none), (31, 1, .return_, [], none)]
def e_md_endCode (m : Nat) : gE := (k_md_endCode, f_md, c_md, [], [], (m, 12855504354106998243631638408766189256162814742734085063442432), 5)
theorem ok_md_endCode : gchk cX10_endCode 2 k_md_endCode = true := by decide +kernel
def fn_md_endCode (m : Nat) : gFn := gF (e_md_endCode m) 2
theorem mo_md_endCode (m : Nat) : gMo (.inl (fn_md_endCode m)) := gF_mo (E := e_md_endCode m) trivial
noncomputable def md_endCode (σ : gM) (x1 : Int) : Option (gM × Int) := lim (fun n => fn_md_endCode 227 n [(2, 119), (0, x1)] σ)
theorem md_endCode_l (σ : gM) (x1 : Int) : Lm (fun n => fn_md_endCode 227 n [(2, 119), (0, x1)] σ) (md_endCode σ x1) := .of fun n => mo_md_endCode 227 n [(2, 119), (0, x1)] σ
theorem md_endCode_e (σ : gM) (x1 : Int) : md_endCode σ x1 =
  (if 0 ≤ x1 ∧ x1 < 100 then
  (if 0 ≤ x1 ∧ x1 < 100 then
    (if 0 ≤ σ 196 x1 ∧ σ 196 x1 < 60 then
      (if 0 ≤ x1 ∧ x1 < 100 then
        (if 0 ≤ σ 196 x1 ∧ σ 196 x1 < 60 then
          (some (gW (gW (gW σ 203 x1 0) 164 (σ 196 x1) (-1)) 163 (σ 196 x1) 0, 0))
          else none)
        else none)
      else none)
    else none)
  else none) := Lm.eqn (md_endCode_l ..) (.ite (.ite (.ite (.ite (.ite .cst .cst) .cst) .cst) .cst) .cst) fun n => (rfl)
def k_md_endCodesOfFunction : List gC := [(0, 1, .iconst 0, [], none), (1, 1, .istore_n 2, [], none), (2, 1, .iload_n 2, [], some [true, true, true, false, false, false, false, false]), (3, 1, .aload_n 0, [], none),
  (4, 3, .getfield 576, [], none), (7, 3, .if_icmp .ge 187, [(0, 194)], none), (10, 1, .iconst 0, [], none), (11, 1, .istore_n 3, [], none),
  (12, 1, .iconst 0, [], none), (13, 2, .istore 4, [], none), (15, 2, .iload 4, [], some [true, true, true, true, true, false, false, false]), (17, 1, .aload_n 0, [], none),
  (18, 3, .getfield 252, [], none), (21, 1, .iload_n 2, [], none), (22, 1, .iaload, [], none), (23, 3, .if_icmp .ge 156, [(0, 179)], none),
  (26, 1, .aload_n 0, [], none), (27, 3, .getfield 270, [], none), (30, 1, .iload_n 2, [], none), (31, 1, .baload, [], none),
  (32, 3, .ifCond .eq 147, [(0, 179)], none), (35, 1, .iload_n 3, [], none), (36, 3, .ifCond .ne 143, [(0, 179)], none), (39, 1, .aload_n 0, [], none),
  (40, 3, .getfield 273, [], none), (43, 1, .aload_n 0, [], none), (44, 1, .iload_n 2, [], none), (45, 2, .iload 4, [], none),
  (47, 3, .invokevirtual 655, [], none), (50, 1, .iaload, [], none), (51, 2, .istore 5, [], none), (53, 1, .aload_n 0, [], none),
  (54, 3, .getfield 131, [], none), (57, 2, .iload 5, [], none), (59, 1, .iaload, [], none), (60, 1, .iload_n 1, [], none),
  (61, 3, .if_icmp .ne 7, [(0, 68)], none), (64, 1, .iconst 1, [], none), (65, 3, .goto 4, [(0, 69)], none), (68, 1, .iconst 0, [], none),
  (69, 1, .istore_n 3, [], some [true, true, true, false, true, true, false, false]), (70, 1, .aload_n 0, [], none), (71, 3, .getfield 134, [], none), (74, 2, .iload 5, [], none),
  (76, 1, .iaload, [], none), (77, 2, .istore 6, [], none), (79, 2, .iload 6, [], some [true, true, true, true, true, true, true, false]), (81, 1, .aload_n 0, [], none),
  (82, 3, .getfield 134, [], none), (85, 2, .iload 5, [], none), (87, 1, .iaload, [], none), (88, 1, .aload_n 0, [], none),
  (89, 3, .getfield 137, [], none), (92, 2, .iload 5, [], none), (94, 1, .iaload, [], none), (95, 1, .iadd, [], none),
  (96, 3, .if_icmp .ge 77, [(0, 173)], none), (99, 1, .iload_n 3, [], none), (100, 3, .ifCond .ne 73, [(0, 173)], none), (103, 1, .iconst 0, [], none),
  (104, 2, .istore 7, [], none), (106, 1, .aload_n 0, [], some [true, true, true, true, true, true, true, true]), (107, 3, .getfield 164, [], none), (110, 2, .iload 6, [], none),
  (112, 1, .iaload, [], none), (113, 2, .bipush 23, [], none), (115, 3, .if_icmp .ne 52, [(0, 167)], none), (118, 2, .iload 7, [], none),
  (120, 1, .aload_n 0, [], none), (121, 3, .getfield 203, [], none), (124, 2, .iload 6, [], none), (126, 1, .iaload, [], none),
  (127, 3, .if_icmp .ge 40, [(0, 167)], none), (130, 1, .iload_n 3, [], none), (131, 3, .ifCond .ne 24, [(0, 155)], none), (134, 1, .aload_n 0, [], none),
  (135, 3, .getfield 131, [], none), (138, 1, .aload_n 0, [], none), (139, 3, .getfield 207, [], none), (142, 1, .iconst 3, [], none),
  (143, 2, .iload 6, [], none), (145, 1, .imul, [], none), (146, 2, .iload 7, [], none), (148, 1, .iadd, [], none),
  (149, 1, .iaload, [], none), (150, 1, .iaload, [], none), (151, 1, .iload_n 1, [], none), (152, 3, .if_icmp .ne 7, [(0, 159)], none),
  (155, 1, .iconst 1, [], some [true, true, true, false, true, true, true, true]), (156, 3, .goto 4, [(0, 160)], none), (159, 1, .iconst 0, [], none), (160, 1, .istore_n 3, [], some [true, true, true, false, true, true, true, true]),
  (161, 3, .iinc 7 1, [], none), (164, 3, .goto (-58), [(0, 106)], none), (167, 3, .iinc 6 1, [], some [true, true, true, true, true, true, true, false]), (170, 3, .goto (-91), [(0, 79)], none),
  (173, 3, .iinc 4 1, [], some [true, true, true, true, true, false, false, false]), (176, 3, .goto (-161), [(0, 15)], none), (179, 1, .iload_n 3, [], some [true, true, true, true, false, false, false, false]), (180, 3, .ifCond .eq 8, [(0, 188)], none),
  (183, 1, .aload_n 0, [], none), (184, 1, .iload_n 2, [], none), (185, 3, .invokevirtual 676, [], none), (188, 3, .iinc 2 1, [], some [true, true, true, false, false, false, false, false]),
  (191, 3, .goto (-189), [(0, 2)], none), (194, 1, .return_, [], none)]
def e_md_endCodesOfFunction (m : Nat) : gE := (k_md_endCodesOfFunction, f_md, c_md, [(655, 3, 20, 0, .inl (fn_md_unit m)), (676, 2, 20, 5, .inl (fn_md_endCode m))], [], (m, 12855504354106998243631638408766189256162814742734085063442432), 5)
theorem ok_md_endCodesOfFunction : gchk cX10_endCodesOfFunction 8 k_md_endCodesOfFunction = true := by decide +kernel
def fn_md_endCodesOfFunction (m : Nat) : gFn := gF (e_md_endCodesOfFunction m) 8
theorem mo_md_endCodesOfFunction (m : Nat) : gMo (.inl (fn_md_endCodesOfFunction m)) := gF_mo (E := e_md_endCodesOfFunction m) ⟨mo_md_unit m, ⟨mo_md_endCode m, trivial⟩⟩
noncomputable def md_endCodesOfFunction (σ : gM) (x1 : Int) : Option (gM × Int) := lim (fun n => fn_md_endCodesOfFunction 227 n [(2, 119), (0, x1)] σ)
theorem md_endCodesOfFunction_l (σ : gM) (x1 : Int) : Lm (fun n => fn_md_endCodesOfFunction 227 n [(2, 119), (0, x1)] σ) (md_endCodesOfFunction σ x1) := .of fun n => mo_md_endCodesOfFunction 227 n [(2, 119), (0, x1)] σ
theorem mb_md_endCodesOfFunction : gMos (e_md_endCodesOfFunction 227).2.2.2.1 := ⟨mo_md_unit 227, ⟨mo_md_endCode 227, trivial⟩⟩
noncomputable def md_endCodesOfFunction_b2 (σ : gM) (x1 x2 : Int) : Option (gM × Int) := lim (fun n => gB (e_md_endCodesOfFunction 227) rF tF n 2 [(2, 119), (0, x1), (0, x2), (9, 0), (9, 0), (9, 0), (9, 0), (9, 0)] [] σ)
theorem md_endCodesOfFunction_b2_l (σ : gM) (x1 x2 : Int) : Lm (fun n => gB (e_md_endCodesOfFunction 227) rF tF n 2 [(2, 119), (0, x1), (0, x2), (9, 0), (9, 0), (9, 0), (9, 0), (9, 0)] [] σ) (md_endCodesOfFunction_b2 σ x1 x2) := .of fun n => gB_le (gMos_spec (mb_md_endCodesOfFunction)) n _ _ _ σ
noncomputable def md_endCodesOfFunction_b15 (σ : gM) (x1 x2 x3 x4 : Int) : Option (gM × Int) := lim (fun n => gB (e_md_endCodesOfFunction 227) rF tF n 15 [(2, 119), (0, x1), (0, x2), (0, x3), (0, x4), (9, 0), (9, 0), (9, 0)] [] σ)
theorem md_endCodesOfFunction_b15_l (σ : gM) (x1 x2 x3 x4 : Int) : Lm (fun n => gB (e_md_endCodesOfFunction 227) rF tF n 15 [(2, 119), (0, x1), (0, x2), (0, x3), (0, x4), (9, 0), (9, 0), (9, 0)] [] σ) (md_endCodesOfFunction_b15 σ x1 x2 x3 x4) := .of fun n => gB_le (gMos_spec (mb_md_endCodesOfFunction)) n _ _ _ σ
noncomputable def md_endCodesOfFunction_b69 (σ : gM) (x1 x2 x4 x5 y0 : Int) : Option (gM × Int) := lim (fun n => gB (e_md_endCodesOfFunction 227) rF tF n 69 [(2, 119), (0, x1), (0, x2), (9, 0), (0, x4), (0, x5), (9, 0), (9, 0)] [(0, y0)] σ)
theorem md_endCodesOfFunction_b69_l (σ : gM) (x1 x2 x4 x5 y0 : Int) : Lm (fun n => gB (e_md_endCodesOfFunction 227) rF tF n 69 [(2, 119), (0, x1), (0, x2), (9, 0), (0, x4), (0, x5), (9, 0), (9, 0)] [(0, y0)] σ) (md_endCodesOfFunction_b69 σ x1 x2 x4 x5 y0) := .of fun n => gB_le (gMos_spec (mb_md_endCodesOfFunction)) n _ _ _ σ
noncomputable def md_endCodesOfFunction_b79 (σ : gM) (x1 x2 x3 x4 x5 x6 : Int) : Option (gM × Int) := lim (fun n => gB (e_md_endCodesOfFunction 227) rF tF n 79 [(2, 119), (0, x1), (0, x2), (0, x3), (0, x4), (0, x5), (0, x6), (9, 0)] [] σ)
theorem md_endCodesOfFunction_b79_l (σ : gM) (x1 x2 x3 x4 x5 x6 : Int) : Lm (fun n => gB (e_md_endCodesOfFunction 227) rF tF n 79 [(2, 119), (0, x1), (0, x2), (0, x3), (0, x4), (0, x5), (0, x6), (9, 0)] [] σ) (md_endCodesOfFunction_b79 σ x1 x2 x3 x4 x5 x6) := .of fun n => gB_le (gMos_spec (mb_md_endCodesOfFunction)) n _ _ _ σ
noncomputable def md_endCodesOfFunction_b106 (σ : gM) (x1 x2 x3 x4 x5 x6 x7 : Int) : Option (gM × Int) := lim (fun n => gB (e_md_endCodesOfFunction 227) rF tF n 106 [(2, 119), (0, x1), (0, x2), (0, x3), (0, x4), (0, x5), (0, x6), (0, x7)] [] σ)
theorem md_endCodesOfFunction_b106_l (σ : gM) (x1 x2 x3 x4 x5 x6 x7 : Int) : Lm (fun n => gB (e_md_endCodesOfFunction 227) rF tF n 106 [(2, 119), (0, x1), (0, x2), (0, x3), (0, x4), (0, x5), (0, x6), (0, x7)] [] σ) (md_endCodesOfFunction_b106 σ x1 x2 x3 x4 x5 x6 x7) := .of fun n => gB_le (gMos_spec (mb_md_endCodesOfFunction)) n _ _ _ σ
noncomputable def md_endCodesOfFunction_b155 (σ : gM) (x1 x2 x4 x5 x6 x7 : Int) : Option (gM × Int) := lim (fun n => gB (e_md_endCodesOfFunction 227) rF tF n 155 [(2, 119), (0, x1), (0, x2), (9, 0), (0, x4), (0, x5), (0, x6), (0, x7)] [] σ)
theorem md_endCodesOfFunction_b155_l (σ : gM) (x1 x2 x4 x5 x6 x7 : Int) : Lm (fun n => gB (e_md_endCodesOfFunction 227) rF tF n 155 [(2, 119), (0, x1), (0, x2), (9, 0), (0, x4), (0, x5), (0, x6), (0, x7)] [] σ) (md_endCodesOfFunction_b155 σ x1 x2 x4 x5 x6 x7) := .of fun n => gB_le (gMos_spec (mb_md_endCodesOfFunction)) n _ _ _ σ
noncomputable def md_endCodesOfFunction_b160 (σ : gM) (x1 x2 x4 x5 x6 x7 y0 : Int) : Option (gM × Int) := lim (fun n => gB (e_md_endCodesOfFunction 227) rF tF n 160 [(2, 119), (0, x1), (0, x2), (9, 0), (0, x4), (0, x5), (0, x6), (0, x7)] [(0, y0)] σ)
theorem md_endCodesOfFunction_b160_l (σ : gM) (x1 x2 x4 x5 x6 x7 y0 : Int) : Lm (fun n => gB (e_md_endCodesOfFunction 227) rF tF n 160 [(2, 119), (0, x1), (0, x2), (9, 0), (0, x4), (0, x5), (0, x6), (0, x7)] [(0, y0)] σ) (md_endCodesOfFunction_b160 σ x1 x2 x4 x5 x6 x7 y0) := .of fun n => gB_le (gMos_spec (mb_md_endCodesOfFunction)) n _ _ _ σ
noncomputable def md_endCodesOfFunction_b167 (σ : gM) (x1 x2 x3 x4 x5 x6 : Int) : Option (gM × Int) := lim (fun n => gB (e_md_endCodesOfFunction 227) rF tF n 167 [(2, 119), (0, x1), (0, x2), (0, x3), (0, x4), (0, x5), (0, x6), (9, 0)] [] σ)
theorem md_endCodesOfFunction_b167_l (σ : gM) (x1 x2 x3 x4 x5 x6 : Int) : Lm (fun n => gB (e_md_endCodesOfFunction 227) rF tF n 167 [(2, 119), (0, x1), (0, x2), (0, x3), (0, x4), (0, x5), (0, x6), (9, 0)] [] σ) (md_endCodesOfFunction_b167 σ x1 x2 x3 x4 x5 x6) := .of fun n => gB_le (gMos_spec (mb_md_endCodesOfFunction)) n _ _ _ σ
noncomputable def md_endCodesOfFunction_b173 (σ : gM) (x1 x2 x3 x4 : Int) : Option (gM × Int) := lim (fun n => gB (e_md_endCodesOfFunction 227) rF tF n 173 [(2, 119), (0, x1), (0, x2), (0, x3), (0, x4), (9, 0), (9, 0), (9, 0)] [] σ)
theorem md_endCodesOfFunction_b173_l (σ : gM) (x1 x2 x3 x4 : Int) : Lm (fun n => gB (e_md_endCodesOfFunction 227) rF tF n 173 [(2, 119), (0, x1), (0, x2), (0, x3), (0, x4), (9, 0), (9, 0), (9, 0)] [] σ) (md_endCodesOfFunction_b173 σ x1 x2 x3 x4) := .of fun n => gB_le (gMos_spec (mb_md_endCodesOfFunction)) n _ _ _ σ
noncomputable def md_endCodesOfFunction_b179 (σ : gM) (x1 x2 x3 : Int) : Option (gM × Int) := lim (fun n => gB (e_md_endCodesOfFunction 227) rF tF n 179 [(2, 119), (0, x1), (0, x2), (0, x3), (9, 0), (9, 0), (9, 0), (9, 0)] [] σ)
theorem md_endCodesOfFunction_b179_l (σ : gM) (x1 x2 x3 : Int) : Lm (fun n => gB (e_md_endCodesOfFunction 227) rF tF n 179 [(2, 119), (0, x1), (0, x2), (0, x3), (9, 0), (9, 0), (9, 0), (9, 0)] [] σ) (md_endCodesOfFunction_b179 σ x1 x2 x3) := .of fun n => gB_le (gMos_spec (mb_md_endCodesOfFunction)) n _ _ _ σ
noncomputable def md_endCodesOfFunction_b188 (σ : gM) (x1 x2 : Int) : Option (gM × Int) := lim (fun n => gB (e_md_endCodesOfFunction 227) rF tF n 188 [(2, 119), (0, x1), (0, x2), (9, 0), (9, 0), (9, 0), (9, 0), (9, 0)] [] σ)
theorem md_endCodesOfFunction_b188_l (σ : gM) (x1 x2 : Int) : Lm (fun n => gB (e_md_endCodesOfFunction 227) rF tF n 188 [(2, 119), (0, x1), (0, x2), (9, 0), (9, 0), (9, 0), (9, 0), (9, 0)] [] σ) (md_endCodesOfFunction_b188 σ x1 x2) := .of fun n => gB_le (gMos_spec (mb_md_endCodesOfFunction)) n _ _ _ σ
theorem md_endCodesOfFunction_e (σ : gM) (x1 : Int) : md_endCodesOfFunction σ x1 =
  (md_endCodesOfFunction_b2 σ x1 0) := Lm.eqn (md_endCodesOfFunction_l ..) (md_endCodesOfFunction_b2_l ..) fun n => (rfl)
theorem md_endCodesOfFunction_b2_e (σ : gM) (x1 x2 : Int) : md_endCodesOfFunction_b2 σ x1 x2 =
  (if x2 < σ 119 104 then
  (md_endCodesOfFunction_b15 σ x1 x2 0 0)
  else
  (some (σ, 0))) := Lm.eqn (md_endCodesOfFunction_b2_l ..) (.ite (md_endCodesOfFunction_b15_l ..) .cst) fun n => (rfl)
theorem md_endCodesOfFunction_b15_e (σ : gM) (x1 x2 x3 x4 : Int) : md_endCodesOfFunction_b15 σ x1 x2 x3 x4 =
  (if 0 ≤ x2 ∧ x2 < 100 then
  (if x4 < σ 197 x2 then
    (if 0 ≤ x2 ∧ x2 < 100 then
      (if σ 203 x2 = 0 then
        (md_endCodesOfFunction_b179 σ x1 x2 x3)
        else
        (if x3 = 0 then
          ((md_unit σ x2 x4).bind fun p1 =>
            if 0 ≤ p1.2 ∧ p1.2 < 15200 then
            (if 0 ≤ p1.1 204 p1.2 ∧ p1.1 204 p1.2 < 60 then
              (if p1.1 157 (p1.1 204 p1.2) = x1 then
                (md_endCodesOfFunction_b69 p1.1 x1 x2 x4 (p1.1 204 p1.2) 1)
                else
                (md_endCodesOfFunction_b69 p1.1 x1 x2 x4 (p1.1 204 p1.2) 0))
              else none)
            else none)
          else
          (md_endCodesOfFunction_b179 σ x1 x2 x3)))
      else none)
    else
    (md_endCodesOfFunction_b179 σ x1 x2 x3))
  else none) := Lm.eqn (md_endCodesOfFunction_b15_l ..) (.ite (.ite (.ite (.ite (md_endCodesOfFunction_b179_l ..) (.ite (.bind (md_unit_l ..) fun p1 => (.ite (.ite (.ite (md_endCodesOfFunction_b69_l ..) (md_endCodesOfFunction_b69_l ..)) .cst) .cst)) (md_endCodesOfFunction_b179_l ..))) .cst) (md_endCodesOfFunction_b179_l ..)) .cst) fun n => (rfl)
theorem md_endCodesOfFunction_b69_e (σ : gM) (x1 x2 x4 x5 y0 : Int) : md_endCodesOfFunction_b69 σ x1 x2 x4 x5 y0 =
  (if 0 ≤ x5 ∧ x5 < 60 then
  (md_endCodesOfFunction_b79 σ x1 x2 y0 x4 x5 (σ 158 x5))
  else none) := Lm.eqn (md_endCodesOfFunction_b69_l ..) (.ite (md_endCodesOfFunction_b79_l ..) .cst) fun n => (rfl)
theorem md_endCodesOfFunction_b79_e (σ : gM) (x1 x2 x3 x4 x5 x6 : Int) : md_endCodesOfFunction_b79 σ x1 x2 x3 x4 x5 x6 =
  (if 0 ≤ x5 ∧ x5 < 60 then
  (if 0 ≤ x5 ∧ x5 < 60 then
    (if x6 < w32 ((σ 158 x5) + (σ 159 x5)) then
      (if x3 = 0 then
        (md_endCodesOfFunction_b106 σ x1 x2 x3 x4 x5 x6 0)
        else
        (md_endCodesOfFunction_b173 σ x1 x2 x3 x4))
      else
      (md_endCodesOfFunction_b173 σ x1 x2 x3 x4))
    else none)
  else none) := Lm.eqn (md_endCodesOfFunction_b79_l ..) (.ite (.ite (.ite (.ite (md_endCodesOfFunction_b106_l ..) (md_endCodesOfFunction_b173_l ..)) (md_endCodesOfFunction_b173_l ..)) .cst) .cst) fun n => (rfl)
theorem md_endCodesOfFunction_b106_e (σ : gM) (x1 x2 x3 x4 x5 x6 x7 : Int) : md_endCodesOfFunction_b106 σ x1 x2 x3 x4 x5 x6 x7 =
  (if 0 ≤ x6 ∧ x6 < 20000 then
  (if σ 168 x6 = 23 then
    (if 0 ≤ x6 ∧ x6 < 20000 then
      (if x7 < σ 181 x6 then
        (if x3 = 0 then
          (if 0 ≤ w32 ((w32 (3 * x6)) + x7) ∧ w32 ((w32 (3 * x6)) + x7) < 60000 then
            (if 0 ≤ σ 182 (w32 ((w32 (3 * x6)) + x7)) ∧ σ 182 (w32 ((w32 (3 * x6)) + x7)) < 60 then
              (if σ 157 (σ 182 (w32 ((w32 (3 * x6)) + x7))) = x1 then
                (md_endCodesOfFunction_b155 σ x1 x2 x4 x5 x6 x7)
                else
                (md_endCodesOfFunction_b160 σ x1 x2 x4 x5 x6 x7 0))
              else none)
            else none)
          else
          (md_endCodesOfFunction_b155 σ x1 x2 x4 x5 x6 x7))
        else
        (md_endCodesOfFunction_b167 σ x1 x2 x3 x4 x5 x6))
      else none)
    else
    (md_endCodesOfFunction_b167 σ x1 x2 x3 x4 x5 x6))
  else none) := Lm.eqn (md_endCodesOfFunction_b106_l ..) (.ite (.ite (.ite (.ite (.ite (.ite (.ite (.ite (md_endCodesOfFunction_b155_l ..) (md_endCodesOfFunction_b160_l ..)) .cst) .cst) (md_endCodesOfFunction_b155_l ..)) (md_endCodesOfFunction_b167_l ..)) .cst) (md_endCodesOfFunction_b167_l ..)) .cst) fun n => (rfl)
theorem md_endCodesOfFunction_b155_e (σ : gM) (x1 x2 x4 x5 x6 x7 : Int) : md_endCodesOfFunction_b155 σ x1 x2 x4 x5 x6 x7 =
  (md_endCodesOfFunction_b160 σ x1 x2 x4 x5 x6 x7 1) := Lm.eqn (md_endCodesOfFunction_b155_l ..) (md_endCodesOfFunction_b160_l ..) fun n => (rfl)
theorem md_endCodesOfFunction_b160_e (σ : gM) (x1 x2 x4 x5 x6 x7 y0 : Int) : md_endCodesOfFunction_b160 σ x1 x2 x4 x5 x6 x7 y0 =
  (md_endCodesOfFunction_b106 σ x1 x2 y0 x4 x5 x6 (w32 (x7 + 1))) := Lm.eqn (md_endCodesOfFunction_b160_l ..) (md_endCodesOfFunction_b106_l ..) fun n => (rfl)
theorem md_endCodesOfFunction_b167_e (σ : gM) (x1 x2 x3 x4 x5 x6 : Int) : md_endCodesOfFunction_b167 σ x1 x2 x3 x4 x5 x6 =
  (md_endCodesOfFunction_b79 σ x1 x2 x3 x4 x5 (w32 (x6 + 1))) := Lm.eqn (md_endCodesOfFunction_b167_l ..) (md_endCodesOfFunction_b79_l ..) fun n => (rfl)
theorem md_endCodesOfFunction_b173_e (σ : gM) (x1 x2 x3 x4 : Int) : md_endCodesOfFunction_b173 σ x1 x2 x3 x4 =
  (md_endCodesOfFunction_b15 σ x1 x2 x3 (w32 (x4 + 1))) := Lm.eqn (md_endCodesOfFunction_b173_l ..) (md_endCodesOfFunction_b15_l ..) fun n => (rfl)
theorem md_endCodesOfFunction_b179_e (σ : gM) (x1 x2 x3 : Int) : md_endCodesOfFunction_b179 σ x1 x2 x3 =
  (if x3 = 0 then
  (md_endCodesOfFunction_b188 σ x1 x2)
  else
  ((md_endCode σ x2).bind fun p1 =>
    md_endCodesOfFunction_b188 p1.1 x1 x2)) := Lm.eqn (md_endCodesOfFunction_b179_l ..) (.ite (md_endCodesOfFunction_b188_l ..) (.bind (md_endCode_l ..) fun p1 => (md_endCodesOfFunction_b188_l ..))) fun n => (rfl)
theorem md_endCodesOfFunction_b188_e (σ : gM) (x1 x2 : Int) : md_endCodesOfFunction_b188 σ x1 x2 =
  (md_endCodesOfFunction_b2 σ x1 (w32 (x2 + 1))) := Lm.eqn (md_endCodesOfFunction_b188_l ..) (md_endCodesOfFunction_b2_l ..) fun n => (rfl)
def k_md_rootComes : List gC := [(0, 1, .aload_n 0, [], none), (1, 3, .getfield 564, [], none), (4, 1, .istore_n 2, [], none), (5, 1, .aload_n 0, [], none),
  (6, 1, .dup, [], none), (7, 3, .getfield 564, [], none), (10, 1, .iconst 1, [], none), (11, 1, .iadd, [], none),
  (12, 3, .putfield 564, [], none), (15, 1, .aload_n 0, [], none), (16, 3, .getfield 131, [], none), (19, 1, .iload_n 2, [], none),
  (20, 1, .iload_n 1, [], none), (21, 1, .iastore, [], none), (22, 1, .aload_n 0, [], none), (23, 3, .getfield 149, [], none),
  (26, 1, .iload_n 2, [], none), (27, 1, .iconst 0, [], none), (28, 1, .iastore, [], none), (29, 1, .aload_n 0, [], none),
  (30, 3, .getfield 152, [], none), (33, 1, .iload_n 2, [], none), (34, 1, .iconst (-1), [], none), (35, 1, .iastore, [], none),
  (36, 1, .aload_n 0, [], none), (37, 3, .getfield 155, [], none), (40, 1, .iload_n 2, [], none), (41, 1, .iconst 0, [], none),
  (42, 1, .iastore, [], none), (43, 1, .aload_n 0, [], none), (44, 3, .getfield 158, [], none), (47, 1, .iload_n 2, [], none),
  (48, 1, .iconst 0, [], none), (49, 1, .iastore, [], none), (50, 1, .iconst 0, [], none), (51, 1, .istore_n 3, [], none),
  (52, 1, .iload_n 3, [], some [true, true, true, true]), (53, 2, .bipush 12, [], none), (55, 3, .if_icmp .ge 21, [(0, 76)], none), (58, 1, .aload_n 0, [], none),
  (59, 3, .getfield 161, [], none), (62, 2, .bipush 12, [], none), (64, 1, .iload_n 2, [], none), (65, 1, .imul, [], none),
  (66, 1, .iload_n 3, [], none), (67, 1, .iadd, [], none), (68, 1, .iconst 0, [], none), (69, 1, .iastore, [], none),
  (70, 3, .iinc 3 1, [], none), (73, 3, .goto (-21), [(0, 52)], none), (76, 1, .aload_n 0, [], none), (77, 3, .getfield 128, [], none),
  (80, 1, .iload_n 1, [], none), (81, 1, .iaload, [], none), (82, 1, .istore_n 3, [], none), (83, 1, .aload_n 0, [], none),
  (84, 3, .getfield 128, [], none), (87, 1, .iload_n 1, [], none), (88, 1, .iload_n 2, [], none), (89, 1, .iastore, [], none),
  (90, 1, .iload_n 3, [], none), (91, 3, .ifCond .lt 8, [(0, 99)], none), (94, 1, .aload_n 0, [], none), (95, 1, .iload_n 1, [], none),
  (96, 3, .invokevirtual 616, [], none), (99, 1, .return_, [], none)]
def e_md_rootComes (m : Nat) : gE := (k_md_rootComes, f_md, c_md, [(616, 2, 20, 5, .inl (fn_md_endCodesOfFunction m))], [], (m, 13407807929942597099574024998205846127479365820592393377723561443721764030073546976801874298179758932044466506828436811060494860661543966388636848446504960), 5)
theorem ok_md_rootComes : gchk cX10_rootComes 4 k_md_rootComes = true := by decide +kernel
def fn_md_rootComes (m : Nat) : gFn := gF (e_md_rootComes m) 4
theorem mo_md_rootComes (m : Nat) : gMo (.inl (fn_md_rootComes m)) := gF_mo (E := e_md_rootComes m) ⟨mo_md_endCodesOfFunction m, trivial⟩
noncomputable def md_rootComes (σ : gM) (x1 : Int) : Option (gM × Int) := lim (fun n => fn_md_rootComes 227 n [(2, 119), (0, x1)] σ)
theorem md_rootComes_l (σ : gM) (x1 : Int) : Lm (fun n => fn_md_rootComes 227 n [(2, 119), (0, x1)] σ) (md_rootComes σ x1) := .of fun n => mo_md_rootComes 227 n [(2, 119), (0, x1)] σ
theorem mb_md_rootComes : gMos (e_md_rootComes 227).2.2.2.1 := ⟨mo_md_endCodesOfFunction 227, trivial⟩
noncomputable def md_rootComes_b52 (σ : gM) (x1 x2 x3 : Int) : Option (gM × Int) := lim (fun n => gB (e_md_rootComes 227) rF tF n 52 [(2, 119), (0, x1), (0, x2), (0, x3)] [] σ)
theorem md_rootComes_b52_l (σ : gM) (x1 x2 x3 : Int) : Lm (fun n => gB (e_md_rootComes 227) rF tF n 52 [(2, 119), (0, x1), (0, x2), (0, x3)] [] σ) (md_rootComes_b52 σ x1 x2 x3) := .of fun n => gB_le (gMos_spec (mb_md_rootComes)) n _ _ _ σ
theorem md_rootComes_e (σ : gM) (x1 : Int) : md_rootComes σ x1 =
  (if 0 ≤ σ 119 55 ∧ σ 119 55 < 60 then
  (if 0 ≤ σ 119 55 ∧ σ 119 55 < 60 then
    (if 0 ≤ σ 119 55 ∧ σ 119 55 < 60 then
      (if 0 ≤ σ 119 55 ∧ σ 119 55 < 60 then
        (if 0 ≤ σ 119 55 ∧ σ 119 55 < 60 then
          (md_rootComes_b52 (gW (gW (gW (gW (gW (gW σ 119 55 (w32 ((σ 119 55) + 1))) 157 (σ 119 55) x1) 163 (σ 119 55) 0) 164 (σ 119 55) (-1)) 165 (σ 119 55) 0) 166 (σ 119 55) 0) x1 (σ 119 55) 0)
          else none)
        else none)
      else none)
    else none)
  else none) := Lm.eqn (md_rootComes_l ..) (.ite (.ite (.ite (.ite (.ite (md_rootComes_b52_l ..) .cst) .cst) .cst) .cst) .cst) fun n => (rfl)
theorem md_rootComes_b52_e (σ : gM) (x1 x2 x3 : Int) : md_rootComes_b52 σ x1 x2 x3 =
  (if x3 < 12 then
  (if 0 ≤ w32 ((w32 (12 * x2)) + x3) ∧ w32 ((w32 (12 * x2)) + x3) < 720 then
    (md_rootComes_b52 (gW σ 167 (w32 ((w32 (12 * x2)) + x3)) 0) x1 x2 (w32 (x3 + 1)))
    else none)
  else
  (if 0 ≤ x1 ∧ x1 < 9000 then
    (if 0 ≤ x1 ∧ x1 < 9000 then
      (if σ 156 x1 < 0 then
        (some (gW σ 156 x1 x2, 0))
        else
        ((md_endCodesOfFunction (gW σ 156 x1 x2) x1).bind fun p1 =>
          some (p1.1, 0)))
      else none)
    else none)) := Lm.eqn (md_rootComes_b52_l ..) (.ite (.ite (md_rootComes_b52_l ..) .cst) (.ite (.ite (.ite .cst (.bind (md_endCodesOfFunction_l ..) fun p1 => .cst)) .cst) .cst)) fun n => (rfl)
def k_md_houseBegins : List gC := [(0, 1, .aload_n 0, [], none), (1, 1, .iconst 0, [], none), (2, 3, .putfield 370, [], none), (5, 1, .aload_n 0, [], none),
  (6, 1, .iconst 0, [], none), (7, 3, .putfield 367, [], none), (10, 1, .iconst 0, [], none), (11, 1, .istore_n 1, [], none),
  (12, 1, .iload_n 1, [], some [true, true]), (13, 3, .sipush 4096, [], none), (16, 3, .if_icmp .ge 16, [(0, 32)], none), (19, 1, .aload_n 0, [], none),
  (20, 3, .getfield 35, [], none), (23, 1, .iload_n 1, [], none), (24, 1, .iconst (-1), [], none), (25, 1, .iastore, [], none),
  (26, 3, .iinc 1 1, [], none), (29, 3, .goto (-17), [(0, 12)], none), (32, 1, .iconst 0, [], none), (33, 1, .istore_n 1, [], none),
  (34, 1, .iload_n 1, [], some [true, true]), (35, 3, .sipush 16384, [], none), (38, 3, .if_icmp .ge 16, [(0, 54)], none), (41, 1, .aload_n 0, [], none),
  (42, 3, .getfield 38, [], none), (45, 1, .iload_n 1, [], none), (46, 1, .iconst (-1), [], none), (47, 1, .iastore, [], none),
  (48, 3, .iinc 1 1, [], none), (51, 3, .goto (-17), [(0, 34)], none), (54, 1, .iconst 0, [], none), (55, 1, .istore_n 1, [], none),
  (56, 1, .iload_n 1, [], some [true, true]), (57, 3, .sipush 9000, [], none), (60, 3, .if_icmp .ge 16, [(0, 76)], none), (63, 1, .aload_n 0, [], none),
  (64, 3, .getfield 219, [], none), (67, 1, .iload_n 1, [], none), (68, 1, .iconst (-1), [], none), (69, 1, .iastore, [], none),
  (70, 3, .iinc 1 1, [], none), (73, 3, .goto (-17), [(0, 56)], none), (76, 1, .aload_n 0, [], none), (77, 1, .iconst 0, [], none),
  (78, 3, .putfield 561, [], none), (81, 1, .aload_n 0, [], none), (82, 1, .iconst 0, [], none), (83, 3, .putfield 564, [], none),
  (86, 1, .aload_n 0, [], none), (87, 1, .iconst 0, [], none), (88, 3, .putfield 558, [], none), (91, 1, .aload_n 0, [], none),
  (92, 1, .iconst 0, [], none), (93, 3, .putfield 567, [], none), (96, 1, .aload_n 0, [], none), (97, 1, .iconst 0, [], none),
  (98, 3, .putfield 570, [], none), (101, 1, .aload_n 0, [], none), (102, 1, .iconst 1, [], none), (103, 3, .putfield 573, [], none),
  (106, 1, .aload_n 0, [], none), (107, 3, .getfield 225, [], none), (110, 1, .iconst 0, [], none), (111, 1, .iconst (-1), [], none),
  (112, 1, .iastore, [], none), (113, 1, .aload_n 0, [], none), (114, 3, .getfield 231, [], none), (117, 1, .iconst 0, [], none),
  (118, 1, .iconst (-1), [], none), (119, 1, .iastore, [], none), (120, 1, .aload_n 0, [], none), (121, 3, .getfield 234, [], none),
  (124, 1, .iconst 0, [], none), (125, 1, .iconst 0, [], none), (126, 1, .iastore, [], none), (127, 1, .aload_n 0, [], none),
  (128, 1, .iconst 0, [], none), (129, 3, .putfield 576, [], none), (132, 2, .bipush 9, [], none), (134, 1, .istore_n 1, [], none),
  (135, 1, .iload_n 1, [], some [true, true]), (136, 2, .bipush 16, [], none), (138, 3, .if_icmp .ge 16, [(0, 154)], none), (141, 1, .aload_n 0, [], none),
  (142, 3, .getfield 341, [], none), (145, 1, .iload_n 1, [], none), (146, 1, .iconst 0, [], none), (147, 1, .iastore, [], none),
  (148, 3, .iinc 1 1, [], none), (151, 3, .goto (-16), [(0, 135)], none), (154, 1, .iconst 0, [], none), (155, 1, .istore_n 1, [], none),
  (156, 1, .iload_n 1, [], some [true, true]), (157, 1, .iconst 4, [], none), (158, 3, .if_icmp .ge 72, [(0, 230)], none), (161, 1, .aload_n 0, [], none),
  (162, 1, .aload_n 0, [], none), (163, 1, .iload_n 1, [], none), (164, 3, .ifCond .ne 9, [(0, 173)], none), (167, 3, .ldc_w 579, [], none),
  (170, 3, .goto 28, [(0, 198)], none), (173, 1, .iload_n 1, [], none), (174, 1, .iconst 1, [], none), (175, 3, .if_icmp .ne 9, [(0, 184)], none),
  (178, 3, .ldc_w 581, [], none), (181, 3, .goto 17, [(0, 198)], none), (184, 1, .iload_n 1, [], none), (185, 1, .iconst 2, [], none),
  (186, 3, .if_icmp .ne 9, [(0, 195)], none), (189, 3, .ldc_w 583, [], none), (192, 3, .goto 6, [(0, 198)], none), (195, 3, .ldc_w 584, [], none),
  (198, 3, .invokevirtual 586, [], some [true, true]), (201, 3, .invokevirtual 589, [], none), (204, 1, .pop, [], none), (205, 1, .aload_n 0, [], none),
  (206, 3, .getfield 137, [], none), (209, 1, .iload_n 1, [], none), (210, 1, .iconst 0, [], none), (211, 1, .iastore, [], none),
  (212, 1, .aload_n 0, [], none), (213, 3, .getfield 143, [], none), (216, 1, .iload_n 1, [], none), (217, 1, .iconst 0, [], none),
  (218, 1, .iastore, [], none), (219, 1, .aload_n 0, [], none), (220, 1, .iload_n 1, [], none), (221, 3, .invokevirtual 592, [], none),
  (224, 3, .iinc 1 1, [], none), (227, 3, .goto (-71), [(0, 156)], none), (230, 1, .aload_n 0, [], none), (231, 3, .getfield 222, [], none),
  (234, 1, .iconst 0, [], none), (235, 1, .aload_n 0, [], none), (236, 3, .ldc_w 595, [], none), (239, 3, .invokevirtual 586, [], none),
  (242, 1, .i2l, [], none), (243, 1, .lastore, [], none), (244, 1, .aload_n 0, [], none), (245, 3, .getfield 222, [], none),
  (248, 1, .iconst 1, [], none), (249, 1, .aload_n 0, [], none), (250, 3, .ldc_w 597, [], none), (253, 3, .invokevirtual 586, [], none),
  (256, 1, .i2l, [], none), (257, 1, .lastore, [], none), (258, 1, .aload_n 0, [], none), (259, 3, .getfield 222, [], none),
  (262, 1, .iconst 2, [], none), (263, 1, .aload_n 0, [], none), (264, 3, .ldc_w 599, [], none), (267, 3, .invokevirtual 586, [], none),
  (270, 1, .i2l, [], none), (271, 1, .lastore, [], none), (272, 1, .aload_n 0, [], none), (273, 3, .getfield 222, [], none),
  (276, 1, .iconst 3, [], none), (277, 1, .aload_n 0, [], none), (278, 3, .getfield 222, [], none), (281, 1, .iconst 2, [], none),
  (282, 1, .laload, [], none), (283, 1, .lastore, [], none), (284, 1, .aload_n 0, [], none), (285, 3, .getfield 222, [], none),
  (288, 1, .iconst 4, [], none), (289, 1, .aload_n 0, [], none), (290, 3, .ldc_w 601, [], none), (293, 3, .invokevirtual 586, [], none),
  (296, 1, .i2l, [], none), (297, 1, .lastore, [], none), (298, 1, .aload_n 0, [], none), (299, 3, .getfield 222, [], none),
  (302, 1, .iconst 5, [], none), (303, 1, .aload_n 0, [], none), (304, 3, .ldc_w 602, [], none), (307, 3, .invokevirtual 586, [], none),
  (310, 1, .i2l, [], none), (311, 1, .lastore, [], none), (312, 1, .aload_n 0, [], none), (313, 3, .getfield 222, [], none),
  (316, 2, .bipush 6, [], none), (318, 1, .aload_n 0, [], none), (319, 3, .ldc_w 603, [], none), (322, 3, .invokevirtual 586, [], none),
  (325, 1, .i2l, [], none), (326, 1, .lastore, [], none), (327, 1, .aload_n 0, [], none), (328, 1, .aload_n 0, [], none),
  (329, 3, .ldc_w 605, [], none), (332, 3, .invokevirtual 586, [], none), (335, 1, .i2l, [], none), (336, 3, .putfield 607, [], none),
  (339, 1, .aload_n 0, [], none), (340, 1, .aload_n 0, [], none), (341, 3, .ldc_w 611, [], none), (344, 3, .invokevirtual 586, [], none),
  (347, 1, .i2l, [], none), (348, 3, .putfield 613, [], none), (351, 1, .return_, [], none)]
def e_md_houseBegins (m : Nat) : gE := (k_md_houseBegins, f_md, c_md, [(586, 2, 20, 0, .inl (fn_md_keep m)), (589, 2, 20, 0, .inl (fn_md_functionOf m)), (592, 2, 20, 5, .inl (fn_md_rootComes m))], [], (m, 7561054479661171423462213048503005075762842577808675525579733056099267153862927901548077827381117614755715309665673841015765108413089409411459515165414772585663041634304), 5)
theorem ok_md_houseBegins : gchk cX10_houseBegins 2 k_md_houseBegins = true := by decide +kernel
def fn_md_houseBegins (m : Nat) : gFn := gF (e_md_houseBegins m) 2
theorem mo_md_houseBegins (m : Nat) : gMo (.inl (fn_md_houseBegins m)) := gF_mo (E := e_md_houseBegins m) ⟨mo_md_keep m, ⟨mo_md_functionOf m, ⟨mo_md_rootComes m, trivial⟩⟩⟩
noncomputable def md_houseBegins (σ : gM) : Option (gM × Int) := lim (fun n => fn_md_houseBegins 227 n [(2, 119)] σ)
theorem md_houseBegins_l (σ : gM) : Lm (fun n => fn_md_houseBegins 227 n [(2, 119)] σ) (md_houseBegins σ) := .of fun n => mo_md_houseBegins 227 n [(2, 119)] σ
theorem mb_md_houseBegins : gMos (e_md_houseBegins 227).2.2.2.1 := ⟨mo_md_keep 227, ⟨mo_md_functionOf 227, ⟨mo_md_rootComes 227, trivial⟩⟩⟩
noncomputable def md_houseBegins_b12 (σ : gM) (x1 : Int) : Option (gM × Int) := lim (fun n => gB (e_md_houseBegins 227) rF tF n 12 [(2, 119), (0, x1)] [] σ)
theorem md_houseBegins_b12_l (σ : gM) (x1 : Int) : Lm (fun n => gB (e_md_houseBegins 227) rF tF n 12 [(2, 119), (0, x1)] [] σ) (md_houseBegins_b12 σ x1) := .of fun n => gB_le (gMos_spec (mb_md_houseBegins)) n _ _ _ σ
noncomputable def md_houseBegins_b34 (σ : gM) (x1 : Int) : Option (gM × Int) := lim (fun n => gB (e_md_houseBegins 227) rF tF n 34 [(2, 119), (0, x1)] [] σ)
theorem md_houseBegins_b34_l (σ : gM) (x1 : Int) : Lm (fun n => gB (e_md_houseBegins 227) rF tF n 34 [(2, 119), (0, x1)] [] σ) (md_houseBegins_b34 σ x1) := .of fun n => gB_le (gMos_spec (mb_md_houseBegins)) n _ _ _ σ
noncomputable def md_houseBegins_b56 (σ : gM) (x1 : Int) : Option (gM × Int) := lim (fun n => gB (e_md_houseBegins 227) rF tF n 56 [(2, 119), (0, x1)] [] σ)
theorem md_houseBegins_b56_l (σ : gM) (x1 : Int) : Lm (fun n => gB (e_md_houseBegins 227) rF tF n 56 [(2, 119), (0, x1)] [] σ) (md_houseBegins_b56 σ x1) := .of fun n => gB_le (gMos_spec (mb_md_houseBegins)) n _ _ _ σ
noncomputable def md_houseBegins_b135 (σ : gM) (x1 : Int) : Option (gM × Int) := lim (fun n => gB (e_md_houseBegins 227) rF tF n 135 [(2, 119), (0, x1)] [] σ)
theorem md_houseBegins_b135_l (σ : gM) (x1 : Int) : Lm (fun n => gB (e_md_houseBegins 227) rF tF n 135 [(2, 119), (0, x1)] [] σ) (md_houseBegins_b135 σ x1) := .of fun n => gB_le (gMos_spec (mb_md_houseBegins)) n _ _ _ σ
noncomputable def md_houseBegins_b156 (σ : gM) (x1 : Int) : Option (gM × Int) := lim (fun n => gB (e_md_houseBegins 227) rF tF n 156 [(2, 119), (0, x1)] [] σ)
theorem md_houseBegins_b156_l (σ : gM) (x1 : Int) : Lm (fun n => gB (e_md_houseBegins 227) rF tF n 156 [(2, 119), (0, x1)] [] σ) (md_houseBegins_b156 σ x1) := .of fun n => gB_le (gMos_spec (mb_md_houseBegins)) n _ _ _ σ
noncomputable def md_houseBegins_b198 (σ : gM) (x1 y0 : Int) : Option (gM × Int) := lim (fun n => gB (e_md_houseBegins 227) rF tF n 198 [(2, 119), (0, x1)] [(3, y0), (2, 119), (2, 119)] σ)
theorem md_houseBegins_b198_l (σ : gM) (x1 y0 : Int) : Lm (fun n => gB (e_md_houseBegins 227) rF tF n 198 [(2, 119), (0, x1)] [(3, y0), (2, 119), (2, 119)] σ) (md_houseBegins_b198 σ x1 y0) := .of fun n => gB_le (gMos_spec (mb_md_houseBegins)) n _ _ _ σ
theorem md_houseBegins_e (σ : gM) : md_houseBegins σ =
  (md_houseBegins_b12 (gW (gW σ 119 9 0) 119 10 0) 0) := Lm.eqn (md_houseBegins_l ..) (md_houseBegins_b12_l ..) fun n => (rfl)
theorem md_houseBegins_b12_e (σ : gM) (x1 : Int) : md_houseBegins_b12 σ x1 =
  (if x1 < 4096 then
  (if 0 ≤ x1 ∧ x1 < 4096 then
    (md_houseBegins_b12 (gW σ 126 x1 (-1)) (w32 (x1 + 1)))
    else none)
  else
  (md_houseBegins_b34 σ 0)) := Lm.eqn (md_houseBegins_b12_l ..) (.ite (.ite (md_houseBegins_b12_l ..) .cst) (md_houseBegins_b34_l ..)) fun n => (rfl)
theorem md_houseBegins_b34_e (σ : gM) (x1 : Int) : md_houseBegins_b34 σ x1 =
  (if x1 < 16384 then
  (if 0 ≤ x1 ∧ x1 < 16384 then
    (md_houseBegins_b34 (gW σ 127 x1 (-1)) (w32 (x1 + 1)))
    else none)
  else
  (md_houseBegins_b56 σ 0)) := Lm.eqn (md_houseBegins_b34_l ..) (.ite (.ite (md_houseBegins_b34_l ..) .cst) (md_houseBegins_b56_l ..)) fun n => (rfl)
theorem md_houseBegins_b56_e (σ : gM) (x1 : Int) : md_houseBegins_b56 σ x1 =
  (if x1 < 9000 then
  (if 0 ≤ x1 ∧ x1 < 9000 then
    (md_houseBegins_b56 (gW σ 186 x1 (-1)) (w32 (x1 + 1)))
    else none)
  else
  (if (0 : Int) ≤ 0 ∧ (0 : Int) < 200 then
    (if (0 : Int) ≤ 0 ∧ (0 : Int) < 200 then
      (if (0 : Int) ≤ 0 ∧ (0 : Int) < 200 then
        (md_houseBegins_b135 (gW (gW (gW (gW (gW (gW (gW (gW (gW (gW σ 119 15 0) 119 55 0) 119 56 0) 119 57 0) 119 89 0) 119 94 1) 188 0 (-1)) 190 0 (-1)) 191 0 0) 119 104 0) 9)
        else none)
      else none)
    else none)) := Lm.eqn (md_houseBegins_b56_l ..) (.ite (.ite (md_houseBegins_b56_l ..) .cst) (.ite (.ite (.ite (md_houseBegins_b135_l ..) .cst) .cst) .cst)) fun n => (rfl)
theorem md_houseBegins_b135_e (σ : gM) (x1 : Int) : md_houseBegins_b135 σ x1 =
  (if x1 < 16 then
  (if 0 ≤ x1 ∧ x1 < 16 then
    (md_houseBegins_b135 (gW σ 224 x1 0) (w32 (x1 + 1)))
    else none)
  else
  (md_houseBegins_b156 σ 0)) := Lm.eqn (md_houseBegins_b135_l ..) (.ite (.ite (md_houseBegins_b135_l ..) .cst) (md_houseBegins_b156_l ..)) fun n => (rfl)
theorem md_houseBegins_b156_e (σ : gM) (x1 : Int) : md_houseBegins_b156 σ x1 =
  (if x1 < 4 then
  (if x1 = 0 then
    (md_houseBegins_b198 σ x1 1)
    else
    (if x1 = 1 then
      (md_houseBegins_b198 σ x1 2)
      else
      (if x1 = 2 then
        (md_houseBegins_b198 σ x1 3)
        else
        (md_houseBegins_b198 σ x1 4))))
  else
  ((md_keep σ 5).bind fun p1 =>
    if (0 : Int) ≤ 0 ∧ (0 : Int) < 7 then
    ((md_keep (gW p1.1 187 0 p1.2) 6).bind fun p2 =>
      if (0 : Int) ≤ 1 ∧ (1 : Int) < 7 then
      ((md_keep (gW p2.1 187 1 p2.2) 7).bind fun p3 =>
        if (0 : Int) ≤ 2 ∧ (2 : Int) < 7 then
        (if (0 : Int) ≤ 2 ∧ (2 : Int) < 7 then
          (if (0 : Int) ≤ 3 ∧ (3 : Int) < 7 then
            ((md_keep (gW (gW p3.1 187 2 p3.2) 187 3 p3.2) 8).bind fun p4 =>
              if (0 : Int) ≤ 4 ∧ (4 : Int) < 7 then
              ((md_keep (gW p4.1 187 4 p4.2) 9).bind fun p5 =>
                if (0 : Int) ≤ 5 ∧ (5 : Int) < 7 then
                ((md_keep (gW p5.1 187 5 p5.2) 10).bind fun p6 =>
                  if (0 : Int) ≤ 6 ∧ (6 : Int) < 7 then
                  ((md_keep (gW p6.1 187 6 p6.2) 11).bind fun p7 =>
                    (md_keep (gW p7.1 119 92 p7.2) 12).bind fun p8 =>
                    some (gW p8.1 119 93 p8.2, 0))
                  else none)
                else none)
              else none)
            else none)
          else none)
        else none)
      else none)
    else none)) := Lm.eqn (md_houseBegins_b156_l ..) (.ite (.ite (md_houseBegins_b198_l ..) (.ite (md_houseBegins_b198_l ..) (.ite (md_houseBegins_b198_l ..) (md_houseBegins_b198_l ..)))) (.bind (md_keep_l ..) fun p1 => (.ite (.bind (md_keep_l ..) fun p2 => (.ite (.bind (md_keep_l ..) fun p3 => (.ite (.ite (.ite (.bind (md_keep_l ..) fun p4 => (.ite (.bind (md_keep_l ..) fun p5 => (.ite (.bind (md_keep_l ..) fun p6 => (.ite (.bind (md_keep_l ..) fun p7 => (.bind (md_keep_l ..) fun p8 => .cst)) .cst)) .cst)) .cst)) .cst) .cst) .cst)) .cst)) .cst))) fun n => (rfl)
theorem md_houseBegins_b198_e (σ : gM) (x1 y0 : Int) : md_houseBegins_b198 σ x1 y0 =
  ((md_keep σ y0).bind fun p1 =>
  (md_functionOf p1.1 p1.2).bind fun p2 =>
  if 0 ≤ x1 ∧ x1 < 60 then
  (if 0 ≤ x1 ∧ x1 < 60 then
    ((md_rootComes (gW (gW p2.1 159 x1 0) 161 x1 0) x1).bind fun p3 =>
      md_houseBegins_b156 p3.1 (w32 (x1 + 1)))
    else none)
  else none) := Lm.eqn (md_houseBegins_b198_l ..) (.bind (md_keep_l ..) fun p1 => (.bind (md_functionOf_l ..) fun p2 => (.ite (.ite (.bind (md_rootComes_l ..) fun p3 => (md_houseBegins_b156_l ..)) .cst) .cst))) fun n => (rfl)
def k_md_isNewest : List gC := [(0, 1, .aload_n 0, [], none), (1, 3, .getfield 128, [], none), (4, 1, .aload_n 0, [], none), (5, 3, .getfield 131, [], none),
  (8, 1, .iload_n 1, [], none), (9, 1, .iaload, [], none), (10, 1, .iaload, [], none), (11, 1, .iload_n 1, [], none),
  (12, 3, .if_icmp .ne 7, [(0, 19)], none), (15, 1, .iconst 1, [], none), (16, 3, .goto 4, [(0, 20)], none), (19, 1, .iconst 0, [], none),
  (20, 1, .ireturn, [], none)]
def e_md_isNewest (m : Nat) : gE := (k_md_isNewest, f_md, c_md, [], [], (m, 0), 6)
theorem ok_md_isNewest : gchk cX10_isNewest 2 k_md_isNewest = true := by decide +kernel
def fn_md_isNewest (m : Nat) : gFn := gF (e_md_isNewest m) 2
theorem mo_md_isNewest (m : Nat) : gMo (.inl (fn_md_isNewest m)) := gF_mo (E := e_md_isNewest m) trivial
noncomputable def md_isNewest (σ : gM) (x1 : Int) : Option (gM × Int) := lim (fun n => fn_md_isNewest 227 n [(2, 119), (0, x1)] σ)
theorem md_isNewest_l (σ : gM) (x1 : Int) : Lm (fun n => fn_md_isNewest 227 n [(2, 119), (0, x1)] σ) (md_isNewest σ x1) := .of fun n => mo_md_isNewest 227 n [(2, 119), (0, x1)] σ
theorem md_isNewest_e (σ : gM) (x1 : Int) : md_isNewest σ x1 =
  (if 0 ≤ x1 ∧ x1 < 60 then
  (if 0 ≤ σ 157 x1 ∧ σ 157 x1 < 9000 then
    (if σ 156 (σ 157 x1) = x1 then
      (some (σ, 1))
      else
      (some (σ, 0)))
    else none)
  else none) := Lm.eqn (md_isNewest_l ..) (.ite (.ite (.ite .cst .cst) .cst) .cst) fun n => (rfl)
def k_md_addUnit : List gC := [(0, 1, .aload_n 0, [], none), (1, 1, .iload_n 1, [], none), (2, 1, .aload_n 0, [], none), (3, 3, .getfield 252, [], none),
  (6, 1, .iload_n 1, [], none), (7, 1, .iaload, [], none), (8, 3, .invokevirtual 655, [], none), (11, 2, .istore 6, [], none),
  (13, 1, .aload_n 0, [], none), (14, 3, .getfield 273, [], none), (17, 2, .iload 6, [], none), (19, 1, .iload_n 2, [], none),
  (20, 1, .iastore, [], none), (21, 1, .aload_n 0, [], none), (22, 3, .getfield 276, [], none), (25, 2, .iload 6, [], none),
  (27, 1, .iload_n 3, [], none), (28, 1, .iastore, [], none), (29, 1, .aload_n 0, [], none), (30, 3, .getfield 279, [], none),
  (33, 2, .iload 6, [], none), (35, 2, .iload 4, [], none), (37, 1, .iastore, [], none), (38, 1, .aload_n 0, [], none),
  (39, 3, .getfield 282, [], none), (42, 2, .iload 6, [], none), (44, 2, .iload 5, [], none), (46, 1, .iastore, [], none),
  (47, 1, .aload_n 0, [], none), (48, 3, .getfield 252, [], none), (51, 1, .iload_n 1, [], none), (52, 1, .dup2, [], none),
  (53, 1, .iaload, [], none), (54, 1, .iconst 1, [], none), (55, 1, .iadd, [], none), (56, 1, .iastore, [], none),
  (57, 1, .aload_n 0, [], none), (58, 3, .getfield 255, [], none), (61, 1, .iload_n 1, [], none), (62, 1, .dup2, [], none),
  (63, 1, .iaload, [], none), (64, 1, .aload_n 0, [], none), (65, 3, .getfield 137, [], none), (68, 1, .iload_n 2, [], none),
  (69, 1, .iaload, [], none), (70, 1, .iadd, [], none), (71, 1, .iastore, [], none), (72, 1, .return_, [], none)]
def e_md_addUnit (m : Nat) : gE := (k_md_addUnit, f_md, c_md, [(655, 3, 20, 0, .inl (fn_md_unit m))], [], (m, 386267732388754787483399137946506960581274544630538827785568256), 5)
theorem ok_md_addUnit : gchk cX10_addUnit 7 k_md_addUnit = true := by decide +kernel
def fn_md_addUnit (m : Nat) : gFn := gF (e_md_addUnit m) 7
theorem mo_md_addUnit (m : Nat) : gMo (.inl (fn_md_addUnit m)) := gF_mo (E := e_md_addUnit m) ⟨mo_md_unit m, trivial⟩
noncomputable def md_addUnit (σ : gM) (x1 x2 x3 x4 x5 : Int) : Option (gM × Int) := lim (fun n => fn_md_addUnit 227 n [(2, 119), (0, x1), (0, x2), (0, x3), (0, x4), (0, x5)] σ)
theorem md_addUnit_l (σ : gM) (x1 x2 x3 x4 x5 : Int) : Lm (fun n => fn_md_addUnit 227 n [(2, 119), (0, x1), (0, x2), (0, x3), (0, x4), (0, x5)] σ) (md_addUnit σ x1 x2 x3 x4 x5) := .of fun n => mo_md_addUnit 227 n [(2, 119), (0, x1), (0, x2), (0, x3), (0, x4), (0, x5)] σ
theorem md_addUnit_e (σ : gM) (x1 x2 x3 x4 x5 : Int) : md_addUnit σ x1 x2 x3 x4 x5 =
  (if 0 ≤ x1 ∧ x1 < 100 then
  ((md_unit σ x1 (σ 197 x1)).bind fun p1 =>
    if 0 ≤ p1.2 ∧ p1.2 < 15200 then
    (if 0 ≤ p1.2 ∧ p1.2 < 15200 then
      (if 0 ≤ p1.2 ∧ p1.2 < 15200 then
        (if 0 ≤ p1.2 ∧ p1.2 < 15200 then
          (if 0 ≤ x1 ∧ x1 < 100 then
            (if 0 ≤ x1 ∧ x1 < 100 then
              (if 0 ≤ x1 ∧ x1 < 100 then
                (if 0 ≤ x2 ∧ x2 < 60 then
                  (if 0 ≤ x1 ∧ x1 < 100 then
                    (some (gW (gW (gW (gW (gW (gW p1.1 204 p1.2 x2) 205 p1.2 x3) 206 p1.2 x4) 207 p1.2 x5) 197 x1 (w32 ((p1.1 197 x1) + 1))) 198 x1 (w32 ((p1.1 198 x1) + (p1.1 159 x2))), 0))
                    else none)
                  else none)
                else none)
              else none)
            else none)
          else none)
        else none)
      else none)
    else none)
  else none) := Lm.eqn (md_addUnit_l ..) (.ite (.bind (md_unit_l ..) fun p1 => (.ite (.ite (.ite (.ite (.ite (.ite (.ite (.ite (.ite .cst .cst) .cst) .cst) .cst) .cst) .cst) .cst) .cst) .cst)) .cst) fun n => (rfl)
def k_md_isSure : List gC := [(0, 1, .aload_n 0, [], none), (1, 3, .getfield 164, [], none), (4, 1, .iload_n 1, [], none), (5, 1, .iaload, [], none),
  (6, 1, .istore_n 2, [], none), (7, 1, .iload_n 2, [], none), (8, 1, .iconst 1, [], none), (9, 3, .if_icmp .ne 13, [(0, 22)], none),
  (12, 1, .aload_n 0, [], none), (13, 3, .getfield 188, [], none), (16, 1, .iload_n 1, [], none), (17, 1, .iaload, [], none),
  (18, 1, .iconst 2, [], none), (19, 3, .if_icmp .eq 30, [(0, 49)], none), (22, 1, .iload_n 2, [], some [true, true, true]), (23, 2, .bipush 8, [], none),
  (25, 3, .if_icmp .lt 9, [(0, 34)], none), (28, 1, .iload_n 2, [], none), (29, 2, .bipush 11, [], none), (31, 3, .if_icmp .le 8, [(0, 39)], none),
  (34, 1, .iload_n 2, [], some [true, true, true]), (35, 1, .iconst 5, [], none), (36, 3, .if_icmp .ne 17, [(0, 53)], none), (39, 1, .aload_n 0, [], some [true, true, false]),
  (40, 3, .getfield 194, [], none), (43, 1, .iload_n 1, [], none), (44, 1, .iaload, [], none), (45, 1, .iconst 1, [], none),
  (46, 3, .if_icmp .ne 7, [(0, 53)], none), (49, 1, .iconst 1, [], some [false, false, false]), (50, 3, .goto 4, [(0, 54)], none), (53, 1, .iconst 0, [], none),
  (54, 1, .ireturn, [], none)]
def e_md_isSure (m : Nat) : gE := (k_md_isSure, f_md, c_md, [], [], (m, 0), 6)
theorem ok_md_isSure : gchk cX10_isSure 3 k_md_isSure = true := by decide +kernel
def fn_md_isSure (m : Nat) : gFn := gF (e_md_isSure m) 3
theorem mo_md_isSure (m : Nat) : gMo (.inl (fn_md_isSure m)) := gF_mo (E := e_md_isSure m) trivial
noncomputable def md_isSure (σ : gM) (x1 : Int) : Option (gM × Int) := lim (fun n => fn_md_isSure 227 n [(2, 119), (0, x1)] σ)
theorem md_isSure_l (σ : gM) (x1 : Int) : Lm (fun n => fn_md_isSure 227 n [(2, 119), (0, x1)] σ) (md_isSure σ x1) := .of fun n => mo_md_isSure 227 n [(2, 119), (0, x1)] σ
theorem mb_md_isSure : gMos (e_md_isSure 227).2.2.2.1 := trivial
noncomputable def md_isSure_b22 (σ : gM) (x1 x2 : Int) : Option (gM × Int) := lim (fun n => gB (e_md_isSure 227) rF tF n 22 [(2, 119), (0, x1), (0, x2)] [] σ)
theorem md_isSure_b22_l (σ : gM) (x1 x2 : Int) : Lm (fun n => gB (e_md_isSure 227) rF tF n 22 [(2, 119), (0, x1), (0, x2)] [] σ) (md_isSure_b22 σ x1 x2) := .of fun n => gB_le (gMos_spec (mb_md_isSure)) n _ _ _ σ
noncomputable def md_isSure_b34 (σ : gM) (x1 x2 : Int) : Option (gM × Int) := lim (fun n => gB (e_md_isSure 227) rF tF n 34 [(2, 119), (0, x1), (0, x2)] [] σ)
theorem md_isSure_b34_l (σ : gM) (x1 x2 : Int) : Lm (fun n => gB (e_md_isSure 227) rF tF n 34 [(2, 119), (0, x1), (0, x2)] [] σ) (md_isSure_b34 σ x1 x2) := .of fun n => gB_le (gMos_spec (mb_md_isSure)) n _ _ _ σ
noncomputable def md_isSure_b39 (σ : gM) (x1 : Int) : Option (gM × Int) := lim (fun n => gB (e_md_isSure 227) rF tF n 39 [(2, 119), (0, x1), (9, 0)] [] σ)
theorem md_isSure_b39_l (σ : gM) (x1 : Int) : Lm (fun n => gB (e_md_isSure 227) rF tF n 39 [(2, 119), (0, x1), (9, 0)] [] σ) (md_isSure_b39 σ x1) := .of fun n => gB_le (gMos_spec (mb_md_isSure)) n _ _ _ σ
noncomputable def md_isSure_b49 (σ : gM) : Option (gM × Int) := lim (fun n => gB (e_md_isSure 227) rF tF n 49 [(9, 0), (9, 0), (9, 0)] [] σ)
theorem md_isSure_b49_l (σ : gM) : Lm (fun n => gB (e_md_isSure 227) rF tF n 49 [(9, 0), (9, 0), (9, 0)] [] σ) (md_isSure_b49 σ) := .of fun n => gB_le (gMos_spec (mb_md_isSure)) n _ _ _ σ
theorem md_isSure_e (σ : gM) (x1 : Int) : md_isSure σ x1 =
  (if 0 ≤ x1 ∧ x1 < 20000 then
  (if σ 168 x1 = 1 then
    (if 0 ≤ x1 ∧ x1 < 20000 then
      (if σ 176 x1 = 2 then
        (md_isSure_b49 σ)
        else
        (md_isSure_b22 σ x1 (σ 168 x1)))
      else none)
    else
    (md_isSure_b22 σ x1 (σ 168 x1)))
  else none) := Lm.eqn (md_isSure_l ..) (.ite (.ite (.ite (.ite (md_isSure_b49_l ..) (md_isSure_b22_l ..)) .cst) (md_isSure_b22_l ..)) .cst) fun n => (rfl)
theorem md_isSure_b22_e (σ : gM) (x1 x2 : Int) : md_isSure_b22 σ x1 x2 =
  (if x2 < 8 then
  (md_isSure_b34 σ x1 x2)
  else
  (if 11 < x2 then
    (md_isSure_b34 σ x1 x2)
    else
    (md_isSure_b39 σ x1))) := Lm.eqn (md_isSure_b22_l ..) (.ite (md_isSure_b34_l ..) (.ite (md_isSure_b34_l ..) (md_isSure_b39_l ..))) fun n => (rfl)
theorem md_isSure_b34_e (σ : gM) (x1 x2 : Int) : md_isSure_b34 σ x1 x2 =
  (if x2 = 5 then
  (md_isSure_b39 σ x1)
  else
  (some (σ, 0))) := Lm.eqn (md_isSure_b34_l ..) (.ite (md_isSure_b39_l ..) .cst) fun n => (rfl)
theorem md_isSure_b39_e (σ : gM) (x1 : Int) : md_isSure_b39 σ x1 =
  (if 0 ≤ x1 ∧ x1 < 20000 then
  (if σ 178 x1 = 1 then
    (md_isSure_b49 σ)
    else
    (some (σ, 0)))
  else none) := Lm.eqn (md_isSure_b39_l ..) (.ite (.ite (md_isSure_b49_l ..) .cst) .cst) fun n => (rfl)
theorem md_isSure_b49_e (σ : gM) : md_isSure_b49 σ =
  (some (σ, 1)) := Lm.eqn (md_isSure_b49_l ..) .cst fun n => (rfl)
def k_md_guards : List gC := [(0, 1, .aload_n 0, [], none), (1, 3, .getfield 164, [], none), (4, 1, .iload_n 1, [], none), (5, 1, .iaload, [], none),
  (6, 1, .istore_n 2, [], none), (7, 1, .iload_n 2, [], none), (8, 2, .bipush 8, [], none), (10, 3, .if_icmp .lt 61, [(0, 71)], none),
  (13, 1, .iload_n 2, [], none), (14, 2, .bipush 17, [], none), (16, 3, .if_icmp .gt 55, [(0, 71)], none), (19, 1, .aload_n 0, [], none),
  (20, 3, .getfield 194, [], none), (23, 1, .iload_n 1, [], none), (24, 1, .iaload, [], none), (25, 1, .iconst 1, [], none),
  (26, 3, .if_icmp .eq 7, [(0, 33)], none), (29, 1, .iconst 1, [], none), (30, 3, .goto 40, [(0, 70)], none), (33, 1, .aload_n 0, [], none),
  (34, 1, .aload_n 0, [], none), (35, 3, .getfield 170, [], none), (38, 1, .iload_n 1, [], none), (39, 1, .iaload, [], none),
  (40, 3, .invokevirtual 668, [], none), (43, 3, .ifCond .eq 7, [(0, 50)], none), (46, 1, .iconst 0, [], none), (47, 3, .goto 4, [(0, 51)], none),
  (50, 1, .iconst 1, [], none), (51, 1, .aload_n 0, [], some [true, true, false]), (52, 1, .aload_n 0, [], none), (53, 3, .getfield 173, [], none),
  (56, 1, .iload_n 1, [], none), (57, 1, .iaload, [], none), (58, 3, .invokevirtual 668, [], none), (61, 3, .ifCond .eq 7, [(0, 68)], none),
  (64, 1, .iconst 0, [], none), (65, 3, .goto 4, [(0, 69)], none), (68, 1, .iconst 1, [], none), (69, 1, .iadd, [], some [false, false, false]),
  (70, 1, .ireturn, [], none), (71, 1, .iload_n 2, [], some [true, true, true]), (72, 2, .bipush 18, [], none), (74, 3, .if_icmp .eq 21, [(0, 95)], none),
  (77, 1, .iload_n 2, [], none), (78, 2, .bipush 19, [], none), (80, 3, .if_icmp .eq 15, [(0, 95)], none), (83, 1, .iload_n 2, [], none),
  (84, 2, .bipush 24, [], none), (86, 3, .if_icmp .eq 9, [(0, 95)], none), (89, 1, .iload_n 2, [], none), (90, 2, .bipush 25, [], none),
  (92, 3, .if_icmp .ne 19, [(0, 111)], none), (95, 1, .aload_n 0, [], some [true, true, false]), (96, 3, .getfield 194, [], none), (99, 1, .iload_n 1, [], none),
  (100, 1, .iaload, [], none), (101, 1, .iconst 3, [], none), (102, 3, .if_icmp .ne 7, [(0, 109)], none), (105, 1, .iconst 0, [], none),
  (106, 3, .goto 4, [(0, 110)], none), (109, 1, .iconst 1, [], none), (110, 1, .ireturn, [], none), (111, 1, .iload_n 2, [], none),
  (112, 3, .ifCond .ne 19, [(0, 131)], none), (115, 1, .aload_n 0, [], none), (116, 3, .getfield 194, [], none), (119, 1, .iload_n 1, [], none),
  (120, 1, .iaload, [], none), (121, 1, .iconst 4, [], none), (122, 3, .if_icmp .ne 7, [(0, 129)], none), (125, 1, .iconst 0, [], none),
  (126, 3, .goto 4, [(0, 130)], none), (129, 1, .iconst 1, [], none), (130, 1, .ireturn, [], none), (131, 1, .iload_n 2, [], none),
  (132, 2, .bipush 6, [], none), (134, 3, .if_icmp .ne 42, [(0, 176)], none), (137, 1, .aload_n 0, [], none), (138, 3, .getfield 194, [], none),
  (141, 1, .iload_n 1, [], none), (142, 1, .iaload, [], none), (143, 1, .iconst 4, [], none), (144, 3, .if_icmp .eq 26, [(0, 170)], none),
  (147, 1, .aload_n 0, [], none), (148, 3, .getfield 194, [], none), (151, 1, .iload_n 1, [], none), (152, 1, .iaload, [], none),
  (153, 1, .iconst 1, [], none), (154, 3, .if_icmp .ne 20, [(0, 174)], none), (157, 1, .aload_n 0, [], none), (158, 1, .aload_n 0, [], none),
  (159, 3, .getfield 170, [], none), (162, 1, .iload_n 1, [], none), (163, 1, .iaload, [], none), (164, 3, .invokevirtual 668, [], none),
  (167, 3, .ifCond .eq 7, [(0, 174)], none), (170, 1, .iconst 0, [], some [false, false, false]), (171, 3, .goto 4, [(0, 175)], none), (174, 1, .iconst 1, [], none),
  (175, 1, .ireturn, [], none), (176, 1, .iload_n 2, [], none), (177, 1, .iconst 5, [], none), (178, 3, .if_icmp .ne 19, [(0, 197)], none),
  (181, 1, .aload_n 0, [], none), (182, 3, .getfield 194, [], none), (185, 1, .iload_n 1, [], none), (186, 1, .iaload, [], none),
  (187, 1, .iconst 4, [], none), (188, 3, .if_icmp .ne 7, [(0, 195)], none), (191, 1, .iconst 0, [], none), (192, 3, .goto 4, [(0, 196)], none),
  (195, 1, .iconst 1, [], none), (196, 1, .ireturn, [], none), (197, 1, .iload_n 2, [], none), (198, 2, .bipush 21, [], none),
  (200, 3, .if_icmp .eq 15, [(0, 215)], none), (203, 1, .iload_n 2, [], none), (204, 2, .bipush 22, [], none), (206, 3, .if_icmp .eq 9, [(0, 215)], none),
  (209, 1, .iload_n 2, [], none), (210, 2, .bipush 23, [], none), (212, 3, .if_icmp .ne 16, [(0, 228)], none), (215, 1, .aload_n 0, [], some [true, true, false]),
  (216, 3, .getfield 203, [], none), (219, 1, .iload_n 1, [], none), (220, 1, .iaload, [], none), (221, 1, .iconst 1, [], none),
  (222, 3, .invokestatic 671, [], none), (225, 3, .goto 4, [(0, 229)], none), (228, 1, .iconst 0, [], none), (229, 1, .ireturn, [], none)]
def e_md_guards (m : Nat) : gE := (k_md_guards, f_md, c_md, [(668, 2, 20, 0, .inl (fn_md_isSure m)), (671, 2, 0, 0, .inl (fn_jm_max 0))], [], (m, 0), 0)
theorem ok_md_guards : gchk cX10_guards 3 k_md_guards = true := by decide +kernel
def fn_md_guards (m : Nat) : gFn := gF (e_md_guards m) 3
theorem mo_md_guards (m : Nat) : gMo (.inl (fn_md_guards m)) := gF_mo (E := e_md_guards m) ⟨mo_md_isSure m, ⟨mo_jm_max 0, trivial⟩⟩
noncomputable def md_guards (σ : gM) (x1 : Int) : Option (gM × Int) := lim (fun n => fn_md_guards 227 n [(2, 119), (0, x1)] σ)
theorem md_guards_l (σ : gM) (x1 : Int) : Lm (fun n => fn_md_guards 227 n [(2, 119), (0, x1)] σ) (md_guards σ x1) := .of fun n => mo_md_guards 227 n [(2, 119), (0, x1)] σ
theorem mb_md_guards : gMos (e_md_guards 227).2.2.2.1 := ⟨mo_md_isSure 227, ⟨mo_jm_max 0, trivial⟩⟩
noncomputable def md_guards_b51 (σ : gM) (x1 y0 : Int) : Option (gM × Int) := lim (fun n => gB (e_md_guards 227) rF tF n 51 [(2, 119), (0, x1), (9, 0)] [(0, y0)] σ)
theorem md_guards_b51_l (σ : gM) (x1 y0 : Int) : Lm (fun n => gB (e_md_guards 227) rF tF n 51 [(2, 119), (0, x1), (9, 0)] [(0, y0)] σ) (md_guards_b51 σ x1 y0) := .of fun n => gB_le (gMos_spec (mb_md_guards)) n _ _ _ σ
noncomputable def md_guards_b69 (σ : gM) (y0 y1 : Int) : Option (gM × Int) := lim (fun n => gB (e_md_guards 227) rF tF n 69 [(9, 0), (9, 0), (9, 0)] [(0, y0), (0, y1)] σ)
theorem md_guards_b69_l (σ : gM) (y0 y1 : Int) : Lm (fun n => gB (e_md_guards 227) rF tF n 69 [(9, 0), (9, 0), (9, 0)] [(0, y0), (0, y1)] σ) (md_guards_b69 σ y0 y1) := .of fun n => gB_le (gMos_spec (mb_md_guards)) n _ _ _ σ
noncomputable def md_guards_b71 (σ : gM) (x1 x2 : Int) : Option (gM × Int) := lim (fun n => gB (e_md_guards 227) rF tF n 71 [(2, 119), (0, x1), (0, x2)] [] σ)
theorem md_guards_b71_l (σ : gM) (x1 x2 : Int) : Lm (fun n => gB (e_md_guards 227) rF tF n 71 [(2, 119), (0, x1), (0, x2)] [] σ) (md_guards_b71 σ x1 x2) := .of fun n => gB_le (gMos_spec (mb_md_guards)) n _ _ _ σ
noncomputable def md_guards_b95 (σ : gM) (x1 : Int) : Option (gM × Int) := lim (fun n => gB (e_md_guards 227) rF tF n 95 [(2, 119), (0, x1), (9, 0)] [] σ)
theorem md_guards_b95_l (σ : gM) (x1 : Int) : Lm (fun n => gB (e_md_guards 227) rF tF n 95 [(2, 119), (0, x1), (9, 0)] [] σ) (md_guards_b95 σ x1) := .of fun n => gB_le (gMos_spec (mb_md_guards)) n _ _ _ σ
noncomputable def md_guards_b170 (σ : gM) : Option (gM × Int) := lim (fun n => gB (e_md_guards 227) rF tF n 170 [(9, 0), (9, 0), (9, 0)] [] σ)
theorem md_guards_b170_l (σ : gM) : Lm (fun n => gB (e_md_guards 227) rF tF n 170 [(9, 0), (9, 0), (9, 0)] [] σ) (md_guards_b170 σ) := .of fun n => gB_le (gMos_spec (mb_md_guards)) n _ _ _ σ
noncomputable def md_guards_b215 (σ : gM) (x1 : Int) : Option (gM × Int) := lim (fun n => gB (e_md_guards 227) rF tF n 215 [(2, 119), (0, x1), (9, 0)] [] σ)
theorem md_guards_b215_l (σ : gM) (x1 : Int) : Lm (fun n => gB (e_md_guards 227) rF tF n 215 [(2, 119), (0, x1), (9, 0)] [] σ) (md_guards_b215 σ x1) := .of fun n => gB_le (gMos_spec (mb_md_guards)) n _ _ _ σ
theorem md_guards_e (σ : gM) (x1 : Int) : md_guards σ x1 =
  (if 0 ≤ x1 ∧ x1 < 20000 then
  (if σ 168 x1 < 8 then
    (md_guards_b71 σ x1 (σ 168 x1))
    else
    (if 17 < σ 168 x1 then
      (md_guards_b71 σ x1 (σ 168 x1))
      else
      (if 0 ≤ x1 ∧ x1 < 20000 then
        (if σ 178 x1 = 1 then
          (if 0 ≤ x1 ∧ x1 < 20000 then
            ((md_isSure σ (σ 170 x1)).bind fun p1 =>
              if p1.2 = 0 then
              (md_guards_b51 p1.1 x1 1)
              else
              (md_guards_b51 p1.1 x1 0))
            else none)
          else
          (some (σ, 1)))
        else none)))
  else none) := Lm.eqn (md_guards_l ..) (.ite (.ite (md_guards_b71_l ..) (.ite (md_guards_b71_l ..) (.ite (.ite (.ite (.bind (md_isSure_l ..) fun p1 => (.ite (md_guards_b51_l ..) (md_guards_b51_l ..))) .cst) .cst) .cst))) .cst) fun n => (rfl)
theorem md_guards_b51_e (σ : gM) (x1 y0 : Int) : md_guards_b51 σ x1 y0 =
  (if 0 ≤ x1 ∧ x1 < 20000 then
  ((md_isSure σ (σ 171 x1)).bind fun p1 =>
    if p1.2 = 0 then
    (md_guards_b69 p1.1 1 y0)
    else
    (md_guards_b69 p1.1 0 y0))
  else none) := Lm.eqn (md_guards_b51_l ..) (.ite (.bind (md_isSure_l ..) fun p1 => (.ite (md_guards_b69_l ..) (md_guards_b69_l ..))) .cst) fun n => (rfl)
theorem md_guards_b69_e (σ : gM) (y0 y1 : Int) : md_guards_b69 σ y0 y1 =
  (some (σ, w32 (y1 + y0))) := Lm.eqn (md_guards_b69_l ..) .cst fun n => (rfl)
theorem md_guards_b71_e (σ : gM) (x1 x2 : Int) : md_guards_b71 σ x1 x2 =
  (if x2 = 18 then
  (md_guards_b95 σ x1)
  else
  (if x2 = 19 then
    (md_guards_b95 σ x1)
    else
    (if x2 = 24 then
      (md_guards_b95 σ x1)
      else
      (if x2 = 25 then
        (md_guards_b95 σ x1)
        else
        (if x2 = 0 then
          (if 0 ≤ x1 ∧ x1 < 20000 then
            (if σ 178 x1 = 4 then
              (some (σ, 0))
              else
              (some (σ, 1)))
            else none)
          else
          (if x2 = 6 then
            (if 0 ≤ x1 ∧ x1 < 20000 then
              (if σ 178 x1 = 4 then
                (md_guards_b170 σ)
                else
                (if 0 ≤ x1 ∧ x1 < 20000 then
                  (if σ 178 x1 = 1 then
                    (if 0 ≤ x1 ∧ x1 < 20000 then
                      ((md_isSure σ (σ 170 x1)).bind fun p1 =>
                        if p1.2 = 0 then
                        (some (p1.1, 1))
                        else
                        (md_guards_b170 p1.1))
                      else none)
                    else
                    (some (σ, 1)))
                  else none))
              else none)
            else
            (if x2 = 5 then
              (if 0 ≤ x1 ∧ x1 < 20000 then
                (if σ 178 x1 = 4 then
                  (some (σ, 0))
                  else
                  (some (σ, 1)))
                else none)
              else
              (if x2 = 21 then
                (md_guards_b215 σ x1)
                else
                (if x2 = 22 then
                  (md_guards_b215 σ x1)
                  else
                  (if x2 = 23 then
                    (md_guards_b215 σ x1)
                    else
                    (some (σ, 0)))))))))))) := Lm.eqn (md_guards_b71_l ..) (.ite (md_guards_b95_l ..) (.ite (md_guards_b95_l ..) (.ite (md_guards_b95_l ..) (.ite (md_guards_b95_l ..) (.ite (.ite (.ite .cst .cst) .cst) (.ite (.ite (.ite (md_guards_b170_l ..) (.ite (.ite (.ite (.bind (md_isSure_l ..) fun p1 => (.ite .cst (md_guards_b170_l ..))) .cst) .cst) .cst)) .cst) (.ite (.ite (.ite .cst .cst) .cst) (.ite (md_guards_b215_l ..) (.ite (md_guards_b215_l ..) (.ite (md_guards_b215_l ..) .cst)))))))))) fun n => (rfl)
theorem md_guards_b95_e (σ : gM) (x1 : Int) : md_guards_b95 σ x1 =
  (if 0 ≤ x1 ∧ x1 < 20000 then
  (if σ 178 x1 = 3 then
    (some (σ, 0))
    else
    (some (σ, 1)))
  else none) := Lm.eqn (md_guards_b95_l ..) (.ite (.ite .cst .cst) .cst) fun n => (rfl)
theorem md_guards_b170_e (σ : gM) : md_guards_b170 σ =
  (some (σ, 0)) := Lm.eqn (md_guards_b170_l ..) .cst fun n => (rfl)
theorem md_guards_b215_e (σ : gM) (x1 : Int) : md_guards_b215 σ x1 =
  (if 0 ≤ x1 ∧ x1 < 20000 then
  ((jm_max σ (σ 181 x1) 1).bind fun p1 =>
    some (p1.1, p1.2))
  else none) := Lm.eqn (md_guards_b215_l ..) (.ite (.bind (jm_max_l ..) fun p1 => .cst) .cst) fun n => (rfl)
def k_md_mayLie : List gC := [(0, 1, .iload_n 3, [], none), (1, 1, .iconst 4, [], none), (2, 3, .if_icmp .lt 45, [(0, 47)], none), (5, 1, .aload_n 0, [], none),
  (6, 1, .iload_n 3, [], none), (7, 3, .invokevirtual 665, [], none), (10, 3, .ifCond .eq 37, [(0, 47)], none), (13, 1, .aload_n 0, [], none),
  (14, 3, .getfield 282, [], none), (17, 1, .aload_n 0, [], none), (18, 1, .iload_n 1, [], none), (19, 1, .iload_n 2, [], none),
  (20, 3, .invokevirtual 655, [], none), (23, 1, .iaload, [], none), (24, 1, .iconst 1, [], none), (25, 3, .if_icmp .gt 22, [(0, 47)], none),
  (28, 1, .aload_n 0, [], none), (29, 3, .getfield 255, [], none), (32, 1, .iload_n 1, [], none), (33, 1, .iaload, [], none),
  (34, 1, .aload_n 0, [], none), (35, 3, .getfield 137, [], none), (38, 1, .iload_n 3, [], none), (39, 1, .iaload, [], none),
  (40, 1, .iadd, [], none), (41, 3, .sipush 150, [], none), (44, 3, .if_icmp .le 5, [(0, 49)], none), (47, 1, .iconst 0, [], none),
  (48, 1, .ireturn, [], none), (49, 1, .iload_n 2, [], none), (50, 2, .istore 4, [], none), (52, 2, .iload 4, [], some [true, true, false, true, true]),
  (54, 1, .iconst (-1), [], none), (55, 3, .if_icmp .eq 38, [(0, 93)], none), (58, 1, .aload_n 0, [], none), (59, 3, .getfield 273, [], none),
  (62, 1, .aload_n 0, [], none), (63, 1, .iload_n 1, [], none), (64, 2, .iload 4, [], none), (66, 3, .invokevirtual 655, [], none),
  (69, 1, .iaload, [], none), (70, 1, .iload_n 3, [], none), (71, 3, .if_icmp .ne 5, [(0, 76)], none), (74, 1, .iconst 0, [], none),
  (75, 1, .ireturn, [], none), (76, 1, .aload_n 0, [], none), (77, 3, .getfield 276, [], none), (80, 1, .aload_n 0, [], none),
  (81, 1, .iload_n 1, [], none), (82, 2, .iload 4, [], none), (84, 3, .invokevirtual 655, [], none), (87, 1, .iaload, [], none),
  (88, 2, .istore 4, [], none), (90, 3, .goto (-38), [(0, 52)], none), (93, 1, .iconst 1, [], none), (94, 1, .ireturn, [], none)]
def e_md_mayLie (m : Nat) : gE := (k_md_mayLie, f_md, c_md, [(665, 2, 20, 0, .inl (fn_md_isNewest m)), (655, 3, 20, 0, .inl (fn_md_unit m))], [], (m, 0), 6)
theorem ok_md_mayLie : gchk cX10_mayLie 5 k_md_mayLie = true := by decide +kernel
def fn_md_mayLie (m : Nat) : gFn := gF (e_md_mayLie m) 5
theorem mo_md_mayLie (m : Nat) : gMo (.inl (fn_md_mayLie m)) := gF_mo (E := e_md_mayLie m) ⟨mo_md_isNewest m, ⟨mo_md_unit m, trivial⟩⟩
noncomputable def md_mayLie (σ : gM) (x1 x2 x3 : Int) : Option (gM × Int) := lim (fun n => fn_md_mayLie 227 n [(2, 119), (0, x1), (0, x2), (0, x3)] σ)
theorem md_mayLie_l (σ : gM) (x1 x2 x3 : Int) : Lm (fun n => fn_md_mayLie 227 n [(2, 119), (0, x1), (0, x2), (0, x3)] σ) (md_mayLie σ x1 x2 x3) := .of fun n => mo_md_mayLie 227 n [(2, 119), (0, x1), (0, x2), (0, x3)] σ
theorem mb_md_mayLie : gMos (e_md_mayLie 227).2.2.2.1 := ⟨mo_md_isNewest 227, ⟨mo_md_unit 227, trivial⟩⟩
noncomputable def md_mayLie_b52 (σ : gM) (x1 x3 x4 : Int) : Option (gM × Int) := lim (fun n => gB (e_md_mayLie 227) rF tF n 52 [(2, 119), (0, x1), (9, 0), (0, x3), (0, x4)] [] σ)
theorem md_mayLie_b52_l (σ : gM) (x1 x3 x4 : Int) : Lm (fun n => gB (e_md_mayLie 227) rF tF n 52 [(2, 119), (0, x1), (9, 0), (0, x3), (0, x4)] [] σ) (md_mayLie_b52 σ x1 x3 x4) := .of fun n => gB_le (gMos_spec (mb_md_mayLie)) n _ _ _ σ
theorem md_mayLie_e (σ : gM) (x1 x2 x3 : Int) : md_mayLie σ x1 x2 x3 =
  (if x3 < 4 then
  (some (σ, 0))
  else
  ((md_isNewest σ x3).bind fun p1 =>
    if p1.2 = 0 then
    (some (p1.1, 0))
    else
    ((md_unit p1.1 x1 x2).bind fun p2 =>
      if 0 ≤ p2.2 ∧ p2.2 < 15200 then
      (if 1 < p2.1 207 p2.2 then
        (some (p2.1, 0))
        else
        (if 0 ≤ x1 ∧ x1 < 100 then
          (if 0 ≤ x3 ∧ x3 < 60 then
            (if 150 < w32 ((p2.1 198 x1) + (p2.1 159 x3)) then
              (some (p2.1, 0))
              else
              (md_mayLie_b52 p2.1 x1 x3 x2))
            else none)
          else none))
      else none))) := Lm.eqn (md_mayLie_l ..) (.ite .cst (.bind (md_isNewest_l ..) fun p1 => (.ite .cst (.bind (md_unit_l ..) fun p2 => (.ite (.ite .cst (.ite (.ite (.ite .cst (md_mayLie_b52_l ..)) .cst) .cst)) .cst))))) fun n => (rfl)
theorem md_mayLie_b52_e (σ : gM) (x1 x3 x4 : Int) : md_mayLie_b52 σ x1 x3 x4 =
  (if x4 = (-1) then
  (some (σ, 1))
  else
  ((md_unit σ x1 x4).bind fun p1 =>
    if 0 ≤ p1.2 ∧ p1.2 < 15200 then
    (if p1.1 204 p1.2 = x3 then
      (some (p1.1, 0))
      else
      ((md_unit p1.1 x1 x4).bind fun p2 =>
        if 0 ≤ p2.2 ∧ p2.2 < 15200 then
        (md_mayLie_b52 p2.1 x1 x3 (p2.1 205 p2.2))
        else none))
    else none)) := Lm.eqn (md_mayLie_b52_l ..) (.ite .cst (.bind (md_unit_l ..) fun p1 => (.ite (.ite .cst (.bind (md_unit_l ..) fun p2 => (.ite (md_mayLie_b52_l ..) .cst))) .cst))) fun n => (rfl)
def k_md_makeCode : List gC := [(0, 1, .aload_n 0, [], none), (1, 3, .getfield 576, [], none), (4, 1, .istore_n 2, [], none), (5, 1, .aload_n 0, [], none),
  (6, 1, .dup, [], none), (7, 3, .getfield 576, [], none), (10, 1, .iconst 1, [], none), (11, 1, .iadd, [], none),
  (12, 3, .putfield 576, [], none), (15, 1, .aload_n 0, [], none), (16, 3, .getfield 249, [], none), (19, 1, .iload_n 2, [], none),
  (20, 1, .iload_n 1, [], none), (21, 1, .iastore, [], none), (22, 1, .aload_n 0, [], none), (23, 3, .getfield 270, [], none),
  (26, 1, .iload_n 2, [], none), (27, 1, .iconst 1, [], none), (28, 1, .bastore, [], none), (29, 1, .aload_n 0, [], none),
  (30, 3, .getfield 261, [], none), (33, 1, .iload_n 2, [], none), (34, 1, .iconst 0, [], none), (35, 1, .iastore, [], none),
  (36, 1, .aload_n 0, [], none), (37, 3, .getfield 264, [], none), (40, 1, .iload_n 2, [], none), (41, 1, .iconst 0, [], none),
  (42, 1, .iastore, [], none), (43, 1, .aload_n 0, [], none), (44, 3, .getfield 267, [], none), (47, 1, .iload_n 2, [], none),
  (48, 1, .iconst 0, [], none), (49, 1, .iastore, [], none), (50, 1, .aload_n 0, [], none), (51, 3, .getfield 258, [], none),
  (54, 1, .iload_n 2, [], none), (55, 1, .iconst 0, [], none), (56, 1, .iastore, [], none), (57, 1, .aload_n 0, [], none),
  (58, 3, .getfield 252, [], none), (61, 1, .iload_n 2, [], none), (62, 1, .iconst 0, [], none), (63, 1, .iastore, [], none),
  (64, 1, .aload_n 0, [], none), (65, 3, .getfield 255, [], none), (68, 1, .iload_n 2, [], none), (69, 1, .iconst 0, [], none),
  (70, 1, .iastore, [], none), (71, 1, .aload_n 0, [], none), (72, 1, .iload_n 2, [], none), (73, 1, .iload_n 1, [], none),
  (74, 1, .iconst (-1), [], none), (75, 1, .iconst (-1), [], none), (76, 1, .iconst 0, [], none), (77, 3, .invokevirtual 651, [], none),
  (80, 1, .iconst 0, [], none), (81, 1, .istore_n 3, [], none), (82, 1, .iload_n 3, [], some [true, true, true, true, false, false]), (83, 1, .aload_n 0, [], none),
  (84, 3, .getfield 252, [], none), (87, 1, .iload_n 2, [], none), (88, 1, .iaload, [], none), (89, 3, .if_icmp .ge 143, [(0, 232)], none),
  (92, 1, .aload_n 0, [], none), (93, 3, .getfield 273, [], none), (96, 1, .aload_n 0, [], none), (97, 1, .iload_n 2, [], none),
  (98, 1, .iload_n 3, [], none), (99, 3, .invokevirtual 655, [], none), (102, 1, .iaload, [], none), (103, 2, .istore 4, [], none),
  (105, 1, .aload_n 0, [], none), (106, 3, .getfield 134, [], none), (109, 2, .iload 4, [], none), (111, 1, .iaload, [], none),
  (112, 2, .istore 5, [], none), (114, 2, .iload 5, [], some [true, true, true, true, true, true]), (116, 1, .aload_n 0, [], none), (117, 3, .getfield 134, [], none),
  (120, 2, .iload 4, [], none), (122, 1, .iaload, [], none), (123, 1, .aload_n 0, [], none), (124, 3, .getfield 137, [], none),
  (127, 2, .iload 4, [], none), (129, 1, .iaload, [], none), (130, 1, .iadd, [], none), (131, 3, .if_icmp .ge 95, [(0, 226)], none),
  (134, 1, .aload_n 0, [], none), (135, 3, .getfield 258, [], none), (138, 1, .iload_n 2, [], none), (139, 1, .dup2, [], none),
  (140, 1, .iaload, [], none), (141, 1, .aload_n 0, [], none), (142, 2, .iload 5, [], none), (144, 3, .invokevirtual 658, [], none),
  (147, 1, .iadd, [], none), (148, 1, .iastore, [], none), (149, 1, .aload_n 0, [], none), (150, 3, .getfield 164, [], none),
  (153, 2, .iload 5, [], none), (155, 1, .iaload, [], none), (156, 2, .bipush 23, [], none), (158, 3, .if_icmp .ne 62, [(0, 220)], none),
  (161, 1, .aload_n 0, [], none), (162, 3, .getfield 203, [], none), (165, 2, .iload 5, [], none), (167, 1, .iaload, [], none),
  (168, 1, .iconst 1, [], none), (169, 3, .if_icmp .ne 51, [(0, 220)], none), (172, 1, .aload_n 0, [], none), (173, 1, .iload_n 2, [], none),
  (174, 1, .iload_n 3, [], none), (175, 1, .aload_n 0, [], none), (176, 3, .getfield 207, [], none), (179, 1, .iconst 3, [], none),
  (180, 2, .iload 5, [], none), (182, 1, .imul, [], none), (183, 1, .iaload, [], none), (184, 3, .invokevirtual 661, [], none),
  (187, 3, .ifCond .eq 33, [(0, 220)], none), (190, 1, .aload_n 0, [], none), (191, 1, .iload_n 2, [], none), (192, 1, .aload_n 0, [], none),
  (193, 3, .getfield 207, [], none), (196, 1, .iconst 3, [], none), (197, 2, .iload 5, [], none), (199, 1, .imul, [], none),
  (200, 1, .iaload, [], none), (201, 1, .iload_n 3, [], none), (202, 2, .iload 5, [], none), (204, 1, .aload_n 0, [], none),
  (205, 3, .getfield 282, [], none), (208, 1, .aload_n 0, [], none), (209, 1, .iload_n 2, [], none), (210, 1, .iload_n 3, [], none),
  (211, 3, .invokevirtual 655, [], none), (214, 1, .iaload, [], none), (215, 1, .iconst 1, [], none), (216, 1, .iadd, [], none),
  (217, 3, .invokevirtual 651, [], none), (220, 3, .iinc 5 1, [], some [true, true, true, true, true, true]), (223, 3, .goto (-109), [(0, 114)], none), (226, 3, .iinc 3 1, [], none),
  (229, 3, .goto (-147), [(0, 82)], none), (232, 1, .aload_n 0, [], none), (233, 3, .getfield 152, [], none), (236, 1, .iload_n 1, [], none),
  (237, 1, .iload_n 2, [], none), (238, 1, .iastore, [], none), (239, 1, .aload_n 0, [], none), (240, 3, .getfield 155, [], none),
  (243, 1, .iload_n 1, [], none), (244, 1, .dup2, [], none), (245, 1, .iaload, [], none), (246, 1, .iconst 1, [], none),
  (247, 1, .iadd, [], none), (248, 1, .iastore, [], none), (249, 1, .iload_n 2, [], none), (250, 1, .ireturn, [], none)]
def e_md_makeCode (m : Nat) : gE := (k_md_makeCode, f_md, c_md, [(651, 6, 20, 5, .inl (fn_md_addUnit m)), (655, 3, 20, 0, .inl (fn_md_unit m)), (658, 2, 20, 0, .inl (fn_md_guards m)), (661, 4, 20, 0, .inl (fn_md_mayLie m))], [], (m, 7547924849643082704483109161976537781833842440832880856752412600491248324784297704172253450355317535082937161337233392405016894372655933905203323499575698314324837662720), 0)
theorem ok_md_makeCode : gchk cX10_makeCode 6 k_md_makeCode = true := by decide +kernel
def fn_md_makeCode (m : Nat) : gFn := gF (e_md_makeCode m) 6
theorem mo_md_makeCode (m : Nat) : gMo (.inl (fn_md_makeCode m)) := gF_mo (E := e_md_makeCode m) ⟨mo_md_addUnit m, ⟨mo_md_unit m, ⟨mo_md_guards m, ⟨mo_md_mayLie m, trivial⟩⟩⟩⟩
noncomputable def md_makeCode (σ : gM) (x1 : Int) : Option (gM × Int) := lim (fun n => fn_md_makeCode 227 n [(2, 119), (0, x1)] σ)
theorem md_makeCode_l (σ : gM) (x1 : Int) : Lm (fun n => fn_md_makeCode 227 n [(2, 119), (0, x1)] σ) (md_makeCode σ x1) := .of fun n => mo_md_makeCode 227 n [(2, 119), (0, x1)] σ
theorem mb_md_makeCode : gMos (e_md_makeCode 227).2.2.2.1 := ⟨mo_md_addUnit 227, ⟨mo_md_unit 227, ⟨mo_md_guards 227, ⟨mo_md_mayLie 227, trivial⟩⟩⟩⟩
noncomputable def md_makeCode_b82 (σ : gM) (x1 x2 x3 : Int) : Option (gM × Int) := lim (fun n => gB (e_md_makeCode 227) rF tF n 82 [(2, 119), (0, x1), (0, x2), (0, x3), (9, 0), (9, 0)] [] σ)
theorem md_makeCode_b82_l (σ : gM) (x1 x2 x3 : Int) : Lm (fun n => gB (e_md_makeCode 227) rF tF n 82 [(2, 119), (0, x1), (0, x2), (0, x3), (9, 0), (9, 0)] [] σ) (md_makeCode_b82 σ x1 x2 x3) := .of fun n => gB_le (gMos_spec (mb_md_makeCode)) n _ _ _ σ
noncomputable def md_makeCode_b114 (σ : gM) (x1 x2 x3 x4 x5 : Int) : Option (gM × Int) := lim (fun n => gB (e_md_makeCode 227) rF tF n 114 [(2, 119), (0, x1), (0, x2), (0, x3), (0, x4), (0, x5)] [] σ)
theorem md_makeCode_b114_l (σ : gM) (x1 x2 x3 x4 x5 : Int) : Lm (fun n => gB (e_md_makeCode 227) rF tF n 114 [(2, 119), (0, x1), (0, x2), (0, x3), (0, x4), (0, x5)] [] σ) (md_makeCode_b114 σ x1 x2 x3 x4 x5) := .of fun n => gB_le (gMos_spec (mb_md_makeCode)) n _ _ _ σ
noncomputable def md_makeCode_b220 (σ : gM) (x1 x2 x3 x4 x5 : Int) : Option (gM × Int) := lim (fun n => gB (e_md_makeCode 227) rF tF n 220 [(2, 119), (0, x1), (0, x2), (0, x3), (0, x4), (0, x5)] [] σ)
theorem md_makeCode_b220_l (σ : gM) (x1 x2 x3 x4 x5 : Int) : Lm (fun n => gB (e_md_makeCode 227) rF tF n 220 [(2, 119), (0, x1), (0, x2), (0, x3), (0, x4), (0, x5)] [] σ) (md_makeCode_b220 σ x1 x2 x3 x4 x5) := .of fun n => gB_le (gMos_spec (mb_md_makeCode)) n _ _ _ σ
theorem md_makeCode_e (σ : gM) (x1 : Int) : md_makeCode σ x1 =
  (if 0 ≤ σ 119 104 ∧ σ 119 104 < 100 then
  (if 0 ≤ σ 119 104 ∧ σ 119 104 < 100 then
    (if 0 ≤ σ 119 104 ∧ σ 119 104 < 100 then
      (if 0 ≤ σ 119 104 ∧ σ 119 104 < 100 then
        (if 0 ≤ σ 119 104 ∧ σ 119 104 < 100 then
          (if 0 ≤ σ 119 104 ∧ σ 119 104 < 100 then
            (if 0 ≤ σ 119 104 ∧ σ 119 104 < 100 then
              (if 0 ≤ σ 119 104 ∧ σ 119 104 < 100 then
                ((md_addUnit (gW (gW (gW (gW (gW (gW (gW (gW (gW σ 119 104 (w32 ((σ 119 104) + 1))) 196 (σ 119 104) x1) 203 (σ 119 104) 1) 200 (σ 119 104) 0) 201 (σ 119 104) 0) 202 (σ 119 104) 0) 199 (σ 119 104) 0) 197 (σ 119 104) 0) 198 (σ 119 104) 0) (σ 119 104) x1 (-1) (-1) 0).bind fun p1 =>
                  md_makeCode_b82 p1.1 x1 (σ 119 104) 0)
                else none)
              else none)
            else none)
          else none)
        else none)
      else none)
    else none)
  else none) := Lm.eqn (md_makeCode_l ..) (.ite (.ite (.ite (.ite (.ite (.ite (.ite (.ite (.bind (md_addUnit_l ..) fun p1 => (md_makeCode_b82_l ..)) .cst) .cst) .cst) .cst) .cst) .cst) .cst) .cst) fun n => (rfl)
theorem md_makeCode_b82_e (σ : gM) (x1 x2 x3 : Int) : md_makeCode_b82 σ x1 x2 x3 =
  (if 0 ≤ x2 ∧ x2 < 100 then
  (if x3 < σ 197 x2 then
    ((md_unit σ x2 x3).bind fun p1 =>
      if 0 ≤ p1.2 ∧ p1.2 < 15200 then
      (if 0 ≤ p1.1 204 p1.2 ∧ p1.1 204 p1.2 < 60 then
        (md_makeCode_b114 p1.1 x1 x2 x3 (p1.1 204 p1.2) (p1.1 158 (p1.1 204 p1.2)))
        else none)
      else none)
    else
    (if 0 ≤ x1 ∧ x1 < 60 then
      (if 0 ≤ x1 ∧ x1 < 60 then
        (if 0 ≤ x1 ∧ x1 < 60 then
          (some (gW (gW σ 164 x1 x2) 165 x1 (w32 ((σ 165 x1) + 1)), x2))
          else none)
        else none)
      else none))
  else none) := Lm.eqn (md_makeCode_b82_l ..) (.ite (.ite (.bind (md_unit_l ..) fun p1 => (.ite (.ite (md_makeCode_b114_l ..) .cst) .cst)) (.ite (.ite (.ite .cst .cst) .cst) .cst)) .cst) fun n => (rfl)
theorem md_makeCode_b114_e (σ : gM) (x1 x2 x3 x4 x5 : Int) : md_makeCode_b114 σ x1 x2 x3 x4 x5 =
  (if 0 ≤ x4 ∧ x4 < 60 then
  (if 0 ≤ x4 ∧ x4 < 60 then
    (if x5 < w32 ((σ 158 x4) + (σ 159 x4)) then
      (if 0 ≤ x2 ∧ x2 < 100 then
        ((md_guards σ x5).bind fun p1 =>
          if 0 ≤ x2 ∧ x2 < 100 then
          (if 0 ≤ x5 ∧ x5 < 20000 then
            (if p1.1 168 x5 = 23 then
              (if 0 ≤ x5 ∧ x5 < 20000 then
                (if p1.1 181 x5 = 1 then
                  (if 0 ≤ w32 (3 * x5) ∧ w32 (3 * x5) < 60000 then
                    ((md_mayLie (gW p1.1 199 x2 (w32 ((σ 199 x2) + p1.2))) x2 x3 (p1.1 182 (w32 (3 * x5)))).bind fun p2 =>
                      if p2.2 = 0 then
                      (md_makeCode_b220 p2.1 x1 x2 x3 x4 x5)
                      else
                      (if 0 ≤ w32 (3 * x5) ∧ w32 (3 * x5) < 60000 then
                        ((md_unit p2.1 x2 x3).bind fun p3 =>
                          if 0 ≤ p3.2 ∧ p3.2 < 15200 then
                          ((md_addUnit p3.1 x2 (p2.1 182 (w32 (3 * x5))) x3 x5 (w32 ((p3.1 207 p3.2) + 1))).bind fun p4 =>
                            md_makeCode_b220 p4.1 x1 x2 x3 x4 x5)
                          else none)
                        else none))
                    else none)
                  else
                  (md_makeCode_b220 (gW p1.1 199 x2 (w32 ((σ 199 x2) + p1.2))) x1 x2 x3 x4 x5))
                else none)
              else
              (md_makeCode_b220 (gW p1.1 199 x2 (w32 ((σ 199 x2) + p1.2))) x1 x2 x3 x4 x5))
            else none)
          else none)
        else none)
      else
      (md_makeCode_b82 σ x1 x2 (w32 (x3 + 1))))
    else none)
  else none) := Lm.eqn (md_makeCode_b114_l ..) (.ite (.ite (.ite (.ite (.bind (md_guards_l ..) fun p1 => (.ite (.ite (.ite (.ite (.ite (.ite (.bind (md_mayLie_l ..) fun p2 => (.ite (md_makeCode_b220_l ..) (.ite (.bind (md_unit_l ..) fun p3 => (.ite (.bind (md_addUnit_l ..) fun p4 => (md_makeCode_b220_l ..)) .cst)) .cst))) .cst) (md_makeCode_b220_l ..)) .cst) (md_makeCode_b220_l ..)) .cst) .cst)) .cst) (md_makeCode_b82_l ..)) .cst) .cst) fun n => (rfl)
theorem md_makeCode_b220_e (σ : gM) (x1 x2 x3 x4 x5 : Int) : md_makeCode_b220 σ x1 x2 x3 x4 x5 =
  (md_makeCode_b114 σ x1 x2 x3 x4 (w32 (x5 + 1))) := Lm.eqn (md_makeCode_b220_l ..) (md_makeCode_b114_l ..) fun n => (rfl)
def k_md_compile : List gC := [(0, 1, .aload_n 0, [], none), (1, 3, .getfield 576, [], none), (4, 2, .bipush 100, [], none), (6, 3, .if_icmp .ne 5, [(0, 11)], none),
  (9, 1, .iconst (-1), [], none), (10, 1, .ireturn, [], none), (11, 1, .aload_n 0, [], some [true, false, false]), (12, 3, .getfield 570, [], none),
  (15, 3, .ifCond .le 69, [(0, 84)], none), (18, 1, .aload_n 0, [], none), (19, 3, .getfield 216, [], none), (22, 1, .iconst 0, [], none),
  (23, 1, .iaload, [], none), (24, 1, .istore_n 1, [], none), (25, 1, .aload_n 0, [], none), (26, 1, .dup, [], none),
  (27, 3, .getfield 570, [], none), (30, 1, .iconst 1, [], none), (31, 1, .isub, [], none), (32, 3, .putfield 570, [], none),
  (35, 1, .iconst 0, [], none), (36, 1, .istore_n 2, [], none), (37, 1, .iload_n 2, [], some [true, true, true]), (38, 1, .aload_n 0, [], none),
  (39, 3, .getfield 570, [], none), (42, 3, .if_icmp .ge 23, [(0, 65)], none), (45, 1, .aload_n 0, [], none), (46, 3, .getfield 216, [], none),
  (49, 1, .iload_n 2, [], none), (50, 1, .aload_n 0, [], none), (51, 3, .getfield 216, [], none), (54, 1, .iload_n 2, [], none),
  (55, 1, .iconst 1, [], none), (56, 1, .iadd, [], none), (57, 1, .iaload, [], none), (58, 1, .iastore, [], none),
  (59, 3, .iinc 2 1, [], none), (62, 3, .goto (-25), [(0, 37)], none), (65, 1, .aload_n 0, [], none), (66, 1, .iload_n 1, [], none),
  (67, 3, .invokevirtual 665, [], none), (70, 3, .ifCond .ne 6, [(0, 76)], none), (73, 3, .goto (-62), [(0, 11)], none), (76, 1, .aload_n 0, [], none),
  (77, 1, .iload_n 1, [], none), (78, 3, .invokevirtual 682, [], none), (81, 1, .pop, [], none), (82, 1, .iload_n 1, [], none),
  (83, 1, .ireturn, [], none), (84, 1, .iconst (-1), [], none), (85, 1, .ireturn, [], none)]
def e_md_compile (m : Nat) : gE := (k_md_compile, f_md, c_md, [(665, 2, 20, 0, .inl (fn_md_isNewest m)), (682, 2, 20, 0, .inl (fn_md_makeCode m))], [], (m, 7548155194029363316137909061548131304105016569325337914884027359176566050868428084351213785238446054294823237287906868532154911079345442318216210629428758262624095830016), 0)
theorem ok_md_compile : gchk cX10_compile 3 k_md_compile = true := by decide +kernel
def fn_md_compile (m : Nat) : gFn := gF (e_md_compile m) 3
theorem mo_md_compile (m : Nat) : gMo (.inl (fn_md_compile m)) := gF_mo (E := e_md_compile m) ⟨mo_md_isNewest m, ⟨mo_md_makeCode m, trivial⟩⟩
noncomputable def md_compile (σ : gM) : Option (gM × Int) := lim (fun n => fn_md_compile 227 n [(2, 119)] σ)
theorem md_compile_l (σ : gM) : Lm (fun n => fn_md_compile 227 n [(2, 119)] σ) (md_compile σ) := .of fun n => mo_md_compile 227 n [(2, 119)] σ
theorem mb_md_compile : gMos (e_md_compile 227).2.2.2.1 := ⟨mo_md_isNewest 227, ⟨mo_md_makeCode 227, trivial⟩⟩
noncomputable def md_compile_b11 (σ : gM) : Option (gM × Int) := lim (fun n => gB (e_md_compile 227) rF tF n 11 [(2, 119), (9, 0), (9, 0)] [] σ)
theorem md_compile_b11_l (σ : gM) : Lm (fun n => gB (e_md_compile 227) rF tF n 11 [(2, 119), (9, 0), (9, 0)] [] σ) (md_compile_b11 σ) := .of fun n => gB_le (gMos_spec (mb_md_compile)) n _ _ _ σ
noncomputable def md_compile_b37 (σ : gM) (x1 x2 : Int) : Option (gM × Int) := lim (fun n => gB (e_md_compile 227) rF tF n 37 [(2, 119), (0, x1), (0, x2)] [] σ)
theorem md_compile_b37_l (σ : gM) (x1 x2 : Int) : Lm (fun n => gB (e_md_compile 227) rF tF n 37 [(2, 119), (0, x1), (0, x2)] [] σ) (md_compile_b37 σ x1 x2) := .of fun n => gB_le (gMos_spec (mb_md_compile)) n _ _ _ σ
theorem md_compile_e (σ : gM) : md_compile σ =
  (if σ 119 104 = 100 then
  (some (σ, (-1)))
  else
  (md_compile_b11 σ)) := Lm.eqn (md_compile_l ..) (.ite .cst (md_compile_b11_l ..)) fun n => (rfl)
theorem md_compile_b11_e (σ : gM) : md_compile_b11 σ =
  (if 0 < σ 119 89 then
  (if (0 : Int) ≤ 0 ∧ (0 : Int) < 60 then
    (md_compile_b37 (gW σ 119 89 (w32 ((σ 119 89) - 1))) (σ 185 0) 0)
    else none)
  else
  (some (σ, (-1)))) := Lm.eqn (md_compile_b11_l ..) (.ite (.ite (md_compile_b37_l ..) .cst) .cst) fun n => (rfl)
theorem md_compile_b37_e (σ : gM) (x1 x2 : Int) : md_compile_b37 σ x1 x2 =
  (if x2 < σ 119 89 then
  (if 0 ≤ w32 (x2 + 1) ∧ w32 (x2 + 1) < 60 then
    (if 0 ≤ x2 ∧ x2 < 60 then
      (md_compile_b37 (gW σ 185 x2 (σ 185 (w32 (x2 + 1)))) x1 (w32 (x2 + 1)))
      else none)
    else none)
  else
  ((md_isNewest σ x1).bind fun p1 =>
    if p1.2 = 0 then
    (md_compile_b11 p1.1)
    else
    ((md_makeCode p1.1 x1).bind fun p2 =>
      some (p2.1, x1)))) := Lm.eqn (md_compile_b37_l ..) (.ite (.ite (.ite (md_compile_b37_l ..) .cst) .cst) (.bind (md_isNewest_l ..) fun p1 => (.ite (md_compile_b11_l ..) (.bind (md_makeCode_l ..) fun p2 => .cst)))) fun n => (rfl)
def k_md_feed : List gC := [(0, 1, .aload_n 0, [], none), (1, 3, .getfield 927, [], none), (4, 2, .bipush 20, [], none), (6, 1, .iadd, [], none),
  (7, 3, .sipush 4000, [], none), (10, 3, .if_icmp .le 5, [(0, 15)], none), (13, 1, .iconst (-1), [], none), (14, 1, .ireturn, [], none),
  (15, 1, .iconst 0, [], none), (16, 2, .istore 6, [], none), (18, 2, .iload 6, [], some [true, true, true, true, true, true, true, false, false]), (20, 1, .iconst 5, [], none),
  (21, 3, .if_icmp .ge 97, [(0, 118)], none), (24, 2, .iload 6, [], none), (26, 3, .ifCond .ne 7, [(0, 33)], none), (29, 1, .iload_n 1, [], none),
  (30, 3, .goto 36, [(0, 66)], none), (33, 2, .iload 6, [], none), (35, 1, .iconst 1, [], none), (36, 3, .if_icmp .ne 7, [(0, 43)], none),
  (39, 1, .iload_n 2, [], none), (40, 3, .goto 26, [(0, 66)], none), (43, 2, .iload 6, [], none), (45, 1, .iconst 2, [], none),
  (46, 3, .if_icmp .ne 7, [(0, 53)], none), (49, 1, .iload_n 3, [], none), (50, 3, .goto 16, [(0, 66)], none), (53, 2, .iload 6, [], none),
  (55, 1, .iconst 3, [], none), (56, 3, .if_icmp .ne 8, [(0, 64)], none), (59, 2, .iload 4, [], none), (61, 3, .goto 5, [(0, 66)], none),
  (64, 2, .iload 5, [], none), (66, 2, .istore 7, [], some [true, true, true, true, true, true, true, false, false]), (68, 1, .iconst 0, [], none), (69, 2, .istore 8, [], none),
  (71, 2, .iload 8, [], some [true, true, true, true, true, true, true, true, true]), (73, 1, .iconst 4, [], none), (74, 3, .if_icmp .ge 38, [(0, 112)], none), (77, 1, .aload_n 0, [], none),
  (78, 3, .getfield 347, [], none), (81, 1, .aload_n 0, [], none), (82, 3, .getfield 927, [], none), (85, 1, .iconst 4, [], none),
  (86, 2, .iload 6, [], none), (88, 1, .imul, [], none), (89, 1, .iadd, [], none), (90, 2, .iload 8, [], none),
  (92, 1, .iadd, [], none), (93, 2, .iload 7, [], none), (95, 2, .bipush 24, [], none), (97, 2, .bipush 8, [], none),
  (99, 2, .iload 8, [], none), (101, 1, .imul, [], none), (102, 1, .isub, [], none), (103, 1, .ishr, [], none),
  (104, 1, .i2b, [], none), (105, 1, .bastore, [], none), (106, 3, .iinc 8 1, [], none), (109, 3, .goto (-38), [(0, 71)], none),
  (112, 3, .iinc 6 1, [], none), (115, 3, .goto (-97), [(0, 18)], none), (118, 1, .aload_n 0, [], none), (119, 1, .dup, [], none),
  (120, 3, .getfield 927, [], none), (123, 2, .bipush 20, [], none), (125, 1, .iadd, [], none), (126, 3, .putfield 927, [], none),
  (129, 1, .aload_n 0, [], none), (130, 3, .getfield 927, [], none), (133, 1, .ireturn, [], none)]
def e_md_feed (m : Nat) : gE := (k_md_feed, f_md, c_md, [], [], (m, 4249103942534136789516705652419749018636744941816255385595553105603228478886817941913300018121834285351114635889972115962559303303780836583336507908655393364128340328973070166694821888), 0)
theorem ok_md_feed : gchk cX10_feed 9 k_md_feed = true := by decide +kernel
def fn_md_feed (m : Nat) : gFn := gF (e_md_feed m) 9
theorem mo_md_feed (m : Nat) : gMo (.inl (fn_md_feed m)) := gF_mo (E := e_md_feed m) trivial
noncomputable def md_feed (σ : gM) (x1 x2 x3 x4 x5 : Int) : Option (gM × Int) := lim (fun n => fn_md_feed 227 n [(2, 119), (0, x1), (0, x2), (0, x3), (0, x4), (0, x5)] σ)
theorem md_feed_l (σ : gM) (x1 x2 x3 x4 x5 : Int) : Lm (fun n => fn_md_feed 227 n [(2, 119), (0, x1), (0, x2), (0, x3), (0, x4), (0, x5)] σ) (md_feed σ x1 x2 x3 x4 x5) := .of fun n => mo_md_feed 227 n [(2, 119), (0, x1), (0, x2), (0, x3), (0, x4), (0, x5)] σ
theorem mb_md_feed : gMos (e_md_feed 227).2.2.2.1 := trivial
noncomputable def md_feed_b18 (σ : gM) (x1 x2 x3 x4 x5 x6 : Int) : Option (gM × Int) := lim (fun n => gB (e_md_feed 227) rF tF n 18 [(2, 119), (0, x1), (0, x2), (0, x3), (0, x4), (0, x5), (0, x6), (9, 0), (9, 0)] [] σ)
theorem md_feed_b18_l (σ : gM) (x1 x2 x3 x4 x5 x6 : Int) : Lm (fun n => gB (e_md_feed 227) rF tF n 18 [(2, 119), (0, x1), (0, x2), (0, x3), (0, x4), (0, x5), (0, x6), (9, 0), (9, 0)] [] σ) (md_feed_b18 σ x1 x2 x3 x4 x5 x6) := .of fun n => gB_le (gMos_spec (mb_md_feed)) n _ _ _ σ
noncomputable def md_feed_b66 (σ : gM) (x1 x2 x3 x4 x5 x6 y0 : Int) : Option (gM × Int) := lim (fun n => gB (e_md_feed 227) rF tF n 66 [(2, 119), (0, x1), (0, x2), (0, x3), (0, x4), (0, x5), (0, x6), (9, 0), (9, 0)] [(0, y0)] σ)
theorem md_feed_b66_l (σ : gM) (x1 x2 x3 x4 x5 x6 y0 : Int) : Lm (fun n => gB (e_md_feed 227) rF tF n 66 [(2, 119), (0, x1), (0, x2), (0, x3), (0, x4), (0, x5), (0, x6), (9, 0), (9, 0)] [(0, y0)] σ) (md_feed_b66 σ x1 x2 x3 x4 x5 x6 y0) := .of fun n => gB_le (gMos_spec (mb_md_feed)) n _ _ _ σ
noncomputable def md_feed_b71 (σ : gM) (x1 x2 x3 x4 x5 x6 x7 x8 : Int) : Option (gM × Int) := lim (fun n => gB (e_md_feed 227) rF tF n 71 [(2, 119), (0, x1), (0, x2), (0, x3), (0, x4), (0, x5), (0, x6), (0, x7), (0, x8)] [] σ)
theorem md_feed_b71_l (σ : gM) (x1 x2 x3 x4 x5 x6 x7 x8 : Int) : Lm (fun n => gB (e_md_feed 227) rF tF n 71 [(2, 119), (0, x1), (0, x2), (0, x3), (0, x4), (0, x5), (0, x6), (0, x7), (0, x8)] [] σ) (md_feed_b71 σ x1 x2 x3 x4 x5 x6 x7 x8) := .of fun n => gB_le (gMos_spec (mb_md_feed)) n _ _ _ σ
theorem md_feed_e (σ : gM) (x1 x2 x3 x4 x5 : Int) : md_feed σ x1 x2 x3 x4 x5 =
  (if 4000 < w32 ((σ 119 153) + 20) then
  (some (σ, (-1)))
  else
  (md_feed_b18 σ x1 x2 x3 x4 x5 0)) := Lm.eqn (md_feed_l ..) (.ite .cst (md_feed_b18_l ..)) fun n => (rfl)
theorem md_feed_b18_e (σ : gM) (x1 x2 x3 x4 x5 x6 : Int) : md_feed_b18 σ x1 x2 x3 x4 x5 x6 =
  (if x6 < 5 then
  (if x6 = 0 then
    (md_feed_b66 σ x1 x2 x3 x4 x5 x6 x1)
    else
    (if x6 = 1 then
      (md_feed_b66 σ x1 x2 x3 x4 x5 x6 x2)
      else
      (if x6 = 2 then
        (md_feed_b66 σ x1 x2 x3 x4 x5 x6 x3)
        else
        (if x6 = 3 then
          (md_feed_b66 σ x1 x2 x3 x4 x5 x6 x4)
          else
          (md_feed_b66 σ x1 x2 x3 x4 x5 x6 x5)))))
  else
  (some (gW σ 119 153 (w32 ((σ 119 153) + 20)), w32 ((σ 119 153) + 20)))) := Lm.eqn (md_feed_b18_l ..) (.ite (.ite (md_feed_b66_l ..) (.ite (md_feed_b66_l ..) (.ite (md_feed_b66_l ..) (.ite (md_feed_b66_l ..) (md_feed_b66_l ..))))) .cst) fun n => (rfl)
theorem md_feed_b66_e (σ : gM) (x1 x2 x3 x4 x5 x6 y0 : Int) : md_feed_b66 σ x1 x2 x3 x4 x5 x6 y0 =
  (md_feed_b71 σ x1 x2 x3 x4 x5 x6 y0 0) := Lm.eqn (md_feed_b66_l ..) (md_feed_b71_l ..) fun n => (rfl)
theorem md_feed_b71_e (σ : gM) (x1 x2 x3 x4 x5 x6 x7 x8 : Int) : md_feed_b71 σ x1 x2 x3 x4 x5 x6 x7 x8 =
  (if x8 < 4 then
  (if 0 ≤ w32 ((w32 ((σ 119 153) + (w32 (4 * x6)))) + x8) ∧ w32 ((w32 ((σ 119 153) + (w32 (4 * x6)))) + x8) < 4000 then
    (md_feed_b71 (gW σ 226 (w32 ((w32 ((σ 119 153) + (w32 (4 * x6)))) + x8)) (w8 (w8 (i_shr x7 (w32 (24 - (w32 (8 * x8)))))))) x1 x2 x3 x4 x5 x6 x7 (w32 (x8 + 1)))
    else none)
  else
  (md_feed_b18 σ x1 x2 x3 x4 x5 (w32 (x6 + 1)))) := Lm.eqn (md_feed_b71_l ..) (.ite (.ite (md_feed_b71_l ..) .cst) (md_feed_b18_l ..)) fun n => (rfl)
def k_md_noRun : List gC := [(0, 1, .aload_n 0, [], none), (1, 1, .iconst 0, [], none), (2, 3, .putfield 772, [], none), (5, 1, .aload_n 0, [], none),
  (6, 1, .iconst 0, [], none), (7, 3, .putfield 723, [], none), (10, 1, .aload_n 0, [], none), (11, 1, .iconst 0, [], none),
  (12, 3, .putfield 685, [], none), (15, 1, .aload_n 0, [], none), (16, 1, .iconst 0, [], none), (17, 3, .putfield 729, [], none),
  (20, 1, .aload_n 0, [], none), (21, 1, .iconst 0, [], none), (22, 3, .putfield 913, [], none), (25, 1, .aload_n 0, [], none),
  (26, 1, .iconst 0, [], none), (27, 3, .putfield 919, [], none), (30, 1, .aload_n 0, [], none), (31, 1, .iconst (-1), [], none),
  (32, 3, .putfield 704, [], none), (35, 1, .aload_n 0, [], none), (36, 1, .iconst (-1), [], none), (37, 3, .putfield 285, [], none),
  (40, 1, .aload_n 0, [], none), (41, 1, .iconst (-1), [], none), (42, 3, .putfield 289, [], none), (45, 1, .return_, [], none)]
def e_md_noRun (m : Nat) : gE := (k_md_noRun, f_md, c_md, [], [], (m, 921243912901688153963815911075124443665340917919883024237158088605363495075889041626980346306326464345229156204762475844212918180673800415537261262436719679742040043481372557312), 5)
theorem ok_md_noRun : gchk cX10_noRun 1 k_md_noRun = true := by decide +kernel
def fn_md_noRun (m : Nat) : gFn := gF (e_md_noRun m) 1
theorem mo_md_noRun (m : Nat) : gMo (.inl (fn_md_noRun m)) := gF_mo (E := e_md_noRun m) trivial
noncomputable def md_noRun (σ : gM) : Option (gM × Int) := lim (fun n => fn_md_noRun 227 n [(2, 119)] σ)
theorem md_noRun_l (σ : gM) : Lm (fun n => fn_md_noRun 227 n [(2, 119)] σ) (md_noRun σ) := .of fun n => mo_md_noRun 227 n [(2, 119)] σ
theorem md_noRun_e (σ : gM) : md_noRun σ =
  (some (gW (gW (gW (gW (gW (gW (gW (gW (gW σ 119 117 0) 119 118 0) 119 121 0) 119 122 0) 119 95 0) 119 126 0) 119 128 (-1)) 119 129 (-1)) 119 130 (-1), 0)) := Lm.eqn (md_noRun_l ..) .cst fun n => (rfl)
def k_md_sign : List gC := [(0, 1, .iload_n 1, [], none), (1, 1, .aload_n 0, [], none), (2, 3, .getfield 420, [], none), (5, 3, .if_icmp .ge 12, [(0, 17)], none),
  (8, 1, .aload_n 0, [], none), (9, 3, .getfield 61, [], none), (12, 1, .iload_n 1, [], none), (13, 1, .baload, [], none),
  (14, 3, .goto 4, [(0, 18)], none), (17, 1, .iconst (-1), [], none), (18, 1, .ireturn, [], none)]
def e_md_sign (m : Nat) : gE := (k_md_sign, f_md, c_md, [], [], (m, 0), 0)
theorem ok_md_sign : gchk cX10_sign 2 k_md_sign = true := by decide +kernel
def fn_md_sign (m : Nat) : gFn := gF (e_md_sign m) 2
theorem mo_md_sign (m : Nat) : gMo (.inl (fn_md_sign m)) := gF_mo (E := e_md_sign m) trivial
noncomputable def md_sign (σ : gM) (x1 : Int) : Option (gM × Int) := lim (fun n => fn_md_sign 227 n [(2, 119), (0, x1)] σ)
theorem md_sign_l (σ : gM) (x1 : Int) : Lm (fun n => fn_md_sign 227 n [(2, 119), (0, x1)] σ) (md_sign σ x1) := .of fun n => mo_md_sign 227 n [(2, 119), (0, x1)] σ
theorem md_sign_e (σ : gM) (x1 : Int) : md_sign σ x1 =
  (if x1 < σ 119 23 then
  (if 0 ≤ x1 ∧ x1 < 4000 then
    (some (σ, σ 134 x1))
    else none)
  else
  (some (σ, (-1)))) := Lm.eqn (md_sign_l ..) (.ite (.ite .cst .cst) .cst) fun n => (rfl)
def k_md_blanks : List gC := [(0, 1, .aload_n 0, [], some [true, false]), (1, 3, .getfield 423, [], none), (4, 1, .aload_n 0, [], none), (5, 3, .getfield 420, [], none),
  (8, 3, .if_icmp .ge 99, [(0, 107)], none), (11, 1, .aload_n 0, [], none), (12, 1, .aload_n 0, [], none), (13, 3, .getfield 423, [], none),
  (16, 3, .invokevirtual 426, [], none), (19, 1, .istore_n 1, [], none), (20, 1, .iload_n 1, [], none), (21, 2, .bipush 47, [], none),
  (23, 3, .if_icmp .ne 55, [(0, 78)], none), (26, 1, .aload_n 0, [], none), (27, 1, .aload_n 0, [], none), (28, 3, .getfield 423, [], none),
  (31, 1, .iconst 1, [], none), (32, 1, .iadd, [], none), (33, 3, .invokevirtual 426, [], none), (36, 2, .bipush 47, [], none),
  (38, 3, .if_icmp .ne 40, [(0, 78)], none), (41, 1, .aload_n 0, [], some [true, false]), (42, 3, .getfield 423, [], none), (45, 1, .aload_n 0, [], none),
  (46, 3, .getfield 420, [], none), (49, 3, .if_icmp .ge 55, [(0, 104)], none), (52, 1, .aload_n 0, [], none), (53, 1, .aload_n 0, [], none),
  (54, 3, .getfield 423, [], none), (57, 3, .invokevirtual 426, [], none), (60, 2, .bipush 10, [], none), (62, 3, .if_icmp .eq 42, [(0, 104)], none),
  (65, 1, .aload_n 0, [], none), (66, 1, .dup, [], none), (67, 3, .getfield 423, [], none), (70, 1, .iconst 1, [], none),
  (71, 1, .iadd, [], none), (72, 3, .putfield 423, [], none), (75, 3, .goto (-34), [(0, 41)], none), (78, 1, .iload_n 1, [], some [true, true]),
  (79, 2, .bipush 10, [], none), (81, 3, .if_icmp .eq 9, [(0, 90)], none), (84, 1, .iload_n 1, [], none), (85, 2, .bipush 32, [], none),
  (87, 3, .if_icmp .ne 16, [(0, 103)], none), (90, 1, .aload_n 0, [], some [true, false]), (91, 1, .dup, [], none), (92, 3, .getfield 423, [], none),
  (95, 1, .iconst 1, [], none), (96, 1, .iadd, [], none), (97, 3, .putfield 423, [], none), (100, 3, .goto 4, [(0, 104)], none),
  (103, 1, .return_, [], none), (104, 3, .goto (-104), [(0, 0)], some [true, false]), (107, 1, .return_, [], none)]
def e_md_blanks (m : Nat) : gE := (k_md_blanks, f_md, c_md, [(426, 2, 20, 0, .inl (fn_md_sign m))], [], (m, 6243497100631984462763194459586332611497196285329942301718313919250743477639531240240612206126983942319653862242813245790895951358576570612580352), 5)
theorem ok_md_blanks : gchk cX10_blanks 2 k_md_blanks = true := by decide +kernel
def fn_md_blanks (m : Nat) : gFn := gF (e_md_blanks m) 2
theorem mo_md_blanks (m : Nat) : gMo (.inl (fn_md_blanks m)) := gF_mo (E := e_md_blanks m) ⟨mo_md_sign m, trivial⟩
noncomputable def md_blanks (σ : gM) : Option (gM × Int) := lim (fun n => fn_md_blanks 227 n [(2, 119)] σ)
theorem md_blanks_l (σ : gM) : Lm (fun n => fn_md_blanks 227 n [(2, 119)] σ) (md_blanks σ) := .of fun n => mo_md_blanks 227 n [(2, 119)] σ
theorem mb_md_blanks : gMos (e_md_blanks 227).2.2.2.1 := ⟨mo_md_sign 227, trivial⟩
noncomputable def md_blanks_b0 (σ : gM) : Option (gM × Int) := lim (fun n => gB (e_md_blanks 227) rF tF n 0 [(2, 119), (9, 0)] [] σ)
theorem md_blanks_b0_l (σ : gM) : Lm (fun n => gB (e_md_blanks 227) rF tF n 0 [(2, 119), (9, 0)] [] σ) (md_blanks_b0 σ) := .of fun n => gB_le (gMos_spec (mb_md_blanks)) n _ _ _ σ
noncomputable def md_blanks_b41 (σ : gM) : Option (gM × Int) := lim (fun n => gB (e_md_blanks 227) rF tF n 41 [(2, 119), (9, 0)] [] σ)
theorem md_blanks_b41_l (σ : gM) : Lm (fun n => gB (e_md_blanks 227) rF tF n 41 [(2, 119), (9, 0)] [] σ) (md_blanks_b41 σ) := .of fun n => gB_le (gMos_spec (mb_md_blanks)) n _ _ _ σ
noncomputable def md_blanks_b78 (σ : gM) (x1 : Int) : Option (gM × Int) := lim (fun n => gB (e_md_blanks 227) rF tF n 78 [(2, 119), (0, x1)] [] σ)
theorem md_blanks_b78_l (σ : gM) (x1 : Int) : Lm (fun n => gB (e_md_blanks 227) rF tF n 78 [(2, 119), (0, x1)] [] σ) (md_blanks_b78 σ x1) := .of fun n => gB_le (gMos_spec (mb_md_blanks)) n _ _ _ σ
noncomputable def md_blanks_b90 (σ : gM) : Option (gM × Int) := lim (fun n => gB (e_md_blanks 227) rF tF n 90 [(2, 119), (9, 0)] [] σ)
theorem md_blanks_b90_l (σ : gM) : Lm (fun n => gB (e_md_blanks 227) rF tF n 90 [(2, 119), (9, 0)] [] σ) (md_blanks_b90 σ) := .of fun n => gB_le (gMos_spec (mb_md_blanks)) n _ _ _ σ
noncomputable def md_blanks_b104 (σ : gM) : Option (gM × Int) := lim (fun n => gB (e_md_blanks 227) rF tF n 104 [(2, 119), (9, 0)] [] σ)
theorem md_blanks_b104_l (σ : gM) : Lm (fun n => gB (e_md_blanks 227) rF tF n 104 [(2, 119), (9, 0)] [] σ) (md_blanks_b104 σ) := .of fun n => gB_le (gMos_spec (mb_md_blanks)) n _ _ _ σ
theorem md_blanks_e (σ : gM) : md_blanks σ =
  (if σ 119 24 < σ 119 23 then
  ((md_sign σ (σ 119 24)).bind fun p1 =>
    if p1.2 = 47 then
    ((md_sign p1.1 (w32 ((p1.1 119 24) + 1))).bind fun p2 =>
      if p2.2 = 47 then
      (md_blanks_b41 p2.1)
      else
      (md_blanks_b78 p2.1 p1.2))
    else
    (md_blanks_b78 p1.1 p1.2))
  else
  (some (σ, 0))) := Lm.eqn (md_blanks_l ..) (.ite (.bind (md_sign_l ..) fun p1 => (.ite (.bind (md_sign_l ..) fun p2 => (.ite (md_blanks_b41_l ..) (md_blanks_b78_l ..))) (md_blanks_b78_l ..))) .cst) fun n => (rfl)
theorem md_blanks_b0_e (σ : gM) : md_blanks_b0 σ =
  (if σ 119 24 < σ 119 23 then
  ((md_sign σ (σ 119 24)).bind fun p1 =>
    if p1.2 = 47 then
    ((md_sign p1.1 (w32 ((p1.1 119 24) + 1))).bind fun p2 =>
      if p2.2 = 47 then
      (md_blanks_b41 p2.1)
      else
      (md_blanks_b78 p2.1 p1.2))
    else
    (md_blanks_b78 p1.1 p1.2))
  else
  (some (σ, 0))) := Lm.eqn (md_blanks_b0_l ..) (.ite (.bind (md_sign_l ..) fun p1 => (.ite (.bind (md_sign_l ..) fun p2 => (.ite (md_blanks_b41_l ..) (md_blanks_b78_l ..))) (md_blanks_b78_l ..))) .cst) fun n => (rfl)
theorem md_blanks_b41_e (σ : gM) : md_blanks_b41 σ =
  (if σ 119 24 < σ 119 23 then
  ((md_sign σ (σ 119 24)).bind fun p1 =>
    if p1.2 = 10 then
    (md_blanks_b104 p1.1)
    else
    (md_blanks_b41 (gW p1.1 119 24 (w32 ((p1.1 119 24) + 1)))))
  else
  (md_blanks_b104 σ)) := Lm.eqn (md_blanks_b41_l ..) (.ite (.bind (md_sign_l ..) fun p1 => (.ite (md_blanks_b104_l ..) (md_blanks_b41_l ..))) (md_blanks_b104_l ..)) fun n => (rfl)
theorem md_blanks_b78_e (σ : gM) (x1 : Int) : md_blanks_b78 σ x1 =
  (if x1 = 10 then
  (md_blanks_b90 σ)
  else
  (if x1 = 32 then
    (md_blanks_b90 σ)
    else
    (some (σ, 0)))) := Lm.eqn (md_blanks_b78_l ..) (.ite (md_blanks_b90_l ..) (.ite (md_blanks_b90_l ..) .cst)) fun n => (rfl)
theorem md_blanks_b90_e (σ : gM) : md_blanks_b90 σ =
  (md_blanks_b104 (gW σ 119 24 (w32 ((σ 119 24) + 1)))) := Lm.eqn (md_blanks_b90_l ..) (md_blanks_b104_l ..) fun n => (rfl)
theorem md_blanks_b104_e (σ : gM) : md_blanks_b104 σ =
  (md_blanks_b0 σ) := Lm.eqn (md_blanks_b104_l ..) (md_blanks_b0_l ..) fun n => (rfl)
def k_md_isLetter : List gC := [(0, 1, .iload_n 0, [], none), (1, 2, .bipush 97, [], none), (3, 3, .if_icmp .lt 9, [(0, 12)], none), (6, 1, .iload_n 0, [], none),
  (7, 2, .bipush 122, [], none), (9, 3, .if_icmp .le 15, [(0, 24)], none), (12, 1, .iload_n 0, [], some [true]), (13, 2, .bipush 65, [], none),
  (15, 3, .if_icmp .lt 13, [(0, 28)], none), (18, 1, .iload_n 0, [], none), (19, 2, .bipush 90, [], none), (21, 3, .if_icmp .gt 7, [(0, 28)], none),
  (24, 1, .iconst 1, [], some [false]), (25, 3, .goto 4, [(0, 29)], none), (28, 1, .iconst 0, [], none), (29, 1, .ireturn, [], none)]
def e_md_isLetter (m : Nat) : gE := (k_md_isLetter, f_md, c_md, [], [], (m, 0), 6)
theorem ok_md_isLetter : gchk cX10_isLetter 1 k_md_isLetter = true := by decide +kernel
def fn_md_isLetter (m : Nat) : gFn := gF (e_md_isLetter m) 1
theorem mo_md_isLetter (m : Nat) : gMo (.inl (fn_md_isLetter m)) := gF_mo (E := e_md_isLetter m) trivial
noncomputable def md_isLetter (σ : gM) (x0 : Int) : Option (gM × Int) := lim (fun n => fn_md_isLetter 227 n [(0, x0)] σ)
theorem md_isLetter_l (σ : gM) (x0 : Int) : Lm (fun n => fn_md_isLetter 227 n [(0, x0)] σ) (md_isLetter σ x0) := .of fun n => mo_md_isLetter 227 n [(0, x0)] σ
theorem mb_md_isLetter : gMos (e_md_isLetter 227).2.2.2.1 := trivial
noncomputable def md_isLetter_b12 (σ : gM) (x0 : Int) : Option (gM × Int) := lim (fun n => gB (e_md_isLetter 227) rF tF n 12 [(0, x0)] [] σ)
theorem md_isLetter_b12_l (σ : gM) (x0 : Int) : Lm (fun n => gB (e_md_isLetter 227) rF tF n 12 [(0, x0)] [] σ) (md_isLetter_b12 σ x0) := .of fun n => gB_le (gMos_spec (mb_md_isLetter)) n _ _ _ σ
noncomputable def md_isLetter_b24 (σ : gM) : Option (gM × Int) := lim (fun n => gB (e_md_isLetter 227) rF tF n 24 [(9, 0)] [] σ)
theorem md_isLetter_b24_l (σ : gM) : Lm (fun n => gB (e_md_isLetter 227) rF tF n 24 [(9, 0)] [] σ) (md_isLetter_b24 σ) := .of fun n => gB_le (gMos_spec (mb_md_isLetter)) n _ _ _ σ
theorem md_isLetter_e (σ : gM) (x0 : Int) : md_isLetter σ x0 =
  (if x0 < 97 then
  (md_isLetter_b12 σ x0)
  else
  (if 122 < x0 then
    (md_isLetter_b12 σ x0)
    else
    (md_isLetter_b24 σ))) := Lm.eqn (md_isLetter_l ..) (.ite (md_isLetter_b12_l ..) (.ite (md_isLetter_b12_l ..) (md_isLetter_b24_l ..))) fun n => (rfl)
theorem md_isLetter_b12_e (σ : gM) (x0 : Int) : md_isLetter_b12 σ x0 =
  (if x0 < 65 then
  (some (σ, 0))
  else
  (if 90 < x0 then
    (some (σ, 0))
    else
    (md_isLetter_b24 σ))) := Lm.eqn (md_isLetter_b12_l ..) (.ite .cst (.ite .cst (md_isLetter_b24_l ..))) fun n => (rfl)
theorem md_isLetter_b24_e (σ : gM) : md_isLetter_b24 σ =
  (some (σ, 1)) := Lm.eqn (md_isLetter_b24_l ..) .cst fun n => (rfl)
def k_md_isDigit : List gC := [(0, 1, .iload_n 0, [], none), (1, 2, .bipush 48, [], none), (3, 3, .if_icmp .lt 13, [(0, 16)], none), (6, 1, .iload_n 0, [], none),
  (7, 2, .bipush 57, [], none), (9, 3, .if_icmp .gt 7, [(0, 16)], none), (12, 1, .iconst 1, [], none), (13, 3, .goto 4, [(0, 17)], none),
  (16, 1, .iconst 0, [], none), (17, 1, .ireturn, [], none)]
def e_md_isDigit (m : Nat) : gE := (k_md_isDigit, f_md, c_md, [], [], (m, 0), 6)
theorem ok_md_isDigit : gchk cX10_isDigit 1 k_md_isDigit = true := by decide +kernel
def fn_md_isDigit (m : Nat) : gFn := gF (e_md_isDigit m) 1
theorem mo_md_isDigit (m : Nat) : gMo (.inl (fn_md_isDigit m)) := gF_mo (E := e_md_isDigit m) trivial
noncomputable def md_isDigit (σ : gM) (x0 : Int) : Option (gM × Int) := lim (fun n => fn_md_isDigit 227 n [(0, x0)] σ)
theorem md_isDigit_l (σ : gM) (x0 : Int) : Lm (fun n => fn_md_isDigit 227 n [(0, x0)] σ) (md_isDigit σ x0) := .of fun n => mo_md_isDigit 227 n [(0, x0)] σ
theorem md_isDigit_e (σ : gM) (x0 : Int) : md_isDigit σ x0 =
  (if x0 < 48 then
  (some (σ, 0))
  else
  (if 57 < x0 then
    (some (σ, 0))
    else
    (some (σ, 1)))) := Lm.eqn (md_isDigit_l ..) (.ite .cst (.ite .cst .cst)) fun n => (rfl)
def k_md_fails : List gC := [(0, 1, .aload_n 0, [], none), (1, 1, .iload_n 1, [], none), (2, 3, .putfield 414, [], none), (5, 1, .aload_n 0, [], none),
  (6, 1, .iload_n 2, [], none), (7, 3, .putfield 417, [], none), (10, 1, .aload_n 0, [], none), (11, 3, .getfield 10, [], none),
  (14, 1, .areturn, [], none)]
def e_md_fails (m : Nat) : gE := (k_md_fails, f_md, c_md, [], [], (m, 1198751443321341016850533336240575861407461686783348921929916272496142747706789998126197543576380916925373541550620143191852022660846701557615427584), 2)
theorem ok_md_fails : gchk cX10_fails 3 k_md_fails = true := by decide +kernel
def fn_md_fails (m : Nat) : gFn := gF (e_md_fails m) 3
theorem mo_md_fails (m : Nat) : gMo (.inl (fn_md_fails m)) := gF_mo (E := e_md_fails m) trivial
noncomputable def md_fails (σ : gM) (x1 x2 : Int) : Option (gM × Int) := lim (fun n => fn_md_fails 227 n [(2, 119), (0, x1), (0, x2)] σ)
theorem md_fails_l (σ : gM) (x1 x2 : Int) : Lm (fun n => fn_md_fails 227 n [(2, 119), (0, x1), (0, x2)] σ) (md_fails σ x1 x2) := .of fun n => mo_md_fails 227 n [(2, 119), (0, x1), (0, x2)] σ
theorem md_fails_e (σ : gM) (x1 x2 : Int) : md_fails σ x1 x2 =
  (some (gW (gW σ 119 30 x1) 119 31 x2, 120)) := Lm.eqn (md_fails_l ..) .cst fun n => (rfl)
def k_md_word : List gC := [(0, 2, .bipush 10, [], none), (2, 1, .istore_n 1, [], none), (3, 1, .iconst 0, [], none), (4, 1, .istore_n 2, [], none),
  (5, 1, .iload_n 2, [], some [true, true, true, false, false, false]), (6, 3, .ldc_w 465, [], none), (9, 3, .invokevirtual 373, [], none), (12, 3, .if_icmp .ge 113, [(0, 125)], none),
  (15, 1, .iload_n 2, [], none), (16, 1, .istore_n 3, [], none), (17, 3, .ldc_w 465, [], some [true, true, true, true, false, false]), (20, 1, .iload_n 3, [], none),
  (21, 3, .invokevirtual 379, [], none), (24, 2, .bipush 32, [], none), (26, 3, .if_icmp .eq 9, [(0, 35)], none), (29, 3, .iinc 3 1, [], none),
  (32, 3, .goto (-15), [(0, 17)], none), (35, 1, .iload_n 3, [], none), (36, 1, .iload_n 2, [], none), (37, 1, .isub, [], none),
  (38, 1, .aload_n 0, [], none), (39, 3, .getfield 423, [], none), (42, 1, .aload_n 0, [], none), (43, 3, .getfield 433, [], none),
  (46, 1, .isub, [], none), (47, 3, .if_icmp .ne 7, [(0, 54)], none), (50, 1, .iconst 1, [], none), (51, 3, .goto 4, [(0, 55)], none),
  (54, 1, .iconst 0, [], none), (55, 2, .istore 4, [], some [true, true, true, true, false, false]), (57, 1, .iload_n 2, [], none), (58, 2, .istore 5, [], none),
  (60, 2, .iload 5, [], some [true, true, true, true, true, true]), (62, 1, .iload_n 3, [], none), (63, 3, .if_icmp .ge 45, [(0, 108)], none), (66, 2, .iload 4, [], none),
  (68, 3, .ifCond .eq 40, [(0, 108)], none), (71, 3, .ldc_w 465, [], none), (74, 2, .iload 5, [], none), (76, 3, .invokevirtual 379, [], none),
  (79, 1, .aload_n 0, [], none), (80, 1, .aload_n 0, [], none), (81, 3, .getfield 433, [], none), (84, 2, .iload 5, [], none),
  (86, 1, .iadd, [], none), (87, 1, .iload_n 2, [], none), (88, 1, .isub, [], none), (89, 3, .invokevirtual 426, [], none),
  (92, 3, .if_icmp .ne 7, [(0, 99)], none), (95, 1, .iconst 1, [], none), (96, 3, .goto 4, [(0, 100)], none), (99, 1, .iconst 0, [], none),
  (100, 2, .istore 4, [], some [true, true, true, true, false, true]), (102, 3, .iinc 5 1, [], none), (105, 3, .goto (-45), [(0, 60)], none), (108, 2, .iload 4, [], some [true, true, false, true, true, false]),
  (110, 3, .ifCond .eq 5, [(0, 115)], none), (113, 1, .iload_n 1, [], none), (114, 1, .ireturn, [], none), (115, 3, .iinc 1 1, [], none),
  (118, 1, .iload_n 3, [], none), (119, 1, .iconst 1, [], none), (120, 1, .iadd, [], none), (121, 1, .istore_n 2, [], none),
  (122, 3, .goto (-117), [(0, 5)], none), (125, 1, .iconst 1, [], none), (126, 1, .ireturn, [], none)]
def e_md_word (m : Nat) : gE := (k_md_word, f_md, c_md, [(373, 1, 100, 0, .inl (fn_st_length 0)), (379, 2, 100, 0, .inl (fn_st_charAt 0)), (426, 2, 20, 0, .inl (fn_md_sign m))], [], (m, 0), 0)
theorem ok_md_word : gchk cX10_word 6 k_md_word = true := by decide +kernel
def fn_md_word (m : Nat) : gFn := gF (e_md_word m) 6
theorem mo_md_word (m : Nat) : gMo (.inl (fn_md_word m)) := gF_mo (E := e_md_word m) ⟨mo_st_length 0, ⟨mo_st_charAt 0, ⟨mo_md_sign m, trivial⟩⟩⟩
noncomputable def md_word (σ : gM) : Option (gM × Int) := lim (fun n => fn_md_word 227 n [(2, 119)] σ)
theorem md_word_l (σ : gM) : Lm (fun n => fn_md_word 227 n [(2, 119)] σ) (md_word σ) := .of fun n => mo_md_word 227 n [(2, 119)] σ
theorem mb_md_word : gMos (e_md_word 227).2.2.2.1 := ⟨mo_st_length 0, ⟨mo_st_charAt 0, ⟨mo_md_sign 227, trivial⟩⟩⟩
noncomputable def md_word_b5 (σ : gM) (x1 x2 : Int) : Option (gM × Int) := lim (fun n => gB (e_md_word 227) rF tF n 5 [(2, 119), (0, x1), (0, x2), (9, 0), (9, 0), (9, 0)] [] σ)
theorem md_word_b5_l (σ : gM) (x1 x2 : Int) : Lm (fun n => gB (e_md_word 227) rF tF n 5 [(2, 119), (0, x1), (0, x2), (9, 0), (9, 0), (9, 0)] [] σ) (md_word_b5 σ x1 x2) := .of fun n => gB_le (gMos_spec (mb_md_word)) n _ _ _ σ
noncomputable def md_word_b17 (σ : gM) (x1 x2 x3 : Int) : Option (gM × Int) := lim (fun n => gB (e_md_word 227) rF tF n 17 [(2, 119), (0, x1), (0, x2), (0, x3), (9, 0), (9, 0)] [] σ)
theorem md_word_b17_l (σ : gM) (x1 x2 x3 : Int) : Lm (fun n => gB (e_md_word 227) rF tF n 17 [(2, 119), (0, x1), (0, x2), (0, x3), (9, 0), (9, 0)] [] σ) (md_word_b17 σ x1 x2 x3) := .of fun n => gB_le (gMos_spec (mb_md_word)) n _ _ _ σ
noncomputable def md_word_b55 (σ : gM) (x1 x2 x3 y0 : Int) : Option (gM × Int) := lim (fun n => gB (e_md_word 227) rF tF n 55 [(2, 119), (0, x1), (0, x2), (0, x3), (9, 0), (9, 0)] [(0, y0)] σ)
theorem md_word_b55_l (σ : gM) (x1 x2 x3 y0 : Int) : Lm (fun n => gB (e_md_word 227) rF tF n 55 [(2, 119), (0, x1), (0, x2), (0, x3), (9, 0), (9, 0)] [(0, y0)] σ) (md_word_b55 σ x1 x2 x3 y0) := .of fun n => gB_le (gMos_spec (mb_md_word)) n _ _ _ σ
noncomputable def md_word_b60 (σ : gM) (x1 x2 x3 x4 x5 : Int) : Option (gM × Int) := lim (fun n => gB (e_md_word 227) rF tF n 60 [(2, 119), (0, x1), (0, x2), (0, x3), (0, x4), (0, x5)] [] σ)
theorem md_word_b60_l (σ : gM) (x1 x2 x3 x4 x5 : Int) : Lm (fun n => gB (e_md_word 227) rF tF n 60 [(2, 119), (0, x1), (0, x2), (0, x3), (0, x4), (0, x5)] [] σ) (md_word_b60 σ x1 x2 x3 x4 x5) := .of fun n => gB_le (gMos_spec (mb_md_word)) n _ _ _ σ
noncomputable def md_word_b100 (σ : gM) (x1 x2 x3 x5 y0 : Int) : Option (gM × Int) := lim (fun n => gB (e_md_word 227) rF tF n 100 [(2, 119), (0, x1), (0, x2), (0, x3), (9, 0), (0, x5)] [(0, y0)] σ)
theorem md_word_b100_l (σ : gM) (x1 x2 x3 x5 y0 : Int) : Lm (fun n => gB (e_md_word 227) rF tF n 100 [(2, 119), (0, x1), (0, x2), (0, x3), (9, 0), (0, x5)] [(0, y0)] σ) (md_word_b100 σ x1 x2 x3 x5 y0) := .of fun n => gB_le (gMos_spec (mb_md_word)) n _ _ _ σ
noncomputable def md_word_b108 (σ : gM) (x1 x3 x4 : Int) : Option (gM × Int) := lim (fun n => gB (e_md_word 227) rF tF n 108 [(2, 119), (0, x1), (9, 0), (0, x3), (0, x4), (9, 0)] [] σ)
theorem md_word_b108_l (σ : gM) (x1 x3 x4 : Int) : Lm (fun n => gB (e_md_word 227) rF tF n 108 [(2, 119), (0, x1), (9, 0), (0, x3), (0, x4), (9, 0)] [] σ) (md_word_b108 σ x1 x3 x4) := .of fun n => gB_le (gMos_spec (mb_md_word)) n _ _ _ σ
theorem md_word_e (σ : gM) : md_word σ =
  (md_word_b5 σ 10 0) := Lm.eqn (md_word_l ..) (md_word_b5_l ..) fun n => (rfl)
theorem md_word_b5_e (σ : gM) (x1 x2 : Int) : md_word_b5 σ x1 x2 =
  ((st_length σ 13).bind fun p1 =>
  if x2 < p1.2 then
  (md_word_b17 p1.1 x1 x2 x2)
  else
  (some (p1.1, 1))) := Lm.eqn (md_word_b5_l ..) (.bind (st_length_l ..) fun p1 => (.ite (md_word_b17_l ..) .cst)) fun n => (rfl)
theorem md_word_b17_e (σ : gM) (x1 x2 x3 : Int) : md_word_b17 σ x1 x2 x3 =
  ((st_charAt σ 13 x3).bind fun p1 =>
  if p1.2 = 32 then
  (if w32 (x3 - x2) = w32 ((p1.1 119 24) - (p1.1 119 26)) then
    (md_word_b55 p1.1 x1 x2 x3 1)
    else
    (md_word_b55 p1.1 x1 x2 x3 0))
  else
  (md_word_b17 p1.1 x1 x2 (w32 (x3 + 1)))) := Lm.eqn (md_word_b17_l ..) (.bind (st_charAt_l ..) fun p1 => (.ite (.ite (md_word_b55_l ..) (md_word_b55_l ..)) (md_word_b17_l ..))) fun n => (rfl)
theorem md_word_b55_e (σ : gM) (x1 x2 x3 y0 : Int) : md_word_b55 σ x1 x2 x3 y0 =
  (md_word_b60 σ x1 x2 x3 y0 x2) := Lm.eqn (md_word_b55_l ..) (md_word_b60_l ..) fun n => (rfl)
theorem md_word_b60_e (σ : gM) (x1 x2 x3 x4 x5 : Int) : md_word_b60 σ x1 x2 x3 x4 x5 =
  (if x5 < x3 then
  (if x4 = 0 then
    (md_word_b108 σ x1 x3 x4)
    else
    ((st_charAt σ 13 x5).bind fun p1 =>
      (md_sign p1.1 (w32 ((w32 ((p1.1 119 26) + x5)) - x2))).bind fun p2 =>
      if p1.2 = p2.2 then
      (md_word_b100 p2.1 x1 x2 x3 x5 1)
      else
      (md_word_b100 p2.1 x1 x2 x3 x5 0)))
  else
  (md_word_b108 σ x1 x3 x4)) := Lm.eqn (md_word_b60_l ..) (.ite (.ite (md_word_b108_l ..) (.bind (st_charAt_l ..) fun p1 => (.bind (md_sign_l ..) fun p2 => (.ite (md_word_b100_l ..) (md_word_b100_l ..))))) (md_word_b108_l ..)) fun n => (rfl)
theorem md_word_b100_e (σ : gM) (x1 x2 x3 x5 y0 : Int) : md_word_b100 σ x1 x2 x3 x5 y0 =
  (md_word_b60 σ x1 x2 x3 y0 (w32 (x5 + 1))) := Lm.eqn (md_word_b100_l ..) (md_word_b60_l ..) fun n => (rfl)
theorem md_word_b108_e (σ : gM) (x1 x3 x4 : Int) : md_word_b108 σ x1 x3 x4 =
  (if x4 = 0 then
  (md_word_b5 σ (w32 (x1 + 1)) (w32 (x3 + 1)))
  else
  (some (σ, x1))) := Lm.eqn (md_word_b108_l ..) (.ite (md_word_b5_l ..) .cst) fun n => (rfl)
def k_md_string : List gC := [(0, 1, .aload_n 0, [], some [true]), (1, 1, .aload_n 0, [], none), (2, 3, .getfield 423, [], none), (5, 3, .invokevirtual 426, [], none),
  (8, 2, .bipush 34, [], none), (10, 3, .if_icmp .eq 77, [(0, 87)], none), (13, 1, .aload_n 0, [], none), (14, 3, .getfield 423, [], none),
  (17, 1, .aload_n 0, [], none), (18, 3, .getfield 420, [], none), (21, 3, .if_icmp .ge 43, [(0, 64)], none), (24, 1, .aload_n 0, [], none),
  (25, 1, .aload_n 0, [], none), (26, 3, .getfield 423, [], none), (29, 3, .invokevirtual 426, [], none), (32, 2, .bipush 32, [], none),
  (34, 3, .if_icmp .lt 30, [(0, 64)], none), (37, 1, .aload_n 0, [], none), (38, 1, .aload_n 0, [], none), (39, 3, .getfield 423, [], none),
  (42, 3, .invokevirtual 426, [], none), (45, 2, .bipush 126, [], none), (47, 3, .if_icmp .gt 17, [(0, 64)], none), (50, 1, .aload_n 0, [], none),
  (51, 3, .getfield 423, [], none), (54, 1, .aload_n 0, [], none), (55, 3, .getfield 433, [], none), (58, 1, .isub, [], none),
  (59, 2, .bipush 40, [], none), (61, 3, .if_icmp .le 13, [(0, 74)], none), (64, 1, .aload_n 0, [], some [true]), (65, 1, .iconst 1, [], none),
  (66, 1, .aload_n 0, [], none), (67, 3, .getfield 423, [], none), (70, 3, .invokevirtual 446, [], none), (73, 1, .athrow, [], none),
  (74, 1, .aload_n 0, [], none), (75, 1, .dup, [], none), (76, 3, .getfield 423, [], none), (79, 1, .iconst 1, [], none),
  (80, 1, .iadd, [], none), (81, 3, .putfield 423, [], none), (84, 3, .goto (-84), [(0, 0)], none), (87, 1, .aload_n 0, [], none),
  (88, 1, .dup, [], none), (89, 3, .getfield 423, [], none), (92, 1, .iconst 1, [], none), (93, 1, .iadd, [], none),
  (94, 3, .putfield 423, [], none), (97, 1, .aload_n 0, [], none), (98, 1, .iconst 3, [], none), (99, 3, .putfield 436, [], none),
  (102, 1, .return_, [], none)]
def e_md_string (m : Nat) : gE := (k_md_string, f_md, c_md, [(426, 2, 20, 0, .inl (fn_md_sign m)), (446, 3, 20, 2, .inl (fn_md_fails m))], [], (m, 1217481934623236970238822919619334859241953275639338748835071214253894978139708591846919380194761868752332503137348582929224710514922431269453168640), 5)
theorem ok_md_string : gchk cX10_string 1 k_md_string = true := by decide +kernel
def fn_md_string (m : Nat) : gFt := gG (e_md_string m) 1
theorem mo_md_string (m : Nat) : gMo (.inr (fn_md_string m)) := gG_mo (E := e_md_string m) ⟨mo_md_sign m, ⟨mo_md_fails m, trivial⟩⟩
noncomputable def md_string (σ : gM) : Option (gM × Option Int) := lim (fun n => fn_md_string 227 n [(2, 119)] σ)
theorem md_string_l (σ : gM) : Lm (fun n => fn_md_string 227 n [(2, 119)] σ) (md_string σ) := .of fun n => mo_md_string 227 n [(2, 119)] σ
theorem mb_md_string : gMos (e_md_string 227).2.2.2.1 := ⟨mo_md_sign 227, ⟨mo_md_fails 227, trivial⟩⟩
noncomputable def md_string_b0 (σ : gM) : Option (gM × Option Int) := lim (fun n => gB (e_md_string 227) rG gthr n 0 [(2, 119)] [] σ)
theorem md_string_b0_l (σ : gM) : Lm (fun n => gB (e_md_string 227) rG gthr n 0 [(2, 119)] [] σ) (md_string_b0 σ) := .of fun n => gB_le (gMos_spec (mb_md_string)) n _ _ _ σ
noncomputable def md_string_b64 (σ : gM) : Option (gM × Option Int) := lim (fun n => gB (e_md_string 227) rG gthr n 64 [(2, 119)] [] σ)
theorem md_string_b64_l (σ : gM) : Lm (fun n => gB (e_md_string 227) rG gthr n 64 [(2, 119)] [] σ) (md_string_b64 σ) := .of fun n => gB_le (gMos_spec (mb_md_string)) n _ _ _ σ
theorem md_string_e (σ : gM) : md_string σ =
  ((md_sign σ (σ 119 24)).bind fun p1 =>
  if p1.2 = 34 then
  (some (gW (gW p1.1 119 24 (w32 ((p1.1 119 24) + 1))) 119 25 3, some 0))
  else
  (if p1.1 119 24 < p1.1 119 23 then
    ((md_sign p1.1 (p1.1 119 24)).bind fun p2 =>
      if p2.2 < 32 then
      (md_string_b64 p2.1)
      else
      ((md_sign p2.1 (p2.1 119 24)).bind fun p3 =>
        if 126 < p3.2 then
        (md_string_b64 p3.1)
        else
        (if 40 < w32 ((p3.1 119 24) - (p3.1 119 26)) then
          (md_string_b64 p3.1)
          else
          (md_string_b0 (gW p3.1 119 24 (w32 ((p3.1 119 24) + 1)))))))
    else
    (md_string_b64 p1.1))) := Lm.eqn (md_string_l ..) (.bind (md_sign_l ..) fun p1 => (.ite .cst (.ite (.bind (md_sign_l ..) fun p2 => (.ite (md_string_b64_l ..) (.bind (md_sign_l ..) fun p3 => (.ite (md_string_b64_l ..) (.ite (md_string_b64_l ..) (md_string_b0_l ..)))))) (md_string_b64_l ..)))) fun n => (rfl)
theorem md_string_b0_e (σ : gM) : md_string_b0 σ =
  ((md_sign σ (σ 119 24)).bind fun p1 =>
  if p1.2 = 34 then
  (some (gW (gW p1.1 119 24 (w32 ((p1.1 119 24) + 1))) 119 25 3, some 0))
  else
  (if p1.1 119 24 < p1.1 119 23 then
    ((md_sign p1.1 (p1.1 119 24)).bind fun p2 =>
      if p2.2 < 32 then
      (md_string_b64 p2.1)
      else
      ((md_sign p2.1 (p2.1 119 24)).bind fun p3 =>
        if 126 < p3.2 then
        (md_string_b64 p3.1)
        else
        (if 40 < w32 ((p3.1 119 24) - (p3.1 119 26)) then
          (md_string_b64 p3.1)
          else
          (md_string_b0 (gW p3.1 119 24 (w32 ((p3.1 119 24) + 1)))))))
    else
    (md_string_b64 p1.1))) := Lm.eqn (md_string_b0_l ..) (.bind (md_sign_l ..) fun p1 => (.ite .cst (.ite (.bind (md_sign_l ..) fun p2 => (.ite (md_string_b64_l ..) (.bind (md_sign_l ..) fun p3 => (.ite (md_string_b64_l ..) (.ite (md_string_b64_l ..) (md_string_b0_l ..)))))) (md_string_b64_l ..)))) fun n => (rfl)
theorem md_string_b64_e (σ : gM) : md_string_b64 σ =
  ((md_fails σ 1 (σ 119 24)).bind fun p1 =>
  gthr p1.1 p1.2) := Lm.eqn (md_string_b64_l ..) (.bind (md_fails_l ..) fun p1 => .cst) fun n => (rfl)
def k_md_signs : List gC := [(0, 1, .iconst 0, [], none), (1, 1, .istore_n 2, [], none), (2, 1, .iload_n 2, [], some [true, true, true, false, false]), (3, 3, .ldc_w 463, [], none),
  (6, 3, .invokevirtual 373, [], none), (9, 3, .if_icmp .ge 20, [(0, 29)], none), (12, 3, .ldc_w 463, [], none), (15, 1, .iload_n 2, [], none),
  (16, 3, .invokevirtual 379, [], none), (19, 1, .iload_n 1, [], none), (20, 3, .if_icmp .eq 9, [(0, 29)], none), (23, 3, .iinc 2 1, [], none),
  (26, 3, .goto (-24), [(0, 2)], none), (29, 1, .iload_n 2, [], some [true, true, true, false, false]), (30, 3, .ldc_w 463, [], none), (33, 3, .invokevirtual 373, [], none),
  (36, 3, .if_icmp .ne 13, [(0, 49)], none), (39, 1, .aload_n 0, [], none), (40, 1, .iconst 1, [], none), (41, 1, .aload_n 0, [], none),
  (42, 3, .getfield 423, [], none), (45, 3, .invokevirtual 446, [], none), (48, 1, .athrow, [], none), (49, 1, .aload_n 0, [], none),
  (50, 1, .aload_n 0, [], none), (51, 3, .getfield 423, [], none), (54, 1, .iconst 1, [], none), (55, 1, .iadd, [], none),
  (56, 3, .invokevirtual 426, [], none), (59, 1, .iload_n 1, [], none), (60, 3, .if_icmp .ne 7, [(0, 67)], none), (63, 1, .iconst 1, [], none),
  (64, 3, .goto 4, [(0, 68)], none), (67, 1, .iconst 0, [], none), (68, 1, .istore_n 3, [], some [true, true, false, false, false]), (69, 1, .aload_n 0, [], none),
  (70, 1, .aload_n 0, [], none), (71, 3, .getfield 423, [], none), (74, 1, .iconst 1, [], none), (75, 1, .iadd, [], none),
  (76, 3, .invokevirtual 426, [], none), (79, 2, .bipush 61, [], none), (81, 3, .if_icmp .ne 7, [(0, 88)], none), (84, 1, .iconst 1, [], none),
  (85, 3, .goto 4, [(0, 89)], none), (88, 1, .iconst 0, [], none), (89, 2, .istore 4, [], some [true, true, false, true, false]), (91, 1, .aload_n 0, [], none),
  (92, 1, .dup, [], none), (93, 3, .getfield 423, [], none), (96, 1, .iconst 1, [], none), (97, 1, .iadd, [], none),
  (98, 3, .putfield 423, [], none), (101, 1, .iload_n 1, [], none), (102, 2, .bipush 38, [], none), (104, 3, .if_icmp .eq 9, [(0, 113)], none),
  (107, 1, .iload_n 1, [], none), (108, 2, .bipush 124, [], none), (110, 3, .if_icmp .ne 45, [(0, 155)], none), (113, 1, .iload_n 3, [], some [true, true, false, true, false]),
  (114, 3, .ifCond .ne 13, [(0, 127)], none), (117, 1, .aload_n 0, [], none), (118, 1, .iconst 1, [], none), (119, 1, .aload_n 0, [], none),
  (120, 3, .getfield 423, [], none), (123, 3, .invokevirtual 446, [], none), (126, 1, .athrow, [], none), (127, 1, .aload_n 0, [], none),
  (128, 1, .dup, [], none), (129, 3, .getfield 423, [], none), (132, 1, .iconst 1, [], none), (133, 1, .iadd, [], none),
  (134, 3, .putfield 423, [], none), (137, 1, .aload_n 0, [], none), (138, 1, .iload_n 1, [], none), (139, 2, .bipush 38, [], none),
  (141, 3, .if_icmp .ne 8, [(0, 149)], none), (144, 2, .bipush 51, [], none), (146, 3, .goto 5, [(0, 151)], none), (149, 2, .bipush 52, [], none),
  (151, 3, .putfield 436, [], some [false, false, false, false, false]), (154, 1, .return_, [], none), (155, 2, .iload 4, [], none), (157, 3, .ifCond .eq 77, [(0, 234)], none),
  (160, 1, .iload_n 1, [], none), (161, 2, .bipush 61, [], none), (163, 3, .if_icmp .eq 21, [(0, 184)], none), (166, 1, .iload_n 1, [], none),
  (167, 2, .bipush 33, [], none), (169, 3, .if_icmp .eq 15, [(0, 184)], none), (172, 1, .iload_n 1, [], none), (173, 2, .bipush 60, [], none),
  (175, 3, .if_icmp .eq 9, [(0, 184)], none), (178, 1, .iload_n 1, [], none), (179, 2, .bipush 62, [], none), (181, 3, .if_icmp .ne 53, [(0, 234)], none),
  (184, 1, .aload_n 0, [], some [true, true, false, false, false]), (185, 1, .dup, [], none), (186, 3, .getfield 423, [], none), (189, 1, .iconst 1, [], none),
  (190, 1, .iadd, [], none), (191, 3, .putfield 423, [], none), (194, 1, .aload_n 0, [], none), (195, 1, .iload_n 1, [], none),
  (196, 2, .bipush 61, [], none), (198, 3, .if_icmp .ne 8, [(0, 206)], none), (201, 2, .bipush 40, [], none), (203, 3, .goto 27, [(0, 230)], none),
  (206, 1, .iload_n 1, [], none), (207, 2, .bipush 33, [], none), (209, 3, .if_icmp .ne 8, [(0, 217)], none), (212, 2, .bipush 42, [], none),
  (214, 3, .goto 16, [(0, 230)], none), (217, 1, .iload_n 1, [], none), (218, 2, .bipush 60, [], none), (220, 3, .if_icmp .ne 8, [(0, 228)], none),
  (223, 2, .bipush 44, [], none), (225, 3, .goto 5, [(0, 230)], none), (228, 2, .bipush 46, [], none), (230, 3, .putfield 436, [], some [false, false, false, false, false]),
  (233, 1, .return_, [], none), (234, 1, .iload_n 1, [], some [true, true, false, false, false]), (235, 137, .lookupswitch 281 #[(33, 227), (40, 137), (41, 146), (42, 272), (43, 254), (44, 191), (45, 263), (46, 209), (59, 200), (60, 236), (61, 218), (62, 245), (91, 173), (93, 182), (123, 155), (125, 164)], [(0, 516), (33, 462), (40, 372), (41, 381), (42, 507), (43, 489), (44, 426), (45, 498), (46, 444), (59, 435), (60, 471), (61, 453), (62, 480), (91, 408), (93, 417), (123, 390), (125, 399)], none), (372, 1, .aload_n 0, [], none),
  (373, 2, .bipush 30, [], none), (375, 3, .putfield 436, [], none), (378, 3, .goto 144, [(0, 522)], none), (381, 1, .aload_n 0, [], none),
  (382, 2, .bipush 31, [], none), (384, 3, .putfield 436, [], none), (387, 3, .goto 135, [(0, 522)], none), (390, 1, .aload_n 0, [], none),
  (391, 2, .bipush 32, [], none), (393, 3, .putfield 436, [], none), (396, 3, .goto 126, [(0, 522)], none), (399, 1, .aload_n 0, [], none),
  (400, 2, .bipush 33, [], none), (402, 3, .putfield 436, [], none), (405, 3, .goto 117, [(0, 522)], none), (408, 1, .aload_n 0, [], none),
  (409, 2, .bipush 34, [], none), (411, 3, .putfield 436, [], none), (414, 3, .goto 108, [(0, 522)], none), (417, 1, .aload_n 0, [], none),
  (418, 2, .bipush 35, [], none), (420, 3, .putfield 436, [], none), (423, 3, .goto 99, [(0, 522)], none), (426, 1, .aload_n 0, [], none),
  (427, 2, .bipush 36, [], none), (429, 3, .putfield 436, [], none), (432, 3, .goto 90, [(0, 522)], none), (435, 1, .aload_n 0, [], none),
  (436, 2, .bipush 37, [], none), (438, 3, .putfield 436, [], none), (441, 3, .goto 81, [(0, 522)], none), (444, 1, .aload_n 0, [], none),
  (445, 2, .bipush 38, [], none), (447, 3, .putfield 436, [], none), (450, 3, .goto 72, [(0, 522)], none), (453, 1, .aload_n 0, [], none),
  (454, 2, .bipush 39, [], none), (456, 3, .putfield 436, [], none), (459, 3, .goto 63, [(0, 522)], none), (462, 1, .aload_n 0, [], none),
  (463, 2, .bipush 41, [], none), (465, 3, .putfield 436, [], none), (468, 3, .goto 54, [(0, 522)], none), (471, 1, .aload_n 0, [], none),
  (472, 2, .bipush 43, [], none), (474, 3, .putfield 436, [], none), (477, 3, .goto 45, [(0, 522)], none), (480, 1, .aload_n 0, [], none),
  (481, 2, .bipush 45, [], none), (483, 3, .putfield 436, [], none), (486, 3, .goto 36, [(0, 522)], none), (489, 1, .aload_n 0, [], none),
  (490, 2, .bipush 47, [], none), (492, 3, .putfield 436, [], none), (495, 3, .goto 27, [(0, 522)], none), (498, 1, .aload_n 0, [], none),
  (499, 2, .bipush 48, [], none), (501, 3, .putfield 436, [], none), (504, 3, .goto 18, [(0, 522)], none), (507, 1, .aload_n 0, [], none),
  (508, 2, .bipush 49, [], none), (510, 3, .putfield 436, [], none), (513, 3, .goto 9, [(0, 522)], none), (516, 1, .aload_n 0, [], none),
  (517, 2, .bipush 50, [], none), (519, 3, .putfield 436, [], none), (522, 1, .return_, [], none)]
def e_md_signs (m : Nat) : gE := (k_md_signs, f_md, c_md, [(373, 1, 100, 0, .inl (fn_st_length 0)), (379, 2, 100, 0, .inl (fn_st_charAt 0)), (446, 3, 20, 2, .inl (fn_md_fails m)), (426, 2, 20, 0, .inl (fn_md_sign m))], [], (m, 1217481934623236970238822919619334859241953275639338748835071214253894978139708591846919380194761868752332503137348582929224710514922431269453168640), 5)
theorem ok_md_signs : gchk cX10_signs 5 k_md_signs = true := by decide +kernel
def fn_md_signs (m : Nat) : gFt := gG (e_md_signs m) 5
theorem mo_md_signs (m : Nat) : gMo (.inr (fn_md_signs m)) := gG_mo (E := e_md_signs m) ⟨mo_st_length 0, ⟨mo_st_charAt 0, ⟨mo_md_fails m, ⟨mo_md_sign m, trivial⟩⟩⟩⟩
noncomputable def md_signs (σ : gM) (x1 : Int) : Option (gM × Option Int) := lim (fun n => fn_md_signs 227 n [(2, 119), (0, x1)] σ)
theorem md_signs_l (σ : gM) (x1 : Int) : Lm (fun n => fn_md_signs 227 n [(2, 119), (0, x1)] σ) (md_signs σ x1) := .of fun n => mo_md_signs 227 n [(2, 119), (0, x1)] σ
theorem mb_md_signs : gMos (e_md_signs 227).2.2.2.1 := ⟨mo_st_length 0, ⟨mo_st_charAt 0, ⟨mo_md_fails 227, ⟨mo_md_sign 227, trivial⟩⟩⟩⟩
noncomputable def md_signs_b2 (σ : gM) (x1 x2 : Int) : Option (gM × Option Int) := lim (fun n => gB (e_md_signs 227) rG gthr n 2 [(2, 119), (0, x1), (0, x2), (9, 0), (9, 0)] [] σ)
theorem md_signs_b2_l (σ : gM) (x1 x2 : Int) : Lm (fun n => gB (e_md_signs 227) rG gthr n 2 [(2, 119), (0, x1), (0, x2), (9, 0), (9, 0)] [] σ) (md_signs_b2 σ x1 x2) := .of fun n => gB_le (gMos_spec (mb_md_signs)) n _ _ _ σ
noncomputable def md_signs_b29 (σ : gM) (x1 x2 : Int) : Option (gM × Option Int) := lim (fun n => gB (e_md_signs 227) rG gthr n 29 [(2, 119), (0, x1), (0, x2), (9, 0), (9, 0)] [] σ)
theorem md_signs_b29_l (σ : gM) (x1 x2 : Int) : Lm (fun n => gB (e_md_signs 227) rG gthr n 29 [(2, 119), (0, x1), (0, x2), (9, 0), (9, 0)] [] σ) (md_signs_b29 σ x1 x2) := .of fun n => gB_le (gMos_spec (mb_md_signs)) n _ _ _ σ
noncomputable def md_signs_b68 (σ : gM) (x1 y0 : Int) : Option (gM × Option Int) := lim (fun n => gB (e_md_signs 227) rG gthr n 68 [(2, 119), (0, x1), (9, 0), (9, 0), (9, 0)] [(0, y0)] σ)
theorem md_signs_b68_l (σ : gM) (x1 y0 : Int) : Lm (fun n => gB (e_md_signs 227) rG gthr n 68 [(2, 119), (0, x1), (9, 0), (9, 0), (9, 0)] [(0, y0)] σ) (md_signs_b68 σ x1 y0) := .of fun n => gB_le (gMos_spec (mb_md_signs)) n _ _ _ σ
noncomputable def md_signs_b89 (σ : gM) (x1 x3 y0 : Int) : Option (gM × Option Int) := lim (fun n => gB (e_md_signs 227) rG gthr n 89 [(2, 119), (0, x1), (9, 0), (0, x3), (9, 0)] [(0, y0)] σ)
theorem md_signs_b89_l (σ : gM) (x1 x3 y0 : Int) : Lm (fun n => gB (e_md_signs 227) rG gthr n 89 [(2, 119), (0, x1), (9, 0), (0, x3), (9, 0)] [(0, y0)] σ) (md_signs_b89 σ x1 x3 y0) := .of fun n => gB_le (gMos_spec (mb_md_signs)) n _ _ _ σ
noncomputable def md_signs_b113 (σ : gM) (x1 x3 : Int) : Option (gM × Option Int) := lim (fun n => gB (e_md_signs 227) rG gthr n 113 [(2, 119), (0, x1), (9, 0), (0, x3), (9, 0)] [] σ)
theorem md_signs_b113_l (σ : gM) (x1 x3 : Int) : Lm (fun n => gB (e_md_signs 227) rG gthr n 113 [(2, 119), (0, x1), (9, 0), (0, x3), (9, 0)] [] σ) (md_signs_b113 σ x1 x3) := .of fun n => gB_le (gMos_spec (mb_md_signs)) n _ _ _ σ
noncomputable def md_signs_b151 (σ : gM) (y0 : Int) : Option (gM × Option Int) := lim (fun n => gB (e_md_signs 227) rG gthr n 151 [(9, 0), (9, 0), (9, 0), (9, 0), (9, 0)] [(0, y0), (2, 119)] σ)
theorem md_signs_b151_l (σ : gM) (y0 : Int) : Lm (fun n => gB (e_md_signs 227) rG gthr n 151 [(9, 0), (9, 0), (9, 0), (9, 0), (9, 0)] [(0, y0), (2, 119)] σ) (md_signs_b151 σ y0) := .of fun n => gB_le (gMos_spec (mb_md_signs)) n _ _ _ σ
noncomputable def md_signs_b184 (σ : gM) (x1 : Int) : Option (gM × Option Int) := lim (fun n => gB (e_md_signs 227) rG gthr n 184 [(2, 119), (0, x1), (9, 0), (9, 0), (9, 0)] [] σ)
theorem md_signs_b184_l (σ : gM) (x1 : Int) : Lm (fun n => gB (e_md_signs 227) rG gthr n 184 [(2, 119), (0, x1), (9, 0), (9, 0), (9, 0)] [] σ) (md_signs_b184 σ x1) := .of fun n => gB_le (gMos_spec (mb_md_signs)) n _ _ _ σ
noncomputable def md_signs_b230 (σ : gM) (y0 : Int) : Option (gM × Option Int) := lim (fun n => gB (e_md_signs 227) rG gthr n 230 [(9, 0), (9, 0), (9, 0), (9, 0), (9, 0)] [(0, y0), (2, 119)] σ)
theorem md_signs_b230_l (σ : gM) (y0 : Int) : Lm (fun n => gB (e_md_signs 227) rG gthr n 230 [(9, 0), (9, 0), (9, 0), (9, 0), (9, 0)] [(0, y0), (2, 119)] σ) (md_signs_b230 σ y0) := .of fun n => gB_le (gMos_spec (mb_md_signs)) n _ _ _ σ
noncomputable def md_signs_b234 (σ : gM) (x1 : Int) : Option (gM × Option Int) := lim (fun n => gB (e_md_signs 227) rG gthr n 234 [(2, 119), (0, x1), (9, 0), (9, 0), (9, 0)] [] σ)
theorem md_signs_b234_l (σ : gM) (x1 : Int) : Lm (fun n => gB (e_md_signs 227) rG gthr n 234 [(2, 119), (0, x1), (9, 0), (9, 0), (9, 0)] [] σ) (md_signs_b234 σ x1) := .of fun n => gB_le (gMos_spec (mb_md_signs)) n _ _ _ σ
theorem md_signs_e (σ : gM) (x1 : Int) : md_signs σ x1 =
  (md_signs_b2 σ x1 0) := Lm.eqn (md_signs_l ..) (md_signs_b2_l ..) fun n => (rfl)
theorem md_signs_b2_e (σ : gM) (x1 x2 : Int) : md_signs_b2 σ x1 x2 =
  ((st_length σ 14).bind fun p1 =>
  if x2 < p1.2 then
  ((st_charAt p1.1 14 x2).bind fun p2 =>
    if p2.2 = x1 then
    (md_signs_b29 p2.1 x1 x2)
    else
    (md_signs_b2 p2.1 x1 (w32 (x2 + 1))))
  else
  (md_signs_b29 p1.1 x1 x2)) := Lm.eqn (md_signs_b2_l ..) (.bind (st_length_l ..) fun p1 => (.ite (.bind (st_charAt_l ..) fun p2 => (.ite (md_signs_b29_l ..) (md_signs_b2_l ..))) (md_signs_b29_l ..))) fun n => (rfl)
theorem md_signs_b29_e (σ : gM) (x1 x2 : Int) : md_signs_b29 σ x1 x2 =
  ((st_length σ 14).bind fun p1 =>
  if x2 = p1.2 then
  ((md_fails p1.1 1 (p1.1 119 24)).bind fun p3 =>
    gthr p3.1 p3.2)
  else
  ((md_sign p1.1 (w32 ((p1.1 119 24) + 1))).bind fun p2 =>
    if p2.2 = x1 then
    (md_signs_b68 p2.1 x1 1)
    else
    (md_signs_b68 p2.1 x1 0))) := Lm.eqn (md_signs_b29_l ..) (.bind (st_length_l ..) fun p1 => (.ite (.bind (md_fails_l ..) fun p3 => .cst) (.bind (md_sign_l ..) fun p2 => (.ite (md_signs_b68_l ..) (md_signs_b68_l ..))))) fun n => (rfl)
theorem md_signs_b68_e (σ : gM) (x1 y0 : Int) : md_signs_b68 σ x1 y0 =
  ((md_sign σ (w32 ((σ 119 24) + 1))).bind fun p1 =>
  if p1.2 = 61 then
  (md_signs_b89 p1.1 x1 y0 1)
  else
  (md_signs_b89 p1.1 x1 y0 0)) := Lm.eqn (md_signs_b68_l ..) (.bind (md_sign_l ..) fun p1 => (.ite (md_signs_b89_l ..) (md_signs_b89_l ..))) fun n => (rfl)
theorem md_signs_b89_e (σ : gM) (x1 x3 y0 : Int) : md_signs_b89 σ x1 x3 y0 =
  (if x1 = 38 then
  (md_signs_b113 (gW σ 119 24 (w32 ((σ 119 24) + 1))) x1 x3)
  else
  (if x1 = 124 then
    (md_signs_b113 (gW σ 119 24 (w32 ((σ 119 24) + 1))) x1 x3)
    else
    (if y0 = 0 then
      (md_signs_b234 (gW σ 119 24 (w32 ((σ 119 24) + 1))) x1)
      else
      (if x1 = 61 then
        (md_signs_b184 (gW σ 119 24 (w32 ((σ 119 24) + 1))) x1)
        else
        (if x1 = 33 then
          (md_signs_b184 (gW σ 119 24 (w32 ((σ 119 24) + 1))) x1)
          else
          (if x1 = 60 then
            (md_signs_b184 (gW σ 119 24 (w32 ((σ 119 24) + 1))) x1)
            else
            (if x1 = 62 then
              (md_signs_b184 (gW σ 119 24 (w32 ((σ 119 24) + 1))) x1)
              else
              (md_signs_b234 (gW σ 119 24 (w32 ((σ 119 24) + 1))) x1)))))))) := Lm.eqn (md_signs_b89_l ..) (.ite (md_signs_b113_l ..) (.ite (md_signs_b113_l ..) (.ite (md_signs_b234_l ..) (.ite (md_signs_b184_l ..) (.ite (md_signs_b184_l ..) (.ite (md_signs_b184_l ..) (.ite (md_signs_b184_l ..) (md_signs_b234_l ..)))))))) fun n => (rfl)
theorem md_signs_b113_e (σ : gM) (x1 x3 : Int) : md_signs_b113 σ x1 x3 =
  (if x3 = 0 then
  ((md_fails σ 1 (σ 119 24)).bind fun p1 =>
    gthr p1.1 p1.2)
  else
  (if x1 = 38 then
    (md_signs_b151 (gW σ 119 24 (w32 ((σ 119 24) + 1))) 51)
    else
    (md_signs_b151 (gW σ 119 24 (w32 ((σ 119 24) + 1))) 52))) := Lm.eqn (md_signs_b113_l ..) (.ite (.bind (md_fails_l ..) fun p1 => .cst) (.ite (md_signs_b151_l ..) (md_signs_b151_l ..))) fun n => (rfl)
theorem md_signs_b151_e (σ : gM) (y0 : Int) : md_signs_b151 σ y0 =
  (some (gW σ 119 25 y0, some 0)) := Lm.eqn (md_signs_b151_l ..) .cst fun n => (rfl)
theorem md_signs_b184_e (σ : gM) (x1 : Int) : md_signs_b184 σ x1 =
  (if x1 = 61 then
  (md_signs_b230 (gW σ 119 24 (w32 ((σ 119 24) + 1))) 40)
  else
  (if x1 = 33 then
    (md_signs_b230 (gW σ 119 24 (w32 ((σ 119 24) + 1))) 42)
    else
    (if x1 = 60 then
      (md_signs_b230 (gW σ 119 24 (w32 ((σ 119 24) + 1))) 44)
      else
      (md_signs_b230 (gW σ 119 24 (w32 ((σ 119 24) + 1))) 46)))) := Lm.eqn (md_signs_b184_l ..) (.ite (md_signs_b230_l ..) (.ite (md_signs_b230_l ..) (.ite (md_signs_b230_l ..) (md_signs_b230_l ..)))) fun n => (rfl)
theorem md_signs_b230_e (σ : gM) (y0 : Int) : md_signs_b230 σ y0 =
  (some (gW σ 119 25 y0, some 0)) := Lm.eqn (md_signs_b230_l ..) .cst fun n => (rfl)
theorem md_signs_b234_e (σ : gM) (x1 : Int) : md_signs_b234 σ x1 =
  (if x1 = 33 then
  (some (gW σ 119 25 41, some 0))
  else if x1 = 40 then
  (some (gW σ 119 25 30, some 0))
  else if x1 = 41 then
  (some (gW σ 119 25 31, some 0))
  else if x1 = 42 then
  (some (gW σ 119 25 49, some 0))
  else if x1 = 43 then
  (some (gW σ 119 25 47, some 0))
  else if x1 = 44 then
  (some (gW σ 119 25 36, some 0))
  else if x1 = 45 then
  (some (gW σ 119 25 48, some 0))
  else if x1 = 46 then
  (some (gW σ 119 25 38, some 0))
  else if x1 = 59 then
  (some (gW σ 119 25 37, some 0))
  else if x1 = 60 then
  (some (gW σ 119 25 43, some 0))
  else if x1 = 61 then
  (some (gW σ 119 25 39, some 0))
  else if x1 = 62 then
  (some (gW σ 119 25 45, some 0))
  else if x1 = 91 then
  (some (gW σ 119 25 34, some 0))
  else if x1 = 93 then
  (some (gW σ 119 25 35, some 0))
  else if x1 = 123 then
  (some (gW σ 119 25 32, some 0))
  else if x1 = 125 then
  (some (gW σ 119 25 33, some 0))
  else (some (gW σ 119 25 50, some 0))) := Lm.eqn (md_signs_b234_l ..) (.ite .cst (.ite .cst (.ite .cst (.ite .cst (.ite .cst (.ite .cst (.ite .cst (.ite .cst (.ite .cst (.ite .cst (.ite .cst (.ite .cst (.ite .cst (.ite .cst (.ite .cst (.ite .cst .cst)))))))))))))))) fun n => (rfl)
def k_md_take : List gC := [(0, 1, .aload_n 0, [], none), (1, 3, .invokevirtual 430, [], none), (4, 1, .aload_n 0, [], none), (5, 1, .aload_n 0, [], none),
  (6, 3, .getfield 423, [], none), (9, 3, .putfield 433, [], none), (12, 1, .aload_n 0, [], none), (13, 1, .aload_n 0, [], none),
  (14, 3, .getfield 423, [], none), (17, 3, .invokevirtual 426, [], none), (20, 1, .istore_n 1, [], none), (21, 1, .aload_n 0, [], none),
  (22, 3, .getfield 423, [], none), (25, 1, .aload_n 0, [], none), (26, 3, .getfield 420, [], none), (29, 3, .if_icmp .lt 11, [(0, 40)], none),
  (32, 1, .aload_n 0, [], none), (33, 1, .iconst 0, [], none), (34, 3, .putfield 436, [], none), (37, 3, .goto 180, [(0, 217)], none),
  (40, 1, .iload_n 1, [], none), (41, 3, .invokestatic 439, [], none), (44, 3, .ifCond .eq 79, [(0, 123)], none), (47, 1, .aload_n 0, [], some [true, false]),
  (48, 1, .aload_n 0, [], none), (49, 3, .getfield 423, [], none), (52, 3, .invokevirtual 426, [], none), (55, 3, .invokestatic 439, [], none),
  (58, 3, .ifCond .ne 17, [(0, 75)], none), (61, 1, .aload_n 0, [], none), (62, 1, .aload_n 0, [], none), (63, 3, .getfield 423, [], none),
  (66, 3, .invokevirtual 426, [], none), (69, 3, .invokestatic 443, [], none), (72, 3, .ifCond .eq 16, [(0, 88)], none), (75, 1, .aload_n 0, [], some [true, false]),
  (76, 1, .dup, [], none), (77, 3, .getfield 423, [], none), (80, 1, .iconst 1, [], none), (81, 1, .iadd, [], none),
  (82, 3, .putfield 423, [], none), (85, 3, .goto (-38), [(0, 47)], none), (88, 1, .aload_n 0, [], none), (89, 3, .getfield 423, [], none),
  (92, 1, .aload_n 0, [], none), (93, 3, .getfield 433, [], none), (96, 1, .isub, [], none), (97, 2, .bipush 12, [], none),
  (99, 3, .if_icmp .le 13, [(0, 112)], none), (102, 1, .aload_n 0, [], none), (103, 1, .iconst 1, [], none), (104, 1, .aload_n 0, [], none),
  (105, 3, .getfield 433, [], none), (108, 3, .invokevirtual 446, [], none), (111, 1, .athrow, [], none), (112, 1, .aload_n 0, [], none),
  (113, 1, .aload_n 0, [], none), (114, 3, .invokevirtual 450, [], none), (117, 3, .putfield 436, [], none), (120, 3, .goto 97, [(0, 217)], none),
  (123, 1, .iload_n 1, [], none), (124, 3, .invokestatic 443, [], none), (127, 3, .ifCond .eq 62, [(0, 189)], none), (130, 1, .aload_n 0, [], some [true, false]),
  (131, 1, .aload_n 0, [], none), (132, 3, .getfield 423, [], none), (135, 3, .invokevirtual 426, [], none), (138, 3, .invokestatic 443, [], none),
  (141, 3, .ifCond .eq 16, [(0, 157)], none), (144, 1, .aload_n 0, [], none), (145, 1, .dup, [], none), (146, 3, .getfield 423, [], none),
  (149, 1, .iconst 1, [], none), (150, 1, .iadd, [], none), (151, 3, .putfield 423, [], none), (154, 3, .goto (-24), [(0, 130)], none),
  (157, 1, .aload_n 0, [], none), (158, 3, .getfield 423, [], none), (161, 1, .aload_n 0, [], none), (162, 3, .getfield 433, [], none),
  (165, 1, .isub, [], none), (166, 2, .bipush 36, [], none), (168, 3, .if_icmp .le 13, [(0, 181)], none), (171, 1, .aload_n 0, [], none),
  (172, 1, .iconst 1, [], none), (173, 1, .aload_n 0, [], none), (174, 3, .getfield 433, [], none), (177, 3, .invokevirtual 446, [], none),
  (180, 1, .athrow, [], none), (181, 1, .aload_n 0, [], none), (182, 1, .iconst 2, [], none), (183, 3, .putfield 436, [], none),
  (186, 3, .goto 31, [(0, 217)], none), (189, 1, .iload_n 1, [], none), (190, 2, .bipush 34, [], none), (192, 3, .if_icmp .ne 20, [(0, 212)], none),
  (195, 1, .aload_n 0, [], none), (196, 1, .dup, [], none), (197, 3, .getfield 423, [], none), (200, 1, .iconst 1, [], none),
  (201, 1, .iadd, [], none), (202, 3, .putfield 423, [], none), (205, 1, .aload_n 0, [], none), (206, 3, .invokevirtual 453, [], none),
  (209, 3, .goto 8, [(0, 217)], none), (212, 1, .aload_n 0, [], none), (213, 1, .iload_n 1, [], none), (214, 3, .invokevirtual 456, [], none),
  (217, 1, .aload_n 0, [], some [true, false]), (218, 1, .aload_n 0, [], none), (219, 3, .getfield 423, [], none), (222, 3, .putfield 460, [], none),
  (225, 1, .return_, [], none)]
def e_md_take (m : Nat) : gE := (k_md_take, f_md, c_md, [(430, 1, 20, 5, .inl (fn_md_blanks m)), (426, 2, 20, 0, .inl (fn_md_sign m)), (439, 1, 0, 0, .inl (fn_md_isLetter m)), (443, 1, 0, 0, .inl (fn_md_isDigit m)), (446, 3, 20, 2, .inl (fn_md_fails m)), (450, 1, 20, 0, .inl (fn_md_word m)), (453, 1, 20, 5, .inr (fn_md_string m)), (456, 2, 20, 5, .inr (fn_md_signs m))], [], (m, 1292403899830820783791981253134370850579919631063298056455690981284903899871382966729806726668285676060168349484262341878715461931225350116804132864), 5)
theorem ok_md_take : gchk cX10_take 2 k_md_take = true := by decide +kernel
def fn_md_take (m : Nat) : gFt := gG (e_md_take m) 2
theorem mo_md_take (m : Nat) : gMo (.inr (fn_md_take m)) := gG_mo (E := e_md_take m) ⟨mo_md_blanks m, ⟨mo_md_sign m, ⟨mo_md_isLetter m, ⟨mo_md_isDigit m, ⟨mo_md_fails m, ⟨mo_md_word m, ⟨mo_md_string m, ⟨mo_md_signs m, trivial⟩⟩⟩⟩⟩⟩⟩⟩
noncomputable def md_take (σ : gM) : Option (gM × Option Int) := lim (fun n => fn_md_take 227 n [(2, 119)] σ)
theorem md_take_l (σ : gM) : Lm (fun n => fn_md_take 227 n [(2, 119)] σ) (md_take σ) := .of fun n => mo_md_take 227 n [(2, 119)] σ
theorem mb_md_take : gMos (e_md_take 227).2.2.2.1 := ⟨mo_md_blanks 227, ⟨mo_md_sign 227, ⟨mo_md_isLetter 227, ⟨mo_md_isDigit 227, ⟨mo_md_fails 227, ⟨mo_md_word 227, ⟨mo_md_string 227, ⟨mo_md_signs 227, trivial⟩⟩⟩⟩⟩⟩⟩⟩
noncomputable def md_take_b47 (σ : gM) : Option (gM × Option Int) := lim (fun n => gB (e_md_take 227) rG gthr n 47 [(2, 119), (9, 0)] [] σ)
theorem md_take_b47_l (σ : gM) : Lm (fun n => gB (e_md_take 227) rG gthr n 47 [(2, 119), (9, 0)] [] σ) (md_take_b47 σ) := .of fun n => gB_le (gMos_spec (mb_md_take)) n _ _ _ σ
noncomputable def md_take_b75 (σ : gM) : Option (gM × Option Int) := lim (fun n => gB (e_md_take 227) rG gthr n 75 [(2, 119), (9, 0)] [] σ)
theorem md_take_b75_l (σ : gM) : Lm (fun n => gB (e_md_take 227) rG gthr n 75 [(2, 119), (9, 0)] [] σ) (md_take_b75 σ) := .of fun n => gB_le (gMos_spec (mb_md_take)) n _ _ _ σ
noncomputable def md_take_b130 (σ : gM) : Option (gM × Option Int) := lim (fun n => gB (e_md_take 227) rG gthr n 130 [(2, 119), (9, 0)] [] σ)
theorem md_take_b130_l (σ : gM) : Lm (fun n => gB (e_md_take 227) rG gthr n 130 [(2, 119), (9, 0)] [] σ) (md_take_b130 σ) := .of fun n => gB_le (gMos_spec (mb_md_take)) n _ _ _ σ
noncomputable def md_take_b217 (σ : gM) : Option (gM × Option Int) := lim (fun n => gB (e_md_take 227) rG gthr n 217 [(2, 119), (9, 0)] [] σ)
theorem md_take_b217_l (σ : gM) : Lm (fun n => gB (e_md_take 227) rG gthr n 217 [(2, 119), (9, 0)] [] σ) (md_take_b217 σ) := .of fun n => gB_le (gMos_spec (mb_md_take)) n _ _ _ σ
theorem md_take_e (σ : gM) : md_take σ =
  ((md_blanks σ).bind fun p1 =>
  (md_sign (gW p1.1 119 26 (p1.1 119 24)) (p1.1 119 24)).bind fun p2 =>
  if p2.1 119 24 < p2.1 119 23 then
  ((md_isLetter p2.1 p2.2).bind fun p3 =>
    if p3.2 = 0 then
    ((md_isDigit p3.1 p2.2).bind fun p4 =>
      if p4.2 = 0 then
      (if p2.2 = 34 then
        ((md_string (gW p4.1 119 24 (w32 ((p4.1 119 24) + 1)))).bind fun p7 => gtry p7.2 (fun v8 =>
          md_take_b217 p7.1)
          (some (p7.1, none)))
        else
        ((md_signs p4.1 p2.2).bind fun p5 => gtry p5.2 (fun v6 =>
          md_take_b217 p5.1)
          (some (p5.1, none))))
      else
      (md_take_b130 p4.1))
    else
    (md_take_b47 p3.1))
  else
  (md_take_b217 (gW p2.1 119 25 0))) := Lm.eqn (md_take_l ..) (.bind (md_blanks_l ..) fun p1 => (.bind (md_sign_l ..) fun p2 => (.ite (.bind (md_isLetter_l ..) fun p3 => (.ite (.bind (md_isDigit_l ..) fun p4 => (.ite (.ite (.bind (md_string_l ..) fun p7 => .xtry (fun v8 => (md_take_b217_l ..)) .cst) (.bind (md_signs_l ..) fun p5 => .xtry (fun v6 => (md_take_b217_l ..)) .cst)) (md_take_b130_l ..))) (md_take_b47_l ..))) (md_take_b217_l ..)))) fun n => (rfl)
theorem md_take_b47_e (σ : gM) : md_take_b47 σ =
  ((md_sign σ (σ 119 24)).bind fun p1 =>
  (md_isLetter p1.1 p1.2).bind fun p2 =>
  if p2.2 = 0 then
  ((md_sign p2.1 (p2.1 119 24)).bind fun p3 =>
    (md_isDigit p3.1 p3.2).bind fun p4 =>
    if p4.2 = 0 then
    (if 12 < w32 ((p4.1 119 24) - (p4.1 119 26)) then
      ((md_fails p4.1 1 (p4.1 119 26)).bind fun p6 =>
        gthr p6.1 p6.2)
      else
      ((md_word p4.1).bind fun p5 =>
        md_take_b217 (gW p5.1 119 25 p5.2)))
    else
    (md_take_b75 p4.1))
  else
  (md_take_b75 p2.1)) := Lm.eqn (md_take_b47_l ..) (.bind (md_sign_l ..) fun p1 => (.bind (md_isLetter_l ..) fun p2 => (.ite (.bind (md_sign_l ..) fun p3 => (.bind (md_isDigit_l ..) fun p4 => (.ite (.ite (.bind (md_fails_l ..) fun p6 => .cst) (.bind (md_word_l ..) fun p5 => (md_take_b217_l ..))) (md_take_b75_l ..)))) (md_take_b75_l ..)))) fun n => (rfl)
theorem md_take_b75_e (σ : gM) : md_take_b75 σ =
  (md_take_b47 (gW σ 119 24 (w32 ((σ 119 24) + 1)))) := Lm.eqn (md_take_b75_l ..) (md_take_b47_l ..) fun n => (rfl)
theorem md_take_b130_e (σ : gM) : md_take_b130 σ =
  ((md_sign σ (σ 119 24)).bind fun p1 =>
  (md_isDigit p1.1 p1.2).bind fun p2 =>
  if p2.2 = 0 then
  (if 36 < w32 ((p2.1 119 24) - (p2.1 119 26)) then
    ((md_fails p2.1 1 (p2.1 119 26)).bind fun p3 =>
      gthr p3.1 p3.2)
    else
    (md_take_b217 (gW p2.1 119 25 2)))
  else
  (md_take_b130 (gW p2.1 119 24 (w32 ((p2.1 119 24) + 1))))) := Lm.eqn (md_take_b130_l ..) (.bind (md_sign_l ..) fun p1 => (.bind (md_isDigit_l ..) fun p2 => (.ite (.ite (.bind (md_fails_l ..) fun p3 => .cst) (md_take_b217_l ..)) (md_take_b130_l ..)))) fun n => (rfl)
theorem md_take_b217_e (σ : gM) : md_take_b217 σ =
  (some (gW σ 119 27 (σ 119 24), some 0)) := Lm.eqn (md_take_b217_l ..) .cst fun n => (rfl)
