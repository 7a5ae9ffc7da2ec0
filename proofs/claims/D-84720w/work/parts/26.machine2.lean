set_option maxRecDepth 100000
def k_mc_took : List gC := [(0, 1, .aload_n 0, [], none), (1, 3, .getfield 86, [], none), (4, 3, .getfield 263, [], none), (7, 1, .iload_n 1, [], none),
  (8, 1, .iaload, [], none), (9, 1, .iload_n 2, [], none), (10, 1, .iand, [], none), (11, 3, .ifCond .ne 19, [(0, 30)], none),
  (14, 1, .aload_n 0, [], none), (15, 1, .iload_n 1, [], none), (16, 1, .aload_n 0, [], none), (17, 3, .getfield 86, [], none),
  (20, 3, .getfield 263, [], none), (23, 1, .iload_n 1, [], none), (24, 1, .iaload, [], none), (25, 1, .iload_n 2, [], none),
  (26, 1, .ior, [], none), (27, 3, .invokevirtual 305, [], none), (30, 1, .return_, [], none)]
def e_mc_took (m : Nat) : gE := (k_mc_took, f_mc, c_mc, [(305, 3, 17, 5, .inl (fn_mc_changes m))], [], (m, 6769295752408244434342481743669079544222842504139610220627214244709324602983732720168165663553989632278624755736439637640484864), 5)
theorem ok_mc_took : gchk cX9_took 3 k_mc_took = true := by decide +kernel
def fn_mc_took (m : Nat) : gFn := gF (e_mc_took m) 3
theorem mo_mc_took (m : Nat) : gMo (.inl (fn_mc_took m)) := gF_mo (E := e_mc_took m) ⟨mo_mc_changes m, trivial⟩
noncomputable def mc_took (σ : gM) (x1 x2 : Int) : Option (gM × Int) := lim (fun n => fn_mc_took 119 n [(2, 87), (0, x1), (0, x2)] σ)
theorem mc_took_l (σ : gM) (x1 x2 : Int) : Lm (fun n => fn_mc_took 119 n [(2, 87), (0, x1), (0, x2)] σ) (mc_took σ x1 x2) := .of fun n => mo_mc_took 119 n [(2, 87), (0, x1), (0, x2)] σ
theorem mc_took_e (σ : gM) (x1 x2 : Int) : mc_took σ x1 x2 =
  (if 0 ≤ x1 ∧ x1 < 16000 then
  (if i_and (σ 11 x1) x2 = 0 then
    (if 0 ≤ x1 ∧ x1 < 16000 then
      ((mc_changes σ x1 (i_or (σ 11 x1) x2)).bind fun p1 =>
        some (p1.1, 0))
      else none)
    else
    (some (σ, 0)))
  else none) := Lm.eqn (mc_took_l ..) (.ite (.ite (.ite (.bind (mc_changes_l ..) fun p1 => .cst) .cst) .cst) .cst) fun n => (rfl)
def k_mc_left : List gC := [(0, 1, .aload_n 0, [], none), (1, 1, .iload_n 1, [], none), (2, 3, .invokevirtual 242, [], none), (5, 3, .ifCond .ne 4, [(0, 9)], none),
  (8, 1, .return_, [], none), (9, 1, .aload_n 0, [], none), (10, 3, .getfield 15, [], none), (13, 1, .aload_n 0, [], none),
  (14, 3, .getfield 159, [], none), (17, 1, .iconst 1, [], none), (18, 1, .isub, [], none), (19, 1, .laload, [], none),
  (20, 1, .lconst 1, [], none), (21, 1, .lcmp, [], none), (22, 3, .ifCond .ne 7, [(0, 29)], none), (25, 1, .iconst 1, [], none),
  (26, 3, .goto 4, [(0, 30)], none), (29, 1, .iconst 0, [], none), (30, 1, .aload_n 0, [], some [true, true, false]), (31, 3, .getfield 86, [], none),
  (34, 3, .getfield 307, [], none), (37, 1, .iload_n 1, [], none), (38, 1, .iaload, [], none), (39, 2, .bipush 18, [], none),
  (41, 3, .if_icmp .ne 7, [(0, 48)], none), (44, 1, .iconst 1, [], none), (45, 3, .goto 4, [(0, 49)], none), (48, 1, .iconst 0, [], none),
  (49, 3, .if_icmp .ne 7, [(0, 56)], some [true, true, false]), (52, 1, .iconst 1, [], none), (53, 3, .goto 4, [(0, 57)], none), (56, 1, .iconst 0, [], none),
  (57, 1, .istore_n 2, [], some [true, true, false]), (58, 1, .aload_n 0, [], none), (59, 1, .iload_n 1, [], none), (60, 1, .iload_n 2, [], none),
  (61, 3, .ifCond .eq 7, [(0, 68)], none), (64, 1, .iconst 1, [], none), (65, 3, .goto 4, [(0, 69)], none), (68, 1, .iconst 2, [], none),
  (69, 3, .invokevirtual 302, [], some [true, false, true]), (72, 1, .iload_n 2, [], none), (73, 3, .ifCond .eq 13, [(0, 86)], none), (76, 1, .aload_n 0, [], none),
  (77, 1, .dup, [], none), (78, 3, .getfield 159, [], none), (81, 1, .iconst 1, [], none), (82, 1, .isub, [], none),
  (83, 3, .putfield 159, [], none), (86, 1, .aload_n 0, [], some [true, false, true]), (87, 1, .iload_n 2, [], none), (88, 3, .ifCond .eq 12, [(0, 100)], none),
  (91, 1, .aload_n 0, [], none), (92, 3, .getfield 187, [], none), (95, 1, .iconst 1, [], none), (96, 1, .iadd, [], none),
  (97, 3, .goto 15, [(0, 112)], none), (100, 1, .aload_n 0, [], none), (101, 3, .getfield 86, [], none), (104, 3, .getfield 257, [], none),
  (107, 1, .aload_n 0, [], none), (108, 3, .getfield 187, [], none), (111, 1, .iaload, [], none), (112, 3, .putfield 187, [], some [false, false, false]),
  (115, 1, .return_, [], none)]
def e_mc_left (m : Nat) : gE := (k_mc_left, f_mc, c_mc, [(242, 2, 17, 0, .inl (fn_mc_isTruth m)), (302, 3, 17, 5, .inl (fn_mc_took m))], [], (m, 6774098742224942877457735092500722279127478323964479202980656444609871763304136431541819762172116769270364737659557330737436672), 5)
theorem ok_mc_left : gchk cX9_left 3 k_mc_left = true := by decide +kernel
def fn_mc_left (m : Nat) : gFn := gF (e_mc_left m) 3
theorem mo_mc_left (m : Nat) : gMo (.inl (fn_mc_left m)) := gF_mo (E := e_mc_left m) ⟨mo_mc_isTruth m, ⟨mo_mc_took m, trivial⟩⟩
noncomputable def mc_left (σ : gM) (x1 : Int) : Option (gM × Int) := lim (fun n => fn_mc_left 119 n [(2, 87), (0, x1)] σ)
theorem mc_left_l (σ : gM) (x1 : Int) : Lm (fun n => fn_mc_left 119 n [(2, 87), (0, x1)] σ) (mc_left σ x1) := .of fun n => mo_mc_left 119 n [(2, 87), (0, x1)] σ
theorem mb_mc_left : gMos (e_mc_left 119).2.2.2.1 := ⟨mo_mc_isTruth 119, ⟨mo_mc_took 119, trivial⟩⟩
noncomputable def mc_left_b30 (σ : gM) (x1 y0 : Int) : Option (gM × Int) := lim (fun n => gB (e_mc_left 119) rF tF n 30 [(2, 87), (0, x1), (9, 0)] [(0, y0)] σ)
theorem mc_left_b30_l (σ : gM) (x1 y0 : Int) : Lm (fun n => gB (e_mc_left 119) rF tF n 30 [(2, 87), (0, x1), (9, 0)] [(0, y0)] σ) (mc_left_b30 σ x1 y0) := .of fun n => gB_le (gMos_spec (mb_mc_left)) n _ _ _ σ
noncomputable def mc_left_b49 (σ : gM) (x1 y0 y1 : Int) : Option (gM × Int) := lim (fun n => gB (e_mc_left 119) rF tF n 49 [(2, 87), (0, x1), (9, 0)] [(0, y0), (0, y1)] σ)
theorem mc_left_b49_l (σ : gM) (x1 y0 y1 : Int) : Lm (fun n => gB (e_mc_left 119) rF tF n 49 [(2, 87), (0, x1), (9, 0)] [(0, y0), (0, y1)] σ) (mc_left_b49 σ x1 y0 y1) := .of fun n => gB_le (gMos_spec (mb_mc_left)) n _ _ _ σ
noncomputable def mc_left_b57 (σ : gM) (x1 y0 : Int) : Option (gM × Int) := lim (fun n => gB (e_mc_left 119) rF tF n 57 [(2, 87), (0, x1), (9, 0)] [(0, y0)] σ)
theorem mc_left_b57_l (σ : gM) (x1 y0 : Int) : Lm (fun n => gB (e_mc_left 119) rF tF n 57 [(2, 87), (0, x1), (9, 0)] [(0, y0)] σ) (mc_left_b57 σ x1 y0) := .of fun n => gB_le (gMos_spec (mb_mc_left)) n _ _ _ σ
noncomputable def mc_left_b69 (σ : gM) (x2 y0 y1 : Int) : Option (gM × Int) := lim (fun n => gB (e_mc_left 119) rF tF n 69 [(2, 87), (9, 0), (0, x2)] [(0, y0), (0, y1), (2, 87)] σ)
theorem mc_left_b69_l (σ : gM) (x2 y0 y1 : Int) : Lm (fun n => gB (e_mc_left 119) rF tF n 69 [(2, 87), (9, 0), (0, x2)] [(0, y0), (0, y1), (2, 87)] σ) (mc_left_b69 σ x2 y0 y1) := .of fun n => gB_le (gMos_spec (mb_mc_left)) n _ _ _ σ
noncomputable def mc_left_b86 (σ : gM) (x2 : Int) : Option (gM × Int) := lim (fun n => gB (e_mc_left 119) rF tF n 86 [(2, 87), (9, 0), (0, x2)] [] σ)
theorem mc_left_b86_l (σ : gM) (x2 : Int) : Lm (fun n => gB (e_mc_left 119) rF tF n 86 [(2, 87), (9, 0), (0, x2)] [] σ) (mc_left_b86 σ x2) := .of fun n => gB_le (gMos_spec (mb_mc_left)) n _ _ _ σ
noncomputable def mc_left_b112 (σ : gM) (y0 : Int) : Option (gM × Int) := lim (fun n => gB (e_mc_left 119) rF tF n 112 [(9, 0), (9, 0), (9, 0)] [(0, y0), (2, 87)] σ)
theorem mc_left_b112_l (σ : gM) (y0 : Int) : Lm (fun n => gB (e_mc_left 119) rF tF n 112 [(9, 0), (9, 0), (9, 0)] [(0, y0), (2, 87)] σ) (mc_left_b112 σ y0) := .of fun n => gB_le (gMos_spec (mb_mc_left)) n _ _ _ σ
theorem mc_left_e (σ : gM) (x1 : Int) : mc_left σ x1 =
  ((mc_isTruth σ x1).bind fun p1 =>
  if p1.2 = 0 then
  (some (p1.1, 0))
  else
  (if 0 ≤ w32 ((p1.1 87 8) - 1) ∧ w32 ((p1.1 87 8) - 1) < 18240 then
    (if l_cmp (p1.1 89 (w32 ((p1.1 87 8) - 1))) 1 = 0 then
      (mc_left_b30 p1.1 x1 1)
      else
      (mc_left_b30 p1.1 x1 0))
    else none)) := Lm.eqn (mc_left_l ..) (.bind (mc_isTruth_l ..) fun p1 => (.ite .cst (.ite (.ite (mc_left_b30_l ..) (mc_left_b30_l ..)) .cst))) fun n => (rfl)
theorem mc_left_b30_e (σ : gM) (x1 y0 : Int) : mc_left_b30 σ x1 y0 =
  (if 0 ≤ x1 ∧ x1 < 16000 then
  (if σ 9 x1 = 18 then
    (mc_left_b49 σ x1 1 y0)
    else
    (mc_left_b49 σ x1 0 y0))
  else none) := Lm.eqn (mc_left_b30_l ..) (.ite (.ite (mc_left_b49_l ..) (mc_left_b49_l ..)) .cst) fun n => (rfl)
theorem mc_left_b49_e (σ : gM) (x1 y0 y1 : Int) : mc_left_b49 σ x1 y0 y1 =
  (if y1 = y0 then
  (mc_left_b57 σ x1 1)
  else
  (mc_left_b57 σ x1 0)) := Lm.eqn (mc_left_b49_l ..) (.ite (mc_left_b57_l ..) (mc_left_b57_l ..)) fun n => (rfl)
theorem mc_left_b57_e (σ : gM) (x1 y0 : Int) : mc_left_b57 σ x1 y0 =
  (if y0 = 0 then
  (mc_left_b69 σ y0 2 x1)
  else
  (mc_left_b69 σ y0 1 x1)) := Lm.eqn (mc_left_b57_l ..) (.ite (mc_left_b69_l ..) (mc_left_b69_l ..)) fun n => (rfl)
theorem mc_left_b69_e (σ : gM) (x2 y0 y1 : Int) : mc_left_b69 σ x2 y0 y1 =
  ((mc_took σ y1 y0).bind fun p1 =>
  if x2 = 0 then
  (mc_left_b86 p1.1 x2)
  else
  (mc_left_b86 (gW p1.1 87 8 (w32 ((p1.1 87 8) - 1))) x2)) := Lm.eqn (mc_left_b69_l ..) (.bind (mc_took_l ..) fun p1 => (.ite (mc_left_b86_l ..) (mc_left_b86_l ..))) fun n => (rfl)
theorem mc_left_b86_e (σ : gM) (x2 : Int) : mc_left_b86 σ x2 =
  (if x2 = 0 then
  (if 0 ≤ σ 87 22 ∧ σ 87 22 < 164000 then
    (mc_left_b112 σ (σ 21 (σ 87 22)))
    else none)
  else
  (mc_left_b112 σ (w32 ((σ 87 22) + 1)))) := Lm.eqn (mc_left_b86_l ..) (.ite (.ite (mc_left_b112_l ..) .cst) (mc_left_b112_l ..)) fun n => (rfl)
theorem mc_left_b112_e (σ : gM) (y0 : Int) : mc_left_b112 σ y0 =
  (some (gW σ 87 22 y0, 0)) := Lm.eqn (mc_left_b112_l ..) .cst fun n => (rfl)
def k_mc_nameAt : List gC := [(0, 1, .aload_n 0, [], none), (1, 3, .getfield 86, [], none), (4, 3, .getfield 315, [], none), (7, 1, .iload_n 1, [], none),
  (8, 1, .iaload, [], none), (9, 1, .iconst 1, [], none), (10, 3, .if_icmp .ne 16, [(0, 26)], none), (13, 1, .aload_n 0, [], none),
  (14, 3, .getfield 86, [], none), (17, 3, .getfield 221, [], none), (20, 1, .iload_n 1, [], none), (21, 1, .laload, [], none),
  (22, 1, .l2i, [], none), (23, 3, .goto 24, [(0, 47)], none), (26, 1, .aload_n 0, [], none), (27, 3, .getfield 11, [], none),
  (30, 1, .iload_n 2, [], none), (31, 1, .iaload, [], none), (32, 1, .iconst 2, [], none), (33, 3, .if_icmp .ne 13, [(0, 46)], none),
  (36, 1, .aload_n 0, [], none), (37, 3, .getfield 15, [], none), (40, 1, .iload_n 2, [], none), (41, 1, .laload, [], none),
  (42, 1, .l2i, [], none), (43, 3, .goto 4, [(0, 47)], none), (46, 1, .iconst (-1), [], none), (47, 1, .ireturn, [], none)]
def e_mc_nameAt (m : Nat) : gE := (k_mc_nameAt, f_mc, c_mc, [], [], (m, 0), 0)
theorem ok_mc_nameAt : gchk cX9_nameAt 3 k_mc_nameAt = true := by decide +kernel
def fn_mc_nameAt (m : Nat) : gFn := gF (e_mc_nameAt m) 3
theorem mo_mc_nameAt (m : Nat) : gMo (.inl (fn_mc_nameAt m)) := gF_mo (E := e_mc_nameAt m) trivial
noncomputable def mc_nameAt (σ : gM) (x1 x2 : Int) : Option (gM × Int) := lim (fun n => fn_mc_nameAt 119 n [(2, 87), (0, x1), (0, x2)] σ)
theorem mc_nameAt_l (σ : gM) (x1 x2 : Int) : Lm (fun n => fn_mc_nameAt 119 n [(2, 87), (0, x1), (0, x2)] σ) (mc_nameAt σ x1 x2) := .of fun n => mo_mc_nameAt 119 n [(2, 87), (0, x1), (0, x2)] σ
theorem mc_nameAt_e (σ : gM) (x1 x2 : Int) : mc_nameAt σ x1 x2 =
  (if 0 ≤ x1 ∧ x1 < 16000 then
  (if σ 14 x1 = 1 then
    (if 0 ≤ x1 ∧ x1 < 16000 then
      (some (σ, w32 (σ 17 x1)))
      else none)
    else
    (if 0 ≤ x2 ∧ x2 < 18240 then
      (if σ 88 x2 = 2 then
        (if 0 ≤ x2 ∧ x2 < 18240 then
          (some (σ, w32 (σ 89 x2)))
          else none)
        else
        (some (σ, (-1))))
      else none))
  else none) := Lm.eqn (mc_nameAt_l ..) (.ite (.ite (.ite .cst .cst) (.ite (.ite (.ite .cst .cst) .cst) .cst)) .cst) fun n => (rfl)
def k_mc_moves : List gC := [(0, 1, .aload_n 0, [], some [true, true]), (1, 3, .getfield 90, [], none), (4, 3, .getfield 343, [], none), (7, 1, .aload_n 0, [], none),
  (8, 3, .getfield 50, [], none), (11, 1, .iload_n 1, [], none), (12, 1, .iaload, [], none), (13, 1, .iaload, [], none),
  (14, 3, .ifCond .lt 36, [(0, 50)], none), (17, 1, .aload_n 0, [], none), (18, 3, .getfield 50, [], none), (21, 1, .iload_n 1, [], none),
  (22, 1, .aload_n 0, [], none), (23, 3, .getfield 90, [], none), (26, 3, .getfield 343, [], none), (29, 1, .aload_n 0, [], none),
  (30, 3, .getfield 50, [], none), (33, 1, .iload_n 1, [], none), (34, 1, .iaload, [], none), (35, 1, .iaload, [], none),
  (36, 1, .iastore, [], none), (37, 1, .aload_n 0, [], none), (38, 1, .dup, [], none), (39, 3, .getfield 121, [], none),
  (42, 1, .iconst 1, [], none), (43, 1, .iadd, [], none), (44, 3, .putfield 121, [], none), (47, 3, .goto (-47), [(0, 0)], none),
  (50, 1, .return_, [], none)]
def e_mc_moves (m : Nat) : gE := (k_mc_moves, f_mc, c_mc, [], [], (m, 21661481985318866090456360813617841433097164651373566993519371723551728967231450179999800047688591721536469063865366901617065984), 5)
theorem ok_mc_moves : gchk cX9_moves 2 k_mc_moves = true := by decide +kernel
def fn_mc_moves (m : Nat) : gFn := gF (e_mc_moves m) 2
theorem mo_mc_moves (m : Nat) : gMo (.inl (fn_mc_moves m)) := gF_mo (E := e_mc_moves m) trivial
noncomputable def mc_moves (σ : gM) (x1 : Int) : Option (gM × Int) := lim (fun n => fn_mc_moves 119 n [(2, 87), (0, x1)] σ)
theorem mc_moves_l (σ : gM) (x1 : Int) : Lm (fun n => fn_mc_moves 119 n [(2, 87), (0, x1)] σ) (mc_moves σ x1) := .of fun n => mo_mc_moves 119 n [(2, 87), (0, x1)] σ
theorem mb_mc_moves : gMos (e_mc_moves 119).2.2.2.1 := trivial
noncomputable def mc_moves_b0 (σ : gM) (x1 : Int) : Option (gM × Int) := lim (fun n => gB (e_mc_moves 119) rF tF n 0 [(2, 87), (0, x1)] [] σ)
theorem mc_moves_b0_l (σ : gM) (x1 : Int) : Lm (fun n => gB (e_mc_moves 119) rF tF n 0 [(2, 87), (0, x1)] [] σ) (mc_moves_b0 σ x1) := .of fun n => gB_le (gMos_spec (mb_mc_moves)) n _ _ _ σ
theorem mc_moves_e (σ : gM) (x1 : Int) : mc_moves σ x1 =
  (if 0 ≤ x1 ∧ x1 < 400 then
  (if 0 ≤ σ 100 x1 ∧ σ 100 x1 < 200 then
    (if σ 46 (σ 100 x1) < 0 then
      (some (σ, 0))
      else
      (if 0 ≤ x1 ∧ x1 < 400 then
        (if 0 ≤ σ 100 x1 ∧ σ 100 x1 < 200 then
          (if 0 ≤ x1 ∧ x1 < 400 then
            (mc_moves_b0 (gW (gW σ 100 x1 (σ 46 (σ 100 x1))) 87 40 (w32 ((σ 87 40) + 1))) x1)
            else none)
          else none)
        else none))
    else none)
  else none) := Lm.eqn (mc_moves_l ..) (.ite (.ite (.ite .cst (.ite (.ite (.ite (mc_moves_b0_l ..) .cst) .cst) .cst)) .cst) .cst) fun n => (rfl)
theorem mc_moves_b0_e (σ : gM) (x1 : Int) : mc_moves_b0 σ x1 =
  (if 0 ≤ x1 ∧ x1 < 400 then
  (if 0 ≤ σ 100 x1 ∧ σ 100 x1 < 200 then
    (if σ 46 (σ 100 x1) < 0 then
      (some (σ, 0))
      else
      (if 0 ≤ x1 ∧ x1 < 400 then
        (if 0 ≤ σ 100 x1 ∧ σ 100 x1 < 200 then
          (if 0 ≤ x1 ∧ x1 < 400 then
            (mc_moves_b0 (gW (gW σ 100 x1 (σ 46 (σ 100 x1))) 87 40 (w32 ((σ 87 40) + 1))) x1)
            else none)
          else none)
        else none))
    else none)
  else none) := Lm.eqn (mc_moves_b0_l ..) (.ite (.ite (.ite .cst (.ite (.ite (.ite (mc_moves_b0_l ..) .cst) .cst) .cst)) .cst) .cst) fun n => (rfl)
def k_mc_isStale : List gC := [(0, 1, .aload_n 0, [], none), (1, 3, .getfield 86, [], none), (4, 3, .getfield 307, [], none), (7, 1, .iload_n 1, [], none),
  (8, 1, .iaload, [], none), (9, 2, .bipush 23, [], none), (11, 3, .if_icmp .ne 28, [(0, 39)], none), (14, 1, .aload_n 0, [], none),
  (15, 3, .getfield 86, [], none), (18, 1, .aload_n 0, [], none), (19, 3, .getfield 86, [], none), (22, 3, .getfield 337, [], none),
  (25, 1, .iload_n 2, [], none), (26, 1, .iaload, [], none), (27, 3, .invokevirtual 340, [], none), (30, 3, .ifCond .ne 7, [(0, 37)], none),
  (33, 1, .iconst 1, [], none), (34, 3, .goto 4, [(0, 38)], none), (37, 1, .iconst 0, [], none), (38, 1, .ireturn, [], none),
  (39, 1, .aload_n 0, [], none), (40, 3, .getfield 90, [], none), (43, 3, .getfield 343, [], none), (46, 1, .aload_n 0, [], none),
  (47, 3, .getfield 86, [], none), (50, 3, .getfield 337, [], none), (53, 1, .iload_n 2, [], none), (54, 1, .iaload, [], none),
  (55, 1, .iaload, [], none), (56, 3, .ifCond .ge 39, [(0, 95)], none), (59, 1, .aload_n 0, [], none), (60, 3, .getfield 86, [], none),
  (63, 3, .getfield 337, [], none), (66, 1, .iload_n 2, [], none), (67, 1, .iconst 2, [], none), (68, 1, .iadd, [], none),
  (69, 1, .iaload, [], none), (70, 3, .ifCond .lt 29, [(0, 99)], none), (73, 1, .aload_n 0, [], none), (74, 3, .getfield 90, [], none),
  (77, 3, .getfield 343, [], none), (80, 1, .aload_n 0, [], none), (81, 3, .getfield 86, [], none), (84, 3, .getfield 337, [], none),
  (87, 1, .iload_n 2, [], none), (88, 1, .iconst 2, [], none), (89, 1, .iadd, [], none), (90, 1, .iaload, [], none),
  (91, 1, .iaload, [], none), (92, 3, .ifCond .lt 7, [(0, 99)], none), (95, 1, .iconst 1, [], some [false, false, false]), (96, 3, .goto 4, [(0, 100)], none),
  (99, 1, .iconst 0, [], none), (100, 1, .ireturn, [], none)]
def e_mc_isStale (m : Nat) : gE := (k_mc_isStale, f_mc, c_mc, [(340, 2, 11, 0, .inl (fn_fr_isNewest m))], [], (m, 0), 6)
theorem ok_mc_isStale : gchk cX9_isStale 3 k_mc_isStale = true := by decide +kernel
def fn_mc_isStale (m : Nat) : gFn := gF (e_mc_isStale m) 3
theorem mo_mc_isStale (m : Nat) : gMo (.inl (fn_mc_isStale m)) := gF_mo (E := e_mc_isStale m) ⟨mo_fr_isNewest m, trivial⟩
noncomputable def mc_isStale (σ : gM) (x1 x2 : Int) : Option (gM × Int) := lim (fun n => fn_mc_isStale 119 n [(2, 87), (0, x1), (0, x2)] σ)
theorem mc_isStale_l (σ : gM) (x1 x2 : Int) : Lm (fun n => fn_mc_isStale 119 n [(2, 87), (0, x1), (0, x2)] σ) (mc_isStale σ x1 x2) := .of fun n => mo_mc_isStale 119 n [(2, 87), (0, x1), (0, x2)] σ
theorem mb_mc_isStale : gMos (e_mc_isStale 119).2.2.2.1 := ⟨mo_fr_isNewest 119, trivial⟩
noncomputable def mc_isStale_b95 (σ : gM) : Option (gM × Int) := lim (fun n => gB (e_mc_isStale 119) rF tF n 95 [(9, 0), (9, 0), (9, 0)] [] σ)
theorem mc_isStale_b95_l (σ : gM) : Lm (fun n => gB (e_mc_isStale 119) rF tF n 95 [(9, 0), (9, 0), (9, 0)] [] σ) (mc_isStale_b95 σ) := .of fun n => gB_le (gMos_spec (mb_mc_isStale)) n _ _ _ σ
theorem mc_isStale_e (σ : gM) (x1 x2 : Int) : mc_isStale σ x1 x2 =
  (if 0 ≤ x1 ∧ x1 < 16000 then
  (if σ 9 x1 = 23 then
    (if 0 ≤ x2 ∧ x2 < 144000 then
      ((fr_isNewest σ (σ 19 x2)).bind fun p1 =>
        if p1.2 = 0 then
        (some (p1.1, 1))
        else
        (some (p1.1, 0)))
      else none)
    else
    (if 0 ≤ x2 ∧ x2 < 144000 then
      (if 0 ≤ σ 19 x2 ∧ σ 19 x2 < 200 then
        (if σ 46 (σ 19 x2) < 0 then
          (if 0 ≤ w32 (x2 + 2) ∧ w32 (x2 + 2) < 144000 then
            (if σ 19 (w32 (x2 + 2)) < 0 then
              (some (σ, 0))
              else
              (if 0 ≤ w32 (x2 + 2) ∧ w32 (x2 + 2) < 144000 then
                (if 0 ≤ σ 19 (w32 (x2 + 2)) ∧ σ 19 (w32 (x2 + 2)) < 200 then
                  (if σ 46 (σ 19 (w32 (x2 + 2))) < 0 then
                    (some (σ, 0))
                    else
                    (mc_isStale_b95 σ))
                  else none)
                else none))
            else none)
          else
          (mc_isStale_b95 σ))
        else none)
      else none))
  else none) := Lm.eqn (mc_isStale_l ..) (.ite (.ite (.ite (.bind (fr_isNewest_l ..) fun p1 => (.ite .cst .cst)) .cst) (.ite (.ite (.ite (.ite (.ite .cst (.ite (.ite (.ite .cst (mc_isStale_b95_l ..)) .cst) .cst)) .cst) (mc_isStale_b95_l ..)) .cst) .cst)) .cst) fun n => (rfl)
theorem mc_isStale_b95_e (σ : gM) : mc_isStale_b95 σ =
  (some (σ, 1)) := Lm.eqn (mc_isStale_b95_l ..) .cst fun n => (rfl)
def k_mc_settles : List gC := [(0, 1, .aload_n 0, [], none), (1, 3, .getfield 86, [], none), (4, 3, .getfield 263, [], none), (7, 1, .iload_n 1, [], none),
  (8, 1, .iaload, [], none), (9, 1, .iconst 1, [], none), (10, 3, .if_icmp .ne 4, [(0, 14)], none), (13, 1, .return_, [], none),
  (14, 1, .iconst 0, [], none), (15, 2, .istore 6, [], none), (17, 1, .iconst 0, [], none), (18, 2, .istore 7, [], none),
  (20, 1, .iconst 0, [], none), (21, 2, .istore 8, [], none), (23, 2, .bipush 9, [], none), (25, 1, .iload_n 1, [], none),
  (26, 1, .imul, [], none), (27, 2, .istore 9, [], none), (29, 1, .iconst 0, [], none), (30, 2, .istore 10, [], none),
  (32, 2, .iload 10, [], some [true, true, true, true, true, true, true, true, false, true, true, false, false]), (34, 1, .aload_n 0, [], none), (35, 3, .getfield 86, [], none), (38, 3, .getfield 331, [], none),
  (41, 1, .iload_n 1, [], none), (42, 1, .iaload, [], none), (43, 3, .if_icmp .ge 140, [(0, 183)], none), (46, 2, .iload 9, [], none),
  (48, 1, .iconst 3, [], none), (49, 2, .iload 10, [], none), (51, 1, .imul, [], none), (52, 1, .iadd, [], none),
  (53, 2, .istore 11, [], none), (55, 1, .aload_n 0, [], none), (56, 1, .iload_n 1, [], none), (57, 2, .iload 11, [], none),
  (59, 3, .invokevirtual 334, [], none), (62, 3, .ifCond .eq 6, [(0, 68)], none), (65, 3, .goto 112, [(0, 177)], none), (68, 2, .iload 7, [], none),
  (70, 3, .ifCond .ne 51, [(0, 121)], none), (73, 1, .aload_n 0, [], none), (74, 3, .getfield 86, [], none), (77, 3, .getfield 337, [], none),
  (80, 2, .iload 11, [], none), (82, 1, .iaload, [], none), (83, 1, .iload_n 3, [], none), (84, 3, .if_icmp .ne 41, [(0, 125)], none),
  (87, 1, .aload_n 0, [], none), (88, 3, .getfield 86, [], none), (91, 3, .getfield 337, [], none), (94, 2, .iload 11, [], none),
  (96, 1, .iconst 1, [], none), (97, 1, .iadd, [], none), (98, 1, .iaload, [], none), (99, 2, .iload 4, [], none),
  (101, 3, .if_icmp .ne 24, [(0, 125)], none), (104, 1, .aload_n 0, [], none), (105, 3, .getfield 86, [], none), (108, 3, .getfield 337, [], none),
  (111, 2, .iload 11, [], none), (113, 1, .iconst 2, [], none), (114, 1, .iadd, [], none), (115, 1, .iaload, [], none),
  (116, 2, .iload 5, [], none), (118, 3, .if_icmp .ne 7, [(0, 125)], none), (121, 1, .iconst 1, [], some [true, true, true, true, true, true, true, false, false, true, true, true, false]), (122, 3, .goto 4, [(0, 126)], none),
  (125, 1, .iconst 0, [], some [true, true, true, true, true, true, true, false, false, true, true, true, false]), (126, 2, .istore 7, [], some [true, true, true, true, true, true, true, false, false, true, true, true, false]), (128, 1, .iconst 0, [], none), (129, 2, .istore 12, [], none),
  (131, 2, .iload 12, [], some [true, true, true, true, true, true, true, true, false, true, true, true, true]), (133, 1, .iconst 3, [], none), (134, 3, .if_icmp .ge 40, [(0, 174)], none), (137, 1, .aload_n 0, [], none),
  (138, 3, .getfield 86, [], none), (141, 3, .getfield 337, [], none), (144, 2, .iload 9, [], none), (146, 1, .iconst 3, [], none),
  (147, 2, .iload 6, [], none), (149, 1, .imul, [], none), (150, 1, .iadd, [], none), (151, 2, .iload 12, [], none),
  (153, 1, .iadd, [], none), (154, 1, .aload_n 0, [], none), (155, 3, .getfield 86, [], none), (158, 3, .getfield 337, [], none),
  (161, 2, .iload 11, [], none), (163, 2, .iload 12, [], none), (165, 1, .iadd, [], none), (166, 1, .iaload, [], none),
  (167, 1, .iastore, [], none), (168, 3, .iinc 12 1, [], none), (171, 3, .goto (-40), [(0, 131)], none), (174, 3, .iinc 6 1, [], none),
  (177, 3, .iinc 10 1, [], some [true, true, true, true, true, true, true, true, false, true, true, false, false]), (180, 3, .goto (-148), [(0, 32)], none), (183, 2, .iload 6, [], none), (185, 1, .aload_n 0, [], none),
  (186, 3, .getfield 86, [], none), (189, 3, .getfield 331, [], none), (192, 1, .iload_n 1, [], none), (193, 1, .iaload, [], none),
  (194, 3, .if_icmp .ge 7, [(0, 201)], none), (197, 1, .iconst 1, [], none), (198, 3, .goto 4, [(0, 202)], none), (201, 1, .iconst 0, [], none),
  (202, 2, .istore 8, [], some [true, true, true, true, true, true, true, true, false, true, false, false, false]), (204, 1, .aload_n 0, [], none), (205, 3, .getfield 86, [], none), (208, 3, .getfield 331, [], none),
  (211, 1, .iload_n 1, [], none), (212, 2, .iload 6, [], none), (214, 1, .iastore, [], none), (215, 2, .iload 7, [], none),
  (217, 3, .ifCond .ne 102, [(0, 319)], none), (220, 1, .iconst 1, [], none), (221, 2, .istore 8, [], none), (223, 2, .iload 6, [], none),
  (225, 1, .iload_n 2, [], none), (226, 3, .if_icmp .ne 26, [(0, 252)], none), (229, 1, .aload_n 0, [], none), (230, 3, .getfield 86, [], none),
  (233, 3, .getfield 331, [], none), (236, 1, .iload_n 1, [], none), (237, 1, .iconst 0, [], none), (238, 1, .iastore, [], none),
  (239, 1, .aload_n 0, [], none), (240, 3, .getfield 86, [], none), (243, 3, .getfield 263, [], none), (246, 1, .iload_n 1, [], none),
  (247, 1, .iconst 1, [], none), (248, 1, .iastore, [], none), (249, 3, .goto 70, [(0, 319)], none), (252, 1, .aload_n 0, [], none),
  (253, 3, .getfield 86, [], none), (256, 3, .getfield 337, [], none), (259, 2, .iload 9, [], none), (261, 1, .iconst 3, [], none),
  (262, 2, .iload 6, [], none), (264, 1, .imul, [], none), (265, 1, .iadd, [], none), (266, 1, .iload_n 3, [], none),
  (267, 1, .iastore, [], none), (268, 1, .aload_n 0, [], none), (269, 3, .getfield 86, [], none), (272, 3, .getfield 337, [], none),
  (275, 2, .iload 9, [], none), (277, 1, .iconst 3, [], none), (278, 2, .iload 6, [], none), (280, 1, .imul, [], none),
  (281, 1, .iadd, [], none), (282, 1, .iconst 1, [], none), (283, 1, .iadd, [], none), (284, 2, .iload 4, [], none),
  (286, 1, .iastore, [], none), (287, 1, .aload_n 0, [], none), (288, 3, .getfield 86, [], none), (291, 3, .getfield 337, [], none),
  (294, 2, .iload 9, [], none), (296, 1, .iconst 3, [], none), (297, 2, .iload 6, [], none), (299, 1, .imul, [], none),
  (300, 1, .iadd, [], none), (301, 1, .iconst 2, [], none), (302, 1, .iadd, [], none), (303, 2, .iload 5, [], none),
  (305, 1, .iastore, [], none), (306, 1, .aload_n 0, [], none), (307, 3, .getfield 86, [], none), (310, 3, .getfield 331, [], none),
  (313, 1, .iload_n 1, [], none), (314, 1, .dup2, [], none), (315, 1, .iaload, [], none), (316, 1, .iconst 1, [], none),
  (317, 1, .iadd, [], none), (318, 1, .iastore, [], none), (319, 2, .iload 8, [], some [true, true, false, false, false, false, false, false, true, false, false, false, false]), (321, 3, .ifCond .eq 8, [(0, 329)], none),
  (324, 1, .aload_n 0, [], none), (325, 1, .iload_n 1, [], none), (326, 3, .invokevirtual 265, [], none), (329, 1, .return_, [], none)]
def e_mc_settles (m : Nat) : gE := (k_mc_settles, f_mc, c_mc, [(334, 3, 17, 0, .inl (fn_mc_isStale m)), (265, 2, 17, 5, .inl (fn_mc_changed m))], [], (m, 6769295752408244434342481743669079544222842504139610220627214244709324602983732720168165663553989632278624755736439637641271296), 5)
theorem ok_mc_settles : gchk cX9_settles 13 k_mc_settles = true := by decide +kernel
def fn_mc_settles (m : Nat) : gFn := gF (e_mc_settles m) 13
theorem mo_mc_settles (m : Nat) : gMo (.inl (fn_mc_settles m)) := gF_mo (E := e_mc_settles m) ⟨mo_mc_isStale m, ⟨mo_mc_changed m, trivial⟩⟩
noncomputable def mc_settles (σ : gM) (x1 x2 x3 x4 x5 : Int) : Option (gM × Int) := lim (fun n => fn_mc_settles 119 n [(2, 87), (0, x1), (0, x2), (0, x3), (0, x4), (0, x5)] σ)
theorem mc_settles_l (σ : gM) (x1 x2 x3 x4 x5 : Int) : Lm (fun n => fn_mc_settles 119 n [(2, 87), (0, x1), (0, x2), (0, x3), (0, x4), (0, x5)] σ) (mc_settles σ x1 x2 x3 x4 x5) := .of fun n => mo_mc_settles 119 n [(2, 87), (0, x1), (0, x2), (0, x3), (0, x4), (0, x5)] σ
theorem mb_mc_settles : gMos (e_mc_settles 119).2.2.2.1 := ⟨mo_mc_isStale 119, ⟨mo_mc_changed 119, trivial⟩⟩
noncomputable def mc_settles_b32 (σ : gM) (x1 x2 x3 x4 x5 x6 x7 x9 x10 : Int) : Option (gM × Int) := lim (fun n => gB (e_mc_settles 119) rF tF n 32 [(2, 87), (0, x1), (0, x2), (0, x3), (0, x4), (0, x5), (0, x6), (0, x7), (9, 0), (0, x9), (0, x10), (9, 0), (9, 0)] [] σ)
theorem mc_settles_b32_l (σ : gM) (x1 x2 x3 x4 x5 x6 x7 x9 x10 : Int) : Lm (fun n => gB (e_mc_settles 119) rF tF n 32 [(2, 87), (0, x1), (0, x2), (0, x3), (0, x4), (0, x5), (0, x6), (0, x7), (9, 0), (0, x9), (0, x10), (9, 0), (9, 0)] [] σ) (mc_settles_b32 σ x1 x2 x3 x4 x5 x6 x7 x9 x10) := .of fun n => gB_le (gMos_spec (mb_mc_settles)) n _ _ _ σ
noncomputable def mc_settles_b121 (σ : gM) (x1 x2 x3 x4 x5 x6 x9 x10 x11 : Int) : Option (gM × Int) := lim (fun n => gB (e_mc_settles 119) rF tF n 121 [(2, 87), (0, x1), (0, x2), (0, x3), (0, x4), (0, x5), (0, x6), (9, 0), (9, 0), (0, x9), (0, x10), (0, x11), (9, 0)] [] σ)
theorem mc_settles_b121_l (σ : gM) (x1 x2 x3 x4 x5 x6 x9 x10 x11 : Int) : Lm (fun n => gB (e_mc_settles 119) rF tF n 121 [(2, 87), (0, x1), (0, x2), (0, x3), (0, x4), (0, x5), (0, x6), (9, 0), (9, 0), (0, x9), (0, x10), (0, x11), (9, 0)] [] σ) (mc_settles_b121 σ x1 x2 x3 x4 x5 x6 x9 x10 x11) := .of fun n => gB_le (gMos_spec (mb_mc_settles)) n _ _ _ σ
noncomputable def mc_settles_b125 (σ : gM) (x1 x2 x3 x4 x5 x6 x9 x10 x11 : Int) : Option (gM × Int) := lim (fun n => gB (e_mc_settles 119) rF tF n 125 [(2, 87), (0, x1), (0, x2), (0, x3), (0, x4), (0, x5), (0, x6), (9, 0), (9, 0), (0, x9), (0, x10), (0, x11), (9, 0)] [] σ)
theorem mc_settles_b125_l (σ : gM) (x1 x2 x3 x4 x5 x6 x9 x10 x11 : Int) : Lm (fun n => gB (e_mc_settles 119) rF tF n 125 [(2, 87), (0, x1), (0, x2), (0, x3), (0, x4), (0, x5), (0, x6), (9, 0), (9, 0), (0, x9), (0, x10), (0, x11), (9, 0)] [] σ) (mc_settles_b125 σ x1 x2 x3 x4 x5 x6 x9 x10 x11) := .of fun n => gB_le (gMos_spec (mb_mc_settles)) n _ _ _ σ
noncomputable def mc_settles_b126 (σ : gM) (x1 x2 x3 x4 x5 x6 x9 x10 x11 y0 : Int) : Option (gM × Int) := lim (fun n => gB (e_mc_settles 119) rF tF n 126 [(2, 87), (0, x1), (0, x2), (0, x3), (0, x4), (0, x5), (0, x6), (9, 0), (9, 0), (0, x9), (0, x10), (0, x11), (9, 0)] [(0, y0)] σ)
theorem mc_settles_b126_l (σ : gM) (x1 x2 x3 x4 x5 x6 x9 x10 x11 y0 : Int) : Lm (fun n => gB (e_mc_settles 119) rF tF n 126 [(2, 87), (0, x1), (0, x2), (0, x3), (0, x4), (0, x5), (0, x6), (9, 0), (9, 0), (0, x9), (0, x10), (0, x11), (9, 0)] [(0, y0)] σ) (mc_settles_b126 σ x1 x2 x3 x4 x5 x6 x9 x10 x11 y0) := .of fun n => gB_le (gMos_spec (mb_mc_settles)) n _ _ _ σ
noncomputable def mc_settles_b131 (σ : gM) (x1 x2 x3 x4 x5 x6 x7 x9 x10 x11 x12 : Int) : Option (gM × Int) := lim (fun n => gB (e_mc_settles 119) rF tF n 131 [(2, 87), (0, x1), (0, x2), (0, x3), (0, x4), (0, x5), (0, x6), (0, x7), (9, 0), (0, x9), (0, x10), (0, x11), (0, x12)] [] σ)
theorem mc_settles_b131_l (σ : gM) (x1 x2 x3 x4 x5 x6 x7 x9 x10 x11 x12 : Int) : Lm (fun n => gB (e_mc_settles 119) rF tF n 131 [(2, 87), (0, x1), (0, x2), (0, x3), (0, x4), (0, x5), (0, x6), (0, x7), (9, 0), (0, x9), (0, x10), (0, x11), (0, x12)] [] σ) (mc_settles_b131 σ x1 x2 x3 x4 x5 x6 x7 x9 x10 x11 x12) := .of fun n => gB_le (gMos_spec (mb_mc_settles)) n _ _ _ σ
noncomputable def mc_settles_b177 (σ : gM) (x1 x2 x3 x4 x5 x6 x7 x9 x10 : Int) : Option (gM × Int) := lim (fun n => gB (e_mc_settles 119) rF tF n 177 [(2, 87), (0, x1), (0, x2), (0, x3), (0, x4), (0, x5), (0, x6), (0, x7), (9, 0), (0, x9), (0, x10), (9, 0), (9, 0)] [] σ)
theorem mc_settles_b177_l (σ : gM) (x1 x2 x3 x4 x5 x6 x7 x9 x10 : Int) : Lm (fun n => gB (e_mc_settles 119) rF tF n 177 [(2, 87), (0, x1), (0, x2), (0, x3), (0, x4), (0, x5), (0, x6), (0, x7), (9, 0), (0, x9), (0, x10), (9, 0), (9, 0)] [] σ) (mc_settles_b177 σ x1 x2 x3 x4 x5 x6 x7 x9 x10) := .of fun n => gB_le (gMos_spec (mb_mc_settles)) n _ _ _ σ
noncomputable def mc_settles_b202 (σ : gM) (x1 x2 x3 x4 x5 x6 x7 x9 y0 : Int) : Option (gM × Int) := lim (fun n => gB (e_mc_settles 119) rF tF n 202 [(2, 87), (0, x1), (0, x2), (0, x3), (0, x4), (0, x5), (0, x6), (0, x7), (9, 0), (0, x9), (9, 0), (9, 0), (9, 0)] [(0, y0)] σ)
theorem mc_settles_b202_l (σ : gM) (x1 x2 x3 x4 x5 x6 x7 x9 y0 : Int) : Lm (fun n => gB (e_mc_settles 119) rF tF n 202 [(2, 87), (0, x1), (0, x2), (0, x3), (0, x4), (0, x5), (0, x6), (0, x7), (9, 0), (0, x9), (9, 0), (9, 0), (9, 0)] [(0, y0)] σ) (mc_settles_b202 σ x1 x2 x3 x4 x5 x6 x7 x9 y0) := .of fun n => gB_le (gMos_spec (mb_mc_settles)) n _ _ _ σ
noncomputable def mc_settles_b319 (σ : gM) (x1 x8 : Int) : Option (gM × Int) := lim (fun n => gB (e_mc_settles 119) rF tF n 319 [(2, 87), (0, x1), (9, 0), (9, 0), (9, 0), (9, 0), (9, 0), (9, 0), (0, x8), (9, 0), (9, 0), (9, 0), (9, 0)] [] σ)
theorem mc_settles_b319_l (σ : gM) (x1 x8 : Int) : Lm (fun n => gB (e_mc_settles 119) rF tF n 319 [(2, 87), (0, x1), (9, 0), (9, 0), (9, 0), (9, 0), (9, 0), (9, 0), (0, x8), (9, 0), (9, 0), (9, 0), (9, 0)] [] σ) (mc_settles_b319 σ x1 x8) := .of fun n => gB_le (gMos_spec (mb_mc_settles)) n _ _ _ σ
theorem mc_settles_e (σ : gM) (x1 x2 x3 x4 x5 : Int) : mc_settles σ x1 x2 x3 x4 x5 =
  (if 0 ≤ x1 ∧ x1 < 16000 then
  (if σ 11 x1 = 1 then
    (some (σ, 0))
    else
    (mc_settles_b32 σ x1 x2 x3 x4 x5 0 0 (w32 (9 * x1)) 0))
  else none) := Lm.eqn (mc_settles_l ..) (.ite (.ite .cst (mc_settles_b32_l ..)) .cst) fun n => (rfl)
theorem mc_settles_b32_e (σ : gM) (x1 x2 x3 x4 x5 x6 x7 x9 x10 : Int) : mc_settles_b32 σ x1 x2 x3 x4 x5 x6 x7 x9 x10 =
  (if 0 ≤ x1 ∧ x1 < 16000 then
  (if x10 < σ 18 x1 then
    ((mc_isStale σ x1 (w32 (x9 + (w32 (3 * x10))))).bind fun p1 =>
      if p1.2 = 0 then
      (if x7 = 0 then
        (if 0 ≤ w32 (x9 + (w32 (3 * x10))) ∧ w32 (x9 + (w32 (3 * x10))) < 144000 then
          (if p1.1 19 (w32 (x9 + (w32 (3 * x10)))) = x3 then
            (if 0 ≤ w32 ((w32 (x9 + (w32 (3 * x10)))) + 1) ∧ w32 ((w32 (x9 + (w32 (3 * x10)))) + 1) < 144000 then
              (if p1.1 19 (w32 ((w32 (x9 + (w32 (3 * x10)))) + 1)) = x4 then
                (if 0 ≤ w32 ((w32 (x9 + (w32 (3 * x10)))) + 2) ∧ w32 ((w32 (x9 + (w32 (3 * x10)))) + 2) < 144000 then
                  (if p1.1 19 (w32 ((w32 (x9 + (w32 (3 * x10)))) + 2)) = x5 then
                    (mc_settles_b121 p1.1 x1 x2 x3 x4 x5 x6 x9 x10 (w32 (x9 + (w32 (3 * x10)))))
                    else
                    (mc_settles_b125 p1.1 x1 x2 x3 x4 x5 x6 x9 x10 (w32 (x9 + (w32 (3 * x10))))))
                  else none)
                else
                (mc_settles_b125 p1.1 x1 x2 x3 x4 x5 x6 x9 x10 (w32 (x9 + (w32 (3 * x10))))))
              else none)
            else
            (mc_settles_b125 p1.1 x1 x2 x3 x4 x5 x6 x9 x10 (w32 (x9 + (w32 (3 * x10))))))
          else none)
        else
        (mc_settles_b121 p1.1 x1 x2 x3 x4 x5 x6 x9 x10 (w32 (x9 + (w32 (3 * x10))))))
      else
      (mc_settles_b177 p1.1 x1 x2 x3 x4 x5 x6 x7 x9 x10))
    else
    (if 0 ≤ x1 ∧ x1 < 16000 then
      (if x6 < σ 18 x1 then
        (mc_settles_b202 σ x1 x2 x3 x4 x5 x6 x7 x9 1)
        else
        (mc_settles_b202 σ x1 x2 x3 x4 x5 x6 x7 x9 0))
      else none))
  else none) := Lm.eqn (mc_settles_b32_l ..) (.ite (.ite (.bind (mc_isStale_l ..) fun p1 => (.ite (.ite (.ite (.ite (.ite (.ite (.ite (.ite (mc_settles_b121_l ..) (mc_settles_b125_l ..)) .cst) (mc_settles_b125_l ..)) .cst) (mc_settles_b125_l ..)) .cst) (mc_settles_b121_l ..)) (mc_settles_b177_l ..))) (.ite (.ite (mc_settles_b202_l ..) (mc_settles_b202_l ..)) .cst)) .cst) fun n => (rfl)
theorem mc_settles_b121_e (σ : gM) (x1 x2 x3 x4 x5 x6 x9 x10 x11 : Int) : mc_settles_b121 σ x1 x2 x3 x4 x5 x6 x9 x10 x11 =
  (mc_settles_b126 σ x1 x2 x3 x4 x5 x6 x9 x10 x11 1) := Lm.eqn (mc_settles_b121_l ..) (mc_settles_b126_l ..) fun n => (rfl)
theorem mc_settles_b125_e (σ : gM) (x1 x2 x3 x4 x5 x6 x9 x10 x11 : Int) : mc_settles_b125 σ x1 x2 x3 x4 x5 x6 x9 x10 x11 =
  (mc_settles_b126 σ x1 x2 x3 x4 x5 x6 x9 x10 x11 0) := Lm.eqn (mc_settles_b125_l ..) (mc_settles_b126_l ..) fun n => (rfl)
theorem mc_settles_b126_e (σ : gM) (x1 x2 x3 x4 x5 x6 x9 x10 x11 y0 : Int) : mc_settles_b126 σ x1 x2 x3 x4 x5 x6 x9 x10 x11 y0 =
  (mc_settles_b131 σ x1 x2 x3 x4 x5 x6 y0 x9 x10 x11 0) := Lm.eqn (mc_settles_b126_l ..) (mc_settles_b131_l ..) fun n => (rfl)
theorem mc_settles_b131_e (σ : gM) (x1 x2 x3 x4 x5 x6 x7 x9 x10 x11 x12 : Int) : mc_settles_b131 σ x1 x2 x3 x4 x5 x6 x7 x9 x10 x11 x12 =
  (if x12 < 3 then
  (if 0 ≤ w32 (x11 + x12) ∧ w32 (x11 + x12) < 144000 then
    (if 0 ≤ w32 ((w32 (x9 + (w32 (3 * x6)))) + x12) ∧ w32 ((w32 (x9 + (w32 (3 * x6)))) + x12) < 144000 then
      (mc_settles_b131 (gW σ 19 (w32 ((w32 (x9 + (w32 (3 * x6)))) + x12)) (σ 19 (w32 (x11 + x12)))) x1 x2 x3 x4 x5 x6 x7 x9 x10 x11 (w32 (x12 + 1)))
      else none)
    else none)
  else
  (mc_settles_b177 σ x1 x2 x3 x4 x5 (w32 (x6 + 1)) x7 x9 x10)) := Lm.eqn (mc_settles_b131_l ..) (.ite (.ite (.ite (mc_settles_b131_l ..) .cst) .cst) (mc_settles_b177_l ..)) fun n => (rfl)
theorem mc_settles_b177_e (σ : gM) (x1 x2 x3 x4 x5 x6 x7 x9 x10 : Int) : mc_settles_b177 σ x1 x2 x3 x4 x5 x6 x7 x9 x10 =
  (mc_settles_b32 σ x1 x2 x3 x4 x5 x6 x7 x9 (w32 (x10 + 1))) := Lm.eqn (mc_settles_b177_l ..) (mc_settles_b32_l ..) fun n => (rfl)
theorem mc_settles_b202_e (σ : gM) (x1 x2 x3 x4 x5 x6 x7 x9 y0 : Int) : mc_settles_b202 σ x1 x2 x3 x4 x5 x6 x7 x9 y0 =
  (if 0 ≤ x1 ∧ x1 < 16000 then
  (if x7 = 0 then
    (if x6 = x2 then
      (if 0 ≤ x1 ∧ x1 < 16000 then
        (if 0 ≤ x1 ∧ x1 < 16000 then
          (mc_settles_b319 (gW (gW (gW σ 18 x1 x6) 18 x1 0) 11 x1 1) x1 1)
          else none)
        else none)
      else
      (if 0 ≤ w32 (x9 + (w32 (3 * x6))) ∧ w32 (x9 + (w32 (3 * x6))) < 144000 then
        (if 0 ≤ w32 ((w32 (x9 + (w32 (3 * x6)))) + 1) ∧ w32 ((w32 (x9 + (w32 (3 * x6)))) + 1) < 144000 then
          (if 0 ≤ w32 ((w32 (x9 + (w32 (3 * x6)))) + 2) ∧ w32 ((w32 (x9 + (w32 (3 * x6)))) + 2) < 144000 then
            (if 0 ≤ x1 ∧ x1 < 16000 then
              (if 0 ≤ x1 ∧ x1 < 16000 then
                (mc_settles_b319 (gW (gW (gW (gW (gW σ 18 x1 x6) 19 (w32 (x9 + (w32 (3 * x6)))) x3) 19 (w32 ((w32 (x9 + (w32 (3 * x6)))) + 1)) x4) 19 (w32 ((w32 (x9 + (w32 (3 * x6)))) + 2)) x5) 18 x1 (w32 (((gW σ 18 x1 x6) 18 x1) + 1))) x1 1)
                else none)
              else none)
            else none)
          else none)
        else none))
    else
    (mc_settles_b319 (gW σ 18 x1 x6) x1 y0))
  else none) := Lm.eqn (mc_settles_b202_l ..) (.ite (.ite (.ite (.ite (.ite (mc_settles_b319_l ..) .cst) .cst) (.ite (.ite (.ite (.ite (.ite (mc_settles_b319_l ..) .cst) .cst) .cst) .cst) .cst)) (mc_settles_b319_l ..)) .cst) fun n => (rfl)
theorem mc_settles_b319_e (σ : gM) (x1 x8 : Int) : mc_settles_b319 σ x1 x8 =
  (if x8 = 0 then
  (some (σ, 0))
  else
  ((mc_changed σ x1).bind fun p1 =>
    some (p1.1, 0))) := Lm.eqn (mc_settles_b319_l ..) (.ite .cst (.bind (mc_changed_l ..) fun p1 => .cst)) fun n => (rfl)
def k_mc_get : List gC := [(0, 1, .aload_n 0, [], none), (1, 3, .getfield 86, [], none), (4, 3, .getfield 315, [], none), (7, 1, .iload_n 1, [], none),
  (8, 1, .iaload, [], none), (9, 1, .iconst 1, [], none), (10, 3, .if_icmp .ne 12, [(0, 22)], none), (13, 1, .aload_n 0, [], none),
  (14, 3, .getfield 159, [], none), (17, 1, .iconst 1, [], none), (18, 1, .isub, [], none), (19, 3, .goto 9, [(0, 28)], none),
  (22, 1, .aload_n 0, [], none), (23, 3, .getfield 159, [], none), (26, 1, .iconst 2, [], none), (27, 1, .isub, [], none),
  (28, 1, .istore_n 2, [], some [true, true, false, false, false, false, false]), (29, 1, .aload_n 0, [], none), (30, 3, .getfield 11, [], none), (33, 1, .iload_n 2, [], none),
  (34, 1, .iaload, [], none), (35, 2, .bipush 6, [], none), (37, 3, .if_icmp .eq 10, [(0, 47)], none), (40, 1, .aload_n 0, [], none),
  (41, 1, .iconst 4, [], none), (42, 1, .iload_n 1, [], none), (43, 3, .invokevirtual 193, [], none), (46, 1, .ireturn, [], none),
  (47, 1, .aload_n 0, [], none), (48, 1, .iload_n 1, [], none), (49, 1, .iload_n 2, [], none), (50, 1, .iconst 1, [], none),
  (51, 1, .iadd, [], none), (52, 3, .invokevirtual 453, [], none), (55, 1, .istore_n 3, [], none), (56, 1, .iload_n 3, [], none),
  (57, 3, .ifCond .ge 10, [(0, 67)], none), (60, 1, .aload_n 0, [], none), (61, 1, .iconst 1, [], none), (62, 1, .iload_n 1, [], none),
  (63, 3, .invokevirtual 193, [], none), (66, 1, .ireturn, [], none), (67, 1, .aload_n 0, [], none), (68, 3, .getfield 15, [], none),
  (71, 1, .iload_n 2, [], none), (72, 1, .laload, [], none), (73, 1, .l2i, [], none), (74, 2, .istore 4, [], none),
  (76, 1, .aload_n 0, [], none), (77, 3, .getfield 90, [], none), (80, 1, .iload_n 3, [], none), (81, 3, .invokevirtual 456, [], none),
  (84, 2, .istore 5, [], none), (86, 2, .iload 5, [], none), (88, 3, .ifCond .ge 7, [(0, 95)], none), (91, 1, .iconst (-1), [], none),
  (92, 3, .goto 19, [(0, 111)], none), (95, 1, .aload_n 0, [], none), (96, 3, .getfield 90, [], none), (99, 1, .aload_n 0, [], none),
  (100, 3, .getfield 50, [], none), (103, 2, .iload 4, [], none), (105, 1, .iaload, [], none), (106, 2, .iload 5, [], none),
  (108, 3, .invokevirtual 459, [], none), (111, 2, .istore 6, [], some [true, true, true, false, true, true, false]), (113, 2, .iload 6, [], none), (115, 3, .ifCond .ge 10, [(0, 125)], none),
  (118, 1, .aload_n 0, [], none), (119, 1, .iconst 5, [], none), (120, 1, .iload_n 1, [], none), (121, 3, .invokevirtual 193, [], none),
  (124, 1, .ireturn, [], none), (125, 1, .aload_n 0, [], none), (126, 2, .iload 4, [], none), (128, 3, .invokevirtual 462, [], none),
  (131, 1, .aload_n 0, [], none), (132, 1, .iload_n 1, [], none), (133, 1, .iconst 3, [], none), (134, 1, .aload_n 0, [], none),
  (135, 3, .getfield 50, [], none), (138, 2, .iload 4, [], none), (140, 1, .iaload, [], none), (141, 2, .iload 5, [], none),
  (143, 1, .iconst (-1), [], none), (144, 3, .invokevirtual 320, [], none), (147, 1, .aload_n 0, [], none), (148, 1, .iload_n 2, [], none),
  (149, 3, .putfield 159, [], none), (152, 1, .aload_n 0, [], none), (153, 1, .aload_n 0, [], none), (154, 3, .getfield 53, [], none),
  (157, 2, .bipush 12, [], none), (159, 2, .iload 4, [], none), (161, 1, .imul, [], none), (162, 2, .iload 6, [], none),
  (164, 1, .iadd, [], none), (165, 1, .iaload, [], none), (166, 1, .aload_n 0, [], none), (167, 3, .getfield 56, [], none),
  (170, 2, .bipush 12, [], none), (172, 2, .iload 4, [], none), (174, 1, .imul, [], none), (175, 2, .iload 6, [], none),
  (177, 1, .iadd, [], none), (178, 1, .laload, [], none), (179, 3, .invokevirtual 167, [], none), (182, 1, .iconst 1, [], none),
  (183, 1, .ireturn, [], none)]
def e_mc_get (m : Nat) : gE := (k_mc_get, f_mc, c_mc, [(193, 3, 17, 0, .inl (fn_mc_fails m)), (453, 3, 17, 0, .inl (fn_mc_nameAt m)), (456, 2, 13, 0, .inl (fn_sp_nameOf m)), (459, 3, 13, 0, .inl (fn_sp_place m)), (462, 2, 17, 5, .inl (fn_mc_moves m)), (320, 6, 17, 5, .inl (fn_mc_settles m)), (167, 3, 17, 5, .inl (fn_mc_push m))], [], (m, 28435580727543808967914095906118563712224642975338046196500028168161600730535586611541619809860708491735288830988959438529632304), 6)
theorem ok_mc_get : gchk cX9_get 7 k_mc_get = true := by decide +kernel
def fn_mc_get (m : Nat) : gFn := gF (e_mc_get m) 7
theorem mo_mc_get (m : Nat) : gMo (.inl (fn_mc_get m)) := gF_mo (E := e_mc_get m) ⟨mo_mc_fails m, ⟨mo_mc_nameAt m, ⟨mo_sp_nameOf m, ⟨mo_sp_place m, ⟨mo_mc_moves m, ⟨mo_mc_settles m, ⟨mo_mc_push m, trivial⟩⟩⟩⟩⟩⟩⟩
noncomputable def mc_get (σ : gM) (x1 : Int) : Option (gM × Int) := lim (fun n => fn_mc_get 119 n [(2, 87), (0, x1)] σ)
theorem mc_get_l (σ : gM) (x1 : Int) : Lm (fun n => fn_mc_get 119 n [(2, 87), (0, x1)] σ) (mc_get σ x1) := .of fun n => mo_mc_get 119 n [(2, 87), (0, x1)] σ
theorem mb_mc_get : gMos (e_mc_get 119).2.2.2.1 := ⟨mo_mc_fails 119, ⟨mo_mc_nameAt 119, ⟨mo_sp_nameOf 119, ⟨mo_sp_place 119, ⟨mo_mc_moves 119, ⟨mo_mc_settles 119, ⟨mo_mc_push 119, trivial⟩⟩⟩⟩⟩⟩⟩
noncomputable def mc_get_b28 (σ : gM) (x1 y0 : Int) : Option (gM × Int) := lim (fun n => gB (e_mc_get 119) rF tF n 28 [(2, 87), (0, x1), (9, 0), (9, 0), (9, 0), (9, 0), (9, 0)] [(0, y0)] σ)
theorem mc_get_b28_l (σ : gM) (x1 y0 : Int) : Lm (fun n => gB (e_mc_get 119) rF tF n 28 [(2, 87), (0, x1), (9, 0), (9, 0), (9, 0), (9, 0), (9, 0)] [(0, y0)] σ) (mc_get_b28 σ x1 y0) := .of fun n => gB_le (gMos_spec (mb_mc_get)) n _ _ _ σ
noncomputable def mc_get_b111 (σ : gM) (x1 x2 x4 x5 y0 : Int) : Option (gM × Int) := lim (fun n => gB (e_mc_get 119) rF tF n 111 [(2, 87), (0, x1), (0, x2), (9, 0), (0, x4), (0, x5), (9, 0)] [(0, y0)] σ)
theorem mc_get_b111_l (σ : gM) (x1 x2 x4 x5 y0 : Int) : Lm (fun n => gB (e_mc_get 119) rF tF n 111 [(2, 87), (0, x1), (0, x2), (9, 0), (0, x4), (0, x5), (9, 0)] [(0, y0)] σ) (mc_get_b111 σ x1 x2 x4 x5 y0) := .of fun n => gB_le (gMos_spec (mb_mc_get)) n _ _ _ σ
theorem mc_get_e (σ : gM) (x1 : Int) : mc_get σ x1 =
  (if 0 ≤ x1 ∧ x1 < 16000 then
  (if σ 14 x1 = 1 then
    (mc_get_b28 σ x1 (w32 ((σ 87 8) - 1)))
    else
    (mc_get_b28 σ x1 (w32 ((σ 87 8) - 2))))
  else none) := Lm.eqn (mc_get_l ..) (.ite (.ite (mc_get_b28_l ..) (mc_get_b28_l ..)) .cst) fun n => (rfl)
theorem mc_get_b28_e (σ : gM) (x1 y0 : Int) : mc_get_b28 σ x1 y0 =
  (if 0 ≤ y0 ∧ y0 < 18240 then
  (if σ 88 y0 = 6 then
    ((mc_nameAt σ x1 (w32 (y0 + 1))).bind fun p1 =>
      if p1.2 < 0 then
      ((mc_fails p1.1 1 x1).bind fun p4 =>
        g01 p4.2 (some (p4.1, p4.2)))
      else
      (if 0 ≤ y0 ∧ y0 < 18240 then
        ((sp_nameOf p1.1 p1.2).bind fun p2 =>
          if p2.2 < 0 then
          (mc_get_b111 p2.1 x1 y0 (w32 (p1.1 89 y0)) p2.2 (-1))
          else
          (if 0 ≤ w32 (p1.1 89 y0) ∧ w32 (p1.1 89 y0) < 400 then
            ((sp_place p2.1 (p2.1 100 (w32 (p1.1 89 y0))) p2.2).bind fun p3 =>
              mc_get_b111 p3.1 x1 y0 (w32 (p1.1 89 y0)) p2.2 p3.2)
            else none))
        else none))
    else
    ((mc_fails σ 4 x1).bind fun p5 =>
      g01 p5.2 (some (p5.1, p5.2))))
  else none) := Lm.eqn (mc_get_b28_l ..) (.ite (.ite (.bind (mc_nameAt_l ..) fun p1 => (.ite (.bind (mc_fails_l ..) fun p4 => .cst) (.ite (.bind (sp_nameOf_l ..) fun p2 => (.ite (mc_get_b111_l ..) (.ite (.bind (sp_place_l ..) fun p3 => (mc_get_b111_l ..)) .cst))) .cst))) (.bind (mc_fails_l ..) fun p5 => .cst)) .cst) fun n => (rfl)
theorem mc_get_b111_e (σ : gM) (x1 x2 x4 x5 y0 : Int) : mc_get_b111 σ x1 x2 x4 x5 y0 =
  (if y0 < 0 then
  ((mc_fails σ 5 x1).bind fun p4 =>
    g01 p4.2 (some (p4.1, p4.2)))
  else
  ((mc_moves σ x4).bind fun p1 =>
    if 0 ≤ x4 ∧ x4 < 400 then
    ((mc_settles p1.1 x1 3 (p1.1 100 x4) x5 (-1)).bind fun p2 =>
      if 0 ≤ w32 ((w32 (12 * x4)) + y0) ∧ w32 ((w32 (12 * x4)) + y0) < 4800 then
      (if 0 ≤ w32 ((w32 (12 * x4)) + y0) ∧ w32 ((w32 (12 * x4)) + y0) < 4800 then
        ((mc_push (gW p2.1 87 8 x2) (p2.1 101 (w32 ((w32 (12 * x4)) + y0))) (p2.1 102 (w32 ((w32 (12 * x4)) + y0)))).bind fun p3 =>
          some (p3.1, 1))
        else none)
      else none)
    else none)) := Lm.eqn (mc_get_b111_l ..) (.ite (.bind (mc_fails_l ..) fun p4 => .cst) (.bind (mc_moves_l ..) fun p1 => (.ite (.bind (mc_settles_l ..) fun p2 => (.ite (.ite (.bind (mc_push_l ..) fun p3 => .cst) .cst) .cst)) .cst))) fun n => (rfl)
def k_mc_put : List gC := [(0, 1, .aload_n 0, [], none), (1, 3, .getfield 86, [], none), (4, 3, .getfield 315, [], none), (7, 1, .iload_n 1, [], none),
  (8, 1, .iaload, [], none), (9, 1, .iconst 1, [], none), (10, 3, .if_icmp .ne 12, [(0, 22)], none), (13, 1, .aload_n 0, [], none),
  (14, 3, .getfield 159, [], none), (17, 1, .iconst 2, [], none), (18, 1, .isub, [], none), (19, 3, .goto 9, [(0, 28)], none),
  (22, 1, .aload_n 0, [], none), (23, 3, .getfield 159, [], none), (26, 1, .iconst 3, [], none), (27, 1, .isub, [], none),
  (28, 1, .istore_n 2, [], some [true, true, false, false, false, false, false, false, false, false, false, false, false]), (29, 1, .aload_n 0, [], none), (30, 3, .getfield 11, [], none), (33, 1, .iload_n 2, [], none),
  (34, 1, .iaload, [], none), (35, 2, .bipush 6, [], none), (37, 3, .if_icmp .eq 10, [(0, 47)], none), (40, 1, .aload_n 0, [], none),
  (41, 1, .iconst 4, [], none), (42, 1, .iload_n 1, [], none), (43, 3, .invokevirtual 193, [], none), (46, 1, .ireturn, [], none),
  (47, 1, .aload_n 0, [], none), (48, 1, .iload_n 1, [], none), (49, 1, .iload_n 2, [], none), (50, 1, .iconst 1, [], none),
  (51, 1, .iadd, [], none), (52, 3, .invokevirtual 453, [], none), (55, 1, .istore_n 3, [], none), (56, 1, .iload_n 3, [], none),
  (57, 3, .ifCond .ge 10, [(0, 67)], none), (60, 1, .aload_n 0, [], none), (61, 1, .iconst 1, [], none), (62, 1, .iload_n 1, [], none),
  (63, 3, .invokevirtual 193, [], none), (66, 1, .ireturn, [], none), (67, 1, .aload_n 0, [], none), (68, 3, .getfield 15, [], none),
  (71, 1, .iload_n 2, [], none), (72, 1, .laload, [], none), (73, 1, .l2i, [], none), (74, 2, .istore 4, [], none),
  (76, 1, .aload_n 0, [], none), (77, 3, .getfield 11, [], none), (80, 1, .aload_n 0, [], none), (81, 3, .getfield 159, [], none),
  (84, 1, .iconst 1, [], none), (85, 1, .isub, [], none), (86, 1, .iaload, [], none), (87, 2, .istore 5, [], none),
  (89, 1, .aload_n 0, [], none), (90, 3, .getfield 15, [], none), (93, 1, .aload_n 0, [], none), (94, 3, .getfield 159, [], none),
  (97, 1, .iconst 1, [], none), (98, 1, .isub, [], none), (99, 1, .laload, [], none), (100, 2, .lstore 6, [], none),
  (102, 1, .aload_n 0, [], none), (103, 3, .getfield 90, [], none), (106, 1, .iload_n 3, [], none), (107, 3, .invokevirtual 456, [], none),
  (110, 2, .istore 8, [], none), (112, 1, .aload_n 0, [], none), (113, 3, .getfield 90, [], none), (116, 1, .aload_n 0, [], none),
  (117, 3, .getfield 50, [], none), (120, 2, .iload 4, [], none), (122, 1, .iaload, [], none), (123, 3, .invokevirtual 464, [], none),
  (126, 2, .istore 9, [], none), (128, 2, .iload 8, [], none), (130, 3, .ifCond .ge 7, [(0, 137)], none), (133, 1, .iconst (-1), [], none),
  (134, 3, .goto 14, [(0, 148)], none), (137, 1, .aload_n 0, [], none), (138, 3, .getfield 90, [], none), (141, 2, .iload 9, [], none),
  (143, 2, .iload 8, [], none), (145, 3, .invokevirtual 459, [], none), (148, 2, .istore 10, [], some [true, true, true, true, true, true, true, false, false, true, false, false, false]), (150, 2, .iload 9, [], none),
  (152, 2, .istore 11, [], none), (154, 2, .iload 10, [], none), (156, 3, .ifCond .lt 27, [(0, 183)], none), (159, 2, .iload 5, [], none),
  (161, 3, .ifCond .eq 22, [(0, 183)], none), (164, 1, .aload_n 0, [], none), (165, 3, .getfield 90, [], none), (168, 2, .iload 9, [], none),
  (170, 2, .iload 10, [], none), (172, 3, .invokevirtual 467, [], none), (175, 1, .iconst 1, [], none), (176, 3, .if_icmp .ne 7, [(0, 183)], none),
  (179, 1, .iconst 1, [], none), (180, 3, .goto 4, [(0, 184)], none), (183, 1, .iconst 0, [], some [true, true, true, true, true, true, true, false, false, true, true, true, false]), (184, 2, .istore 12, [], some [true, true, true, true, true, true, true, false, false, true, true, true, false]),
  (186, 2, .iload 10, [], none), (188, 3, .ifCond .ge 43, [(0, 231)], none), (191, 1, .aload_n 0, [], none), (192, 3, .getfield 90, [], none),
  (195, 3, .getfield 470, [], none), (198, 2, .iload 9, [], none), (200, 1, .iaload, [], none), (201, 2, .bipush 12, [], none),
  (203, 3, .if_icmp .ge 28, [(0, 231)], none), (206, 1, .aload_n 0, [], none), (207, 3, .getfield 90, [], none), (210, 2, .iload 9, [], none),
  (212, 1, .iload_n 3, [], none), (213, 2, .iload 5, [], none), (215, 3, .ifCond .ne 7, [(0, 222)], none), (218, 1, .iconst 1, [], none),
  (219, 3, .goto 4, [(0, 223)], none), (222, 1, .iconst 3, [], none), (223, 3, .invokevirtual 471, [], some [true, true, true, true, true, true, true, false, false, true, true, false, true]), (226, 2, .istore 11, [], none),
  (228, 3, .goto 32, [(0, 260)], none), (231, 2, .iload 10, [], some [true, true, true, true, true, true, true, false, false, true, true, true, true]), (233, 3, .ifCond .ge 9, [(0, 242)], none), (236, 1, .iconst (-1), [], none),
  (237, 2, .istore 11, [], none), (239, 3, .goto 21, [(0, 260)], none), (242, 2, .iload 12, [], none), (244, 3, .ifCond .eq 16, [(0, 260)], none),
  (247, 1, .aload_n 0, [], none), (248, 3, .getfield 90, [], none), (251, 2, .iload 9, [], none), (253, 2, .iload 10, [], none),
  (255, 3, .invokevirtual 475, [], none), (258, 2, .istore 11, [], none), (260, 2, .iload 11, [], some [true, true, true, true, true, true, true, false, false, true, true, true, true]), (262, 3, .ifCond .ge 11, [(0, 273)], none),
  (265, 1, .aload_n 0, [], none), (266, 2, .bipush 9, [], none), (268, 1, .iload_n 1, [], none), (269, 3, .invokevirtual 193, [], none),
  (272, 1, .ireturn, [], none), (273, 1, .aload_n 0, [], none), (274, 2, .iload 4, [], none), (276, 3, .invokevirtual 462, [], none),
  (279, 2, .iload 12, [], none), (281, 3, .ifCond .eq 33, [(0, 314)], none), (284, 1, .aload_n 0, [], none), (285, 3, .getfield 90, [], none),
  (288, 3, .getfield 343, [], none), (291, 2, .iload 9, [], none), (293, 2, .iload 11, [], none), (295, 1, .iastore, [], none),
  (296, 1, .aload_n 0, [], none), (297, 3, .getfield 94, [], none), (300, 2, .iload 9, [], none), (302, 3, .invokevirtual 478, [], none),
  (305, 1, .aload_n 0, [], none), (306, 2, .iload 4, [], none), (308, 3, .invokevirtual 462, [], none), (311, 3, .goto 41, [(0, 352)], none),
  (314, 1, .aload_n 0, [], none), (315, 3, .getfield 90, [], none), (318, 2, .iload 11, [], none), (320, 3, .invokevirtual 464, [], none),
  (323, 2, .istore 11, [], none), (325, 1, .aload_n 0, [], none), (326, 3, .getfield 50, [], none), (329, 2, .iload 4, [], none),
  (331, 2, .iload 11, [], none), (333, 1, .iastore, [], none), (334, 1, .aload_n 0, [], none), (335, 1, .iload_n 1, [], none),
  (336, 1, .iconst 3, [], none), (337, 2, .iload 9, [], none), (339, 1, .aload_n 0, [], none), (340, 3, .getfield 90, [], none),
  (343, 1, .iload_n 3, [], none), (344, 3, .invokevirtual 456, [], none), (347, 2, .iload 11, [], none), (349, 3, .invokevirtual 320, [], none),
  (352, 2, .iload 10, [], some [true, false, true, false, true, true, true, false, false, false, true, true, false]), (354, 3, .ifCond .ge 17, [(0, 371)], none), (357, 1, .aload_n 0, [], none), (358, 3, .getfield 90, [], none),
  (361, 3, .getfield 470, [], none), (364, 2, .iload 11, [], none), (366, 1, .iaload, [], none), (367, 1, .iconst 1, [], none),
  (368, 1, .isub, [], none), (369, 2, .istore 10, [], none), (371, 1, .aload_n 0, [], some [true, false, true, false, true, true, true, false, false, false, true, false, false]), (372, 3, .getfield 53, [], none),
  (375, 2, .bipush 12, [], none), (377, 2, .iload 4, [], none), (379, 1, .imul, [], none), (380, 2, .iload 10, [], none),
  (382, 1, .iadd, [], none), (383, 2, .iload 5, [], none), (385, 1, .iastore, [], none), (386, 1, .aload_n 0, [], none),
  (387, 3, .getfield 56, [], none), (390, 2, .bipush 12, [], none), (392, 2, .iload 4, [], none), (394, 1, .imul, [], none),
  (395, 2, .iload 10, [], none), (397, 1, .iadd, [], none), (398, 2, .lload 6, [], none), (400, 1, .lastore, [], none),
  (401, 1, .aload_n 0, [], none), (402, 1, .iload_n 2, [], none), (403, 3, .putfield 159, [], none), (406, 1, .aload_n 0, [], none),
  (407, 2, .iload 5, [], none), (409, 2, .lload 6, [], none), (411, 3, .invokevirtual 167, [], none), (414, 1, .iconst 1, [], none),
  (415, 1, .ireturn, [], none)]
def e_mc_put (m : Nat) : gE := (k_mc_put, f_mc, c_mc, [(193, 3, 17, 0, .inl (fn_mc_fails m)), (453, 3, 17, 0, .inl (fn_mc_nameAt m)), (456, 2, 13, 0, .inl (fn_sp_nameOf m)), (464, 2, 13, 0, .inl (fn_sp_last m)), (459, 3, 13, 0, .inl (fn_sp_place m)), (467, 3, 13, 0, .inl (fn_sp_sortAt m)), (471, 4, 13, 0, .inl (fn_sp_childFor m)), (475, 3, 13, 0, .inl (fn_sp_wider m)), (462, 2, 17, 5, .inl (fn_mc_moves m)), (478, 2, 14, 5, .inl (fn_cd_obsolete m)), (320, 6, 17, 5, .inl (fn_mc_settles m)), (167, 3, 17, 5, .inl (fn_mc_push m))], [], (m, 28435580727543808967914095906955870630305639727636894705318492597085860903299394497360860120127026230144901295978864360362350640), 6)
theorem ok_mc_put : gchk cX9_put 13 k_mc_put = true := by decide +kernel
def fn_mc_put (m : Nat) : gFn := gF (e_mc_put m) 13
theorem mo_mc_put (m : Nat) : gMo (.inl (fn_mc_put m)) := gF_mo (E := e_mc_put m) ⟨mo_mc_fails m, ⟨mo_mc_nameAt m, ⟨mo_sp_nameOf m, ⟨mo_sp_last m, ⟨mo_sp_place m, ⟨mo_sp_sortAt m, ⟨mo_sp_childFor m, ⟨mo_sp_wider m, ⟨mo_mc_moves m, ⟨mo_cd_obsolete m, ⟨mo_mc_settles m, ⟨mo_mc_push m, trivial⟩⟩⟩⟩⟩⟩⟩⟩⟩⟩⟩⟩
noncomputable def mc_put (σ : gM) (x1 : Int) : Option (gM × Int) := lim (fun n => fn_mc_put 119 n [(2, 87), (0, x1)] σ)
theorem mc_put_l (σ : gM) (x1 : Int) : Lm (fun n => fn_mc_put 119 n [(2, 87), (0, x1)] σ) (mc_put σ x1) := .of fun n => mo_mc_put 119 n [(2, 87), (0, x1)] σ
theorem mb_mc_put : gMos (e_mc_put 119).2.2.2.1 := ⟨mo_mc_fails 119, ⟨mo_mc_nameAt 119, ⟨mo_sp_nameOf 119, ⟨mo_sp_last 119, ⟨mo_sp_place 119, ⟨mo_sp_sortAt 119, ⟨mo_sp_childFor 119, ⟨mo_sp_wider 119, ⟨mo_mc_moves 119, ⟨mo_cd_obsolete 119, ⟨mo_mc_settles 119, ⟨mo_mc_push 119, trivial⟩⟩⟩⟩⟩⟩⟩⟩⟩⟩⟩⟩
noncomputable def mc_put_b28 (σ : gM) (x1 y0 : Int) : Option (gM × Int) := lim (fun n => gB (e_mc_put 119) rF tF n 28 [(2, 87), (0, x1), (9, 0), (9, 0), (9, 0), (9, 0), (9, 0), (9, 0), (9, 0), (9, 0), (9, 0), (9, 0), (9, 0)] [(0, y0)] σ)
theorem mc_put_b28_l (σ : gM) (x1 y0 : Int) : Lm (fun n => gB (e_mc_put 119) rF tF n 28 [(2, 87), (0, x1), (9, 0), (9, 0), (9, 0), (9, 0), (9, 0), (9, 0), (9, 0), (9, 0), (9, 0), (9, 0), (9, 0)] [(0, y0)] σ) (mc_put_b28 σ x1 y0) := .of fun n => gB_le (gMos_spec (mb_mc_put)) n _ _ _ σ
noncomputable def mc_put_b148 (σ : gM) (x1 x2 x3 x4 x5 x6 x9 y0 : Int) : Option (gM × Int) := lim (fun n => gB (e_mc_put 119) rF tF n 148 [(2, 87), (0, x1), (0, x2), (0, x3), (0, x4), (0, x5), (1, x6), (9, 0), (9, 0), (0, x9), (9, 0), (9, 0), (9, 0)] [(0, y0)] σ)
theorem mc_put_b148_l (σ : gM) (x1 x2 x3 x4 x5 x6 x9 y0 : Int) : Lm (fun n => gB (e_mc_put 119) rF tF n 148 [(2, 87), (0, x1), (0, x2), (0, x3), (0, x4), (0, x5), (1, x6), (9, 0), (9, 0), (0, x9), (9, 0), (9, 0), (9, 0)] [(0, y0)] σ) (mc_put_b148 σ x1 x2 x3 x4 x5 x6 x9 y0) := .of fun n => gB_le (gMos_spec (mb_mc_put)) n _ _ _ σ
noncomputable def mc_put_b183 (σ : gM) (x1 x2 x3 x4 x5 x6 x9 x10 x11 : Int) : Option (gM × Int) := lim (fun n => gB (e_mc_put 119) rF tF n 183 [(2, 87), (0, x1), (0, x2), (0, x3), (0, x4), (0, x5), (1, x6), (9, 0), (9, 0), (0, x9), (0, x10), (0, x11), (9, 0)] [] σ)
theorem mc_put_b183_l (σ : gM) (x1 x2 x3 x4 x5 x6 x9 x10 x11 : Int) : Lm (fun n => gB (e_mc_put 119) rF tF n 183 [(2, 87), (0, x1), (0, x2), (0, x3), (0, x4), (0, x5), (1, x6), (9, 0), (9, 0), (0, x9), (0, x10), (0, x11), (9, 0)] [] σ) (mc_put_b183 σ x1 x2 x3 x4 x5 x6 x9 x10 x11) := .of fun n => gB_le (gMos_spec (mb_mc_put)) n _ _ _ σ
noncomputable def mc_put_b184 (σ : gM) (x1 x2 x3 x4 x5 x6 x9 x10 x11 y0 : Int) : Option (gM × Int) := lim (fun n => gB (e_mc_put 119) rF tF n 184 [(2, 87), (0, x1), (0, x2), (0, x3), (0, x4), (0, x5), (1, x6), (9, 0), (9, 0), (0, x9), (0, x10), (0, x11), (9, 0)] [(0, y0)] σ)
theorem mc_put_b184_l (σ : gM) (x1 x2 x3 x4 x5 x6 x9 x10 x11 y0 : Int) : Lm (fun n => gB (e_mc_put 119) rF tF n 184 [(2, 87), (0, x1), (0, x2), (0, x3), (0, x4), (0, x5), (1, x6), (9, 0), (9, 0), (0, x9), (0, x10), (0, x11), (9, 0)] [(0, y0)] σ) (mc_put_b184 σ x1 x2 x3 x4 x5 x6 x9 x10 x11 y0) := .of fun n => gB_le (gMos_spec (mb_mc_put)) n _ _ _ σ
noncomputable def mc_put_b223 (σ : gM) (x1 x2 x3 x4 x5 x6 x9 x10 x12 y0 y1 y2 : Int) : Option (gM × Int) := lim (fun n => gB (e_mc_put 119) rF tF n 223 [(2, 87), (0, x1), (0, x2), (0, x3), (0, x4), (0, x5), (1, x6), (9, 0), (9, 0), (0, x9), (0, x10), (9, 0), (0, x12)] [(0, y0), (0, y1), (0, y2), (2, 42)] σ)
theorem mc_put_b223_l (σ : gM) (x1 x2 x3 x4 x5 x6 x9 x10 x12 y0 y1 y2 : Int) : Lm (fun n => gB (e_mc_put 119) rF tF n 223 [(2, 87), (0, x1), (0, x2), (0, x3), (0, x4), (0, x5), (1, x6), (9, 0), (9, 0), (0, x9), (0, x10), (9, 0), (0, x12)] [(0, y0), (0, y1), (0, y2), (2, 42)] σ) (mc_put_b223 σ x1 x2 x3 x4 x5 x6 x9 x10 x12 y0 y1 y2) := .of fun n => gB_le (gMos_spec (mb_mc_put)) n _ _ _ σ
noncomputable def mc_put_b231 (σ : gM) (x1 x2 x3 x4 x5 x6 x9 x10 x11 x12 : Int) : Option (gM × Int) := lim (fun n => gB (e_mc_put 119) rF tF n 231 [(2, 87), (0, x1), (0, x2), (0, x3), (0, x4), (0, x5), (1, x6), (9, 0), (9, 0), (0, x9), (0, x10), (0, x11), (0, x12)] [] σ)
theorem mc_put_b231_l (σ : gM) (x1 x2 x3 x4 x5 x6 x9 x10 x11 x12 : Int) : Lm (fun n => gB (e_mc_put 119) rF tF n 231 [(2, 87), (0, x1), (0, x2), (0, x3), (0, x4), (0, x5), (1, x6), (9, 0), (9, 0), (0, x9), (0, x10), (0, x11), (0, x12)] [] σ) (mc_put_b231 σ x1 x2 x3 x4 x5 x6 x9 x10 x11 x12) := .of fun n => gB_le (gMos_spec (mb_mc_put)) n _ _ _ σ
noncomputable def mc_put_b260 (σ : gM) (x1 x2 x3 x4 x5 x6 x9 x10 x11 x12 : Int) : Option (gM × Int) := lim (fun n => gB (e_mc_put 119) rF tF n 260 [(2, 87), (0, x1), (0, x2), (0, x3), (0, x4), (0, x5), (1, x6), (9, 0), (9, 0), (0, x9), (0, x10), (0, x11), (0, x12)] [] σ)
theorem mc_put_b260_l (σ : gM) (x1 x2 x3 x4 x5 x6 x9 x10 x11 x12 : Int) : Lm (fun n => gB (e_mc_put 119) rF tF n 260 [(2, 87), (0, x1), (0, x2), (0, x3), (0, x4), (0, x5), (1, x6), (9, 0), (9, 0), (0, x9), (0, x10), (0, x11), (0, x12)] [] σ) (mc_put_b260 σ x1 x2 x3 x4 x5 x6 x9 x10 x11 x12) := .of fun n => gB_le (gMos_spec (mb_mc_put)) n _ _ _ σ
noncomputable def mc_put_b352 (σ : gM) (x2 x4 x5 x6 x10 x11 : Int) : Option (gM × Int) := lim (fun n => gB (e_mc_put 119) rF tF n 352 [(2, 87), (9, 0), (0, x2), (9, 0), (0, x4), (0, x5), (1, x6), (9, 0), (9, 0), (9, 0), (0, x10), (0, x11), (9, 0)] [] σ)
theorem mc_put_b352_l (σ : gM) (x2 x4 x5 x6 x10 x11 : Int) : Lm (fun n => gB (e_mc_put 119) rF tF n 352 [(2, 87), (9, 0), (0, x2), (9, 0), (0, x4), (0, x5), (1, x6), (9, 0), (9, 0), (9, 0), (0, x10), (0, x11), (9, 0)] [] σ) (mc_put_b352 σ x2 x4 x5 x6 x10 x11) := .of fun n => gB_le (gMos_spec (mb_mc_put)) n _ _ _ σ
noncomputable def mc_put_b371 (σ : gM) (x2 x4 x5 x6 x10 : Int) : Option (gM × Int) := lim (fun n => gB (e_mc_put 119) rF tF n 371 [(2, 87), (9, 0), (0, x2), (9, 0), (0, x4), (0, x5), (1, x6), (9, 0), (9, 0), (9, 0), (0, x10), (9, 0), (9, 0)] [] σ)
theorem mc_put_b371_l (σ : gM) (x2 x4 x5 x6 x10 : Int) : Lm (fun n => gB (e_mc_put 119) rF tF n 371 [(2, 87), (9, 0), (0, x2), (9, 0), (0, x4), (0, x5), (1, x6), (9, 0), (9, 0), (9, 0), (0, x10), (9, 0), (9, 0)] [] σ) (mc_put_b371 σ x2 x4 x5 x6 x10) := .of fun n => gB_le (gMos_spec (mb_mc_put)) n _ _ _ σ
theorem mc_put_e (σ : gM) (x1 : Int) : mc_put σ x1 =
  (if 0 ≤ x1 ∧ x1 < 16000 then
  (if σ 14 x1 = 1 then
    (mc_put_b28 σ x1 (w32 ((σ 87 8) - 2)))
    else
    (mc_put_b28 σ x1 (w32 ((σ 87 8) - 3))))
  else none) := Lm.eqn (mc_put_l ..) (.ite (.ite (mc_put_b28_l ..) (mc_put_b28_l ..)) .cst) fun n => (rfl)
theorem mc_put_b28_e (σ : gM) (x1 y0 : Int) : mc_put_b28 σ x1 y0 =
  (if 0 ≤ y0 ∧ y0 < 18240 then
  (if σ 88 y0 = 6 then
    ((mc_nameAt σ x1 (w32 (y0 + 1))).bind fun p1 =>
      if p1.2 < 0 then
      ((mc_fails p1.1 1 x1).bind fun p5 =>
        g01 p5.2 (some (p5.1, p5.2)))
      else
      (if 0 ≤ y0 ∧ y0 < 18240 then
        (if 0 ≤ w32 ((p1.1 87 8) - 1) ∧ w32 ((p1.1 87 8) - 1) < 18240 then
          (if 0 ≤ w32 ((p1.1 87 8) - 1) ∧ w32 ((p1.1 87 8) - 1) < 18240 then
            ((sp_nameOf p1.1 p1.2).bind fun p2 =>
              if 0 ≤ w32 (p1.1 89 y0) ∧ w32 (p1.1 89 y0) < 400 then
              ((sp_last p2.1 (p2.1 100 (w32 (p1.1 89 y0)))).bind fun p3 =>
                if p2.2 < 0 then
                (mc_put_b148 p3.1 x1 y0 p1.2 (w32 (p1.1 89 y0)) (p1.1 88 (w32 ((p1.1 87 8) - 1))) (p1.1 89 (w32 ((p1.1 87 8) - 1))) p3.2 (-1))
                else
                ((sp_place p3.1 p3.2 p2.2).bind fun p4 =>
                  mc_put_b148 p4.1 x1 y0 p1.2 (w32 (p1.1 89 y0)) (p1.1 88 (w32 ((p1.1 87 8) - 1))) (p1.1 89 (w32 ((p1.1 87 8) - 1))) p3.2 p4.2))
              else none)
            else none)
          else none)
        else none))
    else
    ((mc_fails σ 4 x1).bind fun p6 =>
      g01 p6.2 (some (p6.1, p6.2))))
  else none) := Lm.eqn (mc_put_b28_l ..) (.ite (.ite (.bind (mc_nameAt_l ..) fun p1 => (.ite (.bind (mc_fails_l ..) fun p5 => .cst) (.ite (.ite (.ite (.bind (sp_nameOf_l ..) fun p2 => (.ite (.bind (sp_last_l ..) fun p3 => (.ite (mc_put_b148_l ..) (.bind (sp_place_l ..) fun p4 => (mc_put_b148_l ..)))) .cst)) .cst) .cst) .cst))) (.bind (mc_fails_l ..) fun p6 => .cst)) .cst) fun n => (rfl)
theorem mc_put_b148_e (σ : gM) (x1 x2 x3 x4 x5 x6 x9 y0 : Int) : mc_put_b148 σ x1 x2 x3 x4 x5 x6 x9 y0 =
  (if y0 < 0 then
  (mc_put_b183 σ x1 x2 x3 x4 x5 x6 x9 y0 x9)
  else
  (if x5 = 0 then
    (mc_put_b183 σ x1 x2 x3 x4 x5 x6 x9 y0 x9)
    else
    ((sp_sortAt σ x9 y0).bind fun p1 =>
      if p1.2 = 1 then
      (mc_put_b184 p1.1 x1 x2 x3 x4 x5 x6 x9 y0 x9 1)
      else
      (mc_put_b183 p1.1 x1 x2 x3 x4 x5 x6 x9 y0 x9)))) := Lm.eqn (mc_put_b148_l ..) (.ite (mc_put_b183_l ..) (.ite (mc_put_b183_l ..) (.bind (sp_sortAt_l ..) fun p1 => (.ite (mc_put_b184_l ..) (mc_put_b183_l ..))))) fun n => (rfl)
theorem mc_put_b183_e (σ : gM) (x1 x2 x3 x4 x5 x6 x9 x10 x11 : Int) : mc_put_b183 σ x1 x2 x3 x4 x5 x6 x9 x10 x11 =
  (mc_put_b184 σ x1 x2 x3 x4 x5 x6 x9 x10 x11 0) := Lm.eqn (mc_put_b183_l ..) (mc_put_b184_l ..) fun n => (rfl)
theorem mc_put_b184_e (σ : gM) (x1 x2 x3 x4 x5 x6 x9 x10 x11 y0 : Int) : mc_put_b184 σ x1 x2 x3 x4 x5 x6 x9 x10 x11 y0 =
  (if x10 < 0 then
  (if 0 ≤ x9 ∧ x9 < 200 then
    (if σ 47 x9 < 12 then
      (if x5 = 0 then
        (mc_put_b223 σ x1 x2 x3 x4 x5 x6 x9 x10 y0 1 x3 x9)
        else
        (mc_put_b223 σ x1 x2 x3 x4 x5 x6 x9 x10 y0 3 x3 x9))
      else
      (mc_put_b231 σ x1 x2 x3 x4 x5 x6 x9 x10 x11 y0))
    else none)
  else
  (mc_put_b231 σ x1 x2 x3 x4 x5 x6 x9 x10 x11 y0)) := Lm.eqn (mc_put_b184_l ..) (.ite (.ite (.ite (.ite (mc_put_b223_l ..) (mc_put_b223_l ..)) (mc_put_b231_l ..)) .cst) (mc_put_b231_l ..)) fun n => (rfl)
theorem mc_put_b223_e (σ : gM) (x1 x2 x3 x4 x5 x6 x9 x10 x12 y0 y1 y2 : Int) : mc_put_b223 σ x1 x2 x3 x4 x5 x6 x9 x10 x12 y0 y1 y2 =
  ((sp_childFor σ y2 y1 y0).bind fun p1 =>
  mc_put_b260 p1.1 x1 x2 x3 x4 x5 x6 x9 x10 p1.2 x12) := Lm.eqn (mc_put_b223_l ..) (.bind (sp_childFor_l ..) fun p1 => (mc_put_b260_l ..)) fun n => (rfl)
theorem mc_put_b231_e (σ : gM) (x1 x2 x3 x4 x5 x6 x9 x10 x11 x12 : Int) : mc_put_b231 σ x1 x2 x3 x4 x5 x6 x9 x10 x11 x12 =
  (if x10 < 0 then
  (mc_put_b260 σ x1 x2 x3 x4 x5 x6 x9 x10 (-1) x12)
  else
  (if x12 = 0 then
    (mc_put_b260 σ x1 x2 x3 x4 x5 x6 x9 x10 x11 x12)
    else
    ((sp_wider σ x9 x10).bind fun p1 =>
      mc_put_b260 p1.1 x1 x2 x3 x4 x5 x6 x9 x10 p1.2 x12))) := Lm.eqn (mc_put_b231_l ..) (.ite (mc_put_b260_l ..) (.ite (mc_put_b260_l ..) (.bind (sp_wider_l ..) fun p1 => (mc_put_b260_l ..)))) fun n => (rfl)
theorem mc_put_b260_e (σ : gM) (x1 x2 x3 x4 x5 x6 x9 x10 x11 x12 : Int) : mc_put_b260 σ x1 x2 x3 x4 x5 x6 x9 x10 x11 x12 =
  (if x11 < 0 then
  ((mc_fails σ 9 x1).bind fun p7 =>
    g01 p7.2 (some (p7.1, p7.2)))
  else
  ((mc_moves σ x4).bind fun p1 =>
    if x12 = 0 then
    ((sp_last p1.1 x11).bind fun p2 =>
      if 0 ≤ x4 ∧ x4 < 400 then
      ((sp_nameOf (gW p2.1 100 x4 p2.2) x3).bind fun p3 =>
        (mc_settles p3.1 x1 3 x9 p3.2 p2.2).bind fun p4 =>
        mc_put_b352 p4.1 x2 x4 x5 x6 x10 p2.2)
      else none)
    else
    (if 0 ≤ x9 ∧ x9 < 200 then
      ((cd_obsolete (gW p1.1 46 x9 x11) x9).bind fun p5 =>
        (mc_moves p5.1 x4).bind fun p6 =>
        mc_put_b352 p6.1 x2 x4 x5 x6 x10 x11)
      else none))) := Lm.eqn (mc_put_b260_l ..) (.ite (.bind (mc_fails_l ..) fun p7 => .cst) (.bind (mc_moves_l ..) fun p1 => (.ite (.bind (sp_last_l ..) fun p2 => (.ite (.bind (sp_nameOf_l ..) fun p3 => (.bind (mc_settles_l ..) fun p4 => (mc_put_b352_l ..))) .cst)) (.ite (.bind (cd_obsolete_l ..) fun p5 => (.bind (mc_moves_l ..) fun p6 => (mc_put_b352_l ..))) .cst)))) fun n => (rfl)
theorem mc_put_b352_e (σ : gM) (x2 x4 x5 x6 x10 x11 : Int) : mc_put_b352 σ x2 x4 x5 x6 x10 x11 =
  (if x10 < 0 then
  (if 0 ≤ x11 ∧ x11 < 200 then
    (mc_put_b371 σ x2 x4 x5 x6 (w32 ((σ 47 x11) - 1)))
    else none)
  else
  (mc_put_b371 σ x2 x4 x5 x6 x10)) := Lm.eqn (mc_put_b352_l ..) (.ite (.ite (mc_put_b371_l ..) .cst) (mc_put_b371_l ..)) fun n => (rfl)
theorem mc_put_b371_e (σ : gM) (x2 x4 x5 x6 x10 : Int) : mc_put_b371 σ x2 x4 x5 x6 x10 =
  (if 0 ≤ w32 ((w32 (12 * x4)) + x10) ∧ w32 ((w32 (12 * x4)) + x10) < 4800 then
  (if 0 ≤ w32 ((w32 (12 * x4)) + x10) ∧ w32 ((w32 (12 * x4)) + x10) < 4800 then
    ((mc_push (gW (gW (gW σ 101 (w32 ((w32 (12 * x4)) + x10)) x5) 102 (w32 ((w32 (12 * x4)) + x10)) x6) 87 8 x2) x5 x6).bind fun p1 =>
      some (p1.1, 1))
    else none)
  else none) := Lm.eqn (mc_put_b371_l ..) (.ite (.ite (.bind (mc_push_l ..) fun p1 => .cst) .cst) .cst) fun n => (rfl)
def k_mc_print : List gC := [(0, 1, .aload_n 0, [], none), (1, 3, .getfield 82, [], none), (4, 3, .invokevirtual 359, [], none), (7, 1, .aload_n 0, [], none),
  (8, 1, .iload_n 1, [], none), (9, 1, .lload_n 2, [], none), (10, 3, .invokevirtual 362, [], none), (13, 1, .aload_n 0, [], none),
  (14, 3, .getfield 82, [], none), (17, 2, .bipush 10, [], none), (19, 3, .invokevirtual 385, [], none), (22, 1, .aload_n 0, [], none),
  (23, 3, .getfield 82, [], none), (26, 3, .invokevirtual 365, [], none), (29, 2, .istore 4, [], none), (31, 1, .iconst 0, [], none),
  (32, 2, .istore 5, [], none), (34, 2, .iload 5, [], some [true, false, false, false, true, true]), (36, 2, .iload 4, [], none), (38, 3, .if_icmp .ge 52, [(0, 90)], none),
  (41, 1, .aload_n 0, [], none), (42, 3, .getfield 145, [], none), (45, 2, .iload 5, [], none), (47, 1, .iadd, [], none),
  (48, 3, .sipush 2000, [], none), (51, 3, .if_icmp .ge 39, [(0, 90)], none), (54, 1, .aload_n 0, [], none), (55, 3, .getfield 59, [], none),
  (58, 1, .aload_n 0, [], none), (59, 3, .getfield 145, [], none), (62, 2, .iload 5, [], none), (64, 1, .iadd, [], none),
  (65, 1, .aload_n 0, [], none), (66, 3, .getfield 82, [], none), (69, 3, .getfield 369, [], none), (72, 1, .aload_n 0, [], none),
  (73, 3, .getfield 82, [], none), (76, 3, .getfield 372, [], none), (79, 2, .iload 5, [], none), (81, 1, .iadd, [], none),
  (82, 1, .baload, [], none), (83, 1, .bastore, [], none), (84, 3, .iinc 5 1, [], none), (87, 3, .goto (-53), [(0, 34)], none),
  (90, 1, .aload_n 0, [], some [true, false, false, false, true, false]), (91, 1, .dup, [], none), (92, 3, .getfield 145, [], none), (95, 2, .iload 4, [], none),
  (97, 1, .iadd, [], none), (98, 3, .putfield 145, [], none), (101, 1, .return_, [], none)]
def e_mc_print (m : Nat) : gE := (k_mc_print, f_mc, c_mc, [(359, 1, 10, 5, .inl (fn_hp_lay m)), (362, 3, 17, 5, .inl (fn_mc_shows m)), (385, 2, 10, 5, .inl (fn_hp_put m)), (365, 1, 10, 0, .inl (fn_hp_laidLetters m))], [], (m, 24227588125688336263603465804422903113423046955495216918707936020418739613783673818538299040775487450436322234774897234647985128734722), 5)
theorem ok_mc_print : gchk cX9_print 6 k_mc_print = true := by decide +kernel
def fn_mc_print (m : Nat) : gFn := gF (e_mc_print m) 6
theorem mo_mc_print (m : Nat) : gMo (.inl (fn_mc_print m)) := gF_mo (E := e_mc_print m) ⟨mo_hp_lay m, ⟨mo_mc_shows m, ⟨mo_hp_put m, ⟨mo_hp_laidLetters m, trivial⟩⟩⟩⟩
noncomputable def mc_print (σ : gM) (x1 x2 : Int) : Option (gM × Int) := lim (fun n => fn_mc_print 119 n [(2, 87), (0, x1), (1, x2)] σ)
theorem mc_print_l (σ : gM) (x1 x2 : Int) : Lm (fun n => fn_mc_print 119 n [(2, 87), (0, x1), (1, x2)] σ) (mc_print σ x1 x2) := .of fun n => mo_mc_print 119 n [(2, 87), (0, x1), (1, x2)] σ
theorem mb_mc_print : gMos (e_mc_print 119).2.2.2.1 := ⟨mo_hp_lay 119, ⟨mo_mc_shows 119, ⟨mo_hp_put 119, ⟨mo_hp_laidLetters 119, trivial⟩⟩⟩⟩
noncomputable def mc_print_b34 (σ : gM) (x4 x5 : Int) : Option (gM × Int) := lim (fun n => gB (e_mc_print 119) rF tF n 34 [(2, 87), (9, 0), (9, 0), (9, 0), (0, x4), (0, x5)] [] σ)
theorem mc_print_b34_l (σ : gM) (x4 x5 : Int) : Lm (fun n => gB (e_mc_print 119) rF tF n 34 [(2, 87), (9, 0), (9, 0), (9, 0), (0, x4), (0, x5)] [] σ) (mc_print_b34 σ x4 x5) := .of fun n => gB_le (gMos_spec (mb_mc_print)) n _ _ _ σ
noncomputable def mc_print_b90 (σ : gM) (x4 : Int) : Option (gM × Int) := lim (fun n => gB (e_mc_print 119) rF tF n 90 [(2, 87), (9, 0), (9, 0), (9, 0), (0, x4), (9, 0)] [] σ)
theorem mc_print_b90_l (σ : gM) (x4 : Int) : Lm (fun n => gB (e_mc_print 119) rF tF n 90 [(2, 87), (9, 0), (9, 0), (9, 0), (0, x4), (9, 0)] [] σ) (mc_print_b90 σ x4) := .of fun n => gB_le (gMos_spec (mb_mc_print)) n _ _ _ σ
theorem mc_print_e (σ : gM) (x1 x2 : Int) : mc_print σ x1 x2 =
  ((hp_lay σ).bind fun p1 =>
  (mc_shows p1.1 x1 x2).bind fun p2 =>
  (hp_put p2.1 10).bind fun p3 =>
  (hp_laidLetters p3.1).bind fun p4 =>
  mc_print_b34 p4.1 p4.2 0) := Lm.eqn (mc_print_l ..) (.bind (hp_lay_l ..) fun p1 => (.bind (mc_shows_l ..) fun p2 => (.bind (hp_put_l ..) fun p3 => (.bind (hp_laidLetters_l ..) fun p4 => (mc_print_b34_l ..))))) fun n => (rfl)
theorem mc_print_b34_e (σ : gM) (x4 x5 : Int) : mc_print_b34 σ x4 x5 =
  (if x5 < x4 then
  (if w32 ((σ 87 34) + x5) < 2000 then
    (if 0 ≤ w32 ((σ 0 11) + x5) ∧ w32 ((σ 0 11) + x5) < 124600 then
      (if 0 ≤ w32 ((σ 87 34) + x5) ∧ w32 ((σ 87 34) + x5) < 2000 then
        (mc_print_b34 (gW σ 103 (w32 ((σ 87 34) + x5)) (w8 (σ 1 (w32 ((σ 0 11) + x5))))) x4 (w32 (x5 + 1)))
        else none)
      else none)
    else
    (mc_print_b90 σ x4))
  else
  (mc_print_b90 σ x4)) := Lm.eqn (mc_print_b34_l ..) (.ite (.ite (.ite (.ite (mc_print_b34_l ..) .cst) .cst) (mc_print_b90_l ..)) (mc_print_b90_l ..)) fun n => (rfl)
theorem mc_print_b90_e (σ : gM) (x4 : Int) : mc_print_b90 σ x4 =
  (some (gW σ 87 34 (w32 ((σ 87 34) + x4)), 0)) := Lm.eqn (mc_print_b90_l ..) .cst fun n => (rfl)
def k_mc_define : List gC := [(0, 1, .iload_n 2, [], none), (1, 1, .iconst 2, [], none), (2, 3, .if_icmp .eq 11, [(0, 13)], none), (5, 1, .aload_n 0, [], none),
  (6, 2, .bipush 11, [], none), (8, 1, .iload_n 1, [], none), (9, 3, .invokevirtual 193, [], none), (12, 1, .ireturn, [], none),
  (13, 1, .lload_n 3, [], none), (14, 1, .l2i, [], none), (15, 2, .istore 5, [], none), (17, 1, .aload_n 0, [], none),
  (18, 3, .getfield 98, [], none), (21, 1, .aload_n 0, [], none), (22, 3, .getfield 82, [], none), (25, 3, .getfield 369, [], none),
  (28, 1, .aload_n 0, [], none), (29, 3, .getfield 82, [], none), (32, 3, .getfield 387, [], none), (35, 2, .iload 5, [], none),
  (37, 1, .iaload, [], none), (38, 1, .aload_n 0, [], none), (39, 3, .getfield 82, [], none), (42, 3, .getfield 388, [], none),
  (45, 2, .iload 5, [], none), (47, 1, .iaload, [], none), (48, 3, .invokevirtual 391, [], none), (51, 3, .ifCond .ne 11, [(0, 62)], none),
  (54, 1, .aload_n 0, [], none), (55, 2, .bipush 11, [], none), (57, 1, .iload_n 1, [], none), (58, 3, .invokevirtual 193, [], none),
  (61, 1, .ireturn, [], none), (62, 1, .aload_n 0, [], none), (63, 3, .getfield 86, [], none), (66, 3, .getfield 396, [], none),
  (69, 1, .aload_n 0, [], none), (70, 3, .getfield 98, [], none), (73, 3, .getfield 399, [], none), (76, 1, .iadd, [], none),
  (77, 2, .bipush 60, [], none), (79, 3, .if_icmp .le 11, [(0, 90)], none), (82, 1, .aload_n 0, [], none), (83, 2, .bipush 9, [], none),
  (85, 1, .iload_n 1, [], none), (86, 3, .invokevirtual 193, [], none), (89, 1, .ireturn, [], none), (90, 1, .iconst 0, [], none),
  (91, 2, .istore 6, [], none), (93, 2, .iload 6, [], some [true, false, false, false, false, true, true]), (95, 1, .aload_n 0, [], none), (96, 3, .getfield 98, [], none),
  (99, 3, .getfield 399, [], none), (102, 3, .if_icmp .ge 54, [(0, 156)], none), (105, 1, .aload_n 0, [], none), (106, 3, .getfield 94, [], none),
  (109, 1, .aload_n 0, [], none), (110, 3, .getfield 86, [], none), (113, 3, .getfield 162, [], none), (116, 1, .aload_n 0, [], none),
  (117, 3, .getfield 86, [], none), (120, 1, .aload_n 0, [], none), (121, 3, .getfield 98, [], none), (124, 1, .aload_n 0, [], none),
  (125, 3, .getfield 82, [], none), (128, 3, .getfield 369, [], none), (131, 1, .aload_n 0, [], none), (132, 3, .getfield 82, [], none),
  (135, 3, .getfield 387, [], none), (138, 2, .iload 5, [], none), (140, 1, .iaload, [], none), (141, 2, .iload 6, [], none),
  (143, 3, .invokevirtual 402, [], none), (146, 1, .iaload, [], none), (147, 3, .invokevirtual 406, [], none), (150, 3, .iinc 6 1, [], none),
  (153, 3, .goto (-60), [(0, 93)], none), (156, 1, .iconst 1, [], none), (157, 1, .ireturn, [], none)]
def e_mc_define (m : Nat) : gE := (k_mc_define, f_mc, c_mc, [(193, 3, 17, 0, .inl (fn_mc_fails m)), (391, 4, 15, 0, .inl (fn_ps_read m)), (402, 5, 11, 0, .inl (fn_fr_plant_2 m)), (406, 2, 14, 5, .inl (fn_cd_defined m))], [], (m, 218048290089852106979907101239077840443085176498437730832654271103084088437681286003244812174116126664017527713876617618231776773668606), 6)
theorem ok_mc_define : gchk cX9_define 7 k_mc_define = true := by decide +kernel
def fn_mc_define (m : Nat) : gFn := gF (e_mc_define m) 7
theorem mo_mc_define (m : Nat) : gMo (.inl (fn_mc_define m)) := gF_mo (E := e_mc_define m) ⟨mo_mc_fails m, ⟨mo_ps_read m, ⟨mo_fr_plant_2 m, ⟨mo_cd_defined m, trivial⟩⟩⟩⟩
noncomputable def mc_define (σ : gM) (x1 x2 x3 : Int) : Option (gM × Int) := lim (fun n => fn_mc_define 119 n [(2, 87), (0, x1), (0, x2), (1, x3)] σ)
theorem mc_define_l (σ : gM) (x1 x2 x3 : Int) : Lm (fun n => fn_mc_define 119 n [(2, 87), (0, x1), (0, x2), (1, x3)] σ) (mc_define σ x1 x2 x3) := .of fun n => mo_mc_define 119 n [(2, 87), (0, x1), (0, x2), (1, x3)] σ
theorem mb_mc_define : gMos (e_mc_define 119).2.2.2.1 := ⟨mo_mc_fails 119, ⟨mo_ps_read 119, ⟨mo_fr_plant_2 119, ⟨mo_cd_defined 119, trivial⟩⟩⟩⟩
noncomputable def mc_define_b93 (σ : gM) (x5 x6 : Int) : Option (gM × Int) := lim (fun n => gB (e_mc_define 119) rF tF n 93 [(2, 87), (9, 0), (9, 0), (9, 0), (9, 0), (0, x5), (0, x6)] [] σ)
theorem mc_define_b93_l (σ : gM) (x5 x6 : Int) : Lm (fun n => gB (e_mc_define 119) rF tF n 93 [(2, 87), (9, 0), (9, 0), (9, 0), (9, 0), (0, x5), (0, x6)] [] σ) (mc_define_b93 σ x5 x6) := .of fun n => gB_le (gMos_spec (mb_mc_define)) n _ _ _ σ
theorem mc_define_e (σ : gM) (x1 x2 x3 : Int) : mc_define σ x1 x2 x3 =
  (if x2 = 2 then
  (if 0 ≤ w32 x3 ∧ w32 x3 < 108000 then
    (if 0 ≤ w32 x3 ∧ w32 x3 < 108000 then
      ((ps_read σ 1 (σ 2 (w32 x3)) (σ 3 (w32 x3))).bind fun p1 =>
        if p1.2 = 0 then
        ((mc_fails p1.1 11 x1).bind fun p3 =>
          g01 p3.2 (some (p3.1, p3.2)))
        else
        (if 60 < w32 ((p1.1 8 31) + (p1.1 68 19)) then
          ((mc_fails p1.1 9 x1).bind fun p2 =>
            g01 p2.2 (some (p2.1, p2.2)))
          else
          (mc_define_b93 p1.1 (w32 x3) 0)))
      else none)
    else none)
  else
  ((mc_fails σ 11 x1).bind fun p4 =>
    g01 p4.2 (some (p4.1, p4.2)))) := Lm.eqn (mc_define_l ..) (.ite (.ite (.ite (.bind (ps_read_l ..) fun p1 => (.ite (.bind (mc_fails_l ..) fun p3 => .cst) (.ite (.bind (mc_fails_l ..) fun p2 => .cst) (mc_define_b93_l ..)))) .cst) .cst) (.bind (mc_fails_l ..) fun p4 => .cst)) fun n => (rfl)
theorem mc_define_b93_e (σ : gM) (x5 x6 : Int) : mc_define_b93 σ x5 x6 =
  (if x6 < σ 68 19 then
  (if 0 ≤ x5 ∧ x5 < 108000 then
    ((fr_plant_2 σ 1 (σ 2 x5) x6).bind fun p1 =>
      if 0 ≤ p1.2 ∧ p1.2 < 60 then
      ((cd_defined p1.1 (p1.1 25 p1.2)).bind fun p2 =>
        mc_define_b93 p2.1 x5 (w32 (x6 + 1)))
      else none)
    else none)
  else
  (some (σ, 1))) := Lm.eqn (mc_define_b93_l ..) (.ite (.ite (.bind (fr_plant_2_l ..) fun p1 => (.ite (.bind (cd_defined_l ..) fun p2 => (mc_define_b93_l ..)) .cst)) .cst) .cst) fun n => (rfl)
def k_mc_there : List gC := [(0, 2, .iload 4, [], none), (2, 3, .ifCond .le 14, [(0, 16)], none), (5, 1, .aload_n 0, [], none), (6, 3, .getfield 11, [], none),
  (9, 1, .iload_n 3, [], none), (10, 1, .iconst 1, [], none), (11, 1, .iadd, [], none), (12, 1, .iaload, [], none),
  (13, 3, .goto 4, [(0, 17)], none), (16, 1, .iconst 4, [], none), (17, 2, .istore 5, [], some [true, true, true, true, true, false, false, false, false, false, false]), (19, 2, .iload 4, [], none),
  (21, 3, .ifCond .le 14, [(0, 35)], none), (24, 1, .aload_n 0, [], none), (25, 3, .getfield 15, [], none), (28, 1, .iload_n 3, [], none),
  (29, 1, .iconst 1, [], none), (30, 1, .iadd, [], none), (31, 1, .laload, [], none), (32, 3, .goto 4, [(0, 36)], none),
  (35, 1, .lconst 0, [], none), (36, 2, .lstore 6, [], some [true, true, true, true, false, true, false, false, false, false, false]), (38, 1, .iconst 4, [], none), (39, 2, .istore 8, [], none),
  (41, 1, .lconst 0, [], none), (42, 2, .lstore 9, [], none), (44, 1, .iload_n 2, [], none), (45, 3, .ifCond .ne 14, [(0, 59)], none),
  (48, 1, .aload_n 0, [], none), (49, 2, .iload 5, [], none), (51, 2, .lload 6, [], none), (53, 3, .invokevirtual 375, [], none),
  (56, 3, .goto 98, [(0, 154)], none), (59, 1, .iload_n 2, [], none), (60, 1, .iconst 1, [], none), (61, 3, .if_icmp .ne 56, [(0, 117)], none),
  (64, 1, .aload_n 0, [], none), (65, 3, .getfield 142, [], none), (68, 3, .sipush 400, [], none), (71, 3, .if_icmp .ne 12, [(0, 83)], none),
  (74, 1, .aload_n 0, [], none), (75, 2, .bipush 9, [], none), (77, 1, .iload_n 1, [], none), (78, 3, .invokevirtual 193, [], none),
  (81, 1, .pop, [], none), (82, 1, .return_, [], none), (83, 2, .bipush 6, [], none), (85, 2, .istore 8, [], none),
  (87, 1, .aload_n 0, [], none), (88, 3, .getfield 142, [], none), (91, 1, .i2l, [], none), (92, 2, .lstore 9, [], none),
  (94, 1, .aload_n 0, [], none), (95, 3, .getfield 50, [], none), (98, 1, .aload_n 0, [], none), (99, 3, .getfield 142, [], none),
  (102, 1, .iconst 0, [], none), (103, 1, .iastore, [], none), (104, 1, .aload_n 0, [], none), (105, 1, .dup, [], none),
  (106, 3, .getfield 142, [], none), (109, 1, .iconst 1, [], none), (110, 1, .iadd, [], none), (111, 3, .putfield 142, [], none),
  (114, 3, .goto 40, [(0, 154)], none), (117, 1, .iload_n 2, [], none), (118, 1, .iconst 2, [], none), (119, 3, .if_icmp .ne 22, [(0, 141)], none),
  (122, 1, .iconst 2, [], none), (123, 2, .istore 8, [], none), (125, 1, .aload_n 0, [], none), (126, 3, .getfield 86, [], none),
  (129, 3, .getfield 378, [], none), (132, 2, .iload 5, [], none), (134, 1, .iaload, [], none), (135, 1, .i2l, [], none),
  (136, 2, .lstore 9, [], none), (138, 3, .goto 16, [(0, 154)], none), (141, 1, .aload_n 0, [], none), (142, 1, .iload_n 1, [], none),
  (143, 2, .iload 5, [], none), (145, 2, .lload 6, [], none), (147, 3, .invokevirtual 381, [], none), (150, 3, .ifCond .ne 4, [(0, 154)], none),
  (153, 1, .return_, [], none), (154, 1, .aload_n 0, [], some [true, false, false, true, false, false, false, false, true, true, false]), (155, 1, .iload_n 3, [], none), (156, 3, .putfield 159, [], none),
  (159, 1, .aload_n 0, [], none), (160, 2, .iload 8, [], none), (162, 2, .lload 9, [], none), (164, 3, .invokevirtual 167, [], none),
  (167, 1, .aload_n 0, [], none), (168, 1, .dup, [], none), (169, 3, .getfield 187, [], none), (172, 1, .iconst 1, [], none),
  (173, 1, .iadd, [], none), (174, 3, .putfield 187, [], none), (177, 1, .aload_n 0, [], none), (178, 3, .invokevirtual 197, [], none),
  (181, 1, .return_, [], none)]
def e_mc_there (m : Nat) : gE := (k_mc_there, f_mc, c_mc, [(375, 3, 17, 5, .inl (fn_mc_print m)), (193, 3, 17, 0, .inl (fn_mc_fails m)), (381, 4, 17, 0, .inl (fn_mc_define m)), (167, 3, 17, 5, .inl (fn_mc_push m)), (197, 1, 17, 5, .inl (fn_mc_falls m))], [], (m, 218048301301443974702078913676923793264103241186542273439578502006903956708181380220784845307171671395786365799913658370991879116816126), 5)
theorem ok_mc_there : gchk cX9_there 11 k_mc_there = true := by decide +kernel
def fn_mc_there (m : Nat) : gFn := gF (e_mc_there m) 11
theorem mo_mc_there (m : Nat) : gMo (.inl (fn_mc_there m)) := gF_mo (E := e_mc_there m) ⟨mo_mc_print m, ⟨mo_mc_fails m, ⟨mo_mc_define m, ⟨mo_mc_push m, ⟨mo_mc_falls m, trivial⟩⟩⟩⟩⟩
noncomputable def mc_there (σ : gM) (x1 x2 x3 x4 : Int) : Option (gM × Int) := lim (fun n => fn_mc_there 119 n [(2, 87), (0, x1), (0, x2), (0, x3), (0, x4)] σ)
theorem mc_there_l (σ : gM) (x1 x2 x3 x4 : Int) : Lm (fun n => fn_mc_there 119 n [(2, 87), (0, x1), (0, x2), (0, x3), (0, x4)] σ) (mc_there σ x1 x2 x3 x4) := .of fun n => mo_mc_there 119 n [(2, 87), (0, x1), (0, x2), (0, x3), (0, x4)] σ
theorem mb_mc_there : gMos (e_mc_there 119).2.2.2.1 := ⟨mo_mc_print 119, ⟨mo_mc_fails 119, ⟨mo_mc_define 119, ⟨mo_mc_push 119, ⟨mo_mc_falls 119, trivial⟩⟩⟩⟩⟩
noncomputable def mc_there_b17 (σ : gM) (x1 x2 x3 x4 y0 : Int) : Option (gM × Int) := lim (fun n => gB (e_mc_there 119) rF tF n 17 [(2, 87), (0, x1), (0, x2), (0, x3), (0, x4), (9, 0), (9, 0), (9, 0), (9, 0), (9, 0), (9, 0)] [(0, y0)] σ)
theorem mc_there_b17_l (σ : gM) (x1 x2 x3 x4 y0 : Int) : Lm (fun n => gB (e_mc_there 119) rF tF n 17 [(2, 87), (0, x1), (0, x2), (0, x3), (0, x4), (9, 0), (9, 0), (9, 0), (9, 0), (9, 0), (9, 0)] [(0, y0)] σ) (mc_there_b17 σ x1 x2 x3 x4 y0) := .of fun n => gB_le (gMos_spec (mb_mc_there)) n _ _ _ σ
noncomputable def mc_there_b36 (σ : gM) (x1 x2 x3 x5 y0 : Int) : Option (gM × Int) := lim (fun n => gB (e_mc_there 119) rF tF n 36 [(2, 87), (0, x1), (0, x2), (0, x3), (9, 0), (0, x5), (9, 0), (9, 0), (9, 0), (9, 0), (9, 0)] [(1, y0)] σ)
theorem mc_there_b36_l (σ : gM) (x1 x2 x3 x5 y0 : Int) : Lm (fun n => gB (e_mc_there 119) rF tF n 36 [(2, 87), (0, x1), (0, x2), (0, x3), (9, 0), (0, x5), (9, 0), (9, 0), (9, 0), (9, 0), (9, 0)] [(1, y0)] σ) (mc_there_b36 σ x1 x2 x3 x5 y0) := .of fun n => gB_le (gMos_spec (mb_mc_there)) n _ _ _ σ
noncomputable def mc_there_b154 (σ : gM) (x3 x8 x9 : Int) : Option (gM × Int) := lim (fun n => gB (e_mc_there 119) rF tF n 154 [(2, 87), (9, 0), (9, 0), (0, x3), (9, 0), (9, 0), (9, 0), (9, 0), (0, x8), (1, x9), (9, 0)] [] σ)
theorem mc_there_b154_l (σ : gM) (x3 x8 x9 : Int) : Lm (fun n => gB (e_mc_there 119) rF tF n 154 [(2, 87), (9, 0), (9, 0), (0, x3), (9, 0), (9, 0), (9, 0), (9, 0), (0, x8), (1, x9), (9, 0)] [] σ) (mc_there_b154 σ x3 x8 x9) := .of fun n => gB_le (gMos_spec (mb_mc_there)) n _ _ _ σ
theorem mc_there_e (σ : gM) (x1 x2 x3 x4 : Int) : mc_there σ x1 x2 x3 x4 =
  (if 0 < x4 then
  (if 0 ≤ w32 (x3 + 1) ∧ w32 (x3 + 1) < 18240 then
    (mc_there_b17 σ x1 x2 x3 x4 (σ 88 (w32 (x3 + 1))))
    else none)
  else
  (mc_there_b17 σ x1 x2 x3 x4 4)) := Lm.eqn (mc_there_l ..) (.ite (.ite (mc_there_b17_l ..) .cst) (mc_there_b17_l ..)) fun n => (rfl)
theorem mc_there_b17_e (σ : gM) (x1 x2 x3 x4 y0 : Int) : mc_there_b17 σ x1 x2 x3 x4 y0 =
  (if 0 < x4 then
  (if 0 ≤ w32 (x3 + 1) ∧ w32 (x3 + 1) < 18240 then
    (mc_there_b36 σ x1 x2 x3 y0 (σ 89 (w32 (x3 + 1))))
    else none)
  else
  (mc_there_b36 σ x1 x2 x3 y0 0)) := Lm.eqn (mc_there_b17_l ..) (.ite (.ite (mc_there_b36_l ..) .cst) (mc_there_b36_l ..)) fun n => (rfl)
theorem mc_there_b36_e (σ : gM) (x1 x2 x3 x5 y0 : Int) : mc_there_b36 σ x1 x2 x3 x5 y0 =
  (if x2 = 0 then
  ((mc_print σ x5 y0).bind fun p3 =>
    mc_there_b154 p3.1 x3 4 0)
  else
  (if x2 = 1 then
    (if σ 87 31 = 400 then
      ((mc_fails σ 9 x1).bind fun p2 =>
        some (p2.1, 0))
      else
      (if 0 ≤ σ 87 31 ∧ σ 87 31 < 400 then
        (mc_there_b154 (gW (gW σ 100 (σ 87 31) 0) 87 31 (w32 ((σ 87 31) + 1))) x3 6 (σ 87 31))
        else none))
    else
    (if x2 = 2 then
      (if 0 ≤ x5 ∧ x5 < 7 then
        (mc_there_b154 σ x3 2 (σ 40 x5))
        else none)
      else
      ((mc_define σ x1 x5 y0).bind fun p1 =>
        if p1.2 = 0 then
        (some (p1.1, 0))
        else
        (mc_there_b154 p1.1 x3 4 0))))) := Lm.eqn (mc_there_b36_l ..) (.ite (.bind (mc_print_l ..) fun p3 => (mc_there_b154_l ..)) (.ite (.ite (.bind (mc_fails_l ..) fun p2 => .cst) (.ite (mc_there_b154_l ..) .cst)) (.ite (.ite (mc_there_b154_l ..) .cst) (.bind (mc_define_l ..) fun p1 => (.ite .cst (mc_there_b154_l ..)))))) fun n => (rfl)
theorem mc_there_b154_e (σ : gM) (x3 x8 x9 : Int) : mc_there_b154 σ x3 x8 x9 =
  ((mc_push (gW σ 87 8 x3) x8 x9).bind fun p1 =>
  (mc_falls (gW p1.1 87 22 (w32 ((p1.1 87 22) + 1)))).bind fun p2 =>
  some (p2.1, 0)) := Lm.eqn (mc_there_b154_l ..) (.bind (mc_push_l ..) fun p1 => (.bind (mc_falls_l ..) fun p2 => .cst)) fun n => (rfl)
def k_mc_call : List gC := [(0, 1, .aload_n 0, [], none), (1, 3, .getfield 86, [], none), (4, 3, .getfield 315, [], none), (7, 1, .iload_n 1, [], none),
  (8, 1, .iaload, [], none), (9, 1, .istore_n 2, [], none), (10, 1, .aload_n 0, [], none), (11, 3, .getfield 159, [], none),
  (14, 1, .iload_n 2, [], none), (15, 1, .isub, [], none), (16, 1, .iconst 1, [], none), (17, 1, .isub, [], none),
  (18, 1, .istore_n 3, [], none), (19, 1, .aload_n 0, [], none), (20, 3, .getfield 11, [], none), (23, 1, .iload_n 3, [], none),
  (24, 1, .iaload, [], none), (25, 1, .iconst 5, [], none), (26, 3, .if_icmp .eq 12, [(0, 38)], none), (29, 1, .aload_n 0, [], none),
  (30, 2, .bipush 6, [], none), (32, 1, .iload_n 1, [], none), (33, 3, .invokevirtual 193, [], none), (36, 1, .pop, [], none),
  (37, 1, .return_, [], none), (38, 1, .aload_n 0, [], none), (39, 3, .getfield 86, [], none), (42, 3, .getfield 317, [], none),
  (45, 1, .aload_n 0, [], none), (46, 3, .getfield 15, [], none), (49, 1, .iload_n 3, [], none), (50, 1, .laload, [], none),
  (51, 1, .l2i, [], none), (52, 1, .iaload, [], none), (53, 2, .istore 4, [], none), (55, 2, .iload 4, [], none),
  (57, 3, .ifCond .lt 12, [(0, 69)], none), (60, 1, .aload_n 0, [], none), (61, 3, .getfield 133, [], none), (64, 2, .bipush 59, [], none),
  (66, 3, .if_icmp .ne 21, [(0, 87)], none), (69, 1, .aload_n 0, [], some [true, true, false, false, true, false]), (70, 2, .iload 4, [], none), (72, 3, .ifCond .ge 7, [(0, 79)], none),
  (75, 1, .iconst 3, [], none), (76, 3, .goto 5, [(0, 81)], none), (79, 2, .bipush 7, [], none), (81, 1, .iload_n 1, [], some [false, true, false, false, false, false]),
  (82, 3, .invokevirtual 193, [], none), (85, 1, .pop, [], none), (86, 1, .return_, [], none), (87, 1, .aload_n 0, [], none),
  (88, 1, .iload_n 1, [], none), (89, 1, .iconst 2, [], none), (90, 2, .iload 4, [], none), (92, 1, .iconst (-1), [], none),
  (93, 1, .iconst (-1), [], none), (94, 3, .invokevirtual 320, [], none), (97, 1, .aload_n 0, [], none), (98, 1, .aload_n 0, [], none),
  (99, 3, .getfield 124, [], none), (102, 3, .invokestatic 171, [], none), (105, 3, .putfield 124, [], none), (108, 2, .iload 4, [], none),
  (110, 1, .iconst 4, [], none), (111, 3, .if_icmp .ge 13, [(0, 124)], none), (114, 1, .aload_n 0, [], none), (115, 1, .iload_n 1, [], none),
  (116, 2, .iload 4, [], none), (118, 1, .iload_n 3, [], none), (119, 1, .iload_n 2, [], none), (120, 3, .invokevirtual 324, [], none),
  (123, 1, .return_, [], none), (124, 1, .aload_n 0, [], none), (125, 3, .getfield 28, [], none), (128, 1, .aload_n 0, [], none),
  (129, 3, .getfield 206, [], none), (132, 1, .iaload, [], none), (133, 3, .ifCond .ge 7, [(0, 140)], none), (136, 1, .iconst (-1), [], none),
  (137, 3, .goto 31, [(0, 168)], none), (140, 1, .aload_n 0, [], none), (141, 3, .getfield 94, [], none), (144, 1, .aload_n 0, [], none),
  (145, 3, .getfield 28, [], none), (148, 1, .aload_n 0, [], none), (149, 3, .getfield 206, [], none), (152, 1, .iaload, [], none),
  (153, 1, .aload_n 0, [], none), (154, 3, .getfield 31, [], none), (157, 1, .aload_n 0, [], none), (158, 3, .getfield 206, [], none),
  (161, 1, .iaload, [], none), (162, 1, .iload_n 1, [], none), (163, 2, .iload 4, [], none), (165, 3, .invokevirtual 327, [], none),
  (168, 2, .istore 5, [], some [true, false, true, true, true, false]), (170, 1, .aload_n 0, [], none), (171, 3, .getfield 22, [], none), (174, 1, .aload_n 0, [], none),
  (175, 3, .getfield 206, [], none), (178, 1, .aload_n 0, [], none), (179, 3, .getfield 187, [], none), (182, 1, .iconst 1, [], none),
  (183, 1, .iadd, [], none), (184, 1, .iastore, [], none), (185, 1, .aload_n 0, [], none), (186, 2, .iload 4, [], none),
  (188, 1, .iload_n 3, [], none), (189, 1, .iload_n 2, [], none), (190, 2, .iload 5, [], none), (192, 3, .invokevirtual 177, [], none),
  (195, 1, .return_, [], none)]
def e_mc_call (m : Nat) : gE := (k_mc_call, f_mc, c_mc, [(193, 3, 17, 0, .inl (fn_mc_fails m)), (320, 6, 17, 5, .inl (fn_mc_settles m)), (171, 1, 0, 0, .inl (fn_cd_more m)), (324, 5, 17, 5, .inl (fn_mc_there m)), (327, 5, 14, 0, .inl (fn_cd_unit m)), (177, 5, 17, 5, .inl (fn_mc_activate m))], [], (m, 218048440747296229189353456797045022297080574790329040043594967622565645391577722878042577664249051317611493786159303296472984275910398), 5)
theorem ok_mc_call : gchk cX9_call 6 k_mc_call = true := by decide +kernel
def fn_mc_call (m : Nat) : gFn := gF (e_mc_call m) 6
theorem mo_mc_call (m : Nat) : gMo (.inl (fn_mc_call m)) := gF_mo (E := e_mc_call m) ⟨mo_mc_fails m, ⟨mo_mc_settles m, ⟨mo_cd_more m, ⟨mo_mc_there m, ⟨mo_cd_unit m, ⟨mo_mc_activate m, trivial⟩⟩⟩⟩⟩⟩
noncomputable def mc_call (σ : gM) (x1 : Int) : Option (gM × Int) := lim (fun n => fn_mc_call 119 n [(2, 87), (0, x1)] σ)
theorem mc_call_l (σ : gM) (x1 : Int) : Lm (fun n => fn_mc_call 119 n [(2, 87), (0, x1)] σ) (mc_call σ x1) := .of fun n => mo_mc_call 119 n [(2, 87), (0, x1)] σ
theorem mb_mc_call : gMos (e_mc_call 119).2.2.2.1 := ⟨mo_mc_fails 119, ⟨mo_mc_settles 119, ⟨mo_cd_more 119, ⟨mo_mc_there 119, ⟨mo_cd_unit 119, ⟨mo_mc_activate 119, trivial⟩⟩⟩⟩⟩⟩
noncomputable def mc_call_b69 (σ : gM) (x1 x4 : Int) : Option (gM × Int) := lim (fun n => gB (e_mc_call 119) rF tF n 69 [(2, 87), (0, x1), (9, 0), (9, 0), (0, x4), (9, 0)] [] σ)
theorem mc_call_b69_l (σ : gM) (x1 x4 : Int) : Lm (fun n => gB (e_mc_call 119) rF tF n 69 [(2, 87), (0, x1), (9, 0), (9, 0), (0, x4), (9, 0)] [] σ) (mc_call_b69 σ x1 x4) := .of fun n => gB_le (gMos_spec (mb_mc_call)) n _ _ _ σ
noncomputable def mc_call_b81 (σ : gM) (x1 y0 : Int) : Option (gM × Int) := lim (fun n => gB (e_mc_call 119) rF tF n 81 [(9, 0), (0, x1), (9, 0), (9, 0), (9, 0), (9, 0)] [(0, y0), (2, 87)] σ)
theorem mc_call_b81_l (σ : gM) (x1 y0 : Int) : Lm (fun n => gB (e_mc_call 119) rF tF n 81 [(9, 0), (0, x1), (9, 0), (9, 0), (9, 0), (9, 0)] [(0, y0), (2, 87)] σ) (mc_call_b81 σ x1 y0) := .of fun n => gB_le (gMos_spec (mb_mc_call)) n _ _ _ σ
noncomputable def mc_call_b168 (σ : gM) (x2 x3 x4 y0 : Int) : Option (gM × Int) := lim (fun n => gB (e_mc_call 119) rF tF n 168 [(2, 87), (9, 0), (0, x2), (0, x3), (0, x4), (9, 0)] [(0, y0)] σ)
theorem mc_call_b168_l (σ : gM) (x2 x3 x4 y0 : Int) : Lm (fun n => gB (e_mc_call 119) rF tF n 168 [(2, 87), (9, 0), (0, x2), (0, x3), (0, x4), (9, 0)] [(0, y0)] σ) (mc_call_b168 σ x2 x3 x4 y0) := .of fun n => gB_le (gMos_spec (mb_mc_call)) n _ _ _ σ
theorem mc_call_e (σ : gM) (x1 : Int) : mc_call σ x1 =
  (if 0 ≤ x1 ∧ x1 < 16000 then
  (if 0 ≤ w32 ((w32 ((σ 87 8) - (σ 14 x1))) - 1) ∧ w32 ((w32 ((σ 87 8) - (σ 14 x1))) - 1) < 18240 then
    (if σ 88 (w32 ((w32 ((σ 87 8) - (σ 14 x1))) - 1)) = 5 then
      (if 0 ≤ w32 ((w32 ((σ 87 8) - (σ 14 x1))) - 1) ∧ w32 ((w32 ((σ 87 8) - (σ 14 x1))) - 1) < 18240 then
        (if 0 ≤ w32 (σ 89 (w32 ((w32 ((σ 87 8) - (σ 14 x1))) - 1))) ∧ w32 (σ 89 (w32 ((w32 ((σ 87 8) - (σ 14 x1))) - 1))) < 9000 then
          (if σ 24 (w32 (σ 89 (w32 ((w32 ((σ 87 8) - (σ 14 x1))) - 1)))) < 0 then
            (mc_call_b69 σ x1 (σ 24 (w32 (σ 89 (w32 ((w32 ((σ 87 8) - (σ 14 x1))) - 1))))))
            else
            (if σ 87 19 = 59 then
              (mc_call_b69 σ x1 (σ 24 (w32 (σ 89 (w32 ((w32 ((σ 87 8) - (σ 14 x1))) - 1))))))
              else
              ((mc_settles σ x1 2 (σ 24 (w32 (σ 89 (w32 ((w32 ((σ 87 8) - (σ 14 x1))) - 1))))) (-1) (-1)).bind fun p1 =>
                (cd_more p1.1 (p1.1 87 41)).bind fun p2 =>
                if σ 24 (w32 (σ 89 (w32 ((w32 ((σ 87 8) - (σ 14 x1))) - 1)))) < 4 then
                ((mc_there (gW p2.1 87 41 p2.2) x1 (σ 24 (w32 (σ 89 (w32 ((w32 ((σ 87 8) - (σ 14 x1))) - 1))))) (w32 ((w32 ((σ 87 8) - (σ 14 x1))) - 1)) (σ 14 x1)).bind fun p4 =>
                  some (p4.1, 0))
                else
                (if 0 ≤ p2.1 87 21 ∧ p2.1 87 21 < 60 then
                  (if p2.1 93 (p2.1 87 21) < 0 then
                    (mc_call_b168 (gW p2.1 87 41 p2.2) (σ 14 x1) (w32 ((w32 ((σ 87 8) - (σ 14 x1))) - 1)) (σ 24 (w32 (σ 89 (w32 ((w32 ((σ 87 8) - (σ 14 x1))) - 1))))) (-1))
                    else
                    (if 0 ≤ p2.1 87 21 ∧ p2.1 87 21 < 60 then
                      (if 0 ≤ p2.1 87 21 ∧ p2.1 87 21 < 60 then
                        ((cd_unit (gW p2.1 87 41 p2.2) (p2.1 93 (p2.1 87 21)) (p2.1 94 (p2.1 87 21)) x1 (σ 24 (w32 (σ 89 (w32 ((w32 ((σ 87 8) - (σ 14 x1))) - 1)))))).bind fun p3 =>
                          mc_call_b168 p3.1 (σ 14 x1) (w32 ((w32 ((σ 87 8) - (σ 14 x1))) - 1)) (σ 24 (w32 (σ 89 (w32 ((w32 ((σ 87 8) - (σ 14 x1))) - 1))))) p3.2)
                        else none)
                      else none))
                  else none))))
          else none)
        else none)
      else
      ((mc_fails σ 6 x1).bind fun p5 =>
        some (p5.1, 0)))
    else none)
  else none) := Lm.eqn (mc_call_l ..) (.ite (.ite (.ite (.ite (.ite (.ite (mc_call_b69_l ..) (.ite (mc_call_b69_l ..) (.bind (mc_settles_l ..) fun p1 => (.bind (cd_more_l ..) fun p2 => (.ite (.bind (mc_there_l ..) fun p4 => .cst) (.ite (.ite (mc_call_b168_l ..) (.ite (.ite (.bind (cd_unit_l ..) fun p3 => (mc_call_b168_l ..)) .cst) .cst)) .cst)))))) .cst) .cst) (.bind (mc_fails_l ..) fun p5 => .cst)) .cst) .cst) fun n => (rfl)
theorem mc_call_b69_e (σ : gM) (x1 x4 : Int) : mc_call_b69 σ x1 x4 =
  (if x4 < 0 then
  (mc_call_b81 σ x1 3)
  else
  (mc_call_b81 σ x1 7)) := Lm.eqn (mc_call_b69_l ..) (.ite (mc_call_b81_l ..) (mc_call_b81_l ..)) fun n => (rfl)
theorem mc_call_b81_e (σ : gM) (x1 y0 : Int) : mc_call_b81 σ x1 y0 =
  ((mc_fails σ y0 x1).bind fun p1 =>
  some (p1.1, 0)) := Lm.eqn (mc_call_b81_l ..) (.bind (mc_fails_l ..) fun p1 => .cst) fun n => (rfl)
theorem mc_call_b168_e (σ : gM) (x2 x3 x4 y0 : Int) : mc_call_b168 σ x2 x3 x4 y0 =
  (if 0 ≤ σ 87 21 ∧ σ 87 21 < 60 then
  ((mc_activate (gW σ 91 (σ 87 21) (w32 ((σ 87 22) + 1))) x4 x3 x2 y0).bind fun p1 =>
    some (p1.1, 0))
  else none) := Lm.eqn (mc_call_b168_l ..) (.ite (.bind (mc_activate_l ..) fun p1 => .cst) .cst) fun n => (rfl)
def k_mc_test : List gC := [(0, 1, .aload_n 0, [], none), (1, 1, .iload_n 1, [], none), (2, 3, .invokevirtual 242, [], none), (5, 3, .ifCond .ne 4, [(0, 9)], none),
  (8, 1, .return_, [], none), (9, 1, .aload_n 0, [], none), (10, 3, .getfield 15, [], none), (13, 1, .aload_n 0, [], none),
  (14, 3, .getfield 159, [], none), (17, 1, .iconst 1, [], none), (18, 1, .isub, [], none), (19, 1, .laload, [], none),
  (20, 1, .lconst 1, [], none), (21, 1, .lcmp, [], none), (22, 3, .ifCond .ne 7, [(0, 29)], none), (25, 1, .iconst 1, [], none),
  (26, 3, .goto 4, [(0, 30)], none), (29, 1, .iconst 0, [], none), (30, 1, .istore_n 2, [], some [true, true, false]), (31, 1, .aload_n 0, [], none),
  (32, 1, .dup, [], none), (33, 3, .getfield 159, [], none), (36, 1, .iconst 1, [], none), (37, 1, .isub, [], none),
  (38, 3, .putfield 159, [], none), (41, 1, .aload_n 0, [], none), (42, 1, .iload_n 1, [], none), (43, 1, .iload_n 2, [], none),
  (44, 3, .ifCond .eq 7, [(0, 51)], none), (47, 1, .iconst 1, [], none), (48, 3, .goto 4, [(0, 52)], none), (51, 1, .iconst 2, [], none),
  (52, 3, .invokevirtual 302, [], some [true, false, true]), (55, 1, .aload_n 0, [], none), (56, 1, .iload_n 2, [], none), (57, 3, .ifCond .eq 12, [(0, 69)], none),
  (60, 1, .aload_n 0, [], none), (61, 3, .getfield 187, [], none), (64, 1, .iconst 1, [], none), (65, 1, .iadd, [], none),
  (66, 3, .goto 15, [(0, 81)], none), (69, 1, .aload_n 0, [], none), (70, 3, .getfield 86, [], none), (73, 3, .getfield 257, [], none),
  (76, 1, .aload_n 0, [], none), (77, 3, .getfield 187, [], none), (80, 1, .iaload, [], none), (81, 3, .putfield 187, [], some [false, false, false]),
  (84, 1, .return_, [], none)]
def e_mc_test (m : Nat) : gE := (k_mc_test, f_mc, c_mc, [(242, 2, 17, 0, .inl (fn_mc_isTruth m)), (302, 3, 17, 5, .inl (fn_mc_took m))], [], (m, 6774098742224942877457735092500722279127478323964479202980656444609871763304136431541819762172116769270364737659557330737436672), 5)
theorem ok_mc_test : gchk cX9_test 3 k_mc_test = true := by decide +kernel
def fn_mc_test (m : Nat) : gFn := gF (e_mc_test m) 3
theorem mo_mc_test (m : Nat) : gMo (.inl (fn_mc_test m)) := gF_mo (E := e_mc_test m) ⟨mo_mc_isTruth m, ⟨mo_mc_took m, trivial⟩⟩
noncomputable def mc_test (σ : gM) (x1 : Int) : Option (gM × Int) := lim (fun n => fn_mc_test 119 n [(2, 87), (0, x1)] σ)
theorem mc_test_l (σ : gM) (x1 : Int) : Lm (fun n => fn_mc_test 119 n [(2, 87), (0, x1)] σ) (mc_test σ x1) := .of fun n => mo_mc_test 119 n [(2, 87), (0, x1)] σ
theorem mb_mc_test : gMos (e_mc_test 119).2.2.2.1 := ⟨mo_mc_isTruth 119, ⟨mo_mc_took 119, trivial⟩⟩
noncomputable def mc_test_b30 (σ : gM) (x1 y0 : Int) : Option (gM × Int) := lim (fun n => gB (e_mc_test 119) rF tF n 30 [(2, 87), (0, x1), (9, 0)] [(0, y0)] σ)
theorem mc_test_b30_l (σ : gM) (x1 y0 : Int) : Lm (fun n => gB (e_mc_test 119) rF tF n 30 [(2, 87), (0, x1), (9, 0)] [(0, y0)] σ) (mc_test_b30 σ x1 y0) := .of fun n => gB_le (gMos_spec (mb_mc_test)) n _ _ _ σ
noncomputable def mc_test_b52 (σ : gM) (x2 y0 y1 : Int) : Option (gM × Int) := lim (fun n => gB (e_mc_test 119) rF tF n 52 [(2, 87), (9, 0), (0, x2)] [(0, y0), (0, y1), (2, 87)] σ)
theorem mc_test_b52_l (σ : gM) (x2 y0 y1 : Int) : Lm (fun n => gB (e_mc_test 119) rF tF n 52 [(2, 87), (9, 0), (0, x2)] [(0, y0), (0, y1), (2, 87)] σ) (mc_test_b52 σ x2 y0 y1) := .of fun n => gB_le (gMos_spec (mb_mc_test)) n _ _ _ σ
noncomputable def mc_test_b81 (σ : gM) (y0 : Int) : Option (gM × Int) := lim (fun n => gB (e_mc_test 119) rF tF n 81 [(9, 0), (9, 0), (9, 0)] [(0, y0), (2, 87)] σ)
theorem mc_test_b81_l (σ : gM) (y0 : Int) : Lm (fun n => gB (e_mc_test 119) rF tF n 81 [(9, 0), (9, 0), (9, 0)] [(0, y0), (2, 87)] σ) (mc_test_b81 σ y0) := .of fun n => gB_le (gMos_spec (mb_mc_test)) n _ _ _ σ
theorem mc_test_e (σ : gM) (x1 : Int) : mc_test σ x1 =
  ((mc_isTruth σ x1).bind fun p1 =>
  if p1.2 = 0 then
  (some (p1.1, 0))
  else
  (if 0 ≤ w32 ((p1.1 87 8) - 1) ∧ w32 ((p1.1 87 8) - 1) < 18240 then
    (if l_cmp (p1.1 89 (w32 ((p1.1 87 8) - 1))) 1 = 0 then
      (mc_test_b30 p1.1 x1 1)
      else
      (mc_test_b30 p1.1 x1 0))
    else none)) := Lm.eqn (mc_test_l ..) (.bind (mc_isTruth_l ..) fun p1 => (.ite .cst (.ite (.ite (mc_test_b30_l ..) (mc_test_b30_l ..)) .cst))) fun n => (rfl)
theorem mc_test_b30_e (σ : gM) (x1 y0 : Int) : mc_test_b30 σ x1 y0 =
  (if y0 = 0 then
  (mc_test_b52 (gW σ 87 8 (w32 ((σ 87 8) - 1))) y0 2 x1)
  else
  (mc_test_b52 (gW σ 87 8 (w32 ((σ 87 8) - 1))) y0 1 x1)) := Lm.eqn (mc_test_b30_l ..) (.ite (mc_test_b52_l ..) (mc_test_b52_l ..)) fun n => (rfl)
theorem mc_test_b52_e (σ : gM) (x2 y0 y1 : Int) : mc_test_b52 σ x2 y0 y1 =
  ((mc_took σ y1 y0).bind fun p1 =>
  if x2 = 0 then
  (if 0 ≤ p1.1 87 22 ∧ p1.1 87 22 < 164000 then
    (mc_test_b81 p1.1 (p1.1 21 (p1.1 87 22)))
    else none)
  else
  (mc_test_b81 p1.1 (w32 ((p1.1 87 22) + 1)))) := Lm.eqn (mc_test_b52_l ..) (.bind (mc_took_l ..) fun p1 => (.ite (.ite (mc_test_b81_l ..) .cst) (mc_test_b81_l ..))) fun n => (rfl)
theorem mc_test_b81_e (σ : gM) (y0 : Int) : mc_test_b81 σ y0 =
  (some (gW σ 87 22 y0, 0)) := Lm.eqn (mc_test_b81_l ..) .cst fun n => (rfl)
def k_mc_comesBack : List gC := [(0, 1, .aload_n 0, [], none), (1, 3, .getfield 11, [], none), (4, 1, .aload_n 0, [], none), (5, 3, .getfield 159, [], none),
  (8, 1, .iconst 1, [], none), (9, 1, .isub, [], none), (10, 1, .iaload, [], none), (11, 1, .istore_n 1, [], none),
  (12, 1, .aload_n 0, [], none), (13, 3, .getfield 15, [], none), (16, 1, .aload_n 0, [], none), (17, 3, .getfield 159, [], none),
  (20, 1, .iconst 1, [], none), (21, 1, .isub, [], none), (22, 1, .laload, [], none), (23, 1, .lstore_n 2, [], none),
  (24, 1, .aload_n 0, [], none), (25, 3, .getfield 25, [], none), (28, 1, .aload_n 0, [], none), (29, 3, .getfield 206, [], none),
  (32, 1, .iaload, [], none), (33, 2, .istore 4, [], none), (35, 1, .aload_n 0, [], none), (36, 1, .dup, [], none),
  (37, 3, .getfield 133, [], none), (40, 1, .iconst 1, [], none), (41, 1, .isub, [], none), (42, 3, .putfield 133, [], none),
  (45, 1, .aload_n 0, [], none), (46, 2, .iload 4, [], none), (48, 3, .putfield 159, [], none), (51, 1, .aload_n 0, [], none),
  (52, 1, .iload_n 1, [], none), (53, 1, .lload_n 2, [], none), (54, 3, .invokevirtual 167, [], none), (57, 1, .aload_n 0, [], none),
  (58, 3, .getfield 133, [], none), (61, 3, .ifCond .ne 76, [(0, 137)], none), (64, 1, .aload_n 0, [], none), (65, 1, .iconst 2, [], none),
  (66, 3, .putfield 130, [], none), (69, 1, .aload_n 0, [], none), (70, 3, .getfield 82, [], none), (73, 3, .invokevirtual 359, [], none),
  (76, 1, .aload_n 0, [], none), (77, 1, .iload_n 1, [], none), (78, 1, .lload_n 2, [], none), (79, 3, .invokevirtual 362, [], none),
  (82, 1, .aload_n 0, [], none), (83, 1, .aload_n 0, [], none), (84, 3, .getfield 82, [], none), (87, 3, .invokevirtual 365, [], none),
  (90, 3, .putfield 151, [], none), (93, 1, .iconst 0, [], none), (94, 2, .istore 5, [], none), (96, 2, .iload 5, [], some [true, false, false, false, false, true]),
  (98, 1, .aload_n 0, [], none), (99, 3, .getfield 151, [], none), (102, 3, .if_icmp .ge 34, [(0, 136)], none), (105, 1, .aload_n 0, [], none),
  (106, 3, .getfield 63, [], none), (109, 2, .iload 5, [], none), (111, 1, .aload_n 0, [], none), (112, 3, .getfield 82, [], none),
  (115, 3, .getfield 369, [], none), (118, 1, .aload_n 0, [], none), (119, 3, .getfield 82, [], none), (122, 3, .getfield 372, [], none),
  (125, 2, .iload 5, [], none), (127, 1, .iadd, [], none), (128, 1, .baload, [], none), (129, 1, .bastore, [], none),
  (130, 3, .iinc 5 1, [], none), (133, 3, .goto (-37), [(0, 96)], none), (136, 1, .return_, [], none), (137, 1, .aload_n 0, [], none),
  (138, 1, .aload_n 0, [], none), (139, 3, .getfield 133, [], none), (142, 1, .iconst 1, [], none), (143, 1, .isub, [], none),
  (144, 3, .putfield 206, [], none), (147, 1, .aload_n 0, [], none), (148, 1, .aload_n 0, [], none), (149, 3, .getfield 22, [], none),
  (152, 1, .aload_n 0, [], none), (153, 3, .getfield 206, [], none), (156, 1, .iaload, [], none), (157, 3, .putfield 187, [], none),
  (160, 1, .aload_n 0, [], none), (161, 3, .invokevirtual 197, [], none), (164, 1, .return_, [], none)]
def e_mc_comesBack (m : Nat) : gE := (k_mc_comesBack, f_mc, c_mc, [(167, 3, 17, 5, .inl (fn_mc_push m)), (359, 1, 10, 5, .inl (fn_hp_lay m)), (362, 3, 17, 5, .inl (fn_mc_shows m)), (365, 1, 10, 0, .inl (fn_hp_laidLetters m)), (197, 1, 17, 5, .inl (fn_mc_falls m))], [], (m, 24227599295189530972958668230877373430792018092025553205378233600910314552884193414861138433392384161882644795333431669202090605936642), 5)
theorem ok_mc_comesBack : gchk cX9_comesBack 6 k_mc_comesBack = true := by decide +kernel
def fn_mc_comesBack (m : Nat) : gFn := gF (e_mc_comesBack m) 6
theorem mo_mc_comesBack (m : Nat) : gMo (.inl (fn_mc_comesBack m)) := gF_mo (E := e_mc_comesBack m) ⟨mo_mc_push m, ⟨mo_hp_lay m, ⟨mo_mc_shows m, ⟨mo_hp_laidLetters m, ⟨mo_mc_falls m, trivial⟩⟩⟩⟩⟩
noncomputable def mc_comesBack (σ : gM) : Option (gM × Int) := lim (fun n => fn_mc_comesBack 119 n [(2, 87)] σ)
theorem mc_comesBack_l (σ : gM) : Lm (fun n => fn_mc_comesBack 119 n [(2, 87)] σ) (mc_comesBack σ) := .of fun n => mo_mc_comesBack 119 n [(2, 87)] σ
theorem mb_mc_comesBack : gMos (e_mc_comesBack 119).2.2.2.1 := ⟨mo_mc_push 119, ⟨mo_hp_lay 119, ⟨mo_mc_shows 119, ⟨mo_hp_laidLetters 119, ⟨mo_mc_falls 119, trivial⟩⟩⟩⟩⟩
noncomputable def mc_comesBack_b96 (σ : gM) (x5 : Int) : Option (gM × Int) := lim (fun n => gB (e_mc_comesBack 119) rF tF n 96 [(2, 87), (9, 0), (9, 0), (9, 0), (9, 0), (0, x5)] [] σ)
theorem mc_comesBack_b96_l (σ : gM) (x5 : Int) : Lm (fun n => gB (e_mc_comesBack 119) rF tF n 96 [(2, 87), (9, 0), (9, 0), (9, 0), (9, 0), (0, x5)] [] σ) (mc_comesBack_b96 σ x5) := .of fun n => gB_le (gMos_spec (mb_mc_comesBack)) n _ _ _ σ
theorem mc_comesBack_e (σ : gM) : mc_comesBack σ =
  (if 0 ≤ w32 ((σ 87 8) - 1) ∧ w32 ((σ 87 8) - 1) < 18240 then
  (if 0 ≤ w32 ((σ 87 8) - 1) ∧ w32 ((σ 87 8) - 1) < 18240 then
    (if 0 ≤ σ 87 21 ∧ σ 87 21 < 60 then
      ((mc_push (gW (gW σ 87 19 (w32 ((σ 87 19) - 1))) 87 8 (σ 92 (σ 87 21))) (σ 88 (w32 ((σ 87 8) - 1))) (σ 89 (w32 ((σ 87 8) - 1)))).bind fun p1 =>
        if p1.1 87 19 = 0 then
        ((hp_lay (gW p1.1 87 23 2)).bind fun p3 =>
          (mc_shows p3.1 (σ 88 (w32 ((σ 87 8) - 1))) (σ 89 (w32 ((σ 87 8) - 1)))).bind fun p4 =>
          (hp_laidLetters p4.1).bind fun p5 =>
          mc_comesBack_b96 (gW p5.1 87 35 p5.2) 0)
        else
        (if 0 ≤ w32 ((p1.1 87 19) - 1) ∧ w32 ((p1.1 87 19) - 1) < 60 then
          ((mc_falls (gW (gW p1.1 87 21 (w32 ((p1.1 87 19) - 1))) 87 22 (p1.1 91 (w32 ((p1.1 87 19) - 1))))).bind fun p2 =>
            some (p2.1, 0))
          else none))
      else none)
    else none)
  else none) := Lm.eqn (mc_comesBack_l ..) (.ite (.ite (.ite (.bind (mc_push_l ..) fun p1 => (.ite (.bind (hp_lay_l ..) fun p3 => (.bind (mc_shows_l ..) fun p4 => (.bind (hp_laidLetters_l ..) fun p5 => (mc_comesBack_b96_l ..)))) (.ite (.bind (mc_falls_l ..) fun p2 => .cst) .cst))) .cst) .cst) .cst) fun n => (rfl)
theorem mc_comesBack_b96_e (σ : gM) (x5 : Int) : mc_comesBack_b96 σ x5 =
  (if x5 < σ 87 35 then
  (if 0 ≤ w32 ((σ 0 11) + x5) ∧ w32 ((σ 0 11) + x5) < 124600 then
    (if 0 ≤ x5 ∧ x5 < 200 then
      (mc_comesBack_b96 (gW σ 104 x5 (w8 (σ 1 (w32 ((σ 0 11) + x5))))) (w32 (x5 + 1)))
      else none)
    else none)
  else
  (some (σ, 0))) := Lm.eqn (mc_comesBack_b96_l ..) (.ite (.ite (.ite (mc_comesBack_b96_l ..) .cst) .cst) .cst) fun n => (rfl)
def k_mc_work : List gC := [(0, 1, .iload_n 1, [], none), (1, 95, .tableswitch 404 0 19 #[95, 130, 148, 188, 223, 231, 252, 297, 318, 339, 404, 347, 347, 404, 355, 374, 397, 404, 188, 130], [(0, 405), (0, 96), (1, 131), (2, 149), (3, 189), (4, 224), (5, 232), (6, 253), (7, 298), (8, 319), (9, 340), (11, 348), (12, 348), (14, 356), (15, 375), (16, 398), (18, 189), (19, 131)], none), (96, 1, .aload_n 0, [], none), (97, 1, .aload_n 0, [], none),
  (98, 3, .getfield 86, [], none), (101, 3, .getfield 218, [], none), (104, 1, .iload_n 2, [], none), (105, 1, .iaload, [], none),
  (106, 1, .aload_n 0, [], none), (107, 3, .getfield 86, [], none), (110, 3, .getfield 221, [], none), (113, 1, .iload_n 2, [], none),
  (114, 1, .laload, [], none), (115, 3, .invokevirtual 167, [], none), (118, 1, .aload_n 0, [], none), (119, 1, .dup, [], none),
  (120, 3, .getfield 187, [], none), (123, 1, .iconst 1, [], none), (124, 1, .iadd, [], none), (125, 3, .putfield 187, [], none),
  (128, 3, .goto 293, [(0, 421)], none), (131, 1, .aload_n 0, [], none), (132, 1, .iload_n 2, [], none), (133, 3, .invokevirtual 224, [], none),
  (136, 1, .aload_n 0, [], none), (137, 1, .dup, [], none), (138, 3, .getfield 187, [], none), (141, 1, .iconst 1, [], none),
  (142, 1, .iadd, [], none), (143, 3, .putfield 187, [], none), (146, 3, .goto 275, [(0, 421)], none), (149, 1, .aload_n 0, [], none),
  (150, 1, .iload_n 2, [], none), (151, 1, .aload_n 0, [], none), (152, 3, .getfield 11, [], none), (155, 1, .aload_n 0, [], none),
  (156, 3, .getfield 159, [], none), (159, 1, .iconst 1, [], none), (160, 1, .isub, [], none), (161, 1, .iaload, [], none),
  (162, 1, .aload_n 0, [], none), (163, 3, .getfield 15, [], none), (166, 1, .aload_n 0, [], none), (167, 3, .getfield 159, [], none),
  (170, 1, .iconst 1, [], none), (171, 1, .isub, [], none), (172, 1, .laload, [], none), (173, 3, .invokevirtual 228, [], none),
  (176, 1, .aload_n 0, [], none), (177, 1, .dup, [], none), (178, 3, .getfield 187, [], none), (181, 1, .iconst 1, [], none),
  (182, 1, .iadd, [], none), (183, 3, .putfield 187, [], none), (186, 3, .goto 235, [(0, 421)], none), (189, 1, .iload_n 1, [], none),
  (190, 2, .bipush 18, [], none), (192, 3, .if_icmp .ne 11, [(0, 203)], none), (195, 1, .aload_n 0, [], none), (196, 1, .iload_n 2, [], none),
  (197, 3, .invokevirtual 232, [], none), (200, 3, .ifCond .ne 11, [(0, 211)], none), (203, 1, .aload_n 0, [], some [true, false, true]), (204, 1, .iload_n 2, [], none),
  (205, 3, .invokevirtual 236, [], none), (208, 3, .ifCond .eq 213, [(0, 421)], none), (211, 1, .aload_n 0, [], some [true, false, false]), (212, 1, .dup, [], none),
  (213, 3, .getfield 187, [], none), (216, 1, .iconst 1, [], none), (217, 1, .iadd, [], none), (218, 3, .putfield 187, [], none),
  (221, 3, .goto 200, [(0, 421)], none), (224, 1, .aload_n 0, [], none), (225, 1, .iload_n 2, [], none), (226, 3, .invokevirtual 239, [], none),
  (229, 3, .goto 192, [(0, 421)], none), (232, 1, .aload_n 0, [], none), (233, 1, .iload_n 2, [], none), (234, 3, .invokevirtual 242, [], none),
  (237, 3, .ifCond .eq 184, [(0, 421)], none), (240, 1, .aload_n 0, [], none), (241, 1, .dup, [], none), (242, 3, .getfield 187, [], none),
  (245, 1, .iconst 1, [], none), (246, 1, .iadd, [], none), (247, 3, .putfield 187, [], none), (250, 3, .goto 171, [(0, 421)], none),
  (253, 1, .aload_n 0, [], none), (254, 1, .iload_n 2, [], none), (255, 3, .invokevirtual 242, [], none), (258, 3, .ifCond .eq 163, [(0, 421)], none),
  (261, 1, .aload_n 0, [], none), (262, 3, .getfield 15, [], none), (265, 1, .aload_n 0, [], none), (266, 3, .getfield 159, [], none),
  (269, 1, .iconst 1, [], none), (270, 1, .isub, [], none), (271, 1, .lconst 1, [], none), (272, 1, .aload_n 0, [], none),
  (273, 3, .getfield 15, [], none), (276, 1, .aload_n 0, [], none), (277, 3, .getfield 159, [], none), (280, 1, .iconst 1, [], none),
  (281, 1, .isub, [], none), (282, 1, .laload, [], none), (283, 1, .lsub, [], none), (284, 1, .lastore, [], none),
  (285, 1, .aload_n 0, [], none), (286, 1, .dup, [], none), (287, 3, .getfield 187, [], none), (290, 1, .iconst 1, [], none),
  (291, 1, .iadd, [], none), (292, 3, .putfield 187, [], none), (295, 3, .goto 126, [(0, 421)], none), (298, 1, .aload_n 0, [], none),
  (299, 1, .iload_n 2, [], none), (300, 3, .invokevirtual 245, [], none), (303, 3, .ifCond .eq 118, [(0, 421)], none), (306, 1, .aload_n 0, [], none),
  (307, 1, .dup, [], none), (308, 3, .getfield 187, [], none), (311, 1, .iconst 1, [], none), (312, 1, .iadd, [], none),
  (313, 3, .putfield 187, [], none), (316, 3, .goto 105, [(0, 421)], none), (319, 1, .aload_n 0, [], none), (320, 1, .iload_n 2, [], none),
  (321, 3, .invokevirtual 248, [], none), (324, 3, .ifCond .eq 97, [(0, 421)], none), (327, 1, .aload_n 0, [], none), (328, 1, .dup, [], none),
  (329, 3, .getfield 187, [], none), (332, 1, .iconst 1, [], none), (333, 1, .iadd, [], none), (334, 3, .putfield 187, [], none),
  (337, 3, .goto 84, [(0, 421)], none), (340, 1, .aload_n 0, [], none), (341, 1, .iload_n 2, [], none), (342, 3, .invokevirtual 251, [], none),
  (345, 3, .goto 76, [(0, 421)], none), (348, 1, .aload_n 0, [], none), (349, 1, .iload_n 2, [], none), (350, 3, .invokevirtual 254, [], none),
  (353, 3, .goto 68, [(0, 421)], none), (356, 1, .aload_n 0, [], none), (357, 1, .aload_n 0, [], none), (358, 3, .getfield 86, [], none),
  (361, 3, .getfield 257, [], none), (364, 1, .aload_n 0, [], none), (365, 3, .getfield 187, [], none), (368, 1, .iaload, [], none),
  (369, 3, .putfield 187, [], none), (372, 3, .goto 49, [(0, 421)], none), (375, 1, .aload_n 0, [], none), (376, 1, .dup, [], none),
  (377, 3, .getfield 159, [], none), (380, 1, .iconst 1, [], none), (381, 1, .isub, [], none), (382, 3, .putfield 159, [], none),
  (385, 1, .aload_n 0, [], none), (386, 1, .dup, [], none), (387, 3, .getfield 187, [], none), (390, 1, .iconst 1, [], none),
  (391, 1, .iadd, [], none), (392, 3, .putfield 187, [], none), (395, 3, .goto 26, [(0, 421)], none), (398, 1, .aload_n 0, [], none),
  (399, 3, .invokevirtual 260, [], none), (402, 3, .goto 19, [(0, 421)], none), (405, 1, .aload_n 0, [], none), (406, 1, .iconst 4, [], none),
  (407, 1, .lconst 0, [], none), (408, 3, .invokevirtual 167, [], none), (411, 1, .aload_n 0, [], none), (412, 1, .dup, [], none),
  (413, 3, .getfield 187, [], none), (416, 1, .iconst 1, [], none), (417, 1, .iadd, [], none), (418, 3, .putfield 187, [], none),
  (421, 1, .return_, [], none)]
def e_mc_work (m : Nat) : gE := (k_mc_work, f_mc, c_mc, [(167, 3, 17, 5, .inl (fn_mc_push m)), (224, 2, 17, 5, .inl (fn_mc_read m)), (228, 4, 17, 5, .inl (fn_mc_write m)), (232, 2, 17, 0, .inl (fn_mc_longs m)), (236, 2, 17, 0, .inl (fn_mc_two m)), (239, 2, 17, 5, .inl (fn_mc_left m)), (242, 2, 17, 0, .inl (fn_mc_isTruth m)), (245, 2, 17, 0, .inl (fn_mc_get m)), (248, 2, 17, 0, .inl (fn_mc_put m)), (251, 2, 17, 5, .inl (fn_mc_call m)), (254, 2, 17, 5, .inl (fn_mc_test m)), (260, 1, 17, 5, .inl (fn_mc_comesBack m))], [], (m, 218051235755393647364293690994351255261489907189852216192291702156592404100969773862767095641922372271083507851928661959169909312192254), 5)
theorem ok_mc_work : gchk cX9_work 3 k_mc_work = true := by decide +kernel
def fn_mc_work (m : Nat) : gFn := gF (e_mc_work m) 3
theorem mo_mc_work (m : Nat) : gMo (.inl (fn_mc_work m)) := gF_mo (E := e_mc_work m) ⟨mo_mc_push m, ⟨mo_mc_read m, ⟨mo_mc_write m, ⟨mo_mc_longs m, ⟨mo_mc_two m, ⟨mo_mc_left m, ⟨mo_mc_isTruth m, ⟨mo_mc_get m, ⟨mo_mc_put m, ⟨mo_mc_call m, ⟨mo_mc_test m, ⟨mo_mc_comesBack m, trivial⟩⟩⟩⟩⟩⟩⟩⟩⟩⟩⟩⟩
noncomputable def mc_work (σ : gM) (x1 x2 : Int) : Option (gM × Int) := lim (fun n => fn_mc_work 119 n [(2, 87), (0, x1), (0, x2)] σ)
theorem mc_work_l (σ : gM) (x1 x2 : Int) : Lm (fun n => fn_mc_work 119 n [(2, 87), (0, x1), (0, x2)] σ) (mc_work σ x1 x2) := .of fun n => mo_mc_work 119 n [(2, 87), (0, x1), (0, x2)] σ
theorem mb_mc_work : gMos (e_mc_work 119).2.2.2.1 := ⟨mo_mc_push 119, ⟨mo_mc_read 119, ⟨mo_mc_write 119, ⟨mo_mc_longs 119, ⟨mo_mc_two 119, ⟨mo_mc_left 119, ⟨mo_mc_isTruth 119, ⟨mo_mc_get 119, ⟨mo_mc_put 119, ⟨mo_mc_call 119, ⟨mo_mc_test 119, ⟨mo_mc_comesBack 119, trivial⟩⟩⟩⟩⟩⟩⟩⟩⟩⟩⟩⟩
noncomputable def mc_work_b203 (σ : gM) (x2 : Int) : Option (gM × Int) := lim (fun n => gB (e_mc_work 119) rF tF n 203 [(2, 87), (9, 0), (0, x2)] [] σ)
theorem mc_work_b203_l (σ : gM) (x2 : Int) : Lm (fun n => gB (e_mc_work 119) rF tF n 203 [(2, 87), (9, 0), (0, x2)] [] σ) (mc_work_b203 σ x2) := .of fun n => gB_le (gMos_spec (mb_mc_work)) n _ _ _ σ
noncomputable def mc_work_b211 (σ : gM) : Option (gM × Int) := lim (fun n => gB (e_mc_work 119) rF tF n 211 [(2, 87), (9, 0), (9, 0)] [] σ)
theorem mc_work_b211_l (σ : gM) : Lm (fun n => gB (e_mc_work 119) rF tF n 211 [(2, 87), (9, 0), (9, 0)] [] σ) (mc_work_b211 σ) := .of fun n => gB_le (gMos_spec (mb_mc_work)) n _ _ _ σ
theorem mc_work_e (σ : gM) (x1 x2 : Int) : mc_work σ x1 x2 =
  (if x1 = 0 then
  (if 0 ≤ x2 ∧ x2 < 16000 then
    (if 0 ≤ x2 ∧ x2 < 16000 then
      ((mc_push σ (σ 16 x2) (σ 17 x2)).bind fun p1 =>
        some (gW p1.1 87 22 (w32 ((p1.1 87 22) + 1)), 0))
      else none)
    else none)
  else if x1 = 1 then
  ((mc_read σ x2).bind fun p2 =>
    some (gW p2.1 87 22 (w32 ((p2.1 87 22) + 1)), 0))
  else if x1 = 2 then
  (if 0 ≤ w32 ((σ 87 8) - 1) ∧ w32 ((σ 87 8) - 1) < 18240 then
    (if 0 ≤ w32 ((σ 87 8) - 1) ∧ w32 ((σ 87 8) - 1) < 18240 then
      ((mc_write σ x2 (σ 88 (w32 ((σ 87 8) - 1))) (σ 89 (w32 ((σ 87 8) - 1)))).bind fun p3 =>
        some (gW p3.1 87 22 (w32 ((p3.1 87 22) + 1)), 0))
      else none)
    else none)
  else if x1 = 3 then
  (if x1 = 18 then
    ((mc_longs σ x2).bind fun p4 =>
      if p4.2 = 0 then
      (mc_work_b203 p4.1 x2)
      else
      (mc_work_b211 p4.1))
    else
    (mc_work_b203 σ x2))
  else if x1 = 4 then
  ((mc_left σ x2).bind fun p5 =>
    some (p5.1, 0))
  else if x1 = 5 then
  ((mc_isTruth σ x2).bind fun p6 =>
    if p6.2 = 0 then
    (some (p6.1, 0))
    else
    (some (gW p6.1 87 22 (w32 ((p6.1 87 22) + 1)), 0)))
  else if x1 = 6 then
  ((mc_isTruth σ x2).bind fun p7 =>
    if p7.2 = 0 then
    (some (p7.1, 0))
    else
    (if 0 ≤ w32 ((p7.1 87 8) - 1) ∧ w32 ((p7.1 87 8) - 1) < 18240 then
      (if 0 ≤ w32 ((p7.1 87 8) - 1) ∧ w32 ((p7.1 87 8) - 1) < 18240 then
        (some (gW (gW p7.1 89 (w32 ((p7.1 87 8) - 1)) (w64 (1 - (p7.1 89 (w32 ((p7.1 87 8) - 1)))))) 87 22 (w32 ((p7.1 87 22) + 1)), 0))
        else none)
      else none))
  else if x1 = 7 then
  ((mc_get σ x2).bind fun p8 =>
    if p8.2 = 0 then
    (some (p8.1, 0))
    else
    (some (gW p8.1 87 22 (w32 ((p8.1 87 22) + 1)), 0)))
  else if x1 = 8 then
  ((mc_put σ x2).bind fun p9 =>
    if p9.2 = 0 then
    (some (p9.1, 0))
    else
    (some (gW p9.1 87 22 (w32 ((p9.1 87 22) + 1)), 0)))
  else if x1 = 9 then
  ((mc_call σ x2).bind fun p10 =>
    some (p10.1, 0))
  else if x1 = 11 then
  ((mc_test σ x2).bind fun p11 =>
    some (p11.1, 0))
  else if x1 = 12 then
  ((mc_test σ x2).bind fun p12 =>
    some (p12.1, 0))
  else if x1 = 14 then
  (if 0 ≤ σ 87 22 ∧ σ 87 22 < 164000 then
    (some (gW σ 87 22 (σ 21 (σ 87 22)), 0))
    else none)
  else if x1 = 15 then
  (some (gW (gW σ 87 8 (w32 ((σ 87 8) - 1))) 87 22 (w32 ((σ 87 22) + 1)), 0))
  else if x1 = 16 then
  ((mc_comesBack σ).bind fun p13 =>
    some (p13.1, 0))
  else if x1 = 18 then
  (if x1 = 18 then
    ((mc_longs σ x2).bind fun p14 =>
      if p14.2 = 0 then
      (mc_work_b203 p14.1 x2)
      else
      (mc_work_b211 p14.1))
    else
    (mc_work_b203 σ x2))
  else if x1 = 19 then
  ((mc_read σ x2).bind fun p15 =>
    some (gW p15.1 87 22 (w32 ((p15.1 87 22) + 1)), 0))
  else ((mc_push σ 4 0).bind fun p16 =>
    some (gW p16.1 87 22 (w32 ((p16.1 87 22) + 1)), 0))) := Lm.eqn (mc_work_l ..) (.ite (.ite (.ite (.bind (mc_push_l ..) fun p1 => .cst) .cst) .cst) (.ite (.bind (mc_read_l ..) fun p2 => .cst) (.ite (.ite (.ite (.bind (mc_write_l ..) fun p3 => .cst) .cst) .cst) (.ite (.ite (.bind (mc_longs_l ..) fun p4 => (.ite (mc_work_b203_l ..) (mc_work_b211_l ..))) (mc_work_b203_l ..)) (.ite (.bind (mc_left_l ..) fun p5 => .cst) (.ite (.bind (mc_isTruth_l ..) fun p6 => (.ite .cst .cst)) (.ite (.bind (mc_isTruth_l ..) fun p7 => (.ite .cst (.ite (.ite .cst .cst) .cst))) (.ite (.bind (mc_get_l ..) fun p8 => (.ite .cst .cst)) (.ite (.bind (mc_put_l ..) fun p9 => (.ite .cst .cst)) (.ite (.bind (mc_call_l ..) fun p10 => .cst) (.ite (.bind (mc_test_l ..) fun p11 => .cst) (.ite (.bind (mc_test_l ..) fun p12 => .cst) (.ite (.ite .cst .cst) (.ite .cst (.ite (.bind (mc_comesBack_l ..) fun p13 => .cst) (.ite (.ite (.bind (mc_longs_l ..) fun p14 => (.ite (mc_work_b203_l ..) (mc_work_b211_l ..))) (mc_work_b203_l ..)) (.ite (.bind (mc_read_l ..) fun p15 => .cst) (.bind (mc_push_l ..) fun p16 => .cst)))))))))))))))))) fun n => (rfl)
theorem mc_work_b203_e (σ : gM) (x2 : Int) : mc_work_b203 σ x2 =
  ((mc_two σ x2).bind fun p1 =>
  if p1.2 = 0 then
  (some (p1.1, 0))
  else
  (mc_work_b211 p1.1)) := Lm.eqn (mc_work_b203_l ..) (.bind (mc_two_l ..) fun p1 => (.ite .cst (mc_work_b211_l ..))) fun n => (rfl)
theorem mc_work_b211_e (σ : gM) : mc_work_b211 σ =
  (some (gW σ 87 22 (w32 ((σ 87 22) + 1)), 0)) := Lm.eqn (mc_work_b211_l ..) .cst fun n => (rfl)
def k_mc_go : List gC := [(0, 1, .iconst 0, [], none), (1, 1, .istore_n 2, [], none), (2, 1, .aload_n 0, [], some [true, true, true, false]), (3, 3, .getfield 130, [], none),
  (6, 1, .iconst 1, [], none), (7, 3, .if_icmp .ne 131, [(0, 138)], none), (10, 1, .aload_n 0, [], none), (11, 3, .getfield 86, [], none),
  (14, 3, .getfield 184, [], none), (17, 1, .aload_n 0, [], none), (18, 3, .getfield 187, [], none), (21, 1, .iaload, [], none),
  (22, 1, .istore_n 3, [], none), (23, 1, .iload_n 3, [], none), (24, 2, .bipush 10, [], none), (26, 3, .if_icmp .eq 9, [(0, 35)], none),
  (29, 1, .iload_n 3, [], none), (30, 2, .bipush 13, [], none), (32, 3, .if_icmp .ne 86, [(0, 118)], none), (35, 1, .iload_n 2, [], some [true, true, true, true]),
  (36, 1, .iload_n 1, [], none), (37, 3, .if_icmp .ne 6, [(0, 43)], none), (40, 3, .goto 98, [(0, 138)], none), (43, 1, .aload_n 0, [], none),
  (44, 3, .getfield 139, [], none), (47, 3, .sipush 20000, [], none), (50, 3, .if_icmp .ne 25, [(0, 75)], none), (53, 1, .aload_n 0, [], none),
  (54, 2, .bipush 10, [], none), (56, 1, .aload_n 0, [], none), (57, 3, .getfield 86, [], none), (60, 3, .getfield 190, [], none),
  (63, 1, .aload_n 0, [], none), (64, 3, .getfield 187, [], none), (67, 1, .iaload, [], none), (68, 3, .invokevirtual 193, [], none),
  (71, 1, .pop, [], none), (72, 3, .goto 66, [(0, 138)], none), (75, 1, .aload_n 0, [], none), (76, 1, .dup, [], none),
  (77, 3, .getfield 139, [], none), (80, 1, .iconst 1, [], none), (81, 1, .iadd, [], none), (82, 3, .putfield 139, [], none),
  (85, 3, .iinc 2 1, [], none), (88, 1, .aload_n 0, [], none), (89, 3, .invokevirtual 197, [], none), (92, 1, .iload_n 3, [], none),
  (93, 2, .bipush 13, [], none), (95, 3, .if_icmp .ne 10, [(0, 105)], none), (98, 1, .aload_n 0, [], none), (99, 3, .invokevirtual 199, [], none),
  (102, 3, .goto 33, [(0, 135)], none), (105, 1, .aload_n 0, [], none), (106, 1, .dup, [], none), (107, 3, .getfield 187, [], none),
  (110, 1, .iconst 1, [], none), (111, 1, .iadd, [], none), (112, 3, .putfield 187, [], none), (115, 3, .goto 20, [(0, 135)], none),
  (118, 1, .aload_n 0, [], none), (119, 1, .iload_n 3, [], none), (120, 1, .aload_n 0, [], none), (121, 3, .getfield 86, [], none),
  (124, 3, .getfield 190, [], none), (127, 1, .aload_n 0, [], none), (128, 3, .getfield 187, [], none), (131, 1, .iaload, [], none),
  (132, 3, .invokevirtual 202, [], none), (135, 3, .goto (-133), [(0, 2)], some [true, true, true, false]), (138, 1, .iload_n 2, [], none), (139, 1, .ireturn, [], none)]
def e_mc_go (m : Nat) : gE := (k_mc_go, f_mc, c_mc, [(193, 3, 17, 0, .inl (fn_mc_fails m)), (197, 1, 17, 5, .inl (fn_mc_falls m)), (199, 1, 17, 5, .inl (fn_mc_again m)), (202, 3, 17, 5, .inl (fn_mc_work m))], [], (m, 218051235755724175348688815293827212915506292709766418533773842766234728498606976758385251314834966876303365494352457565182420991344382), 0)
theorem ok_mc_go : gchk cX9_go 4 k_mc_go = true := by decide +kernel
def fn_mc_go (m : Nat) : gFn := gF (e_mc_go m) 4
theorem mo_mc_go (m : Nat) : gMo (.inl (fn_mc_go m)) := gF_mo (E := e_mc_go m) ⟨mo_mc_fails m, ⟨mo_mc_falls m, ⟨mo_mc_again m, ⟨mo_mc_work m, trivial⟩⟩⟩⟩
noncomputable def mc_go (σ : gM) (x1 : Int) : Option (gM × Int) := lim (fun n => fn_mc_go 119 n [(2, 87), (0, x1)] σ)
theorem mc_go_l (σ : gM) (x1 : Int) : Lm (fun n => fn_mc_go 119 n [(2, 87), (0, x1)] σ) (mc_go σ x1) := .of fun n => mo_mc_go 119 n [(2, 87), (0, x1)] σ
theorem mb_mc_go : gMos (e_mc_go 119).2.2.2.1 := ⟨mo_mc_fails 119, ⟨mo_mc_falls 119, ⟨mo_mc_again 119, ⟨mo_mc_work 119, trivial⟩⟩⟩⟩
noncomputable def mc_go_b2 (σ : gM) (x1 x2 : Int) : Option (gM × Int) := lim (fun n => gB (e_mc_go 119) rF tF n 2 [(2, 87), (0, x1), (0, x2), (9, 0)] [] σ)
theorem mc_go_b2_l (σ : gM) (x1 x2 : Int) : Lm (fun n => gB (e_mc_go 119) rF tF n 2 [(2, 87), (0, x1), (0, x2), (9, 0)] [] σ) (mc_go_b2 σ x1 x2) := .of fun n => gB_le (gMos_spec (mb_mc_go)) n _ _ _ σ
noncomputable def mc_go_b35 (σ : gM) (x1 x2 x3 : Int) : Option (gM × Int) := lim (fun n => gB (e_mc_go 119) rF tF n 35 [(2, 87), (0, x1), (0, x2), (0, x3)] [] σ)
theorem mc_go_b35_l (σ : gM) (x1 x2 x3 : Int) : Lm (fun n => gB (e_mc_go 119) rF tF n 35 [(2, 87), (0, x1), (0, x2), (0, x3)] [] σ) (mc_go_b35 σ x1 x2 x3) := .of fun n => gB_le (gMos_spec (mb_mc_go)) n _ _ _ σ
noncomputable def mc_go_b135 (σ : gM) (x1 x2 : Int) : Option (gM × Int) := lim (fun n => gB (e_mc_go 119) rF tF n 135 [(2, 87), (0, x1), (0, x2), (9, 0)] [] σ)
theorem mc_go_b135_l (σ : gM) (x1 x2 : Int) : Lm (fun n => gB (e_mc_go 119) rF tF n 135 [(2, 87), (0, x1), (0, x2), (9, 0)] [] σ) (mc_go_b135 σ x1 x2) := .of fun n => gB_le (gMos_spec (mb_mc_go)) n _ _ _ σ
theorem mc_go_e (σ : gM) (x1 : Int) : mc_go σ x1 =
  (mc_go_b2 σ x1 0) := Lm.eqn (mc_go_l ..) (mc_go_b2_l ..) fun n => (rfl)
theorem mc_go_b2_e (σ : gM) (x1 x2 : Int) : mc_go_b2 σ x1 x2 =
  (if σ 87 23 = 1 then
  (if 0 ≤ σ 87 22 ∧ σ 87 22 < 164000 then
    (if σ 20 (σ 87 22) = 10 then
      (mc_go_b35 σ x1 x2 (σ 20 (σ 87 22)))
      else
      (if σ 20 (σ 87 22) = 13 then
        (mc_go_b35 σ x1 x2 (σ 20 (σ 87 22)))
        else
        (if 0 ≤ σ 87 22 ∧ σ 87 22 < 164000 then
          ((mc_work σ (σ 20 (σ 87 22)) (σ 22 (σ 87 22))).bind fun p1 =>
            mc_go_b135 p1.1 x1 x2)
          else none)))
    else none)
  else
  (some (σ, x2))) := Lm.eqn (mc_go_b2_l ..) (.ite (.ite (.ite (mc_go_b35_l ..) (.ite (mc_go_b35_l ..) (.ite (.bind (mc_work_l ..) fun p1 => (mc_go_b135_l ..)) .cst))) .cst) .cst) fun n => (rfl)
theorem mc_go_b35_e (σ : gM) (x1 x2 x3 : Int) : mc_go_b35 σ x1 x2 x3 =
  (if x2 = x1 then
  (some (σ, x2))
  else
  (if σ 87 24 = 20000 then
    (if 0 ≤ σ 87 22 ∧ σ 87 22 < 164000 then
      ((mc_fails σ 10 (σ 22 (σ 87 22))).bind fun p3 =>
        some (p3.1, x2))
      else none)
    else
    ((mc_falls (gW σ 87 24 (w32 ((σ 87 24) + 1)))).bind fun p1 =>
      if x3 = 13 then
      ((mc_again p1.1).bind fun p2 =>
        mc_go_b135 p2.1 x1 (w32 (x2 + 1)))
      else
      (mc_go_b135 (gW p1.1 87 22 (w32 ((p1.1 87 22) + 1))) x1 (w32 (x2 + 1)))))) := Lm.eqn (mc_go_b35_l ..) (.ite .cst (.ite (.ite (.bind (mc_fails_l ..) fun p3 => .cst) .cst) (.bind (mc_falls_l ..) fun p1 => (.ite (.bind (mc_again_l ..) fun p2 => (mc_go_b135_l ..)) (mc_go_b135_l ..))))) fun n => (rfl)
theorem mc_go_b135_e (σ : gM) (x1 x2 : Int) : mc_go_b135 σ x1 x2 =
  (mc_go_b2 σ x1 x2) := Lm.eqn (mc_go_b135_l ..) (mc_go_b2_l ..) fun n => (rfl)
def k_mc_start : List gC := [(0, 1, .aload_n 0, [], none), (1, 3, .invokevirtual 106, [], none), (4, 1, .aload_n 0, [], none), (5, 1, .iconst 1, [], none),
  (6, 3, .putfield 130, [], none), (9, 1, .aload_n 0, [], none), (10, 1, .iconst 0, [], none), (11, 3, .putfield 159, [], none),
  (14, 1, .aload_n 0, [], none), (15, 1, .iconst 5, [], none), (16, 1, .aload_n 0, [], none), (17, 3, .getfield 86, [], none),
  (20, 3, .getfield 162, [], none), (23, 1, .iload_n 1, [], none), (24, 1, .iaload, [], none), (25, 1, .i2l, [], none),
  (26, 3, .invokevirtual 167, [], none), (29, 1, .aload_n 0, [], none), (30, 1, .iconst 0, [], none), (31, 1, .lload_n 2, [], none),
  (32, 3, .invokevirtual 167, [], none), (35, 1, .aload_n 0, [], none), (36, 1, .iconst 0, [], none), (37, 2, .lload 4, [], none),
  (39, 3, .invokevirtual 167, [], none), (42, 1, .aload_n 0, [], none), (43, 1, .aload_n 0, [], none), (44, 3, .getfield 124, [], none),
  (47, 3, .invokestatic 171, [], none), (50, 3, .putfield 124, [], none), (53, 1, .aload_n 0, [], none), (54, 1, .iload_n 1, [], none),
  (55, 1, .iconst 0, [], none), (56, 1, .iconst 2, [], none), (57, 1, .iconst (-1), [], none), (58, 3, .invokevirtual 177, [], none),
  (61, 1, .aload_n 0, [], none), (62, 1, .iconst 0, [], none), (63, 3, .invokevirtual 181, [], none), (66, 1, .pop, [], none),
  (67, 1, .return_, [], none)]
def e_mc_start (m : Nat) : gE := (k_mc_start, f_mc, c_mc, [(106, 1, 17, 5, .inl (fn_mc_none m)), (167, 3, 17, 5, .inl (fn_mc_push m)), (171, 1, 0, 0, .inl (fn_cd_more m)), (177, 5, 17, 5, .inl (fn_mc_activate m)), (181, 2, 17, 0, .inl (fn_mc_go m))], [], (m, 218051235755724175348688815293827212915506292709766418533773842766234728498606976758385251314834966876303365494352457565182420991344382), 5)
theorem ok_mc_start : gchk cX9_start 6 k_mc_start = true := by decide +kernel
def fn_mc_start (m : Nat) : gFn := gF (e_mc_start m) 6
theorem mo_mc_start (m : Nat) : gMo (.inl (fn_mc_start m)) := gF_mo (E := e_mc_start m) ⟨mo_mc_none m, ⟨mo_mc_push m, ⟨mo_cd_more m, ⟨mo_mc_activate m, ⟨mo_mc_go m, trivial⟩⟩⟩⟩⟩
noncomputable def mc_start (σ : gM) (x1 x2 x4 : Int) : Option (gM × Int) := lim (fun n => fn_mc_start 119 n [(2, 87), (0, x1), (1, x2), (1, x4)] σ)
theorem mc_start_l (σ : gM) (x1 x2 x4 : Int) : Lm (fun n => fn_mc_start 119 n [(2, 87), (0, x1), (1, x2), (1, x4)] σ) (mc_start σ x1 x2 x4) := .of fun n => mo_mc_start 119 n [(2, 87), (0, x1), (1, x2), (1, x4)] σ
theorem mc_start_e (σ : gM) (x1 x2 x4 : Int) : mc_start σ x1 x2 x4 =
  ((mc_none σ).bind fun p1 =>
  if 0 ≤ x1 ∧ x1 < 60 then
  ((mc_push (gW (gW p1.1 87 23 1) 87 8 0) 5 (p1.1 25 x1)).bind fun p2 =>
    (mc_push p2.1 0 x2).bind fun p3 =>
    (mc_push p3.1 0 x4).bind fun p4 =>
    (cd_more p4.1 (p4.1 87 41)).bind fun p5 =>
    (mc_activate (gW p5.1 87 41 p5.2) x1 0 2 (-1)).bind fun p6 =>
    (mc_go p6.1 0).bind fun p7 =>
    some (p7.1, 0))
  else none) := Lm.eqn (mc_start_l ..) (.bind (mc_none_l ..) fun p1 => (.ite (.bind (mc_push_l ..) fun p2 => (.bind (mc_push_l ..) fun p3 => (.bind (mc_push_l ..) fun p4 => (.bind (cd_more_l ..) fun p5 => (.bind (mc_activate_l ..) fun p6 => (.bind (mc_go_l ..) fun p7 => .cst)))))) .cst)) fun n => (rfl)
