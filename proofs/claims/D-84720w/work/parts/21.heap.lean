set_option maxRecDepth 100000
def f_hp : List (Nat × Nat × Int × Nat) := [(12, 10, 0, 2), (17, 10, 1, 2), (21, 10, 2, 2), (24, 10, 3, 2), (27, 10, 4, 2), (31, 10, 5, 2), (35, 10, 6, 2), (39, 10, 7, 0), (43, 10, 8, 0), (46, 10, 9, 0), (52, 10, 10, 0), (55, 10, 11, 0), (58, 10, 12, 0), (61, 10, 13, 0), (75, 12, 0, 0), (79, 12, 1, 2), (82, 10, 14, 0)]
def c_hp : List (Nat × gV) := [(64, 0, 100000)]
def k_hp_begin : List gC := [(0, 1, .aload_n 0, [], none), (1, 3, .sipush 8000, [], none), (4, 3, .putfield 52, [], none), (7, 1, .aload_n 0, [], none),
  (8, 3, .sipush 24000, [], none), (11, 3, .putfield 55, [], none), (14, 1, .aload_n 0, [], none), (15, 3, .sipush 8000, [], none),
  (18, 3, .putfield 58, [], none), (21, 1, .aload_n 0, [], none), (22, 1, .iconst 0, [], none), (23, 3, .putfield 61, [], none),
  (26, 1, .return_, [], none)]
def e_hp_begin (m : Nat) : gE := (k_hp_begin, f_hp, c_hp, [], [], (m, 1778566490685176761706050329733446264626226964464239063646068490361545671269416960), 5)
theorem ok_hp_begin : gchk cX2_begin 1 k_hp_begin = true := by decide +kernel
def fn_hp_begin (m : Nat) : gFn := gF (e_hp_begin m) 1
theorem mo_hp_begin (m : Nat) : gMo (.inl (fn_hp_begin m)) := gF_mo (E := e_hp_begin m) trivial
noncomputable def hp_begin (σ : gM) : Option (gM × Int) := lim (fun n => fn_hp_begin 119 n [(2, 0)] σ)
theorem hp_begin_l (σ : gM) : Lm (fun n => fn_hp_begin 119 n [(2, 0)] σ) (hp_begin σ) := .of fun n => mo_hp_begin 119 n [(2, 0)] σ
theorem hp_begin_e (σ : gM) : hp_begin σ =
  (some (gW (gW (gW (gW σ 0 10 8000) 0 11 24000) 0 12 8000) 0 13 0, 0)) := Lm.eqn (hp_begin_l ..) .cst fun n => (rfl)
def k_hp_clear : List gC := [(0, 1, .aload_n 0, [], none), (1, 1, .iconst 0, [], none), (2, 3, .putfield 39, [], none), (5, 1, .aload_n 0, [], none),
  (6, 1, .iconst 0, [], none), (7, 3, .putfield 43, [], none), (10, 1, .aload_n 0, [], none), (11, 1, .iconst 0, [], none),
  (12, 3, .putfield 46, [], none), (15, 1, .aload_n 0, [], none), (16, 3, .invokevirtual 49, [], none), (19, 1, .return_, [], none)]
def e_hp_clear (m : Nat) : gE := (k_hp_clear, f_hp, c_hp, [(49, 1, 10, 5, .inl (fn_hp_begin m))], [], (m, 1882316202641812072805569932301230630062756870724653009025422485632635835426799616), 5)
theorem ok_hp_clear : gchk cX2_clear 1 k_hp_clear = true := by decide +kernel
def fn_hp_clear (m : Nat) : gFn := gF (e_hp_clear m) 1
theorem mo_hp_clear (m : Nat) : gMo (.inl (fn_hp_clear m)) := gF_mo (E := e_hp_clear m) ⟨mo_hp_begin m, trivial⟩
noncomputable def hp_clear (σ : gM) : Option (gM × Int) := lim (fun n => fn_hp_clear 119 n [(2, 0)] σ)
theorem hp_clear_l (σ : gM) : Lm (fun n => fn_hp_clear 119 n [(2, 0)] σ) (hp_clear σ) := .of fun n => mo_hp_clear 119 n [(2, 0)] σ
theorem hp_clear_e (σ : gM) : hp_clear σ =
  ((hp_begin (gW (gW (gW σ 0 7 0) 0 8 0) 0 9 0)).bind fun p1 =>
  some (p1.1, 0)) := Lm.eqn (hp_clear_l ..) (.bind (hp_begin_l ..) fun p1 => .cst) fun n => (rfl)
def k_hp_is : List gC := [(0, 1, .aload_n 0, [], none), (1, 3, .getfield 21, [], none), (4, 1, .iload_n 1, [], none), (5, 1, .iaload, [], none),
  (6, 2, .iload 4, [], none), (8, 3, .if_icmp .eq 5, [(0, 13)], none), (11, 1, .iconst 0, [], none), (12, 1, .ireturn, [], none),
  (13, 1, .iconst 0, [], none), (14, 2, .istore 5, [], none), (16, 2, .iload 5, [], some [true, true, true, true, true, true]), (18, 2, .iload 4, [], none),
  (20, 3, .if_icmp .ge 34, [(0, 54)], none), (23, 1, .aload_n 0, [], none), (24, 3, .getfield 12, [], none), (27, 1, .aload_n 0, [], none),
  (28, 3, .getfield 17, [], none), (31, 1, .iload_n 1, [], none), (32, 1, .iaload, [], none), (33, 2, .iload 5, [], none),
  (35, 1, .iadd, [], none), (36, 1, .baload, [], none), (37, 1, .aload_n 2, [], none), (38, 1, .iload_n 3, [], none),
  (39, 2, .iload 5, [], none), (41, 1, .iadd, [], none), (42, 1, .baload, [], none), (43, 3, .if_icmp .eq 5, [(0, 48)], none),
  (46, 1, .iconst 0, [], none), (47, 1, .ireturn, [], none), (48, 3, .iinc 5 1, [], none), (51, 3, .goto (-35), [(0, 16)], none),
  (54, 1, .iconst 1, [], none), (55, 1, .ireturn, [], none)]
def e_hp_is (m : Nat) : gE := (k_hp_is, f_hp, c_hp, [], [], (m, 0), 6)
theorem ok_hp_is : gchk cX2_is 6 k_hp_is = true := by decide +kernel
def fn_hp_is (m : Nat) : gFn := gF (e_hp_is m) 6
theorem mo_hp_is (m : Nat) : gMo (.inl (fn_hp_is m)) := gF_mo (E := e_hp_is m) trivial
noncomputable def hp_is (σ : gM) (x1 x2 x3 x4 : Int) : Option (gM × Int) := lim (fun n => fn_hp_is 119 n [(2, 0), (0, x1), (2, x2), (0, x3), (0, x4)] σ)
theorem hp_is_l (σ : gM) (x1 x2 x3 x4 : Int) : Lm (fun n => fn_hp_is 119 n [(2, 0), (0, x1), (2, x2), (0, x3), (0, x4)] σ) (hp_is σ x1 x2 x3 x4) := .of fun n => mo_hp_is 119 n [(2, 0), (0, x1), (2, x2), (0, x3), (0, x4)] σ
theorem mb_hp_is : gMos (e_hp_is 119).2.2.2.1 := trivial
noncomputable def hp_is_b16 (σ : gM) (x1 x2 x3 x4 x5 : Int) : Option (gM × Int) := lim (fun n => gB (e_hp_is 119) rF tF n 16 [(2, 0), (0, x1), (2, x2), (0, x3), (0, x4), (0, x5)] [] σ)
theorem hp_is_b16_l (σ : gM) (x1 x2 x3 x4 x5 : Int) : Lm (fun n => gB (e_hp_is 119) rF tF n 16 [(2, 0), (0, x1), (2, x2), (0, x3), (0, x4), (0, x5)] [] σ) (hp_is_b16 σ x1 x2 x3 x4 x5) := .of fun n => gB_le (gMos_spec (mb_hp_is)) n _ _ _ σ
theorem hp_is_e (σ : gM) (x1 x2 x3 x4 : Int) : hp_is σ x1 x2 x3 x4 =
  (if 0 ≤ x1 ∧ x1 < 108000 then
  (if σ 3 x1 = x4 then
    (hp_is_b16 σ x1 x2 x3 x4 0)
    else
    (some (σ, 0)))
  else none) := Lm.eqn (hp_is_l ..) (.ite (.ite (hp_is_b16_l ..) .cst) .cst) fun n => (rfl)
theorem hp_is_b16_e (σ : gM) (x1 x2 x3 x4 x5 : Int) : hp_is_b16 σ x1 x2 x3 x4 x5 =
  (if x5 < x4 then
  (if 0 ≤ x1 ∧ x1 < 108000 then
    (if 0 ≤ w32 ((σ 2 x1) + x5) ∧ w32 ((σ 2 x1) + x5) < 124600 then
      (gisb 119 x2 (if 0 ≤ w32 (x3 + x5) ∧ w32 (x3 + x5) < gN x2 then
        (if σ 1 (w32 ((σ 2 x1) + x5)) = σ x2 (w32 (x3 + x5)) then
          (hp_is_b16 σ x1 x2 x3 x4 (w32 (x5 + 1)))
          else
          (some (σ, 0)))
        else none))
      else none)
    else none)
  else
  (some (σ, 1))) := Lm.eqn (hp_is_b16_l ..) (.ite (.ite (.ite (.xisb (.ite (.ite (hp_is_b16_l ..) .cst) .cst)) .cst) .cst) .cst) fun n => (rfl)
def k_hp_string : List gC := [(0, 1, .iconst 0, [], none), (1, 2, .istore 4, [], none), (3, 2, .iload 4, [], some [true, true, true, true, true]), (5, 1, .aload_n 0, [], none),
  (6, 3, .getfield 39, [], none), (9, 3, .if_icmp .ge 24, [(0, 33)], none), (12, 1, .aload_n 0, [], none), (13, 2, .iload 4, [], none),
  (15, 1, .aload_n 1, [], none), (16, 1, .iload_n 2, [], none), (17, 1, .iload_n 3, [], none), (18, 3, .invokevirtual 65, [], none),
  (21, 3, .ifCond .eq 6, [(0, 27)], none), (24, 2, .iload 4, [], none), (26, 1, .ireturn, [], none), (27, 3, .iinc 4 1, [], none),
  (30, 3, .goto (-27), [(0, 3)], none), (33, 1, .aload_n 0, [], none), (34, 3, .getfield 17, [], none), (37, 1, .aload_n 0, [], none),
  (38, 3, .getfield 39, [], none), (41, 1, .aload_n 0, [], none), (42, 3, .getfield 43, [], none), (45, 1, .iastore, [], none),
  (46, 1, .aload_n 0, [], none), (47, 3, .getfield 21, [], none), (50, 1, .aload_n 0, [], none), (51, 3, .getfield 39, [], none),
  (54, 1, .iload_n 3, [], none), (55, 1, .iastore, [], none), (56, 1, .aload_n 0, [], none), (57, 3, .getfield 24, [], none),
  (60, 1, .aload_n 0, [], none), (61, 3, .getfield 39, [], none), (64, 1, .iconst (-1), [], none), (65, 1, .iastore, [], none),
  (66, 1, .aload_n 0, [], none), (67, 3, .getfield 27, [], none), (70, 1, .aload_n 0, [], none), (71, 3, .getfield 39, [], none),
  (74, 1, .iconst 0, [], none), (75, 1, .iastore, [], none), (76, 1, .aload_n 1, [], none), (77, 1, .iload_n 2, [], none),
  (78, 1, .aload_n 0, [], none), (79, 3, .getfield 12, [], none), (82, 1, .aload_n 0, [], none), (83, 3, .getfield 43, [], none),
  (86, 1, .iload_n 3, [], none), (87, 3, .invokestatic 69, [], none), (90, 1, .aload_n 0, [], none), (91, 1, .dup, [], none),
  (92, 3, .getfield 43, [], none), (95, 1, .iload_n 3, [], none), (96, 1, .iadd, [], none), (97, 3, .putfield 43, [], none),
  (100, 1, .aload_n 0, [], none), (101, 1, .dup, [], none), (102, 3, .getfield 39, [], none), (105, 1, .iconst 1, [], none),
  (106, 1, .iadd, [], none), (107, 3, .putfield 39, [], none), (110, 1, .aload_n 0, [], none), (111, 3, .getfield 39, [], none),
  (114, 1, .iconst 1, [], none), (115, 1, .isub, [], none), (116, 1, .ireturn, [], none)]
def e_hp_string (m : Nat) : gE := (k_hp_string, f_hp, c_hp, [(65, 5, 10, 0, .inl (fn_hp_is m)), (69, 5, 0, 5, .inl (jcopy (m, 44464162267129419042651258243336156615655674111605976591151712259038641781735486)))], [], (m, 44464162267129419042651258243336156615655674111605976591151712259038641781735486), 0)
theorem ok_hp_string : gchk cX2_string 5 k_hp_string = true := by decide +kernel
def fn_hp_string (m : Nat) : gFn := gF (e_hp_string m) 5
theorem mo_hp_string (m : Nat) : gMo (.inl (fn_hp_string m)) := gF_mo (E := e_hp_string m) ⟨mo_hp_is m, ⟨gMo_copy, trivial⟩⟩
noncomputable def hp_string (σ : gM) (x1 x2 x3 : Int) : Option (gM × Int) := lim (fun n => fn_hp_string 119 n [(2, 0), (2, x1), (0, x2), (0, x3)] σ)
theorem hp_string_l (σ : gM) (x1 x2 x3 : Int) : Lm (fun n => fn_hp_string 119 n [(2, 0), (2, x1), (0, x2), (0, x3)] σ) (hp_string σ x1 x2 x3) := .of fun n => mo_hp_string 119 n [(2, 0), (2, x1), (0, x2), (0, x3)] σ
theorem mb_hp_string : gMos (e_hp_string 119).2.2.2.1 := ⟨mo_hp_is 119, ⟨gMo_copy, trivial⟩⟩
noncomputable def hp_string_b3 (σ : gM) (x1 x2 x3 x4 : Int) : Option (gM × Int) := lim (fun n => gB (e_hp_string 119) rF tF n 3 [(2, 0), (2, x1), (0, x2), (0, x3), (0, x4)] [] σ)
theorem hp_string_b3_l (σ : gM) (x1 x2 x3 x4 : Int) : Lm (fun n => gB (e_hp_string 119) rF tF n 3 [(2, 0), (2, x1), (0, x2), (0, x3), (0, x4)] [] σ) (hp_string_b3 σ x1 x2 x3 x4) := .of fun n => gB_le (gMos_spec (mb_hp_string)) n _ _ _ σ
theorem hp_string_e (σ : gM) (x1 x2 x3 : Int) : hp_string σ x1 x2 x3 =
  (hp_string_b3 σ x1 x2 x3 0) := Lm.eqn (hp_string_l ..) (hp_string_b3_l ..) fun n => (rfl)
theorem hp_string_b3_e (σ : gM) (x1 x2 x3 x4 : Int) : hp_string_b3 σ x1 x2 x3 x4 =
  (if x4 < σ 0 7 then
  ((hp_is σ x4 x1 x2 x3).bind fun p2 =>
    if p2.2 = 0 then
    (hp_string_b3 p2.1 x1 x2 x3 (w32 (x4 + 1)))
    else
    (some (p2.1, x4)))
  else
  (if 0 ≤ σ 0 7 ∧ σ 0 7 < 108000 then
    (if 0 ≤ σ 0 7 ∧ σ 0 7 < 108000 then
      (if 0 ≤ σ 0 7 ∧ σ 0 7 < 108000 then
        (if 0 ≤ σ 0 7 ∧ σ 0 7 < 108000 then
          ((jcopy (119, 44464162267129419042651258243336156615655674111605976591151712259038641781735486) 0 [(2, x1), (0, x2), (2, 1), (0, σ 0 8), (0, x3)] (gW (gW (gW (gW σ 2 (σ 0 7) (σ 0 8)) 3 (σ 0 7) x3) 4 (σ 0 7) (-1)) 5 (σ 0 7) 0)).bind fun p1 =>
            some (gW (gW p1.1 0 8 (w32 ((p1.1 0 8) + x3))) 0 7 (w32 ((p1.1 0 7) + 1)), w32 ((w32 ((p1.1 0 7) + 1)) - 1)))
          else none)
        else none)
      else none)
    else none)) := Lm.eqn (hp_string_b3_l ..) (.ite (.bind (hp_is_l ..) fun p2 => (.ite (hp_string_b3_l ..) .cst)) (.ite (.ite (.ite (.ite (.bind .cst fun p1 => .cst) .cst) .cst) .cst) .cst)) fun n => (rfl)
def k_hp_whole : List gC := [(0, 1, .iload_n 2, [], none), (1, 3, .ifCond .eq 10, [(0, 11)], none), (4, 1, .aload_n 0, [], none), (5, 3, .getfield 46, [], none),
  (8, 3, .goto 7, [(0, 15)], none), (11, 1, .aload_n 0, [], none), (12, 3, .getfield 58, [], none), (15, 1, .istore_n 3, [], some [true, true, true, false, false]),
  (16, 1, .iload_n 2, [], none), (17, 3, .ifCond .eq 16, [(0, 33)], none), (20, 1, .aload_n 0, [], none), (21, 1, .dup, [], none),
  (22, 3, .getfield 46, [], none), (25, 1, .iconst 1, [], none), (26, 1, .iadd, [], none), (27, 3, .putfield 46, [], none),
  (30, 3, .goto 13, [(0, 43)], none), (33, 1, .aload_n 0, [], none), (34, 1, .dup, [], none), (35, 3, .getfield 58, [], none),
  (38, 1, .iconst 1, [], none), (39, 1, .iadd, [], none), (40, 3, .putfield 58, [], none), (43, 1, .aload_n 0, [], some [true, true, false, true, false]),
  (44, 3, .getfield 31, [], none), (47, 1, .iload_n 3, [], none), (48, 1, .aload_n 1, [], none), (49, 3, .getfield 75, [], none),
  (52, 1, .iastore, [], none), (53, 1, .iconst 0, [], none), (54, 2, .istore 4, [], none), (56, 2, .iload 4, [], some [true, true, false, true, true]),
  (58, 1, .iconst 4, [], none), (59, 3, .if_icmp .ge 27, [(0, 86)], none), (62, 1, .aload_n 0, [], none), (63, 3, .getfield 35, [], none),
  (66, 1, .iconst 4, [], none), (67, 1, .iload_n 3, [], none), (68, 1, .imul, [], none), (69, 2, .iload 4, [], none),
  (71, 1, .iadd, [], none), (72, 1, .aload_n 1, [], none), (73, 3, .getfield 79, [], none), (76, 2, .iload 4, [], none),
  (78, 1, .laload, [], none), (79, 1, .lastore, [], none), (80, 3, .iinc 4 1, [], none), (83, 3, .goto (-27), [(0, 56)], none),
  (86, 1, .iload_n 3, [], none), (87, 1, .ireturn, [], none)]
def e_hp_whole (m : Nat) : gE := (k_hp_whole, f_hp, c_hp, [], [], (m, 533569947205553028511815098920033879387868089339271719093820547108463701380825280), 0)
theorem ok_hp_whole : gchk cX2_whole 5 k_hp_whole = true := by decide +kernel
def fn_hp_whole (m : Nat) : gFn := gF (e_hp_whole m) 5
theorem mo_hp_whole (m : Nat) : gMo (.inl (fn_hp_whole m)) := gF_mo (E := e_hp_whole m) trivial
noncomputable def hp_whole (σ : gM) (x1 x2 : Int) : Option (gM × Int) := lim (fun n => fn_hp_whole 119 n [(2, 0), (2, x1), (0, x2)] σ)
theorem hp_whole_l (σ : gM) (x1 x2 : Int) : Lm (fun n => fn_hp_whole 119 n [(2, 0), (2, x1), (0, x2)] σ) (hp_whole σ x1 x2) := .of fun n => mo_hp_whole 119 n [(2, 0), (2, x1), (0, x2)] σ
theorem mb_hp_whole : gMos (e_hp_whole 119).2.2.2.1 := trivial
noncomputable def hp_whole_b15 (σ : gM) (x1 x2 y0 : Int) : Option (gM × Int) := lim (fun n => gB (e_hp_whole 119) rF tF n 15 [(2, 0), (2, x1), (0, x2), (9, 0), (9, 0)] [(0, y0)] σ)
theorem hp_whole_b15_l (σ : gM) (x1 x2 y0 : Int) : Lm (fun n => gB (e_hp_whole 119) rF tF n 15 [(2, 0), (2, x1), (0, x2), (9, 0), (9, 0)] [(0, y0)] σ) (hp_whole_b15 σ x1 x2 y0) := .of fun n => gB_le (gMos_spec (mb_hp_whole)) n _ _ _ σ
noncomputable def hp_whole_b43 (σ : gM) (x1 x3 : Int) : Option (gM × Int) := lim (fun n => gB (e_hp_whole 119) rF tF n 43 [(2, 0), (2, x1), (9, 0), (0, x3), (9, 0)] [] σ)
theorem hp_whole_b43_l (σ : gM) (x1 x3 : Int) : Lm (fun n => gB (e_hp_whole 119) rF tF n 43 [(2, 0), (2, x1), (9, 0), (0, x3), (9, 0)] [] σ) (hp_whole_b43 σ x1 x3) := .of fun n => gB_le (gMos_spec (mb_hp_whole)) n _ _ _ σ
noncomputable def hp_whole_b56 (σ : gM) (x1 x3 x4 : Int) : Option (gM × Int) := lim (fun n => gB (e_hp_whole 119) rF tF n 56 [(2, 0), (2, x1), (9, 0), (0, x3), (0, x4)] [] σ)
theorem hp_whole_b56_l (σ : gM) (x1 x3 x4 : Int) : Lm (fun n => gB (e_hp_whole 119) rF tF n 56 [(2, 0), (2, x1), (9, 0), (0, x3), (0, x4)] [] σ) (hp_whole_b56 σ x1 x3 x4) := .of fun n => gB_le (gMos_spec (mb_hp_whole)) n _ _ _ σ
theorem hp_whole_e (σ : gM) (x1 x2 : Int) : hp_whole σ x1 x2 =
  (if x2 = 0 then
  (hp_whole_b15 σ x1 x2 (σ 0 12))
  else
  (hp_whole_b15 σ x1 x2 (σ 0 9))) := Lm.eqn (hp_whole_l ..) (.ite (hp_whole_b15_l ..) (hp_whole_b15_l ..)) fun n => (rfl)
theorem hp_whole_b15_e (σ : gM) (x1 x2 y0 : Int) : hp_whole_b15 σ x1 x2 y0 =
  (if x2 = 0 then
  (hp_whole_b43 (gW σ 0 12 (w32 ((σ 0 12) + 1))) x1 y0)
  else
  (hp_whole_b43 (gW σ 0 9 (w32 ((σ 0 9) + 1))) x1 y0)) := Lm.eqn (hp_whole_b15_l ..) (.ite (hp_whole_b43_l ..) (hp_whole_b43_l ..)) fun n => (rfl)
theorem hp_whole_b43_e (σ : gM) (x1 x3 : Int) : hp_whole_b43 σ x1 x3 =
  (gis 119 x1 12 (if 0 ≤ x3 ∧ x3 < 33000 then
  (hp_whole_b56 (gW σ 6 x3 (σ x1 0)) x1 x3 0)
  else none)) := Lm.eqn (hp_whole_b43_l ..) (.xis (.ite (hp_whole_b56_l ..) .cst)) fun n => (rfl)
theorem hp_whole_b56_e (σ : gM) (x1 x3 x4 : Int) : hp_whole_b56 σ x1 x3 x4 =
  (if x4 < 4 then
  (gis 119 x1 12 (gis 119 (gR x1 1) 4 (if 0 ≤ x4 ∧ x4 < gN (gR x1 1) then
    (if 0 ≤ w32 ((w32 (4 * x3)) + x4) ∧ w32 ((w32 (4 * x3)) + x4) < 132000 then
      (hp_whole_b56 (gW σ 7 (w32 ((w32 (4 * x3)) + x4)) (σ (gR x1 1) x4)) x1 x3 (w32 (x4 + 1)))
      else none)
    else none)))
  else
  (some (σ, x3))) := Lm.eqn (hp_whole_b56_l ..) (.ite (.xis (.xis (.ite (.ite (hp_whole_b56_l ..) .cst) .cst))) .cst) fun n => (rfl)
def k_hp_get : List gC := [(0, 1, .aload_n 2, [], none), (1, 1, .aload_n 0, [], none), (2, 3, .getfield 31, [], none), (5, 1, .iload_n 1, [], none),
  (6, 1, .iaload, [], none), (7, 3, .putfield 75, [], none), (10, 1, .iconst 0, [], none), (11, 1, .istore_n 3, [], none),
  (12, 1, .iload_n 3, [], some [true, true, true, true]), (13, 1, .iconst 4, [], none), (14, 3, .if_icmp .ge 25, [(0, 39)], none), (17, 1, .aload_n 2, [], none),
  (18, 3, .getfield 79, [], none), (21, 1, .iload_n 3, [], none), (22, 1, .aload_n 0, [], none), (23, 3, .getfield 35, [], none),
  (26, 1, .iconst 4, [], none), (27, 1, .iload_n 1, [], none), (28, 1, .imul, [], none), (29, 1, .iload_n 3, [], none),
  (30, 1, .iadd, [], none), (31, 1, .laload, [], none), (32, 1, .lastore, [], none), (33, 3, .iinc 3 1, [], none),
  (36, 3, .goto (-24), [(0, 12)], none), (39, 1, .return_, [], none)]
def e_hp_get (m : Nat) : gE := (k_hp_get, f_hp, c_hp, [], [], (m, 24227587787227680242996183141042265400644274563352017343858361682490010613500890323204207710303182943436953965533314456975336030601216), 5)
theorem ok_hp_get : gchk cX2_get 4 k_hp_get = true := by decide +kernel
def fn_hp_get (m : Nat) : gFn := gF (e_hp_get m) 4
theorem mo_hp_get (m : Nat) : gMo (.inl (fn_hp_get m)) := gF_mo (E := e_hp_get m) trivial
noncomputable def hp_get (σ : gM) (x1 x2 : Int) : Option (gM × Int) := lim (fun n => fn_hp_get 119 n [(2, 0), (0, x1), (2, x2)] σ)
theorem hp_get_l (σ : gM) (x1 x2 : Int) : Lm (fun n => fn_hp_get 119 n [(2, 0), (0, x1), (2, x2)] σ) (hp_get σ x1 x2) := .of fun n => mo_hp_get 119 n [(2, 0), (0, x1), (2, x2)] σ
theorem mb_hp_get : gMos (e_hp_get 119).2.2.2.1 := trivial
noncomputable def hp_get_b12 (σ : gM) (x1 x2 x3 : Int) : Option (gM × Int) := lim (fun n => gB (e_hp_get 119) rF tF n 12 [(2, 0), (0, x1), (2, x2), (0, x3)] [] σ)
theorem hp_get_b12_l (σ : gM) (x1 x2 x3 : Int) : Lm (fun n => gB (e_hp_get 119) rF tF n 12 [(2, 0), (0, x1), (2, x2), (0, x3)] [] σ) (hp_get_b12 σ x1 x2 x3) := .of fun n => gB_le (gMos_spec (mb_hp_get)) n _ _ _ σ
theorem hp_get_e (σ : gM) (x1 x2 : Int) : hp_get σ x1 x2 =
  (if 0 ≤ x1 ∧ x1 < 33000 then
  (gis 119 x2 12 (gwr 24227587787227680242996183141042265400644274563352017343858361682490010613500890323204207710303182943436953965533314456975336030601216 x2 0 (hp_get_b12 (gW σ x2 0 (σ 6 x1)) x1 x2 0)))
  else none) := Lm.eqn (hp_get_l ..) (.ite (.xis (.xwr (hp_get_b12_l ..))) .cst) fun n => (rfl)
theorem hp_get_b12_e (σ : gM) (x1 x2 x3 : Int) : hp_get_b12 σ x1 x2 x3 =
  (if x3 < 4 then
  (gis 119 x2 12 (if 0 ≤ w32 ((w32 (4 * x1)) + x3) ∧ w32 ((w32 (4 * x1)) + x3) < 132000 then
    (gis 119 (gR x2 1) 4 (gwr 24227587787227680242996183141042265400644274563352017343858361682490010613500890323204207710303182943436953965533314456975336030601216 (gR x2 1) 0 (if 0 ≤ x3 ∧ x3 < gN (gR x2 1) then
      (hp_get_b12 (gW σ (gR x2 1) x3 (σ 7 (w32 ((w32 (4 * x1)) + x3)))) x1 x2 (w32 (x3 + 1)))
      else none)))
    else none))
  else
  (some (σ, 0))) := Lm.eqn (hp_get_b12_l ..) (.ite (.xis (.ite (.xis (.xwr (.ite (hp_get_b12_l ..) .cst))) .cst)) .cst) fun n => (rfl)
def k_hp_isSame : List gC := [(0, 1, .iload_n 1, [], none), (1, 1, .iload_n 2, [], none), (2, 3, .if_icmp .eq 27, [(0, 29)], none), (5, 1, .aload_n 0, [], none),
  (6, 1, .iload_n 1, [], none), (7, 1, .aload_n 0, [], none), (8, 3, .getfield 12, [], none), (11, 1, .aload_n 0, [], none),
  (12, 3, .getfield 17, [], none), (15, 1, .iload_n 2, [], none), (16, 1, .iaload, [], none), (17, 1, .aload_n 0, [], none),
  (18, 3, .getfield 21, [], none), (21, 1, .iload_n 2, [], none), (22, 1, .iaload, [], none), (23, 3, .invokevirtual 65, [], none),
  (26, 3, .ifCond .eq 7, [(0, 33)], none), (29, 1, .iconst 1, [], some [false, false, false]), (30, 3, .goto 4, [(0, 34)], none), (33, 1, .iconst 0, [], none),
  (34, 1, .ireturn, [], none)]
def e_hp_isSame (m : Nat) : gE := (k_hp_isSame, f_hp, c_hp, [(65, 5, 10, 0, .inl (fn_hp_is m))], [], (m, 0), 6)
theorem ok_hp_isSame : gchk cX2_isSame 3 k_hp_isSame = true := by decide +kernel
def fn_hp_isSame (m : Nat) : gFn := gF (e_hp_isSame m) 3
theorem mo_hp_isSame (m : Nat) : gMo (.inl (fn_hp_isSame m)) := gF_mo (E := e_hp_isSame m) ⟨mo_hp_is m, trivial⟩
noncomputable def hp_isSame (σ : gM) (x1 x2 : Int) : Option (gM × Int) := lim (fun n => fn_hp_isSame 119 n [(2, 0), (0, x1), (0, x2)] σ)
theorem hp_isSame_l (σ : gM) (x1 x2 : Int) : Lm (fun n => fn_hp_isSame 119 n [(2, 0), (0, x1), (0, x2)] σ) (hp_isSame σ x1 x2) := .of fun n => mo_hp_isSame 119 n [(2, 0), (0, x1), (0, x2)] σ
theorem mb_hp_isSame : gMos (e_hp_isSame 119).2.2.2.1 := ⟨mo_hp_is 119, trivial⟩
noncomputable def hp_isSame_b29 (σ : gM) : Option (gM × Int) := lim (fun n => gB (e_hp_isSame 119) rF tF n 29 [(9, 0), (9, 0), (9, 0)] [] σ)
theorem hp_isSame_b29_l (σ : gM) : Lm (fun n => gB (e_hp_isSame 119) rF tF n 29 [(9, 0), (9, 0), (9, 0)] [] σ) (hp_isSame_b29 σ) := .of fun n => gB_le (gMos_spec (mb_hp_isSame)) n _ _ _ σ
theorem hp_isSame_e (σ : gM) (x1 x2 : Int) : hp_isSame σ x1 x2 =
  (if x1 = x2 then
  (hp_isSame_b29 σ)
  else
  (if 0 ≤ x2 ∧ x2 < 108000 then
    (if 0 ≤ x2 ∧ x2 < 108000 then
      ((hp_is σ x1 1 (σ 2 x2) (σ 3 x2)).bind fun p1 =>
        if p1.2 = 0 then
        (some (p1.1, 0))
        else
        (hp_isSame_b29 p1.1))
      else none)
    else none)) := Lm.eqn (hp_isSame_l ..) (.ite (hp_isSame_b29_l ..) (.ite (.ite (.bind (hp_is_l ..) fun p1 => (.ite .cst (hp_isSame_b29_l ..))) .cst) .cst)) fun n => (rfl)
theorem hp_isSame_b29_e (σ : gM) : hp_isSame_b29 σ =
  (some (σ, 1)) := Lm.eqn (hp_isSame_b29_l ..) .cst fun n => (rfl)
def k_hp_lay : List gC := [(0, 1, .aload_n 0, [], none), (1, 1, .aload_n 0, [], none), (2, 3, .getfield 55, [], none), (5, 3, .putfield 82, [], none),
  (8, 1, .return_, [], none)]
def e_hp_lay (m : Nat) : gE := (k_hp_lay, f_hp, c_hp, [], [], (m, 1897137590064188545819787018382342682267975428761855001222473056385648716020711424), 5)
theorem ok_hp_lay : gchk cX2_lay 1 k_hp_lay = true := by decide +kernel
def fn_hp_lay (m : Nat) : gFn := gF (e_hp_lay m) 1
theorem mo_hp_lay (m : Nat) : gMo (.inl (fn_hp_lay m)) := gF_mo (E := e_hp_lay m) trivial
noncomputable def hp_lay (σ : gM) : Option (gM × Int) := lim (fun n => fn_hp_lay 119 n [(2, 0)] σ)
theorem hp_lay_l (σ : gM) : Lm (fun n => fn_hp_lay 119 n [(2, 0)] σ) (hp_lay σ) := .of fun n => mo_hp_lay 119 n [(2, 0)] σ
theorem hp_lay_e (σ : gM) : hp_lay σ =
  (some (gW σ 0 14 (σ 0 11), 0)) := Lm.eqn (hp_lay_l ..) .cst fun n => (rfl)
def k_hp_put : List gC := [(0, 1, .aload_n 0, [], none), (1, 3, .getfield 12, [], none), (4, 1, .aload_n 0, [], none), (5, 3, .getfield 82, [], none),
  (8, 1, .iload_n 1, [], none), (9, 1, .i2b, [], none), (10, 1, .bastore, [], none), (11, 1, .aload_n 0, [], none),
  (12, 1, .dup, [], none), (13, 3, .getfield 82, [], none), (16, 1, .iconst 1, [], none), (17, 1, .iadd, [], none),
  (18, 3, .putfield 82, [], none), (21, 1, .return_, [], none)]
def e_hp_put (m : Nat) : gE := (k_hp_put, f_hp, c_hp, [], [], (m, 1897137590064188545819787018382342682267975428761855001222473056385648716020711426), 5)
theorem ok_hp_put : gchk cX2_put 2 k_hp_put = true := by decide +kernel
def fn_hp_put (m : Nat) : gFn := gF (e_hp_put m) 2
theorem mo_hp_put (m : Nat) : gMo (.inl (fn_hp_put m)) := gF_mo (E := e_hp_put m) trivial
noncomputable def hp_put (σ : gM) (x1 : Int) : Option (gM × Int) := lim (fun n => fn_hp_put 119 n [(2, 0), (0, x1)] σ)
theorem hp_put_l (σ : gM) (x1 : Int) : Lm (fun n => fn_hp_put 119 n [(2, 0), (0, x1)] σ) (hp_put σ x1) := .of fun n => mo_hp_put 119 n [(2, 0), (0, x1)] σ
theorem hp_put_e (σ : gM) (x1 : Int) : hp_put σ x1 =
  (if 0 ≤ σ 0 14 ∧ σ 0 14 < 124600 then
  (some (gW (gW σ 1 (σ 0 14) (w8 (w8 x1))) 0 14 (w32 ((σ 0 14) + 1)), 0))
  else none) := Lm.eqn (hp_put_l ..) (.ite .cst .cst) fun n => (rfl)
def k_hp_laidLetters : List gC := [(0, 1, .aload_n 0, [], none), (1, 3, .getfield 82, [], none), (4, 1, .aload_n 0, [], none), (5, 3, .getfield 55, [], none),
  (8, 1, .isub, [], none), (9, 1, .ireturn, [], none)]
def e_hp_laidLetters (m : Nat) : gE := (k_hp_laidLetters, f_hp, c_hp, [], [], (m, 0), 0)
theorem ok_hp_laidLetters : gchk cX2_laidLetters 1 k_hp_laidLetters = true := by decide +kernel
def fn_hp_laidLetters (m : Nat) : gFn := gF (e_hp_laidLetters m) 1
theorem mo_hp_laidLetters (m : Nat) : gMo (.inl (fn_hp_laidLetters m)) := gF_mo (E := e_hp_laidLetters m) trivial
noncomputable def hp_laidLetters (σ : gM) : Option (gM × Int) := lim (fun n => fn_hp_laidLetters 119 n [(2, 0)] σ)
theorem hp_laidLetters_l (σ : gM) : Lm (fun n => fn_hp_laidLetters 119 n [(2, 0)] σ) (hp_laidLetters σ) := .of fun n => mo_hp_laidLetters 119 n [(2, 0)] σ
theorem hp_laidLetters_e (σ : gM) : hp_laidLetters σ =
  (some (σ, w32 ((σ 0 14) - (σ 0 11)))) := Lm.eqn (hp_laidLetters_l ..) .cst fun n => (rfl)
def k_hp_makes : List gC := [(0, 1, .aload_n 0, [], none), (1, 3, .getfield 61, [], none), (4, 1, .iload_n 1, [], none), (5, 1, .iadd, [], none),
  (6, 2, .ldc 64, [], none), (8, 3, .if_icmp .le 5, [(0, 13)], none), (11, 1, .iconst 0, [], none), (12, 1, .ireturn, [], none),
  (13, 1, .aload_n 0, [], none), (14, 1, .dup, [], none), (15, 3, .getfield 61, [], none), (18, 1, .iload_n 1, [], none),
  (19, 1, .iadd, [], none), (20, 3, .putfield 61, [], none), (23, 1, .iconst 1, [], none), (24, 1, .ireturn, [], none)]
def e_hp_makes (m : Nat) : gE := (k_hp_makes, f_hp, c_hp, [], [], (m, 948568795032094272909893509191171341133987714380927500611236528192824358010355712), 6)
theorem ok_hp_makes : gchk cX2_makes 2 k_hp_makes = true := by decide +kernel
def fn_hp_makes (m : Nat) : gFn := gF (e_hp_makes m) 2
theorem mo_hp_makes (m : Nat) : gMo (.inl (fn_hp_makes m)) := gF_mo (E := e_hp_makes m) trivial
noncomputable def hp_makes (σ : gM) (x1 : Int) : Option (gM × Int) := lim (fun n => fn_hp_makes 119 n [(2, 0), (0, x1)] σ)
theorem hp_makes_l (σ : gM) (x1 : Int) : Lm (fun n => fn_hp_makes 119 n [(2, 0), (0, x1)] σ) (hp_makes σ x1) := .of fun n => mo_hp_makes 119 n [(2, 0), (0, x1)] σ
theorem hp_makes_e (σ : gM) (x1 : Int) : hp_makes σ x1 =
  (if 100000 < w32 ((σ 0 13) + x1) then
  (some (σ, 0))
  else
  (some (gW σ 0 13 (w32 ((σ 0 13) + x1)), 1))) := Lm.eqn (hp_makes_l ..) (.ite .cst .cst) fun n => (rfl)
def k_hp_laidString : List gC := [(0, 1, .aload_n 0, [], none), (1, 3, .getfield 17, [], none), (4, 1, .aload_n 0, [], none), (5, 3, .getfield 52, [], none),
  (8, 1, .aload_n 0, [], none), (9, 3, .getfield 55, [], none), (12, 1, .iastore, [], none), (13, 1, .aload_n 0, [], none),
  (14, 3, .getfield 21, [], none), (17, 1, .aload_n 0, [], none), (18, 3, .getfield 52, [], none), (21, 1, .aload_n 0, [], none),
  (22, 3, .getfield 82, [], none), (25, 1, .aload_n 0, [], none), (26, 3, .getfield 55, [], none), (29, 1, .isub, [], none),
  (30, 1, .iastore, [], none), (31, 1, .aload_n 0, [], none), (32, 3, .getfield 24, [], none), (35, 1, .aload_n 0, [], none),
  (36, 3, .getfield 52, [], none), (39, 1, .iconst (-1), [], none), (40, 1, .iastore, [], none), (41, 1, .aload_n 0, [], none),
  (42, 3, .getfield 27, [], none), (45, 1, .aload_n 0, [], none), (46, 3, .getfield 52, [], none), (49, 1, .iconst 0, [], none),
  (50, 1, .iastore, [], none), (51, 1, .aload_n 0, [], none), (52, 1, .aload_n 0, [], none), (53, 3, .getfield 82, [], none),
  (56, 3, .putfield 55, [], none), (59, 1, .aload_n 0, [], none), (60, 1, .dup, [], none), (61, 3, .getfield 52, [], none),
  (64, 1, .iconst 1, [], none), (65, 1, .iadd, [], none), (66, 3, .putfield 52, [], none), (69, 1, .aload_n 0, [], none),
  (70, 3, .getfield 52, [], none), (73, 1, .iconst 1, [], none), (74, 1, .isub, [], none), (75, 1, .ireturn, [], none)]
def e_hp_laidString (m : Nat) : gE := (k_hp_laidString, f_hp, c_hp, [], [], (m, 355713298137035352341210065946689252925245392892847812729213698072309134253883452), 0)
theorem ok_hp_laidString : gchk cX2_laidString 1 k_hp_laidString = true := by decide +kernel
def fn_hp_laidString (m : Nat) : gFn := gF (e_hp_laidString m) 1
theorem mo_hp_laidString (m : Nat) : gMo (.inl (fn_hp_laidString m)) := gF_mo (E := e_hp_laidString m) trivial
noncomputable def hp_laidString (σ : gM) : Option (gM × Int) := lim (fun n => fn_hp_laidString 119 n [(2, 0)] σ)
theorem hp_laidString_l (σ : gM) : Lm (fun n => fn_hp_laidString 119 n [(2, 0)] σ) (hp_laidString σ) := .of fun n => mo_hp_laidString 119 n [(2, 0)] σ
theorem hp_laidString_e (σ : gM) : hp_laidString σ =
  (if 0 ≤ σ 0 10 ∧ σ 0 10 < 108000 then
  (if 0 ≤ σ 0 10 ∧ σ 0 10 < 108000 then
    (if 0 ≤ σ 0 10 ∧ σ 0 10 < 108000 then
      (if 0 ≤ σ 0 10 ∧ σ 0 10 < 108000 then
        (some (gW (gW (gW (gW (gW (gW σ 2 (σ 0 10) (σ 0 11)) 3 (σ 0 10) (w32 ((σ 0 14) - (σ 0 11)))) 4 (σ 0 10) (-1)) 5 (σ 0 10) 0) 0 11 (σ 0 14)) 0 10 (w32 ((σ 0 10) + 1)), w32 ((w32 ((σ 0 10) + 1)) - 1)))
        else none)
      else none)
    else none)
  else none) := Lm.eqn (hp_laidString_l ..) (.ite (.ite (.ite (.ite .cst .cst) .cst) .cst) .cst) fun n => (rfl)
def f_tk : List (Nat × Nat × Int × Nat) := [(9, 16, 0, 3), (15, 16, 1, 0), (19, 16, 2, 0), (22, 16, 3, 0), (25, 16, 8, 0), (31, 16, 9, 0), (41, 16, 5, 0), (44, 16, 6, 0), (47, 16, 7, 0), (50, 16, 4, 0)]
def c_tk : List (Nat × gV) := [(75, 3, 21), (86, 3, 13)]
def k_tk_byteAt : List gC := [(0, 1, .iload_n 1, [], none), (1, 1, .aload_n 0, [], none), (2, 3, .getfield 19, [], none), (5, 3, .if_icmp .ge 21, [(0, 26)], none),
  (8, 1, .aload_n 0, [], none), (9, 3, .getfield 9, [], none), (12, 1, .aload_n 0, [], none), (13, 3, .getfield 15, [], none),
  (16, 1, .iload_n 1, [], none), (17, 1, .iadd, [], none), (18, 1, .baload, [], none), (19, 3, .sipush 255, [], none),
  (22, 1, .iand, [], none), (23, 3, .goto 4, [(0, 27)], none), (26, 1, .iconst 0, [], none), (27, 1, .ireturn, [], none)]
def e_tk_byteAt (m : Nat) : gE := (k_tk_byteAt, f_tk, c_tk, [], [], (m, 0), 0)
theorem ok_tk_byteAt : gchk cX8_byteAt 2 k_tk_byteAt = true := by decide +kernel
def fn_tk_byteAt (m : Nat) : gFn := gF (e_tk_byteAt m) 2
theorem mo_tk_byteAt (m : Nat) : gMo (.inl (fn_tk_byteAt m)) := gF_mo (E := e_tk_byteAt m) trivial
noncomputable def tk_byteAt (σ : gM) (x1 : Int) : Option (gM × Int) := lim (fun n => fn_tk_byteAt 119 n [(2, 69), (0, x1)] σ)
theorem tk_byteAt_l (σ : gM) (x1 : Int) : Lm (fun n => fn_tk_byteAt 119 n [(2, 69), (0, x1)] σ) (tk_byteAt σ x1) := .of fun n => mo_tk_byteAt 119 n [(2, 69), (0, x1)] σ
theorem tk_byteAt_e (σ : gM) (x1 : Int) : tk_byteAt σ x1 =
  (if x1 < σ 69 2 then
  (if 0 ≤ σ 69 0 then
    (gisb 119 (σ 69 0) (if 0 ≤ w32 ((σ 69 1) + x1) ∧ w32 ((σ 69 1) + x1) < gN (σ 69 0) then
      (some (σ, i_and (σ (σ 69 0) (w32 ((σ 69 1) + x1))) 255))
      else none))
    else none)
  else
  (some (σ, 0))) := Lm.eqn (tk_byteAt_l ..) (.ite (.ite (.xisb (.ite .cst .cst)) .cst) .cst) fun n => (rfl)
def k_tk_skip : List gC := [(0, 1, .iconst 1, [], none), (1, 1, .istore_n 1, [], none), (2, 1, .iload_n 1, [], some [true, true, false]), (3, 3, .ifCond .eq 121, [(0, 124)], none),
  (6, 1, .aload_n 0, [], none), (7, 1, .aload_n 0, [], none), (8, 3, .getfield 22, [], none), (11, 3, .invokevirtual 34, [], none),
  (14, 1, .istore_n 2, [], none), (15, 1, .aload_n 0, [], none), (16, 3, .getfield 22, [], none), (19, 1, .aload_n 0, [], none),
  (20, 3, .getfield 19, [], none), (23, 3, .if_icmp .ge 19, [(0, 42)], none), (26, 1, .iload_n 2, [], none), (27, 2, .bipush 10, [], none),
  (29, 3, .if_icmp .eq 9, [(0, 38)], none), (32, 1, .iload_n 2, [], none), (33, 2, .bipush 32, [], none), (35, 3, .if_icmp .ne 7, [(0, 42)], none),
  (38, 1, .iconst 1, [], some [true, false, true]), (39, 3, .goto 4, [(0, 43)], none), (42, 1, .iconst 0, [], some [true, false, true]), (43, 1, .istore_n 1, [], some [true, false, true]),
  (44, 1, .iload_n 1, [], none), (45, 3, .ifCond .eq 16, [(0, 61)], none), (48, 1, .aload_n 0, [], none), (49, 1, .dup, [], none),
  (50, 3, .getfield 22, [], none), (53, 1, .iconst 1, [], none), (54, 1, .iadd, [], none), (55, 3, .putfield 22, [], none),
  (58, 3, .goto 63, [(0, 121)], none), (61, 1, .iload_n 2, [], none), (62, 2, .bipush 47, [], none), (64, 3, .if_icmp .ne 57, [(0, 121)], none),
  (67, 1, .aload_n 0, [], none), (68, 1, .aload_n 0, [], none), (69, 3, .getfield 22, [], none), (72, 1, .iconst 1, [], none),
  (73, 1, .iadd, [], none), (74, 3, .invokevirtual 34, [], none), (77, 2, .bipush 47, [], none), (79, 3, .if_icmp .ne 42, [(0, 121)], none),
  (82, 1, .iconst 1, [], none), (83, 1, .istore_n 1, [], none), (84, 1, .aload_n 0, [], some [true, true, false]), (85, 3, .getfield 22, [], none),
  (88, 1, .aload_n 0, [], none), (89, 3, .getfield 19, [], none), (92, 3, .if_icmp .ge 29, [(0, 121)], none), (95, 1, .aload_n 0, [], none),
  (96, 1, .aload_n 0, [], none), (97, 3, .getfield 22, [], none), (100, 3, .invokevirtual 34, [], none), (103, 2, .bipush 10, [], none),
  (105, 3, .if_icmp .eq 16, [(0, 121)], none), (108, 1, .aload_n 0, [], none), (109, 1, .dup, [], none), (110, 3, .getfield 22, [], none),
  (113, 1, .iconst 1, [], none), (114, 1, .iadd, [], none), (115, 3, .putfield 22, [], none), (118, 3, .goto (-34), [(0, 84)], none),
  (121, 3, .goto (-119), [(0, 2)], some [true, true, false]), (124, 1, .return_, [], none)]
def e_tk_skip (m : Nat) : gE := (k_tk_skip, f_tk, c_tk, [(34, 2, 16, 0, .inl (fn_tk_byteAt m))], [], (m, 153914086704665934422965000391185991426092731525255651046673021110334850669910978950836977558144201721900890587136), 5)
theorem ok_tk_skip : gchk cX8_skip 3 k_tk_skip = true := by decide +kernel
def fn_tk_skip (m : Nat) : gFn := gF (e_tk_skip m) 3
theorem mo_tk_skip (m : Nat) : gMo (.inl (fn_tk_skip m)) := gF_mo (E := e_tk_skip m) ⟨mo_tk_byteAt m, trivial⟩
noncomputable def tk_skip (σ : gM) : Option (gM × Int) := lim (fun n => fn_tk_skip 119 n [(2, 69)] σ)
theorem tk_skip_l (σ : gM) : Lm (fun n => fn_tk_skip 119 n [(2, 69)] σ) (tk_skip σ) := .of fun n => mo_tk_skip 119 n [(2, 69)] σ
theorem mb_tk_skip : gMos (e_tk_skip 119).2.2.2.1 := ⟨mo_tk_byteAt 119, trivial⟩
noncomputable def tk_skip_b2 (σ : gM) (x1 : Int) : Option (gM × Int) := lim (fun n => gB (e_tk_skip 119) rF tF n 2 [(2, 69), (0, x1), (9, 0)] [] σ)
theorem tk_skip_b2_l (σ : gM) (x1 : Int) : Lm (fun n => gB (e_tk_skip 119) rF tF n 2 [(2, 69), (0, x1), (9, 0)] [] σ) (tk_skip_b2 σ x1) := .of fun n => gB_le (gMos_spec (mb_tk_skip)) n _ _ _ σ
noncomputable def tk_skip_b38 (σ : gM) (x2 : Int) : Option (gM × Int) := lim (fun n => gB (e_tk_skip 119) rF tF n 38 [(2, 69), (9, 0), (0, x2)] [] σ)
theorem tk_skip_b38_l (σ : gM) (x2 : Int) : Lm (fun n => gB (e_tk_skip 119) rF tF n 38 [(2, 69), (9, 0), (0, x2)] [] σ) (tk_skip_b38 σ x2) := .of fun n => gB_le (gMos_spec (mb_tk_skip)) n _ _ _ σ
noncomputable def tk_skip_b42 (σ : gM) (x2 : Int) : Option (gM × Int) := lim (fun n => gB (e_tk_skip 119) rF tF n 42 [(2, 69), (9, 0), (0, x2)] [] σ)
theorem tk_skip_b42_l (σ : gM) (x2 : Int) : Lm (fun n => gB (e_tk_skip 119) rF tF n 42 [(2, 69), (9, 0), (0, x2)] [] σ) (tk_skip_b42 σ x2) := .of fun n => gB_le (gMos_spec (mb_tk_skip)) n _ _ _ σ
noncomputable def tk_skip_b43 (σ : gM) (x2 y0 : Int) : Option (gM × Int) := lim (fun n => gB (e_tk_skip 119) rF tF n 43 [(2, 69), (9, 0), (0, x2)] [(0, y0)] σ)
theorem tk_skip_b43_l (σ : gM) (x2 y0 : Int) : Lm (fun n => gB (e_tk_skip 119) rF tF n 43 [(2, 69), (9, 0), (0, x2)] [(0, y0)] σ) (tk_skip_b43 σ x2 y0) := .of fun n => gB_le (gMos_spec (mb_tk_skip)) n _ _ _ σ
noncomputable def tk_skip_b84 (σ : gM) (x1 : Int) : Option (gM × Int) := lim (fun n => gB (e_tk_skip 119) rF tF n 84 [(2, 69), (0, x1), (9, 0)] [] σ)
theorem tk_skip_b84_l (σ : gM) (x1 : Int) : Lm (fun n => gB (e_tk_skip 119) rF tF n 84 [(2, 69), (0, x1), (9, 0)] [] σ) (tk_skip_b84 σ x1) := .of fun n => gB_le (gMos_spec (mb_tk_skip)) n _ _ _ σ
noncomputable def tk_skip_b121 (σ : gM) (x1 : Int) : Option (gM × Int) := lim (fun n => gB (e_tk_skip 119) rF tF n 121 [(2, 69), (0, x1), (9, 0)] [] σ)
theorem tk_skip_b121_l (σ : gM) (x1 : Int) : Lm (fun n => gB (e_tk_skip 119) rF tF n 121 [(2, 69), (0, x1), (9, 0)] [] σ) (tk_skip_b121 σ x1) := .of fun n => gB_le (gMos_spec (mb_tk_skip)) n _ _ _ σ
theorem tk_skip_e (σ : gM) : tk_skip σ =
  (tk_skip_b2 σ 1) := Lm.eqn (tk_skip_l ..) (tk_skip_b2_l ..) fun n => (rfl)
theorem tk_skip_b2_e (σ : gM) (x1 : Int) : tk_skip_b2 σ x1 =
  (if x1 = 0 then
  (some (σ, 0))
  else
  ((tk_byteAt σ (σ 69 3)).bind fun p1 =>
    if p1.1 69 3 < p1.1 69 2 then
    (if p1.2 = 10 then
      (tk_skip_b38 p1.1 p1.2)
      else
      (if p1.2 = 32 then
        (tk_skip_b38 p1.1 p1.2)
        else
        (tk_skip_b42 p1.1 p1.2)))
    else
    (tk_skip_b42 p1.1 p1.2))) := Lm.eqn (tk_skip_b2_l ..) (.ite .cst (.bind (tk_byteAt_l ..) fun p1 => (.ite (.ite (tk_skip_b38_l ..) (.ite (tk_skip_b38_l ..) (tk_skip_b42_l ..))) (tk_skip_b42_l ..)))) fun n => (rfl)
theorem tk_skip_b38_e (σ : gM) (x2 : Int) : tk_skip_b38 σ x2 =
  (tk_skip_b43 σ x2 1) := Lm.eqn (tk_skip_b38_l ..) (tk_skip_b43_l ..) fun n => (rfl)
theorem tk_skip_b42_e (σ : gM) (x2 : Int) : tk_skip_b42 σ x2 =
  (tk_skip_b43 σ x2 0) := Lm.eqn (tk_skip_b42_l ..) (tk_skip_b43_l ..) fun n => (rfl)
theorem tk_skip_b43_e (σ : gM) (x2 y0 : Int) : tk_skip_b43 σ x2 y0 =
  (if y0 = 0 then
  (if x2 = 47 then
    ((tk_byteAt σ (w32 ((σ 69 3) + 1))).bind fun p1 =>
      if p1.2 = 47 then
      (tk_skip_b84 p1.1 1)
      else
      (tk_skip_b121 p1.1 y0))
    else
    (tk_skip_b121 σ y0))
  else
  (tk_skip_b121 (gW σ 69 3 (w32 ((σ 69 3) + 1))) y0)) := Lm.eqn (tk_skip_b43_l ..) (.ite (.ite (.bind (tk_byteAt_l ..) fun p1 => (.ite (tk_skip_b84_l ..) (tk_skip_b121_l ..))) (tk_skip_b121_l ..)) (tk_skip_b121_l ..)) fun n => (rfl)
theorem tk_skip_b84_e (σ : gM) (x1 : Int) : tk_skip_b84 σ x1 =
  (if σ 69 3 < σ 69 2 then
  ((tk_byteAt σ (σ 69 3)).bind fun p1 =>
    if p1.2 = 10 then
    (tk_skip_b121 p1.1 x1)
    else
    (tk_skip_b84 (gW p1.1 69 3 (w32 ((p1.1 69 3) + 1))) x1))
  else
  (tk_skip_b121 σ x1)) := Lm.eqn (tk_skip_b84_l ..) (.ite (.bind (tk_byteAt_l ..) fun p1 => (.ite (tk_skip_b121_l ..) (tk_skip_b84_l ..))) (tk_skip_b121_l ..)) fun n => (rfl)
theorem tk_skip_b121_e (σ : gM) (x1 : Int) : tk_skip_b121 σ x1 =
  (tk_skip_b2 σ x1) := Lm.eqn (tk_skip_b121_l ..) (tk_skip_b2_l ..) fun n => (rfl)
def k_tk_isLetter : List gC := [(0, 1, .iload_n 0, [], none), (1, 2, .bipush 97, [], none), (3, 3, .if_icmp .lt 9, [(0, 12)], none), (6, 1, .iload_n 0, [], none),
  (7, 2, .bipush 122, [], none), (9, 3, .if_icmp .le 15, [(0, 24)], none), (12, 1, .iload_n 0, [], some [true]), (13, 2, .bipush 65, [], none),
  (15, 3, .if_icmp .lt 13, [(0, 28)], none), (18, 1, .iload_n 0, [], none), (19, 2, .bipush 90, [], none), (21, 3, .if_icmp .gt 7, [(0, 28)], none),
  (24, 1, .iconst 1, [], some [false]), (25, 3, .goto 4, [(0, 29)], none), (28, 1, .iconst 0, [], none), (29, 1, .ireturn, [], none)]
def e_tk_isLetter (m : Nat) : gE := (k_tk_isLetter, f_tk, c_tk, [], [], (m, 0), 6)
theorem ok_tk_isLetter : gchk cX8_isLetter 1 k_tk_isLetter = true := by decide +kernel
def fn_tk_isLetter (m : Nat) : gFn := gF (e_tk_isLetter m) 1
theorem mo_tk_isLetter (m : Nat) : gMo (.inl (fn_tk_isLetter m)) := gF_mo (E := e_tk_isLetter m) trivial
noncomputable def tk_isLetter (σ : gM) (x0 : Int) : Option (gM × Int) := lim (fun n => fn_tk_isLetter 119 n [(0, x0)] σ)
theorem tk_isLetter_l (σ : gM) (x0 : Int) : Lm (fun n => fn_tk_isLetter 119 n [(0, x0)] σ) (tk_isLetter σ x0) := .of fun n => mo_tk_isLetter 119 n [(0, x0)] σ
theorem mb_tk_isLetter : gMos (e_tk_isLetter 119).2.2.2.1 := trivial
noncomputable def tk_isLetter_b12 (σ : gM) (x0 : Int) : Option (gM × Int) := lim (fun n => gB (e_tk_isLetter 119) rF tF n 12 [(0, x0)] [] σ)
theorem tk_isLetter_b12_l (σ : gM) (x0 : Int) : Lm (fun n => gB (e_tk_isLetter 119) rF tF n 12 [(0, x0)] [] σ) (tk_isLetter_b12 σ x0) := .of fun n => gB_le (gMos_spec (mb_tk_isLetter)) n _ _ _ σ
noncomputable def tk_isLetter_b24 (σ : gM) : Option (gM × Int) := lim (fun n => gB (e_tk_isLetter 119) rF tF n 24 [(9, 0)] [] σ)
theorem tk_isLetter_b24_l (σ : gM) : Lm (fun n => gB (e_tk_isLetter 119) rF tF n 24 [(9, 0)] [] σ) (tk_isLetter_b24 σ) := .of fun n => gB_le (gMos_spec (mb_tk_isLetter)) n _ _ _ σ
theorem tk_isLetter_e (σ : gM) (x0 : Int) : tk_isLetter σ x0 =
  (if x0 < 97 then
  (tk_isLetter_b12 σ x0)
  else
  (if 122 < x0 then
    (tk_isLetter_b12 σ x0)
    else
    (tk_isLetter_b24 σ))) := Lm.eqn (tk_isLetter_l ..) (.ite (tk_isLetter_b12_l ..) (.ite (tk_isLetter_b12_l ..) (tk_isLetter_b24_l ..))) fun n => (rfl)
theorem tk_isLetter_b12_e (σ : gM) (x0 : Int) : tk_isLetter_b12 σ x0 =
  (if x0 < 65 then
  (some (σ, 0))
  else
  (if 90 < x0 then
    (some (σ, 0))
    else
    (tk_isLetter_b24 σ))) := Lm.eqn (tk_isLetter_b12_l ..) (.ite .cst (.ite .cst (tk_isLetter_b24_l ..))) fun n => (rfl)
theorem tk_isLetter_b24_e (σ : gM) : tk_isLetter_b24 σ =
  (some (σ, 1)) := Lm.eqn (tk_isLetter_b24_l ..) .cst fun n => (rfl)
def k_tk_isDigit : List gC := [(0, 1, .iload_n 0, [], none), (1, 2, .bipush 48, [], none), (3, 3, .if_icmp .lt 13, [(0, 16)], none), (6, 1, .iload_n 0, [], none),
  (7, 2, .bipush 57, [], none), (9, 3, .if_icmp .gt 7, [(0, 16)], none), (12, 1, .iconst 1, [], none), (13, 3, .goto 4, [(0, 17)], none),
  (16, 1, .iconst 0, [], none), (17, 1, .ireturn, [], none)]
def e_tk_isDigit (m : Nat) : gE := (k_tk_isDigit, f_tk, c_tk, [], [], (m, 0), 6)
theorem ok_tk_isDigit : gchk cX8_isDigit 1 k_tk_isDigit = true := by decide +kernel
def fn_tk_isDigit (m : Nat) : gFn := gF (e_tk_isDigit m) 1
theorem mo_tk_isDigit (m : Nat) : gMo (.inl (fn_tk_isDigit m)) := gF_mo (E := e_tk_isDigit m) trivial
noncomputable def tk_isDigit (σ : gM) (x0 : Int) : Option (gM × Int) := lim (fun n => fn_tk_isDigit 119 n [(0, x0)] σ)
theorem tk_isDigit_l (σ : gM) (x0 : Int) : Lm (fun n => fn_tk_isDigit 119 n [(0, x0)] σ) (tk_isDigit σ x0) := .of fun n => mo_tk_isDigit 119 n [(0, x0)] σ
theorem tk_isDigit_e (σ : gM) (x0 : Int) : tk_isDigit σ x0 =
  (if x0 < 48 then
  (some (σ, 0))
  else
  (if 57 < x0 then
    (some (σ, 0))
    else
    (some (σ, 1)))) := Lm.eqn (tk_isDigit_l ..) (.ite .cst (.ite .cst .cst)) fun n => (rfl)
def k_tk_word : List gC := [(0, 1, .iconst 0, [], none), (1, 1, .istore_n 1, [], none), (2, 1, .iload_n 1, [], some [true, true, false, false, false]), (3, 2, .ldc 86, [], none),
  (5, 3, .invokevirtual 88, [], none), (8, 3, .if_icmp .ge 92, [(0, 100)], none), (11, 2, .ldc 86, [], none), (13, 2, .bipush 32, [], none),
  (15, 1, .iload_n 1, [], none), (16, 3, .invokevirtual 90, [], none), (19, 1, .istore_n 2, [], none), (20, 1, .iload_n 2, [], none),
  (21, 1, .iload_n 1, [], none), (22, 1, .isub, [], none), (23, 1, .aload_n 0, [], none), (24, 3, .getfield 44, [], none),
  (27, 3, .if_icmp .ne 7, [(0, 34)], none), (30, 1, .iconst 1, [], none), (31, 3, .goto 4, [(0, 35)], none), (34, 1, .iconst 0, [], none),
  (35, 1, .istore_n 3, [], some [true, true, true, false, false]), (36, 1, .iconst 0, [], none), (37, 2, .istore 4, [], none), (39, 2, .iload 4, [], some [true, true, true, true, true]),
  (41, 1, .aload_n 0, [], none), (42, 3, .getfield 44, [], none), (45, 3, .if_icmp .ge 42, [(0, 87)], none), (48, 1, .iload_n 3, [], none),
  (49, 3, .ifCond .eq 38, [(0, 87)], none), (52, 2, .ldc 86, [], none), (54, 1, .iload_n 1, [], none), (55, 2, .iload 4, [], none),
  (57, 1, .iadd, [], none), (58, 3, .invokevirtual 93, [], none), (61, 1, .aload_n 0, [], none), (62, 1, .aload_n 0, [], none),
  (63, 3, .getfield 41, [], none), (66, 2, .iload 4, [], none), (68, 1, .iadd, [], none), (69, 3, .invokevirtual 34, [], none),
  (72, 3, .if_icmp .ne 7, [(0, 79)], none), (75, 1, .iconst 1, [], none), (76, 3, .goto 4, [(0, 80)], none), (79, 1, .iconst 0, [], none),
  (80, 1, .istore_n 3, [], some [true, true, true, false, true]), (81, 3, .iinc 4 1, [], none), (84, 3, .goto (-45), [(0, 39)], none), (87, 1, .iload_n 3, [], some [true, true, true, true, false]),
  (88, 3, .ifCond .eq 5, [(0, 93)], none), (91, 1, .iload_n 1, [], none), (92, 1, .ireturn, [], none), (93, 1, .iload_n 2, [], none),
  (94, 1, .iconst 1, [], none), (95, 1, .iadd, [], none), (96, 1, .istore_n 1, [], none), (97, 3, .goto (-95), [(0, 2)], none),
  (100, 1, .iconst (-1), [], none), (101, 1, .ireturn, [], none)]
def e_tk_word (m : Nat) : gE := (k_tk_word, f_tk, c_tk, [(88, 1, 100, 0, .inl (fn_st_length 0)), (90, 3, 100, 0, .inl (fn_st_indexOf 0)), (93, 2, 100, 0, .inl (fn_st_charAt 0)), (34, 2, 16, 0, .inl (fn_tk_byteAt m))], [], (m, 0), 0)
theorem ok_tk_word : gchk cX8_word 5 k_tk_word = true := by decide +kernel
def fn_tk_word (m : Nat) : gFn := gF (e_tk_word m) 5
theorem mo_tk_word (m : Nat) : gMo (.inl (fn_tk_word m)) := gF_mo (E := e_tk_word m) ⟨mo_st_length 0, ⟨mo_st_indexOf 0, ⟨mo_st_charAt 0, ⟨mo_tk_byteAt m, trivial⟩⟩⟩⟩
noncomputable def tk_word (σ : gM) : Option (gM × Int) := lim (fun n => fn_tk_word 119 n [(2, 69)] σ)
theorem tk_word_l (σ : gM) : Lm (fun n => fn_tk_word 119 n [(2, 69)] σ) (tk_word σ) := .of fun n => mo_tk_word 119 n [(2, 69)] σ
theorem mb_tk_word : gMos (e_tk_word 119).2.2.2.1 := ⟨mo_st_length 0, ⟨mo_st_indexOf 0, ⟨mo_st_charAt 0, ⟨mo_tk_byteAt 119, trivial⟩⟩⟩⟩
noncomputable def tk_word_b2 (σ : gM) (x1 : Int) : Option (gM × Int) := lim (fun n => gB (e_tk_word 119) rF tF n 2 [(2, 69), (0, x1), (9, 0), (9, 0), (9, 0)] [] σ)
theorem tk_word_b2_l (σ : gM) (x1 : Int) : Lm (fun n => gB (e_tk_word 119) rF tF n 2 [(2, 69), (0, x1), (9, 0), (9, 0), (9, 0)] [] σ) (tk_word_b2 σ x1) := .of fun n => gB_le (gMos_spec (mb_tk_word)) n _ _ _ σ
noncomputable def tk_word_b35 (σ : gM) (x1 x2 y0 : Int) : Option (gM × Int) := lim (fun n => gB (e_tk_word 119) rF tF n 35 [(2, 69), (0, x1), (0, x2), (9, 0), (9, 0)] [(0, y0)] σ)
theorem tk_word_b35_l (σ : gM) (x1 x2 y0 : Int) : Lm (fun n => gB (e_tk_word 119) rF tF n 35 [(2, 69), (0, x1), (0, x2), (9, 0), (9, 0)] [(0, y0)] σ) (tk_word_b35 σ x1 x2 y0) := .of fun n => gB_le (gMos_spec (mb_tk_word)) n _ _ _ σ
noncomputable def tk_word_b39 (σ : gM) (x1 x2 x3 x4 : Int) : Option (gM × Int) := lim (fun n => gB (e_tk_word 119) rF tF n 39 [(2, 69), (0, x1), (0, x2), (0, x3), (0, x4)] [] σ)
theorem tk_word_b39_l (σ : gM) (x1 x2 x3 x4 : Int) : Lm (fun n => gB (e_tk_word 119) rF tF n 39 [(2, 69), (0, x1), (0, x2), (0, x3), (0, x4)] [] σ) (tk_word_b39 σ x1 x2 x3 x4) := .of fun n => gB_le (gMos_spec (mb_tk_word)) n _ _ _ σ
noncomputable def tk_word_b80 (σ : gM) (x1 x2 x4 y0 : Int) : Option (gM × Int) := lim (fun n => gB (e_tk_word 119) rF tF n 80 [(2, 69), (0, x1), (0, x2), (9, 0), (0, x4)] [(0, y0)] σ)
theorem tk_word_b80_l (σ : gM) (x1 x2 x4 y0 : Int) : Lm (fun n => gB (e_tk_word 119) rF tF n 80 [(2, 69), (0, x1), (0, x2), (9, 0), (0, x4)] [(0, y0)] σ) (tk_word_b80 σ x1 x2 x4 y0) := .of fun n => gB_le (gMos_spec (mb_tk_word)) n _ _ _ σ
noncomputable def tk_word_b87 (σ : gM) (x1 x2 x3 : Int) : Option (gM × Int) := lim (fun n => gB (e_tk_word 119) rF tF n 87 [(2, 69), (0, x1), (0, x2), (0, x3), (9, 0)] [] σ)
theorem tk_word_b87_l (σ : gM) (x1 x2 x3 : Int) : Lm (fun n => gB (e_tk_word 119) rF tF n 87 [(2, 69), (0, x1), (0, x2), (0, x3), (9, 0)] [] σ) (tk_word_b87 σ x1 x2 x3) := .of fun n => gB_le (gMos_spec (mb_tk_word)) n _ _ _ σ
theorem tk_word_e (σ : gM) : tk_word σ =
  (tk_word_b2 σ 0) := Lm.eqn (tk_word_l ..) (tk_word_b2_l ..) fun n => (rfl)
theorem tk_word_b2_e (σ : gM) (x1 : Int) : tk_word_b2 σ x1 =
  ((st_length σ 13).bind fun p1 =>
  if x1 < p1.2 then
  ((st_indexOf p1.1 13 32 x1).bind fun p2 =>
    if w32 (p2.2 - x1) = p2.1 69 6 then
    (tk_word_b35 p2.1 x1 p2.2 1)
    else
    (tk_word_b35 p2.1 x1 p2.2 0))
  else
  (some (p1.1, (-1)))) := Lm.eqn (tk_word_b2_l ..) (.bind (st_length_l ..) fun p1 => (.ite (.bind (st_indexOf_l ..) fun p2 => (.ite (tk_word_b35_l ..) (tk_word_b35_l ..))) .cst)) fun n => (rfl)
theorem tk_word_b35_e (σ : gM) (x1 x2 y0 : Int) : tk_word_b35 σ x1 x2 y0 =
  (tk_word_b39 σ x1 x2 y0 0) := Lm.eqn (tk_word_b35_l ..) (tk_word_b39_l ..) fun n => (rfl)
theorem tk_word_b39_e (σ : gM) (x1 x2 x3 x4 : Int) : tk_word_b39 σ x1 x2 x3 x4 =
  (if x4 < σ 69 6 then
  (if x3 = 0 then
    (tk_word_b87 σ x1 x2 x3)
    else
    ((st_charAt σ 13 (w32 (x1 + x4))).bind fun p1 =>
      (tk_byteAt p1.1 (w32 ((p1.1 69 5) + x4))).bind fun p2 =>
      if p1.2 = p2.2 then
      (tk_word_b80 p2.1 x1 x2 x4 1)
      else
      (tk_word_b80 p2.1 x1 x2 x4 0)))
  else
  (tk_word_b87 σ x1 x2 x3)) := Lm.eqn (tk_word_b39_l ..) (.ite (.ite (tk_word_b87_l ..) (.bind (st_charAt_l ..) fun p1 => (.bind (tk_byteAt_l ..) fun p2 => (.ite (tk_word_b80_l ..) (tk_word_b80_l ..))))) (tk_word_b87_l ..)) fun n => (rfl)
theorem tk_word_b80_e (σ : gM) (x1 x2 x4 y0 : Int) : tk_word_b80 σ x1 x2 x4 y0 =
  (tk_word_b39 σ x1 x2 y0 (w32 (x4 + 1))) := Lm.eqn (tk_word_b80_l ..) (tk_word_b39_l ..) fun n => (rfl)
theorem tk_word_b87_e (σ : gM) (x1 x2 x3 : Int) : tk_word_b87 σ x1 x2 x3 =
  (if x3 = 0 then
  (tk_word_b2 σ (w32 (x2 + 1)))
  else
  (some (σ, x1))) := Lm.eqn (tk_word_b87_l ..) (.ite (tk_word_b2_l ..) .cst) fun n => (rfl)
def k_tk_isWord : List gC := [(0, 1, .aload_n 0, [], none), (1, 3, .invokevirtual 82, [], none), (4, 3, .ifCond .lt 7, [(0, 11)], none), (7, 1, .iconst 1, [], none),
  (8, 3, .goto 4, [(0, 12)], none), (11, 1, .iconst 0, [], none), (12, 1, .ireturn, [], none)]
def e_tk_isWord (m : Nat) : gE := (k_tk_isWord, f_tk, c_tk, [(82, 1, 16, 0, .inl (fn_tk_word m))], [], (m, 0), 6)
theorem ok_tk_isWord : gchk cX8_isWord 1 k_tk_isWord = true := by decide +kernel
def fn_tk_isWord (m : Nat) : gFn := gF (e_tk_isWord m) 1
theorem mo_tk_isWord (m : Nat) : gMo (.inl (fn_tk_isWord m)) := gF_mo (E := e_tk_isWord m) ⟨mo_tk_word m, trivial⟩
noncomputable def tk_isWord (σ : gM) : Option (gM × Int) := lim (fun n => fn_tk_isWord 119 n [(2, 69)] σ)
theorem tk_isWord_l (σ : gM) : Lm (fun n => fn_tk_isWord 119 n [(2, 69)] σ) (tk_isWord σ) := .of fun n => mo_tk_isWord 119 n [(2, 69)] σ
theorem tk_isWord_e (σ : gM) : tk_isWord σ =
  ((tk_word σ).bind fun p1 =>
  if p1.2 < 0 then
  (some (p1.1, 0))
  else
  (some (p1.1, 1))) := Lm.eqn (tk_isWord_l ..) (.bind (tk_word_l ..) fun p1 => (.ite .cst .cst)) fun n => (rfl)
def k_tk_fails : List gC := [(0, 1, .aload_n 0, [], none), (1, 3, .getfield 25, [], none), (4, 3, .ifCond .ne 13, [(0, 17)], none), (7, 1, .aload_n 0, [], none),
  (8, 1, .iload_n 1, [], none), (9, 3, .putfield 25, [], none), (12, 1, .aload_n 0, [], none), (13, 1, .iload_n 2, [], none),
  (14, 3, .putfield 31, [], none), (17, 1, .iconst 0, [], none), (18, 1, .ireturn, [], none)]
def e_tk_fails (m : Nat) : gE := (k_tk_fails, f_tk, c_tk, [], [], (m, 14775752323647929704604640037553855176904902226424542500480610026592145664311453979280349845581843365302485496365056), 6)
theorem ok_tk_fails : gchk cX8_fails 3 k_tk_fails = true := by decide +kernel
def fn_tk_fails (m : Nat) : gFn := gF (e_tk_fails m) 3
theorem mo_tk_fails (m : Nat) : gMo (.inl (fn_tk_fails m)) := gF_mo (E := e_tk_fails m) trivial
noncomputable def tk_fails (σ : gM) (x1 x2 : Int) : Option (gM × Int) := lim (fun n => fn_tk_fails 119 n [(2, 69), (0, x1), (0, x2)] σ)
theorem tk_fails_l (σ : gM) (x1 x2 : Int) : Lm (fun n => fn_tk_fails 119 n [(2, 69), (0, x1), (0, x2)] σ) (tk_fails σ x1 x2) := .of fun n => mo_tk_fails 119 n [(2, 69), (0, x1), (0, x2)] σ
theorem tk_fails_e (σ : gM) (x1 x2 : Int) : tk_fails σ x1 x2 =
  (if σ 69 8 = 0 then
  (some (gW (gW σ 69 8 x1) 69 9 x2, 0))
  else
  (some (σ, 0))) := Lm.eqn (tk_fails_l ..) (.ite .cst .cst) fun n => (rfl)
def k_tk_string : List gC := [(0, 1, .aload_n 0, [], none), (1, 1, .iconst 3, [], none), (2, 3, .putfield 50, [], none), (5, 1, .aload_n 0, [], some [true, false]),
  (6, 3, .getfield 22, [], none), (9, 1, .aload_n 0, [], none), (10, 3, .getfield 44, [], none), (13, 1, .iadd, [], none),
  (14, 1, .aload_n 0, [], none), (15, 3, .getfield 19, [], none), (18, 3, .if_icmp .ge 94, [(0, 112)], none), (21, 1, .aload_n 0, [], none),
  (22, 1, .aload_n 0, [], none), (23, 3, .getfield 22, [], none), (26, 1, .aload_n 0, [], none), (27, 3, .getfield 44, [], none),
  (30, 1, .iadd, [], none), (31, 3, .invokevirtual 34, [], none), (34, 2, .bipush 34, [], none), (36, 3, .if_icmp .eq 76, [(0, 112)], none),
  (39, 1, .aload_n 0, [], none), (40, 3, .getfield 25, [], none), (43, 3, .ifCond .ne 69, [(0, 112)], none), (46, 1, .aload_n 0, [], none),
  (47, 1, .aload_n 0, [], none), (48, 3, .getfield 22, [], none), (51, 1, .aload_n 0, [], none), (52, 3, .getfield 44, [], none),
  (55, 1, .iadd, [], none), (56, 3, .invokevirtual 34, [], none), (59, 1, .istore_n 1, [], none), (60, 1, .iload_n 1, [], none),
  (61, 2, .bipush 32, [], none), (63, 3, .if_icmp .lt 18, [(0, 81)], none), (66, 1, .iload_n 1, [], none), (67, 2, .bipush 126, [], none),
  (69, 3, .if_icmp .gt 12, [(0, 81)], none), (72, 1, .aload_n 0, [], none), (73, 3, .getfield 44, [], none), (76, 2, .bipush 40, [], none),
  (78, 3, .if_icmp .le 21, [(0, 99)], none), (81, 1, .aload_n 0, [], some [true, false]), (82, 1, .iconst 1, [], none), (83, 1, .aload_n 0, [], none),
  (84, 3, .getfield 22, [], none), (87, 1, .aload_n 0, [], none), (88, 3, .getfield 44, [], none), (91, 1, .iadd, [], none),
  (92, 3, .invokevirtual 64, [], none), (95, 1, .pop, [], none), (96, 3, .goto 13, [(0, 109)], none), (99, 1, .aload_n 0, [], none),
  (100, 1, .dup, [], none), (101, 3, .getfield 44, [], none), (104, 1, .iconst 1, [], none), (105, 1, .iadd, [], none),
  (106, 3, .putfield 44, [], none), (109, 3, .goto (-104), [(0, 5)], some [true, false]), (112, 1, .aload_n 0, [], some [true, false]), (113, 3, .getfield 22, [], none),
  (116, 1, .aload_n 0, [], none), (117, 3, .getfield 44, [], none), (120, 1, .iadd, [], none), (121, 1, .aload_n 0, [], none),
  (122, 3, .getfield 19, [], none), (125, 3, .if_icmp .ne 13, [(0, 138)], none), (128, 1, .aload_n 0, [], none), (129, 1, .iconst 1, [], none),
  (130, 1, .aload_n 0, [], none), (131, 3, .getfield 19, [], none), (134, 3, .invokevirtual 64, [], none), (137, 1, .pop, [], none),
  (138, 1, .aload_n 0, [], some [true, false]), (139, 1, .dup, [], none), (140, 3, .getfield 44, [], none), (143, 1, .iconst 1, [], none),
  (144, 1, .iadd, [], none), (145, 3, .putfield 44, [], none), (148, 1, .return_, [], none)]
def e_tk_string (m : Nat) : gE := (k_tk_string, f_tk, c_tk, [(34, 2, 16, 0, .inl (fn_tk_byteAt m)), (64, 3, 16, 0, .inl (fn_tk_fails m))], [], (m, 16314893190694589048834290041465715091165829541677099010947340237695494171010563768788719621163285382521494402236416), 5)
theorem ok_tk_string : gchk cX8_string 2 k_tk_string = true := by decide +kernel
def fn_tk_string (m : Nat) : gFn := gF (e_tk_string m) 2
theorem mo_tk_string (m : Nat) : gMo (.inl (fn_tk_string m)) := gF_mo (E := e_tk_string m) ⟨mo_tk_byteAt m, ⟨mo_tk_fails m, trivial⟩⟩
noncomputable def tk_string (σ : gM) : Option (gM × Int) := lim (fun n => fn_tk_string 119 n [(2, 69)] σ)
theorem tk_string_l (σ : gM) : Lm (fun n => fn_tk_string 119 n [(2, 69)] σ) (tk_string σ) := .of fun n => mo_tk_string 119 n [(2, 69)] σ
theorem mb_tk_string : gMos (e_tk_string 119).2.2.2.1 := ⟨mo_tk_byteAt 119, ⟨mo_tk_fails 119, trivial⟩⟩
noncomputable def tk_string_b5 (σ : gM) : Option (gM × Int) := lim (fun n => gB (e_tk_string 119) rF tF n 5 [(2, 69), (9, 0)] [] σ)
theorem tk_string_b5_l (σ : gM) : Lm (fun n => gB (e_tk_string 119) rF tF n 5 [(2, 69), (9, 0)] [] σ) (tk_string_b5 σ) := .of fun n => gB_le (gMos_spec (mb_tk_string)) n _ _ _ σ
noncomputable def tk_string_b81 (σ : gM) : Option (gM × Int) := lim (fun n => gB (e_tk_string 119) rF tF n 81 [(2, 69), (9, 0)] [] σ)
theorem tk_string_b81_l (σ : gM) : Lm (fun n => gB (e_tk_string 119) rF tF n 81 [(2, 69), (9, 0)] [] σ) (tk_string_b81 σ) := .of fun n => gB_le (gMos_spec (mb_tk_string)) n _ _ _ σ
noncomputable def tk_string_b109 (σ : gM) : Option (gM × Int) := lim (fun n => gB (e_tk_string 119) rF tF n 109 [(2, 69), (9, 0)] [] σ)
theorem tk_string_b109_l (σ : gM) : Lm (fun n => gB (e_tk_string 119) rF tF n 109 [(2, 69), (9, 0)] [] σ) (tk_string_b109 σ) := .of fun n => gB_le (gMos_spec (mb_tk_string)) n _ _ _ σ
noncomputable def tk_string_b112 (σ : gM) : Option (gM × Int) := lim (fun n => gB (e_tk_string 119) rF tF n 112 [(2, 69), (9, 0)] [] σ)
theorem tk_string_b112_l (σ : gM) : Lm (fun n => gB (e_tk_string 119) rF tF n 112 [(2, 69), (9, 0)] [] σ) (tk_string_b112 σ) := .of fun n => gB_le (gMos_spec (mb_tk_string)) n _ _ _ σ
noncomputable def tk_string_b138 (σ : gM) : Option (gM × Int) := lim (fun n => gB (e_tk_string 119) rF tF n 138 [(2, 69), (9, 0)] [] σ)
theorem tk_string_b138_l (σ : gM) : Lm (fun n => gB (e_tk_string 119) rF tF n 138 [(2, 69), (9, 0)] [] σ) (tk_string_b138 σ) := .of fun n => gB_le (gMos_spec (mb_tk_string)) n _ _ _ σ
theorem tk_string_e (σ : gM) : tk_string σ =
  (tk_string_b5 (gW σ 69 4 3)) := Lm.eqn (tk_string_l ..) (tk_string_b5_l ..) fun n => (rfl)
theorem tk_string_b5_e (σ : gM) : tk_string_b5 σ =
  (if w32 ((σ 69 3) + (σ 69 6)) < σ 69 2 then
  ((tk_byteAt σ (w32 ((σ 69 3) + (σ 69 6)))).bind fun p1 =>
    if p1.2 = 34 then
    (tk_string_b112 p1.1)
    else
    (if p1.1 69 8 = 0 then
      ((tk_byteAt p1.1 (w32 ((p1.1 69 3) + (p1.1 69 6)))).bind fun p2 =>
        if p2.2 < 32 then
        (tk_string_b81 p2.1)
        else
        (if 126 < p2.2 then
          (tk_string_b81 p2.1)
          else
          (if 40 < p2.1 69 6 then
            (tk_string_b81 p2.1)
            else
            (tk_string_b109 (gW p2.1 69 6 (w32 ((p2.1 69 6) + 1)))))))
      else
      (tk_string_b112 p1.1)))
  else
  (tk_string_b112 σ)) := Lm.eqn (tk_string_b5_l ..) (.ite (.bind (tk_byteAt_l ..) fun p1 => (.ite (tk_string_b112_l ..) (.ite (.bind (tk_byteAt_l ..) fun p2 => (.ite (tk_string_b81_l ..) (.ite (tk_string_b81_l ..) (.ite (tk_string_b81_l ..) (tk_string_b109_l ..))))) (tk_string_b112_l ..)))) (tk_string_b112_l ..)) fun n => (rfl)
theorem tk_string_b81_e (σ : gM) : tk_string_b81 σ =
  ((tk_fails σ 1 (w32 ((σ 69 3) + (σ 69 6)))).bind fun p1 =>
  tk_string_b109 p1.1) := Lm.eqn (tk_string_b81_l ..) (.bind (tk_fails_l ..) fun p1 => (tk_string_b109_l ..)) fun n => (rfl)
theorem tk_string_b109_e (σ : gM) : tk_string_b109 σ =
  (tk_string_b5 σ) := Lm.eqn (tk_string_b109_l ..) (tk_string_b5_l ..) fun n => (rfl)
theorem tk_string_b112_e (σ : gM) : tk_string_b112 σ =
  (if w32 ((σ 69 3) + (σ 69 6)) = σ 69 2 then
  ((tk_fails σ 1 (σ 69 2)).bind fun p1 =>
    tk_string_b138 p1.1)
  else
  (tk_string_b138 σ)) := Lm.eqn (tk_string_b112_l ..) (.ite (.bind (tk_fails_l ..) fun p1 => (tk_string_b138_l ..)) (tk_string_b138_l ..)) fun n => (rfl)
theorem tk_string_b138_e (σ : gM) : tk_string_b138 σ =
  (some (gW σ 69 6 (w32 ((σ 69 6) + 1)), 0)) := Lm.eqn (tk_string_b138_l ..) .cst fun n => (rfl)
def k_tk_signs : List gC := [(0, 1, .aload_n 0, [], none), (1, 1, .iconst 4, [], none), (2, 3, .putfield 50, [], none), (5, 1, .aload_n 0, [], none),
  (6, 1, .aload_n 0, [], none), (7, 3, .getfield 22, [], none), (10, 1, .iconst 1, [], none), (11, 1, .iadd, [], none),
  (12, 3, .invokevirtual 34, [], none), (15, 1, .istore_n 2, [], none), (16, 1, .iload_n 1, [], none), (17, 2, .bipush 38, [], none),
  (19, 3, .if_icmp .eq 9, [(0, 28)], none), (22, 1, .iload_n 1, [], none), (23, 2, .bipush 124, [], none), (25, 3, .if_icmp .ne 8, [(0, 33)], none),
  (28, 1, .iload_n 2, [], some [true, true, true]), (29, 1, .iload_n 1, [], none), (30, 3, .if_icmp .eq 33, [(0, 63)], none), (33, 1, .iload_n 1, [], some [true, true, true]),
  (34, 2, .bipush 61, [], none), (36, 3, .if_icmp .eq 21, [(0, 57)], none), (39, 1, .iload_n 1, [], none), (40, 2, .bipush 33, [], none),
  (42, 3, .if_icmp .eq 15, [(0, 57)], none), (45, 1, .iload_n 1, [], none), (46, 2, .bipush 60, [], none), (48, 3, .if_icmp .eq 9, [(0, 57)], none),
  (51, 1, .iload_n 1, [], none), (52, 2, .bipush 62, [], none), (54, 3, .if_icmp .ne 17, [(0, 71)], none), (57, 1, .iload_n 2, [], some [true, true, true]),
  (58, 2, .bipush 61, [], none), (60, 3, .if_icmp .ne 11, [(0, 71)], none), (63, 1, .aload_n 0, [], some [true, true, true]), (64, 1, .iconst 2, [], none),
  (65, 3, .putfield 44, [], none), (68, 3, .goto 53, [(0, 121)], none), (71, 1, .iload_n 1, [], some [true, true, true]), (72, 2, .bipush 38, [], none),
  (74, 3, .if_icmp .eq 9, [(0, 83)], none), (77, 1, .iload_n 1, [], none), (78, 2, .bipush 124, [], none), (80, 3, .if_icmp .ne 18, [(0, 98)], none),
  (83, 1, .aload_n 0, [], some [true, true, true]), (84, 1, .iconst 1, [], none), (85, 1, .aload_n 0, [], none), (86, 3, .getfield 22, [], none),
  (89, 1, .iconst 1, [], none), (90, 1, .iadd, [], none), (91, 3, .invokevirtual 64, [], none), (94, 1, .pop, [], none),
  (95, 3, .goto 26, [(0, 121)], none), (98, 2, .ldc 75, [], none), (100, 1, .iload_n 1, [], none), (101, 3, .invokevirtual 77, [], none),
  (104, 3, .ifCond .lt 7, [(0, 111)], none), (107, 1, .iload_n 1, [], none), (108, 3, .ifCond .ne 13, [(0, 121)], none), (111, 1, .aload_n 0, [], some [true, true, true]),
  (112, 1, .iconst 1, [], none), (113, 1, .aload_n 0, [], none), (114, 3, .getfield 22, [], none), (117, 3, .invokevirtual 64, [], none),
  (120, 1, .pop, [], none), (121, 1, .aload_n 0, [], some [true, true, true]), (122, 1, .aload_n 0, [], none), (123, 3, .getfield 44, [], none),
  (126, 1, .iconst 2, [], none), (127, 3, .if_icmp .ne 13, [(0, 140)], none), (130, 1, .iload_n 1, [], none), (131, 3, .sipush 256, [], none),
  (134, 1, .imul, [], none), (135, 1, .iload_n 2, [], none), (136, 1, .iadd, [], none), (137, 3, .goto 4, [(0, 141)], none),
  (140, 1, .iload_n 1, [], none), (141, 3, .putfield 47, [], some [false, false, false]), (144, 1, .return_, [], none)]
def e_tk_signs (m : Nat) : gE := (k_tk_signs, f_tk, c_tk, [(34, 2, 16, 0, .inl (fn_tk_byteAt m)), (64, 3, 16, 0, .inl (fn_tk_fails m)), (77, 2, 100, 0, .inl (fn_st_indexOf_2 0))], [], (m, 18777518577969243999601730047724690953983313246081189427694108575460851781729139432002111262093592610071908651630592), 5)
theorem ok_tk_signs : gchk cX8_signs 3 k_tk_signs = true := by decide +kernel
def fn_tk_signs (m : Nat) : gFn := gF (e_tk_signs m) 3
theorem mo_tk_signs (m : Nat) : gMo (.inl (fn_tk_signs m)) := gF_mo (E := e_tk_signs m) ⟨mo_tk_byteAt m, ⟨mo_tk_fails m, ⟨mo_st_indexOf_2 0, trivial⟩⟩⟩
noncomputable def tk_signs (σ : gM) (x1 : Int) : Option (gM × Int) := lim (fun n => fn_tk_signs 119 n [(2, 69), (0, x1)] σ)
theorem tk_signs_l (σ : gM) (x1 : Int) : Lm (fun n => fn_tk_signs 119 n [(2, 69), (0, x1)] σ) (tk_signs σ x1) := .of fun n => mo_tk_signs 119 n [(2, 69), (0, x1)] σ
theorem mb_tk_signs : gMos (e_tk_signs 119).2.2.2.1 := ⟨mo_tk_byteAt 119, ⟨mo_tk_fails 119, ⟨mo_st_indexOf_2 0, trivial⟩⟩⟩
noncomputable def tk_signs_b28 (σ : gM) (x1 x2 : Int) : Option (gM × Int) := lim (fun n => gB (e_tk_signs 119) rF tF n 28 [(2, 69), (0, x1), (0, x2)] [] σ)
theorem tk_signs_b28_l (σ : gM) (x1 x2 : Int) : Lm (fun n => gB (e_tk_signs 119) rF tF n 28 [(2, 69), (0, x1), (0, x2)] [] σ) (tk_signs_b28 σ x1 x2) := .of fun n => gB_le (gMos_spec (mb_tk_signs)) n _ _ _ σ
noncomputable def tk_signs_b33 (σ : gM) (x1 x2 : Int) : Option (gM × Int) := lim (fun n => gB (e_tk_signs 119) rF tF n 33 [(2, 69), (0, x1), (0, x2)] [] σ)
theorem tk_signs_b33_l (σ : gM) (x1 x2 : Int) : Lm (fun n => gB (e_tk_signs 119) rF tF n 33 [(2, 69), (0, x1), (0, x2)] [] σ) (tk_signs_b33 σ x1 x2) := .of fun n => gB_le (gMos_spec (mb_tk_signs)) n _ _ _ σ
noncomputable def tk_signs_b57 (σ : gM) (x1 x2 : Int) : Option (gM × Int) := lim (fun n => gB (e_tk_signs 119) rF tF n 57 [(2, 69), (0, x1), (0, x2)] [] σ)
theorem tk_signs_b57_l (σ : gM) (x1 x2 : Int) : Lm (fun n => gB (e_tk_signs 119) rF tF n 57 [(2, 69), (0, x1), (0, x2)] [] σ) (tk_signs_b57 σ x1 x2) := .of fun n => gB_le (gMos_spec (mb_tk_signs)) n _ _ _ σ
noncomputable def tk_signs_b63 (σ : gM) (x1 x2 : Int) : Option (gM × Int) := lim (fun n => gB (e_tk_signs 119) rF tF n 63 [(2, 69), (0, x1), (0, x2)] [] σ)
theorem tk_signs_b63_l (σ : gM) (x1 x2 : Int) : Lm (fun n => gB (e_tk_signs 119) rF tF n 63 [(2, 69), (0, x1), (0, x2)] [] σ) (tk_signs_b63 σ x1 x2) := .of fun n => gB_le (gMos_spec (mb_tk_signs)) n _ _ _ σ
noncomputable def tk_signs_b71 (σ : gM) (x1 x2 : Int) : Option (gM × Int) := lim (fun n => gB (e_tk_signs 119) rF tF n 71 [(2, 69), (0, x1), (0, x2)] [] σ)
theorem tk_signs_b71_l (σ : gM) (x1 x2 : Int) : Lm (fun n => gB (e_tk_signs 119) rF tF n 71 [(2, 69), (0, x1), (0, x2)] [] σ) (tk_signs_b71 σ x1 x2) := .of fun n => gB_le (gMos_spec (mb_tk_signs)) n _ _ _ σ
noncomputable def tk_signs_b83 (σ : gM) (x1 x2 : Int) : Option (gM × Int) := lim (fun n => gB (e_tk_signs 119) rF tF n 83 [(2, 69), (0, x1), (0, x2)] [] σ)
theorem tk_signs_b83_l (σ : gM) (x1 x2 : Int) : Lm (fun n => gB (e_tk_signs 119) rF tF n 83 [(2, 69), (0, x1), (0, x2)] [] σ) (tk_signs_b83 σ x1 x2) := .of fun n => gB_le (gMos_spec (mb_tk_signs)) n _ _ _ σ
noncomputable def tk_signs_b111 (σ : gM) (x1 x2 : Int) : Option (gM × Int) := lim (fun n => gB (e_tk_signs 119) rF tF n 111 [(2, 69), (0, x1), (0, x2)] [] σ)
theorem tk_signs_b111_l (σ : gM) (x1 x2 : Int) : Lm (fun n => gB (e_tk_signs 119) rF tF n 111 [(2, 69), (0, x1), (0, x2)] [] σ) (tk_signs_b111 σ x1 x2) := .of fun n => gB_le (gMos_spec (mb_tk_signs)) n _ _ _ σ
noncomputable def tk_signs_b121 (σ : gM) (x1 x2 : Int) : Option (gM × Int) := lim (fun n => gB (e_tk_signs 119) rF tF n 121 [(2, 69), (0, x1), (0, x2)] [] σ)
theorem tk_signs_b121_l (σ : gM) (x1 x2 : Int) : Lm (fun n => gB (e_tk_signs 119) rF tF n 121 [(2, 69), (0, x1), (0, x2)] [] σ) (tk_signs_b121 σ x1 x2) := .of fun n => gB_le (gMos_spec (mb_tk_signs)) n _ _ _ σ
noncomputable def tk_signs_b141 (σ : gM) (y0 : Int) : Option (gM × Int) := lim (fun n => gB (e_tk_signs 119) rF tF n 141 [(9, 0), (9, 0), (9, 0)] [(0, y0), (2, 69)] σ)
theorem tk_signs_b141_l (σ : gM) (y0 : Int) : Lm (fun n => gB (e_tk_signs 119) rF tF n 141 [(9, 0), (9, 0), (9, 0)] [(0, y0), (2, 69)] σ) (tk_signs_b141 σ y0) := .of fun n => gB_le (gMos_spec (mb_tk_signs)) n _ _ _ σ
theorem tk_signs_e (σ : gM) (x1 : Int) : tk_signs σ x1 =
  ((tk_byteAt (gW σ 69 4 4) (w32 ((σ 69 3) + 1))).bind fun p1 =>
  if x1 = 38 then
  (tk_signs_b28 p1.1 x1 p1.2)
  else
  (if x1 = 124 then
    (tk_signs_b28 p1.1 x1 p1.2)
    else
    (tk_signs_b33 p1.1 x1 p1.2))) := Lm.eqn (tk_signs_l ..) (.bind (tk_byteAt_l ..) fun p1 => (.ite (tk_signs_b28_l ..) (.ite (tk_signs_b28_l ..) (tk_signs_b33_l ..)))) fun n => (rfl)
theorem tk_signs_b28_e (σ : gM) (x1 x2 : Int) : tk_signs_b28 σ x1 x2 =
  (if x2 = x1 then
  (tk_signs_b63 σ x1 x2)
  else
  (tk_signs_b33 σ x1 x2)) := Lm.eqn (tk_signs_b28_l ..) (.ite (tk_signs_b63_l ..) (tk_signs_b33_l ..)) fun n => (rfl)
theorem tk_signs_b33_e (σ : gM) (x1 x2 : Int) : tk_signs_b33 σ x1 x2 =
  (if x1 = 61 then
  (tk_signs_b57 σ x1 x2)
  else
  (if x1 = 33 then
    (tk_signs_b57 σ x1 x2)
    else
    (if x1 = 60 then
      (tk_signs_b57 σ x1 x2)
      else
      (if x1 = 62 then
        (tk_signs_b57 σ x1 x2)
        else
        (tk_signs_b71 σ x1 x2))))) := Lm.eqn (tk_signs_b33_l ..) (.ite (tk_signs_b57_l ..) (.ite (tk_signs_b57_l ..) (.ite (tk_signs_b57_l ..) (.ite (tk_signs_b57_l ..) (tk_signs_b71_l ..))))) fun n => (rfl)
theorem tk_signs_b57_e (σ : gM) (x1 x2 : Int) : tk_signs_b57 σ x1 x2 =
  (if x2 = 61 then
  (tk_signs_b63 σ x1 x2)
  else
  (tk_signs_b71 σ x1 x2)) := Lm.eqn (tk_signs_b57_l ..) (.ite (tk_signs_b63_l ..) (tk_signs_b71_l ..)) fun n => (rfl)
theorem tk_signs_b63_e (σ : gM) (x1 x2 : Int) : tk_signs_b63 σ x1 x2 =
  (tk_signs_b121 (gW σ 69 6 2) x1 x2) := Lm.eqn (tk_signs_b63_l ..) (tk_signs_b121_l ..) fun n => (rfl)
theorem tk_signs_b71_e (σ : gM) (x1 x2 : Int) : tk_signs_b71 σ x1 x2 =
  (if x1 = 38 then
  (tk_signs_b83 σ x1 x2)
  else
  (if x1 = 124 then
    (tk_signs_b83 σ x1 x2)
    else
    ((st_indexOf_2 σ 21 x1).bind fun p1 =>
      if p1.2 < 0 then
      (tk_signs_b111 p1.1 x1 x2)
      else
      (if x1 = 0 then
        (tk_signs_b111 p1.1 x1 x2)
        else
        (tk_signs_b121 p1.1 x1 x2))))) := Lm.eqn (tk_signs_b71_l ..) (.ite (tk_signs_b83_l ..) (.ite (tk_signs_b83_l ..) (.bind (st_indexOf_2_l ..) fun p1 => (.ite (tk_signs_b111_l ..) (.ite (tk_signs_b111_l ..) (tk_signs_b121_l ..)))))) fun n => (rfl)
theorem tk_signs_b83_e (σ : gM) (x1 x2 : Int) : tk_signs_b83 σ x1 x2 =
  ((tk_fails σ 1 (w32 ((σ 69 3) + 1))).bind fun p1 =>
  tk_signs_b121 p1.1 x1 x2) := Lm.eqn (tk_signs_b83_l ..) (.bind (tk_fails_l ..) fun p1 => (tk_signs_b121_l ..)) fun n => (rfl)
theorem tk_signs_b111_e (σ : gM) (x1 x2 : Int) : tk_signs_b111 σ x1 x2 =
  ((tk_fails σ 1 (σ 69 3)).bind fun p1 =>
  tk_signs_b121 p1.1 x1 x2) := Lm.eqn (tk_signs_b111_l ..) (.bind (tk_fails_l ..) fun p1 => (tk_signs_b121_l ..)) fun n => (rfl)
theorem tk_signs_b121_e (σ : gM) (x1 x2 : Int) : tk_signs_b121 σ x1 x2 =
  (if σ 69 6 = 2 then
  (tk_signs_b141 σ (w32 ((w32 (x1 * 256)) + x2)))
  else
  (tk_signs_b141 σ x1)) := Lm.eqn (tk_signs_b121_l ..) (.ite (tk_signs_b141_l ..) (tk_signs_b141_l ..)) fun n => (rfl)
theorem tk_signs_b141_e (σ : gM) (y0 : Int) : tk_signs_b141 σ y0 =
  (some (gW σ 69 7 y0, 0)) := Lm.eqn (tk_signs_b141_l ..) .cst fun n => (rfl)
def k_tk_read : List gC := [(0, 1, .aload_n 0, [], none), (1, 3, .invokevirtual 38, [], none), (4, 1, .aload_n 0, [], none), (5, 1, .aload_n 0, [], none),
  (6, 3, .getfield 22, [], none), (9, 3, .putfield 41, [], none), (12, 1, .aload_n 0, [], none), (13, 1, .iconst 1, [], none),
  (14, 3, .putfield 44, [], none), (17, 1, .aload_n 0, [], none), (18, 1, .iconst 0, [], none), (19, 3, .putfield 47, [], none),
  (22, 1, .aload_n 0, [], none), (23, 1, .aload_n 0, [], none), (24, 3, .getfield 22, [], none), (27, 3, .invokevirtual 34, [], none),
  (30, 1, .istore_n 1, [], none), (31, 1, .aload_n 0, [], none), (32, 3, .getfield 22, [], none), (35, 1, .aload_n 0, [], none),
  (36, 3, .getfield 19, [], none), (39, 3, .if_icmp .ne 16, [(0, 55)], none), (42, 1, .aload_n 0, [], none), (43, 1, .iconst 0, [], none),
  (44, 3, .putfield 50, [], none), (47, 1, .aload_n 0, [], none), (48, 1, .iconst 0, [], none), (49, 3, .putfield 44, [], none),
  (52, 3, .goto 183, [(0, 235)], none), (55, 1, .iload_n 1, [], none), (56, 3, .invokestatic 53, [], none), (59, 3, .ifCond .eq 92, [(0, 151)], none),
  (62, 1, .aload_n 0, [], some [true, false]), (63, 1, .aload_n 0, [], none), (64, 3, .getfield 22, [], none), (67, 1, .aload_n 0, [], none),
  (68, 3, .getfield 44, [], none), (71, 1, .iadd, [], none), (72, 3, .invokevirtual 34, [], none), (75, 3, .invokestatic 53, [], none),
  (78, 3, .ifCond .ne 22, [(0, 100)], none), (81, 1, .aload_n 0, [], none), (82, 1, .aload_n 0, [], none), (83, 3, .getfield 22, [], none),
  (86, 1, .aload_n 0, [], none), (87, 3, .getfield 44, [], none), (90, 1, .iadd, [], none), (91, 3, .invokevirtual 34, [], none),
  (94, 3, .invokestatic 57, [], none), (97, 3, .ifCond .eq 16, [(0, 113)], none), (100, 1, .aload_n 0, [], some [true, false]), (101, 1, .dup, [], none),
  (102, 3, .getfield 44, [], none), (105, 1, .iconst 1, [], none), (106, 1, .iadd, [], none), (107, 3, .putfield 44, [], none),
  (110, 3, .goto (-48), [(0, 62)], none), (113, 1, .aload_n 0, [], none), (114, 1, .aload_n 0, [], none), (115, 3, .invokevirtual 60, [], none),
  (118, 3, .ifCond .eq 7, [(0, 125)], none), (121, 1, .iconst 5, [], none), (122, 3, .goto 4, [(0, 126)], none), (125, 1, .iconst 1, [], none),
  (126, 3, .putfield 50, [], some [true, false]), (129, 1, .aload_n 0, [], none), (130, 3, .getfield 44, [], none), (133, 2, .bipush 12, [], none),
  (135, 3, .if_icmp .le 100, [(0, 235)], none), (138, 1, .aload_n 0, [], none), (139, 1, .iconst 1, [], none), (140, 1, .aload_n 0, [], none),
  (141, 3, .getfield 41, [], none), (144, 3, .invokevirtual 64, [], none), (147, 1, .pop, [], none), (148, 3, .goto 87, [(0, 235)], none),
  (151, 1, .iload_n 1, [], none), (152, 3, .invokestatic 57, [], none), (155, 3, .ifCond .eq 62, [(0, 217)], none), (158, 1, .aload_n 0, [], some [true, false]),
  (159, 1, .aload_n 0, [], none), (160, 3, .getfield 22, [], none), (163, 1, .aload_n 0, [], none), (164, 3, .getfield 44, [], none),
  (167, 1, .iadd, [], none), (168, 3, .invokevirtual 34, [], none), (171, 3, .invokestatic 57, [], none), (174, 3, .ifCond .eq 16, [(0, 190)], none),
  (177, 1, .aload_n 0, [], none), (178, 1, .dup, [], none), (179, 3, .getfield 44, [], none), (182, 1, .iconst 1, [], none),
  (183, 1, .iadd, [], none), (184, 3, .putfield 44, [], none), (187, 3, .goto (-29), [(0, 158)], none), (190, 1, .aload_n 0, [], none),
  (191, 1, .iconst 2, [], none), (192, 3, .putfield 50, [], none), (195, 1, .aload_n 0, [], none), (196, 3, .getfield 44, [], none),
  (199, 2, .bipush 36, [], none), (201, 3, .if_icmp .le 34, [(0, 235)], none), (204, 1, .aload_n 0, [], none), (205, 1, .iconst 1, [], none),
  (206, 1, .aload_n 0, [], none), (207, 3, .getfield 41, [], none), (210, 3, .invokevirtual 64, [], none), (213, 1, .pop, [], none),
  (214, 3, .goto 21, [(0, 235)], none), (217, 1, .iload_n 1, [], none), (218, 2, .bipush 34, [], none), (220, 3, .if_icmp .ne 10, [(0, 230)], none),
  (223, 1, .aload_n 0, [], none), (224, 3, .invokevirtual 68, [], none), (227, 3, .goto 8, [(0, 235)], none), (230, 1, .aload_n 0, [], none),
  (231, 1, .iload_n 1, [], none), (232, 3, .invokevirtual 71, [], none), (235, 1, .aload_n 0, [], some [true, false]), (236, 1, .dup, [], none),
  (237, 3, .getfield 22, [], none), (240, 1, .aload_n 0, [], none), (241, 3, .getfield 44, [], none), (244, 1, .iadd, [], none),
  (245, 3, .putfield 22, [], none), (248, 1, .return_, [], none)]
def e_tk_read (m : Nat) : gE := (k_tk_read, f_tk, c_tk, [(38, 1, 16, 5, .inl (fn_tk_skip m)), (34, 2, 16, 0, .inl (fn_tk_byteAt m)), (53, 1, 0, 0, .inl (fn_tk_isLetter m)), (57, 1, 0, 0, .inl (fn_tk_isDigit m)), (60, 1, 16, 0, .inl (fn_tk_isWord m)), (64, 3, 16, 0, .inl (fn_tk_fails m)), (68, 1, 16, 5, .inl (fn_tk_string m)), (71, 2, 16, 5, .inl (fn_tk_signs m))], [], (m, 19547089011492573671716555049680620911113776903707467682927473681012526035078694326756296149884313618681413104566272), 5)
theorem ok_tk_read : gchk cX8_read 2 k_tk_read = true := by decide +kernel
def fn_tk_read (m : Nat) : gFn := gF (e_tk_read m) 2
theorem mo_tk_read (m : Nat) : gMo (.inl (fn_tk_read m)) := gF_mo (E := e_tk_read m) ⟨mo_tk_skip m, ⟨mo_tk_byteAt m, ⟨mo_tk_isLetter m, ⟨mo_tk_isDigit m, ⟨mo_tk_isWord m, ⟨mo_tk_fails m, ⟨mo_tk_string m, ⟨mo_tk_signs m, trivial⟩⟩⟩⟩⟩⟩⟩⟩
noncomputable def tk_read (σ : gM) : Option (gM × Int) := lim (fun n => fn_tk_read 119 n [(2, 69)] σ)
theorem tk_read_l (σ : gM) : Lm (fun n => fn_tk_read 119 n [(2, 69)] σ) (tk_read σ) := .of fun n => mo_tk_read 119 n [(2, 69)] σ
theorem mb_tk_read : gMos (e_tk_read 119).2.2.2.1 := ⟨mo_tk_skip 119, ⟨mo_tk_byteAt 119, ⟨mo_tk_isLetter 119, ⟨mo_tk_isDigit 119, ⟨mo_tk_isWord 119, ⟨mo_tk_fails 119, ⟨mo_tk_string 119, ⟨mo_tk_signs 119, trivial⟩⟩⟩⟩⟩⟩⟩⟩
noncomputable def tk_read_b62 (σ : gM) : Option (gM × Int) := lim (fun n => gB (e_tk_read 119) rF tF n 62 [(2, 69), (9, 0)] [] σ)
theorem tk_read_b62_l (σ : gM) : Lm (fun n => gB (e_tk_read 119) rF tF n 62 [(2, 69), (9, 0)] [] σ) (tk_read_b62 σ) := .of fun n => gB_le (gMos_spec (mb_tk_read)) n _ _ _ σ
noncomputable def tk_read_b100 (σ : gM) : Option (gM × Int) := lim (fun n => gB (e_tk_read 119) rF tF n 100 [(2, 69), (9, 0)] [] σ)
theorem tk_read_b100_l (σ : gM) : Lm (fun n => gB (e_tk_read 119) rF tF n 100 [(2, 69), (9, 0)] [] σ) (tk_read_b100 σ) := .of fun n => gB_le (gMos_spec (mb_tk_read)) n _ _ _ σ
noncomputable def tk_read_b126 (σ : gM) (y0 : Int) : Option (gM × Int) := lim (fun n => gB (e_tk_read 119) rF tF n 126 [(2, 69), (9, 0)] [(0, y0), (2, 69)] σ)
theorem tk_read_b126_l (σ : gM) (y0 : Int) : Lm (fun n => gB (e_tk_read 119) rF tF n 126 [(2, 69), (9, 0)] [(0, y0), (2, 69)] σ) (tk_read_b126 σ y0) := .of fun n => gB_le (gMos_spec (mb_tk_read)) n _ _ _ σ
noncomputable def tk_read_b158 (σ : gM) : Option (gM × Int) := lim (fun n => gB (e_tk_read 119) rF tF n 158 [(2, 69), (9, 0)] [] σ)
theorem tk_read_b158_l (σ : gM) : Lm (fun n => gB (e_tk_read 119) rF tF n 158 [(2, 69), (9, 0)] [] σ) (tk_read_b158 σ) := .of fun n => gB_le (gMos_spec (mb_tk_read)) n _ _ _ σ
noncomputable def tk_read_b235 (σ : gM) : Option (gM × Int) := lim (fun n => gB (e_tk_read 119) rF tF n 235 [(2, 69), (9, 0)] [] σ)
theorem tk_read_b235_l (σ : gM) : Lm (fun n => gB (e_tk_read 119) rF tF n 235 [(2, 69), (9, 0)] [] σ) (tk_read_b235 σ) := .of fun n => gB_le (gMos_spec (mb_tk_read)) n _ _ _ σ
theorem tk_read_e (σ : gM) : tk_read σ =
  ((tk_skip σ).bind fun p1 =>
  (tk_byteAt (gW (gW (gW p1.1 69 5 (p1.1 69 3)) 69 6 1) 69 7 0) (p1.1 69 3)).bind fun p2 =>
  if p2.1 69 3 = p2.1 69 2 then
  (tk_read_b235 (gW (gW p2.1 69 4 0) 69 6 0))
  else
  ((tk_isLetter p2.1 p2.2).bind fun p3 =>
    if p3.2 = 0 then
    ((tk_isDigit p3.1 p2.2).bind fun p4 =>
      if p4.2 = 0 then
      (if p2.2 = 34 then
        ((tk_string p4.1).bind fun p6 =>
          tk_read_b235 p6.1)
        else
        ((tk_signs p4.1 p2.2).bind fun p5 =>
          tk_read_b235 p5.1))
      else
      (tk_read_b158 p4.1))
    else
    (tk_read_b62 p3.1))) := Lm.eqn (tk_read_l ..) (.bind (tk_skip_l ..) fun p1 => (.bind (tk_byteAt_l ..) fun p2 => (.ite (tk_read_b235_l ..) (.bind (tk_isLetter_l ..) fun p3 => (.ite (.bind (tk_isDigit_l ..) fun p4 => (.ite (.ite (.bind (tk_string_l ..) fun p6 => (tk_read_b235_l ..)) (.bind (tk_signs_l ..) fun p5 => (tk_read_b235_l ..))) (tk_read_b158_l ..))) (tk_read_b62_l ..)))))) fun n => (rfl)
theorem tk_read_b62_e (σ : gM) : tk_read_b62 σ =
  ((tk_byteAt σ (w32 ((σ 69 3) + (σ 69 6)))).bind fun p1 =>
  (tk_isLetter p1.1 p1.2).bind fun p2 =>
  if p2.2 = 0 then
  ((tk_byteAt p2.1 (w32 ((p2.1 69 3) + (p2.1 69 6)))).bind fun p3 =>
    (tk_isDigit p3.1 p3.2).bind fun p4 =>
    if p4.2 = 0 then
    ((tk_isWord p4.1).bind fun p5 =>
      if p5.2 = 0 then
      (tk_read_b126 p5.1 1)
      else
      (tk_read_b126 p5.1 5))
    else
    (tk_read_b100 p4.1))
  else
  (tk_read_b100 p2.1)) := Lm.eqn (tk_read_b62_l ..) (.bind (tk_byteAt_l ..) fun p1 => (.bind (tk_isLetter_l ..) fun p2 => (.ite (.bind (tk_byteAt_l ..) fun p3 => (.bind (tk_isDigit_l ..) fun p4 => (.ite (.bind (tk_isWord_l ..) fun p5 => (.ite (tk_read_b126_l ..) (tk_read_b126_l ..))) (tk_read_b100_l ..)))) (tk_read_b100_l ..)))) fun n => (rfl)
theorem tk_read_b100_e (σ : gM) : tk_read_b100 σ =
  (tk_read_b62 (gW σ 69 6 (w32 ((σ 69 6) + 1)))) := Lm.eqn (tk_read_b100_l ..) (tk_read_b62_l ..) fun n => (rfl)
theorem tk_read_b126_e (σ : gM) (y0 : Int) : tk_read_b126 σ y0 =
  (if 12 < σ 69 6 then
  ((tk_fails (gW σ 69 4 y0) 1 (σ 69 5)).bind fun p1 =>
    tk_read_b235 p1.1)
  else
  (tk_read_b235 (gW σ 69 4 y0))) := Lm.eqn (tk_read_b126_l ..) (.ite (.bind (tk_fails_l ..) fun p1 => (tk_read_b235_l ..)) (tk_read_b235_l ..)) fun n => (rfl)
theorem tk_read_b158_e (σ : gM) : tk_read_b158 σ =
  ((tk_byteAt σ (w32 ((σ 69 3) + (σ 69 6)))).bind fun p1 =>
  (tk_isDigit p1.1 p1.2).bind fun p2 =>
  if p2.2 = 0 then
  (if 36 < p2.1 69 6 then
    ((tk_fails (gW p2.1 69 4 2) 1 (p2.1 69 5)).bind fun p3 =>
      tk_read_b235 p3.1)
    else
    (tk_read_b235 (gW p2.1 69 4 2)))
  else
  (tk_read_b158 (gW p2.1 69 6 (w32 ((p2.1 69 6) + 1))))) := Lm.eqn (tk_read_b158_l ..) (.bind (tk_byteAt_l ..) fun p1 => (.bind (tk_isDigit_l ..) fun p2 => (.ite (.ite (.bind (tk_fails_l ..) fun p3 => (tk_read_b235_l ..)) (tk_read_b235_l ..)) (tk_read_b158_l ..)))) fun n => (rfl)
theorem tk_read_b235_e (σ : gM) : tk_read_b235 σ =
  (some (gW σ 69 3 (w32 ((σ 69 3) + (σ 69 6))), 0)) := Lm.eqn (tk_read_b235_l ..) .cst fun n => (rfl)
def k_tk_begin : List gC := [(0, 1, .aload_n 0, [], none), (1, 1, .aload_n 1, [], none), (2, 3, .putfield 9, [], none), (5, 1, .aload_n 0, [], none),
  (6, 1, .iload_n 2, [], none), (7, 3, .putfield 15, [], none), (10, 1, .aload_n 0, [], none), (11, 1, .iload_n 3, [], none),
  (12, 3, .putfield 19, [], none), (15, 1, .aload_n 0, [], none), (16, 1, .iconst 0, [], none), (17, 3, .putfield 22, [], none),
  (20, 1, .aload_n 0, [], none), (21, 1, .iconst 0, [], none), (22, 3, .putfield 25, [], none), (25, 1, .aload_n 0, [], none),
  (26, 3, .invokevirtual 28, [], none), (29, 1, .return_, [], none)]
def e_tk_begin (m : Nat) : gE := (k_tk_begin, f_tk, c_tk, [(28, 1, 16, 5, .inl (fn_tk_read m))], [], (m, 19681763837359156364336649425022908653611608043792066377593312574484069029414866433338278505247689795188076383830016), 5)
theorem ok_tk_begin : gchk cX8_begin 4 k_tk_begin = true := by decide +kernel
def fn_tk_begin (m : Nat) : gFn := gF (e_tk_begin m) 4
theorem mo_tk_begin (m : Nat) : gMo (.inl (fn_tk_begin m)) := gF_mo (E := e_tk_begin m) ⟨mo_tk_read m, trivial⟩
noncomputable def tk_begin (σ : gM) (x1 x2 x3 : Int) : Option (gM × Int) := lim (fun n => fn_tk_begin 119 n [(2, 69), (2, x1), (0, x2), (0, x3)] σ)
theorem tk_begin_l (σ : gM) (x1 x2 x3 : Int) : Lm (fun n => fn_tk_begin 119 n [(2, 69), (2, x1), (0, x2), (0, x3)] σ) (tk_begin σ x1 x2 x3) := .of fun n => mo_tk_begin 119 n [(2, 69), (2, x1), (0, x2), (0, x3)] σ
theorem tk_begin_e (σ : gM) (x1 x2 x3 : Int) : tk_begin σ x1 x2 x3 =
  (if 0 ≤ x1 then
  ((tk_read (gW (gW (gW (gW (gW σ 69 0 x1) 69 1 x2) 69 2 x3) 69 3 0) 69 8 0)).bind fun p1 =>
    some (p1.1, 0))
  else none) := Lm.eqn (tk_begin_l ..) (.ite (.bind (tk_read_l ..) fun p1 => .cst) .cst) fun n => (rfl)
def k_tk_isWord_2 : List gC := [(0, 1, .aload_n 0, [], none), (1, 3, .getfield 50, [], none), (4, 1, .iconst 5, [], none), (5, 3, .if_icmp .ne 27, [(0, 32)], none),
  (8, 1, .aload_n 0, [], none), (9, 3, .invokevirtual 82, [], none), (12, 2, .ldc 86, [], none), (14, 1, .aload_n 1, [], none),
  (15, 3, .invokevirtual 97, [], none), (18, 3, .if_icmp .ne 14, [(0, 32)], none), (21, 1, .aload_n 0, [], none), (22, 3, .getfield 25, [], none),
  (25, 3, .ifCond .ne 7, [(0, 32)], none), (28, 1, .iconst 1, [], none), (29, 3, .goto 4, [(0, 33)], none), (32, 1, .iconst 0, [], none),
  (33, 1, .ireturn, [], none)]
def e_tk_isWord_2 (m : Nat) : gE := (k_tk_isWord_2, f_tk, c_tk, [(82, 1, 16, 0, .inl (fn_tk_word m)), (97, 2, 100, 0, .inl (fn_st_indexOf_3 0))], [], (m, 0), 6)
theorem ok_tk_isWord_2 : gchk cX8_isWord_2 2 k_tk_isWord_2 = true := by decide +kernel
def fn_tk_isWord_2 (m : Nat) : gFn := gF (e_tk_isWord_2 m) 2
theorem mo_tk_isWord_2 (m : Nat) : gMo (.inl (fn_tk_isWord_2 m)) := gF_mo (E := e_tk_isWord_2 m) ⟨mo_tk_word m, ⟨mo_st_indexOf_3 0, trivial⟩⟩
noncomputable def tk_isWord_2 (σ : gM) (x1 : Int) : Option (gM × Int) := lim (fun n => fn_tk_isWord_2 119 n [(2, 69), (3, x1)] σ)
theorem tk_isWord_2_l (σ : gM) (x1 : Int) : Lm (fun n => fn_tk_isWord_2 119 n [(2, 69), (3, x1)] σ) (tk_isWord_2 σ x1) := .of fun n => mo_tk_isWord_2 119 n [(2, 69), (3, x1)] σ
theorem tk_isWord_2_e (σ : gM) (x1 : Int) : tk_isWord_2 σ x1 =
  (if σ 69 4 = 5 then
  ((tk_word σ).bind fun p1 =>
    (st_indexOf_3 p1.1 13 x1).bind fun p2 =>
    if p1.2 = p2.2 then
    (if p2.1 69 8 = 0 then
      (some (p2.1, 1))
      else
      (some (p2.1, 0)))
    else
    (some (p2.1, 0)))
  else
  (some (σ, 0))) := Lm.eqn (tk_isWord_2_l ..) (.ite (.bind (tk_word_l ..) fun p1 => (.bind (st_indexOf_3_l ..) fun p2 => (.ite (.ite .cst .cst) .cst))) .cst) fun n => (rfl)
def k_tk_is : List gC := [(0, 1, .aload_n 0, [], none), (1, 3, .getfield 50, [], none), (4, 1, .iconst 4, [], none), (5, 3, .if_icmp .ne 22, [(0, 27)], none),
  (8, 1, .aload_n 0, [], none), (9, 3, .getfield 47, [], none), (12, 1, .iload_n 1, [], none), (13, 3, .if_icmp .ne 14, [(0, 27)], none),
  (16, 1, .aload_n 0, [], none), (17, 3, .getfield 25, [], none), (20, 3, .ifCond .ne 7, [(0, 27)], none), (23, 1, .iconst 1, [], none),
  (24, 3, .goto 4, [(0, 28)], none), (27, 1, .iconst 0, [], none), (28, 1, .ireturn, [], none)]
def e_tk_is (m : Nat) : gE := (k_tk_is, f_tk, c_tk, [], [], (m, 0), 6)
theorem ok_tk_is : gchk cX8_is 2 k_tk_is = true := by decide +kernel
def fn_tk_is (m : Nat) : gFn := gF (e_tk_is m) 2
theorem mo_tk_is (m : Nat) : gMo (.inl (fn_tk_is m)) := gF_mo (E := e_tk_is m) trivial
noncomputable def tk_is (σ : gM) (x1 : Int) : Option (gM × Int) := lim (fun n => fn_tk_is 119 n [(2, 69), (0, x1)] σ)
theorem tk_is_l (σ : gM) (x1 : Int) : Lm (fun n => fn_tk_is 119 n [(2, 69), (0, x1)] σ) (tk_is σ x1) := .of fun n => mo_tk_is 119 n [(2, 69), (0, x1)] σ
theorem tk_is_e (σ : gM) (x1 : Int) : tk_is σ x1 =
  (if σ 69 4 = 4 then
  (if σ 69 7 = x1 then
    (if σ 69 8 = 0 then
      (some (σ, 1))
      else
      (some (σ, 0)))
    else
    (some (σ, 0)))
  else
  (some (σ, 0))) := Lm.eqn (tk_is_l ..) (.ite (.ite (.ite .cst .cst) .cst) .cst) fun n => (rfl)
