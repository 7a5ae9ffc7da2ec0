set_option maxRecDepth 100000
def f_cd : List (Nat × Nat × Int × Nat) := [(9, 14, 1, 2), (15, 14, 2, 2), (18, 14, 3, 2), (21, 14, 4, 2), (24, 14, 5, 2), (27, 14, 6, 2), (30, 14, 7, 2), (33, 14, 8, 2), (36, 14, 9, 2), (40, 14, 13, 2), (43, 14, 14, 2), (46, 14, 15, 2), (49, 14, 16, 2), (55, 14, 17, 2), (58, 14, 18, 2), (61, 14, 0, 2), (65, 14, 10, 0), (69, 14, 11, 0), (72, 14, 12, 0), (75, 14, 19, 0), (85, 11, 27, 2), (95, 11, 29, 2), (98, 11, 28, 2), (120, 11, 22, 2), (122, 11, 21, 2), (128, 11, 1, 2), (131, 11, 10, 2), (134, 11, 11, 2), (138, 11, 24, 2), (141, 11, 23, 2), (142, 11, 13, 2), (145, 11, 15, 2), (148, 11, 3, 2), (151, 11, 14, 2), (154, 11, 8, 2), (160, 11, 7, 2), (169, 11, 20, 2)]
def c_cd : List (Nat × gV) := [(78, 0, 1000000000), (137, 0, 64000)]
def k_cd_clear : List gC := [(0, 1, .aload_n 0, [], none), (1, 1, .iconst 0, [], none), (2, 3, .putfield 65, [], none), (5, 1, .aload_n 0, [], none),
  (6, 1, .iconst 0, [], none), (7, 3, .putfield 69, [], none), (10, 1, .aload_n 0, [], none), (11, 1, .iconst 0, [], none),
  (12, 3, .putfield 72, [], none), (15, 1, .aload_n 0, [], none), (16, 1, .iconst 0, [], none), (17, 3, .putfield 75, [], none),
  (20, 1, .return_, [], none)]
def e_cd_clear (m : Nat) : gE := (k_cd_clear, f_cd, c_cd, [], [], (m, 1162427521190280385279312543615022580345134013064783108613094343400207981142503530652675419007964093087744), 5)
theorem ok_cd_clear : gchk cX6_clear 1 k_cd_clear = true := by decide +kernel
def fn_cd_clear (m : Nat) : gFn := gF (e_cd_clear m) 1
theorem mo_cd_clear (m : Nat) : gMo (.inl (fn_cd_clear m)) := gF_mo (E := e_cd_clear m) trivial
noncomputable def cd_clear (σ : gM) : Option (gM × Int) := lim (fun n => fn_cd_clear 119 n [(2, 52)] σ)
theorem cd_clear_l (σ : gM) : Lm (fun n => fn_cd_clear 119 n [(2, 52)] σ) (cd_clear σ) := .of fun n => mo_cd_clear 119 n [(2, 52)] σ
theorem cd_clear_e (σ : gM) : cd_clear σ =
  (some (gW (gW (gW (gW σ 52 10 0) 52 11 0) 52 12 0) 52 19 0, 0)) := Lm.eqn (cd_clear_l ..) .cst fun n => (rfl)
def k_cd_more : List gC := [(0, 2, .ldc 78, [], none), (2, 1, .iload_n 0, [], none), (3, 1, .iconst 1, [], none), (4, 1, .iadd, [], none),
  (5, 3, .invokestatic 79, [], none), (8, 1, .ireturn, [], none)]
def e_cd_more (m : Nat) : gE := (k_cd_more, f_cd, c_cd, [(79, 2, 0, 0, .inl (fn_jm_min 0))], [], (m, 0), 0)
theorem ok_cd_more : gchk cX6_more 1 k_cd_more = true := by decide +kernel
def fn_cd_more (m : Nat) : gFn := gF (e_cd_more m) 1
theorem mo_cd_more (m : Nat) : gMo (.inl (fn_cd_more m)) := gF_mo (E := e_cd_more m) ⟨mo_jm_min 0, trivial⟩
noncomputable def cd_more (σ : gM) (x0 : Int) : Option (gM × Int) := lim (fun n => fn_cd_more 119 n [(0, x0)] σ)
theorem cd_more_l (σ : gM) (x0 : Int) : Lm (fun n => fn_cd_more 119 n [(0, x0)] σ) (cd_more σ x0) := .of fun n => mo_cd_more 119 n [(0, x0)] σ
theorem cd_more_e (σ : gM) (x0 : Int) : cd_more σ x0 =
  ((jm_min σ 1000000000 (w32 (x0 + 1))).bind fun p1 =>
  some (p1.1, p1.2)) := Lm.eqn (cd_more_l ..) (.bind (jm_min_l ..) fun p1 => .cst) fun n => (rfl)
def k_cd_start : List gC := [(0, 1, .aload_n 0, [], none), (1, 3, .getfield 49, [], none), (4, 1, .aload_n 0, [], none), (5, 3, .getfield 15, [], none),
  (8, 1, .iload_n 1, [], none), (9, 1, .iaload, [], none), (10, 1, .iload_n 2, [], none), (11, 1, .iadd, [], none),
  (12, 1, .iaload, [], none), (13, 1, .ireturn, [], none)]
def e_cd_start (m : Nat) : gE := (k_cd_start, f_cd, c_cd, [], [], (m, 0), 0)
theorem ok_cd_start : gchk cX6_start 3 k_cd_start = true := by decide +kernel
def fn_cd_start (m : Nat) : gFn := gF (e_cd_start m) 3
theorem mo_cd_start (m : Nat) : gMo (.inl (fn_cd_start m)) := gF_mo (E := e_cd_start m) trivial
noncomputable def cd_start (σ : gM) (x1 x2 : Int) : Option (gM × Int) := lim (fun n => fn_cd_start 119 n [(2, 52), (0, x1), (0, x2)] σ)
theorem cd_start_l (σ : gM) (x1 x2 : Int) : Lm (fun n => fn_cd_start 119 n [(2, 52), (0, x1), (0, x2)] σ) (cd_start σ x1 x2) := .of fun n => mo_cd_start 119 n [(2, 52), (0, x1), (0, x2)] σ
theorem cd_start_e (σ : gM) (x1 x2 : Int) : cd_start σ x1 x2 =
  (if 0 ≤ x1 ∧ x1 < 100 then
  (if 0 ≤ w32 ((σ 54 x1) + x2) ∧ w32 ((σ 54 x1) + x2) < 16000 then
    (some (σ, σ 65 (w32 ((σ 54 x1) + x2))))
    else none)
  else none) := Lm.eqn (cd_start_l ..) (.ite (.ite .cst .cst) .cst) fun n => (rfl)
def k_cd_place : List gC := [(0, 1, .iconst 0, [], none), (1, 1, .istore_n 2, [], none), (2, 1, .iload_n 2, [], some [true, true, true]), (3, 1, .aload_n 0, [], none),
  (4, 3, .getfield 75, [], none), (7, 3, .if_icmp .ge 21, [(0, 28)], none), (10, 1, .aload_n 0, [], none), (11, 3, .getfield 58, [], none),
  (14, 1, .iload_n 2, [], none), (15, 1, .iaload, [], none), (16, 1, .iload_n 1, [], none), (17, 3, .if_icmp .ne 5, [(0, 22)], none),
  (20, 1, .iload_n 2, [], none), (21, 1, .ireturn, [], none), (22, 3, .iinc 2 1, [], none), (25, 3, .goto (-23), [(0, 2)], none),
  (28, 1, .iconst (-1), [], none), (29, 1, .ireturn, [], none)]
def e_cd_place (m : Nat) : gE := (k_cd_place, f_cd, c_cd, [], [], (m, 0), 0)
theorem ok_cd_place : gchk cX6_place 3 k_cd_place = true := by decide +kernel
def fn_cd_place (m : Nat) : gFn := gF (e_cd_place m) 3
theorem mo_cd_place (m : Nat) : gMo (.inl (fn_cd_place m)) := gF_mo (E := e_cd_place m) trivial
noncomputable def cd_place (σ : gM) (x1 : Int) : Option (gM × Int) := lim (fun n => fn_cd_place 119 n [(2, 52), (0, x1)] σ)
theorem cd_place_l (σ : gM) (x1 : Int) : Lm (fun n => fn_cd_place 119 n [(2, 52), (0, x1)] σ) (cd_place σ x1) := .of fun n => mo_cd_place 119 n [(2, 52), (0, x1)] σ
theorem mb_cd_place : gMos (e_cd_place 119).2.2.2.1 := trivial
noncomputable def cd_place_b2 (σ : gM) (x1 x2 : Int) : Option (gM × Int) := lim (fun n => gB (e_cd_place 119) rF tF n 2 [(2, 52), (0, x1), (0, x2)] [] σ)
theorem cd_place_b2_l (σ : gM) (x1 x2 : Int) : Lm (fun n => gB (e_cd_place 119) rF tF n 2 [(2, 52), (0, x1), (0, x2)] [] σ) (cd_place_b2 σ x1 x2) := .of fun n => gB_le (gMos_spec (mb_cd_place)) n _ _ _ σ
theorem cd_place_e (σ : gM) (x1 : Int) : cd_place σ x1 =
  (cd_place_b2 σ x1 0) := Lm.eqn (cd_place_l ..) (cd_place_b2_l ..) fun n => (rfl)
theorem cd_place_b2_e (σ : gM) (x1 x2 : Int) : cd_place_b2 σ x1 x2 =
  (if x2 < σ 52 19 then
  (if 0 ≤ x2 ∧ x2 < 60 then
    (if σ 67 x2 = x1 then
      (some (σ, x2))
      else
      (cd_place_b2 σ x1 (w32 (x2 + 1))))
    else none)
  else
  (some (σ, (-1)))) := Lm.eqn (cd_place_b2_l ..) (.ite (.ite (.ite .cst (cd_place_b2_l ..)) .cst) .cst) fun n => (rfl)
def k_cd_heats : List gC := [(0, 1, .aload_n 0, [], none), (1, 3, .getfield 61, [], none), (4, 3, .getfield 85, [], none), (7, 1, .iload_n 1, [], none),
  (8, 1, .aload_n 0, [], none), (9, 3, .getfield 61, [], none), (12, 3, .getfield 85, [], none), (15, 1, .iload_n 1, [], none),
  (16, 1, .iaload, [], none), (17, 3, .invokestatic 88, [], none), (20, 1, .iastore, [], none), (21, 1, .aload_n 0, [], none),
  (22, 3, .getfield 61, [], none), (25, 3, .getfield 85, [], none), (28, 1, .iload_n 1, [], none), (29, 1, .iaload, [], none),
  (30, 1, .iload_n 2, [], none), (31, 3, .if_icmp .lt 48, [(0, 79)], none), (34, 1, .aload_n 0, [], none), (35, 1, .iload_n 1, [], none),
  (36, 3, .invokevirtual 92, [], none), (39, 3, .ifCond .ge 40, [(0, 79)], none), (42, 1, .aload_n 0, [], none), (43, 3, .getfield 61, [], none),
  (46, 3, .getfield 95, [], none), (49, 1, .iload_n 1, [], none), (50, 1, .iaload, [], none), (51, 3, .ifCond .ge 28, [(0, 79)], none),
  (54, 1, .aload_n 0, [], none), (55, 3, .getfield 61, [], none), (58, 3, .getfield 98, [], none), (61, 1, .iload_n 1, [], none),
  (62, 1, .iaload, [], none), (63, 2, .bipush 8, [], none), (65, 3, .if_icmp .eq 14, [(0, 79)], none), (68, 1, .aload_n 0, [], none),
  (69, 3, .getfield 61, [], none), (72, 1, .iload_n 1, [], none), (73, 3, .invokevirtual 101, [], none), (76, 3, .ifCond .ne 4, [(0, 80)], none),
  (79, 1, .return_, [], none), (80, 1, .aload_n 0, [], none), (81, 3, .getfield 58, [], none), (84, 1, .aload_n 0, [], none),
  (85, 3, .getfield 75, [], none), (88, 1, .iload_n 1, [], none), (89, 1, .iastore, [], none), (90, 1, .aload_n 0, [], none),
  (91, 1, .dup, [], none), (92, 3, .getfield 75, [], none), (95, 1, .iconst 1, [], none), (96, 1, .iadd, [], none),
  (97, 3, .putfield 75, [], none), (100, 1, .return_, [], none)]
def e_cd_heats (m : Nat) : gE := (k_cd_heats, f_cd, c_cd, [(88, 1, 0, 0, .inl (fn_cd_more m)), (92, 2, 14, 0, .inl (fn_cd_place m)), (101, 2, 11, 0, .inl (fn_fr_isNewest m))], [], (m, 1146749307995035755805410447651043470398282494584140561868794419693461438044242404035156850507656814657536), 5)
theorem ok_cd_heats : gchk cX6_heats 3 k_cd_heats = true := by decide +kernel
def fn_cd_heats (m : Nat) : gFn := gF (e_cd_heats m) 3
theorem mo_cd_heats (m : Nat) : gMo (.inl (fn_cd_heats m)) := gF_mo (E := e_cd_heats m) ⟨mo_cd_more m, ⟨mo_cd_place m, ⟨mo_fr_isNewest m, trivial⟩⟩⟩
noncomputable def cd_heats (σ : gM) (x1 x2 : Int) : Option (gM × Int) := lim (fun n => fn_cd_heats 119 n [(2, 52), (0, x1), (0, x2)] σ)
theorem cd_heats_l (σ : gM) (x1 x2 : Int) : Lm (fun n => fn_cd_heats 119 n [(2, 52), (0, x1), (0, x2)] σ) (cd_heats σ x1 x2) := .of fun n => mo_cd_heats 119 n [(2, 52), (0, x1), (0, x2)] σ
theorem cd_heats_e (σ : gM) (x1 x2 : Int) : cd_heats σ x1 x2 =
  (if 0 ≤ x1 ∧ x1 < 60 then
  ((cd_more σ (σ 32 x1)).bind fun p1 =>
    if 0 ≤ x1 ∧ x1 < 60 then
    (if 0 ≤ x1 ∧ x1 < 60 then
      (if (gW p1.1 32 x1 p1.2) 32 x1 < x2 then
        (some (gW p1.1 32 x1 p1.2, 0))
        else
        ((cd_place (gW p1.1 32 x1 p1.2) x1).bind fun p2 =>
          if p2.2 < 0 then
          (if 0 ≤ x1 ∧ x1 < 60 then
            (if p2.1 34 x1 < 0 then
              (if 0 ≤ x1 ∧ x1 < 60 then
                (if p2.1 33 x1 = 8 then
                  (some (p2.1, 0))
                  else
                  ((fr_isNewest p2.1 x1).bind fun p3 =>
                    if p3.2 = 0 then
                    (some (p3.1, 0))
                    else
                    (if 0 ≤ p3.1 52 19 ∧ p3.1 52 19 < 60 then
                      (some (gW (gW p3.1 67 (p3.1 52 19) x1) 52 19 (w32 ((p3.1 52 19) + 1)), 0))
                      else none)))
                else none)
              else
              (some (p2.1, 0)))
            else none)
          else
          (some (p2.1, 0))))
      else none)
    else none)
  else none) := Lm.eqn (cd_heats_l ..) (.ite (.bind (cd_more_l ..) fun p1 => (.ite (.ite (.ite .cst (.bind (cd_place_l ..) fun p2 => (.ite (.ite (.ite (.ite (.ite .cst (.bind (fr_isNewest_l ..) fun p3 => (.ite .cst (.ite .cst .cst)))) .cst) .cst) .cst) .cst))) .cst) .cst)) .cst) fun n => (rfl)
def k_cd_ends : List gC := [(0, 1, .aload_n 0, [], none), (1, 3, .getfield 36, [], none), (4, 1, .iload_n 1, [], none), (5, 1, .iconst 0, [], none),
  (6, 1, .bastore, [], none), (7, 1, .aload_n 0, [], none), (8, 3, .getfield 61, [], none), (11, 3, .getfield 95, [], none),
  (14, 1, .aload_n 0, [], none), (15, 3, .getfield 9, [], none), (18, 1, .iload_n 1, [], none), (19, 1, .iaload, [], none),
  (20, 1, .iconst (-1), [], none), (21, 1, .iastore, [], none), (22, 1, .aload_n 0, [], none), (23, 3, .getfield 61, [], none),
  (26, 3, .getfield 85, [], none), (29, 1, .aload_n 0, [], none), (30, 3, .getfield 9, [], none), (33, 1, .iload_n 1, [], none),
  (34, 1, .iaload, [], none), (35, 1, .iconst 0, [], none), (36, 1, .iastore, [], none), (37, 1, .return_, [], none)]
def e_cd_ends (m : Nat) : gE := (k_cd_ends, f_cd, c_cd, [], [], (m, 2305843030688530432), 5)
theorem ok_cd_ends : gchk cX6_ends 2 k_cd_ends = true := by decide +kernel
def fn_cd_ends (m : Nat) : gFn := gF (e_cd_ends m) 2
theorem mo_cd_ends (m : Nat) : gMo (.inl (fn_cd_ends m)) := gF_mo (E := e_cd_ends m) trivial
noncomputable def cd_ends (σ : gM) (x1 : Int) : Option (gM × Int) := lim (fun n => fn_cd_ends 119 n [(2, 52), (0, x1)] σ)
theorem cd_ends_l (σ : gM) (x1 : Int) : Lm (fun n => fn_cd_ends 119 n [(2, 52), (0, x1)] σ) (cd_ends σ x1) := .of fun n => mo_cd_ends 119 n [(2, 52), (0, x1)] σ
theorem cd_ends_e (σ : gM) (x1 : Int) : cd_ends σ x1 =
  (if 0 ≤ x1 ∧ x1 < 100 then
  (if 0 ≤ x1 ∧ x1 < 100 then
    (if 0 ≤ σ 53 x1 ∧ σ 53 x1 < 60 then
      (if 0 ≤ x1 ∧ x1 < 100 then
        (if 0 ≤ σ 53 x1 ∧ σ 53 x1 < 60 then
          (some (gW (gW (gW σ 61 x1 0) 34 (σ 53 x1) (-1)) 32 (σ 53 x1) 0, 0))
          else none)
        else none)
      else none)
    else none)
  else none) := Lm.eqn (cd_ends_l ..) (.ite (.ite (.ite (.ite (.ite .cst .cst) .cst) .cst) .cst) .cst) fun n => (rfl)
def k_cd_changed : List gC := [(0, 1, .iconst 0, [], none), (1, 1, .istore_n 2, [], none), (2, 1, .iload_n 2, [], some [true, true, true, false, false]), (3, 1, .aload_n 0, [], none),
  (4, 3, .getfield 65, [], none), (7, 3, .if_icmp .ge 80, [(0, 87)], none), (10, 1, .aload_n 0, [], none), (11, 3, .getfield 36, [], none),
  (14, 1, .iload_n 2, [], none), (15, 1, .baload, [], none), (16, 3, .ifCond .ne 6, [(0, 22)], none), (19, 3, .goto 62, [(0, 81)], none),
  (22, 1, .iconst 0, [], none), (23, 1, .istore_n 3, [], none), (24, 1, .iconst 0, [], none), (25, 2, .istore 4, [], none),
  (27, 2, .iload 4, [], some [true, true, true, true, true]), (29, 1, .aload_n 0, [], none), (30, 3, .getfield 18, [], none), (33, 1, .iload_n 2, [], none),
  (34, 1, .iaload, [], none), (35, 3, .if_icmp .ge 37, [(0, 72)], none), (38, 1, .iload_n 3, [], none), (39, 3, .ifCond .ne 33, [(0, 72)], none),
  (42, 1, .aload_n 0, [], none), (43, 3, .getfield 40, [], none), (46, 1, .aload_n 0, [], none), (47, 3, .getfield 15, [], none),
  (50, 1, .iload_n 2, [], none), (51, 1, .iaload, [], none), (52, 2, .iload 4, [], none), (54, 1, .iadd, [], none),
  (55, 1, .iaload, [], none), (56, 1, .iload_n 1, [], none), (57, 3, .if_icmp .ne 7, [(0, 64)], none), (60, 1, .iconst 1, [], none),
  (61, 3, .goto 4, [(0, 65)], none), (64, 1, .iconst 0, [], none), (65, 1, .istore_n 3, [], some [true, true, true, false, true]), (66, 3, .iinc 4 1, [], none),
  (69, 3, .goto (-42), [(0, 27)], none), (72, 1, .iload_n 3, [], some [true, true, true, true, false]), (73, 3, .ifCond .eq 8, [(0, 81)], none), (76, 1, .aload_n 0, [], none),
  (77, 1, .iload_n 2, [], none), (78, 3, .invokevirtual 166, [], none), (81, 3, .iinc 2 1, [], some [true, true, true, false, false]), (84, 3, .goto (-82), [(0, 2)], none),
  (87, 1, .return_, [], none)]
def e_cd_changed (m : Nat) : gE := (k_cd_changed, f_cd, c_cd, [(166, 2, 14, 5, .inl (fn_cd_ends m))], [], (m, 2305843030688530432), 5)
theorem ok_cd_changed : gchk cX6_changed 5 k_cd_changed = true := by decide +kernel
def fn_cd_changed (m : Nat) : gFn := gF (e_cd_changed m) 5
theorem mo_cd_changed (m : Nat) : gMo (.inl (fn_cd_changed m)) := gF_mo (E := e_cd_changed m) ⟨mo_cd_ends m, trivial⟩
noncomputable def cd_changed (σ : gM) (x1 : Int) : Option (gM × Int) := lim (fun n => fn_cd_changed 119 n [(2, 52), (0, x1)] σ)
theorem cd_changed_l (σ : gM) (x1 : Int) : Lm (fun n => fn_cd_changed 119 n [(2, 52), (0, x1)] σ) (cd_changed σ x1) := .of fun n => mo_cd_changed 119 n [(2, 52), (0, x1)] σ
theorem mb_cd_changed : gMos (e_cd_changed 119).2.2.2.1 := ⟨mo_cd_ends 119, trivial⟩
noncomputable def cd_changed_b2 (σ : gM) (x1 x2 : Int) : Option (gM × Int) := lim (fun n => gB (e_cd_changed 119) rF tF n 2 [(2, 52), (0, x1), (0, x2), (9, 0), (9, 0)] [] σ)
theorem cd_changed_b2_l (σ : gM) (x1 x2 : Int) : Lm (fun n => gB (e_cd_changed 119) rF tF n 2 [(2, 52), (0, x1), (0, x2), (9, 0), (9, 0)] [] σ) (cd_changed_b2 σ x1 x2) := .of fun n => gB_le (gMos_spec (mb_cd_changed)) n _ _ _ σ
noncomputable def cd_changed_b27 (σ : gM) (x1 x2 x3 x4 : Int) : Option (gM × Int) := lim (fun n => gB (e_cd_changed 119) rF tF n 27 [(2, 52), (0, x1), (0, x2), (0, x3), (0, x4)] [] σ)
theorem cd_changed_b27_l (σ : gM) (x1 x2 x3 x4 : Int) : Lm (fun n => gB (e_cd_changed 119) rF tF n 27 [(2, 52), (0, x1), (0, x2), (0, x3), (0, x4)] [] σ) (cd_changed_b27 σ x1 x2 x3 x4) := .of fun n => gB_le (gMos_spec (mb_cd_changed)) n _ _ _ σ
noncomputable def cd_changed_b65 (σ : gM) (x1 x2 x4 y0 : Int) : Option (gM × Int) := lim (fun n => gB (e_cd_changed 119) rF tF n 65 [(2, 52), (0, x1), (0, x2), (9, 0), (0, x4)] [(0, y0)] σ)
theorem cd_changed_b65_l (σ : gM) (x1 x2 x4 y0 : Int) : Lm (fun n => gB (e_cd_changed 119) rF tF n 65 [(2, 52), (0, x1), (0, x2), (9, 0), (0, x4)] [(0, y0)] σ) (cd_changed_b65 σ x1 x2 x4 y0) := .of fun n => gB_le (gMos_spec (mb_cd_changed)) n _ _ _ σ
noncomputable def cd_changed_b72 (σ : gM) (x1 x2 x3 : Int) : Option (gM × Int) := lim (fun n => gB (e_cd_changed 119) rF tF n 72 [(2, 52), (0, x1), (0, x2), (0, x3), (9, 0)] [] σ)
theorem cd_changed_b72_l (σ : gM) (x1 x2 x3 : Int) : Lm (fun n => gB (e_cd_changed 119) rF tF n 72 [(2, 52), (0, x1), (0, x2), (0, x3), (9, 0)] [] σ) (cd_changed_b72 σ x1 x2 x3) := .of fun n => gB_le (gMos_spec (mb_cd_changed)) n _ _ _ σ
noncomputable def cd_changed_b81 (σ : gM) (x1 x2 : Int) : Option (gM × Int) := lim (fun n => gB (e_cd_changed 119) rF tF n 81 [(2, 52), (0, x1), (0, x2), (9, 0), (9, 0)] [] σ)
theorem cd_changed_b81_l (σ : gM) (x1 x2 : Int) : Lm (fun n => gB (e_cd_changed 119) rF tF n 81 [(2, 52), (0, x1), (0, x2), (9, 0), (9, 0)] [] σ) (cd_changed_b81 σ x1 x2) := .of fun n => gB_le (gMos_spec (mb_cd_changed)) n _ _ _ σ
theorem cd_changed_e (σ : gM) (x1 : Int) : cd_changed σ x1 =
  (cd_changed_b2 σ x1 0) := Lm.eqn (cd_changed_l ..) (cd_changed_b2_l ..) fun n => (rfl)
theorem cd_changed_b2_e (σ : gM) (x1 x2 : Int) : cd_changed_b2 σ x1 x2 =
  (if x2 < σ 52 10 then
  (if 0 ≤ x2 ∧ x2 < 100 then
    (if σ 61 x2 = 0 then
      (cd_changed_b81 σ x1 x2)
      else
      (cd_changed_b27 σ x1 x2 0 0))
    else none)
  else
  (some (σ, 0))) := Lm.eqn (cd_changed_b2_l ..) (.ite (.ite (.ite (cd_changed_b81_l ..) (cd_changed_b27_l ..)) .cst) .cst) fun n => (rfl)
theorem cd_changed_b27_e (σ : gM) (x1 x2 x3 x4 : Int) : cd_changed_b27 σ x1 x2 x3 x4 =
  (if 0 ≤ x2 ∧ x2 < 100 then
  (if x4 < σ 55 x2 then
    (if x3 = 0 then
      (if 0 ≤ x2 ∧ x2 < 100 then
        (if 0 ≤ w32 ((σ 54 x2) + x4) ∧ w32 ((σ 54 x2) + x4) < 16000 then
          (if σ 62 (w32 ((σ 54 x2) + x4)) = x1 then
            (cd_changed_b65 σ x1 x2 x4 1)
            else
            (cd_changed_b65 σ x1 x2 x4 0))
          else none)
        else none)
      else
      (cd_changed_b72 σ x1 x2 x3))
    else
    (cd_changed_b72 σ x1 x2 x3))
  else none) := Lm.eqn (cd_changed_b27_l ..) (.ite (.ite (.ite (.ite (.ite (.ite (cd_changed_b65_l ..) (cd_changed_b65_l ..)) .cst) .cst) (cd_changed_b72_l ..)) (cd_changed_b72_l ..)) .cst) fun n => (rfl)
theorem cd_changed_b65_e (σ : gM) (x1 x2 x4 y0 : Int) : cd_changed_b65 σ x1 x2 x4 y0 =
  (cd_changed_b27 σ x1 x2 y0 (w32 (x4 + 1))) := Lm.eqn (cd_changed_b65_l ..) (cd_changed_b27_l ..) fun n => (rfl)
theorem cd_changed_b72_e (σ : gM) (x1 x2 x3 : Int) : cd_changed_b72 σ x1 x2 x3 =
  (if x3 = 0 then
  (cd_changed_b81 σ x1 x2)
  else
  ((cd_ends σ x2).bind fun p1 =>
    cd_changed_b81 p1.1 x1 x2)) := Lm.eqn (cd_changed_b72_l ..) (.ite (cd_changed_b81_l ..) (.bind (cd_ends_l ..) fun p1 => (cd_changed_b81_l ..))) fun n => (rfl)
theorem cd_changed_b81_e (σ : gM) (x1 x2 : Int) : cd_changed_b81 σ x1 x2 =
  (cd_changed_b2 σ x1 (w32 (x2 + 1))) := Lm.eqn (cd_changed_b81_l ..) (cd_changed_b2_l ..) fun n => (rfl)
def k_cd_has : List gC := [(0, 1, .aload_n 0, [], none), (1, 3, .getfield 61, [], none), (4, 3, .getfield 122, [], none), (7, 1, .iload_n 1, [], none),
  (8, 1, .iaload, [], none), (9, 1, .istore_n 3, [], none), (10, 1, .iload_n 3, [], some [true, true, true, true, false]), (11, 1, .aload_n 0, [], none),
  (12, 3, .getfield 61, [], none), (15, 3, .getfield 122, [], none), (18, 1, .iload_n 1, [], none), (19, 1, .iaload, [], none),
  (20, 1, .aload_n 0, [], none), (21, 3, .getfield 61, [], none), (24, 3, .getfield 120, [], none), (27, 1, .iload_n 1, [], none),
  (28, 1, .iaload, [], none), (29, 1, .iadd, [], none), (30, 3, .if_icmp .ge 109, [(0, 139)], none), (33, 1, .aload_n 0, [], none),
  (34, 3, .getfield 61, [], none), (37, 3, .getfield 128, [], none), (40, 1, .iload_n 3, [], none), (41, 1, .iaload, [], none),
  (42, 2, .bipush 21, [], none), (44, 3, .if_icmp .eq 20, [(0, 64)], none), (47, 1, .aload_n 0, [], none), (48, 3, .getfield 61, [], none),
  (51, 3, .getfield 128, [], none), (54, 1, .iload_n 3, [], none), (55, 1, .iaload, [], none), (56, 2, .bipush 22, [], none),
  (58, 3, .if_icmp .eq 6, [(0, 64)], none), (61, 3, .goto 72, [(0, 133)], none), (64, 1, .iconst 0, [], some [true, true, true, true, false]), (65, 2, .istore 4, [], none),
  (67, 2, .iload 4, [], some [true, true, true, true, true]), (69, 1, .aload_n 0, [], none), (70, 3, .getfield 61, [], none), (73, 3, .getfield 131, [], none),
  (76, 1, .iload_n 3, [], none), (77, 1, .iaload, [], none), (78, 3, .if_icmp .ge 55, [(0, 133)], none), (81, 1, .aload_n 0, [], none),
  (82, 3, .getfield 61, [], none), (85, 3, .getfield 134, [], none), (88, 2, .bipush 9, [], none), (90, 1, .iload_n 3, [], none),
  (91, 1, .imul, [], none), (92, 1, .iconst 3, [], none), (93, 2, .iload 4, [], none), (95, 1, .imul, [], none),
  (96, 1, .iadd, [], none), (97, 1, .iaload, [], none), (98, 1, .iload_n 2, [], none), (99, 3, .if_icmp .eq 26, [(0, 125)], none),
  (102, 1, .aload_n 0, [], none), (103, 3, .getfield 61, [], none), (106, 3, .getfield 134, [], none), (109, 2, .bipush 9, [], none),
  (111, 1, .iload_n 3, [], none), (112, 1, .imul, [], none), (113, 1, .iconst 3, [], none), (114, 2, .iload 4, [], none),
  (116, 1, .imul, [], none), (117, 1, .iadd, [], none), (118, 1, .iconst 2, [], none), (119, 1, .iadd, [], none),
  (120, 1, .iaload, [], none), (121, 1, .iload_n 2, [], none), (122, 3, .if_icmp .ne 5, [(0, 127)], none), (125, 1, .iconst 1, [], none),
  (126, 1, .ireturn, [], none), (127, 3, .iinc 4 1, [], none), (130, 3, .goto (-63), [(0, 67)], none), (133, 3, .iinc 3 1, [], some [true, true, true, true, false]),
  (136, 3, .goto (-126), [(0, 10)], none), (139, 1, .iconst 0, [], none), (140, 1, .ireturn, [], none)]
def e_cd_has (m : Nat) : gE := (k_cd_has, f_cd, c_cd, [], [], (m, 0), 6)
theorem ok_cd_has : gchk cX6_has 5 k_cd_has = true := by decide +kernel
def fn_cd_has (m : Nat) : gFn := gF (e_cd_has m) 5
theorem mo_cd_has (m : Nat) : gMo (.inl (fn_cd_has m)) := gF_mo (E := e_cd_has m) trivial
noncomputable def cd_has (σ : gM) (x1 x2 : Int) : Option (gM × Int) := lim (fun n => fn_cd_has 119 n [(2, 52), (0, x1), (0, x2)] σ)
theorem cd_has_l (σ : gM) (x1 x2 : Int) : Lm (fun n => fn_cd_has 119 n [(2, 52), (0, x1), (0, x2)] σ) (cd_has σ x1 x2) := .of fun n => mo_cd_has 119 n [(2, 52), (0, x1), (0, x2)] σ
theorem mb_cd_has : gMos (e_cd_has 119).2.2.2.1 := trivial
noncomputable def cd_has_b10 (σ : gM) (x1 x2 x3 : Int) : Option (gM × Int) := lim (fun n => gB (e_cd_has 119) rF tF n 10 [(2, 52), (0, x1), (0, x2), (0, x3), (9, 0)] [] σ)
theorem cd_has_b10_l (σ : gM) (x1 x2 x3 : Int) : Lm (fun n => gB (e_cd_has 119) rF tF n 10 [(2, 52), (0, x1), (0, x2), (0, x3), (9, 0)] [] σ) (cd_has_b10 σ x1 x2 x3) := .of fun n => gB_le (gMos_spec (mb_cd_has)) n _ _ _ σ
noncomputable def cd_has_b64 (σ : gM) (x1 x2 x3 : Int) : Option (gM × Int) := lim (fun n => gB (e_cd_has 119) rF tF n 64 [(2, 52), (0, x1), (0, x2), (0, x3), (9, 0)] [] σ)
theorem cd_has_b64_l (σ : gM) (x1 x2 x3 : Int) : Lm (fun n => gB (e_cd_has 119) rF tF n 64 [(2, 52), (0, x1), (0, x2), (0, x3), (9, 0)] [] σ) (cd_has_b64 σ x1 x2 x3) := .of fun n => gB_le (gMos_spec (mb_cd_has)) n _ _ _ σ
noncomputable def cd_has_b67 (σ : gM) (x1 x2 x3 x4 : Int) : Option (gM × Int) := lim (fun n => gB (e_cd_has 119) rF tF n 67 [(2, 52), (0, x1), (0, x2), (0, x3), (0, x4)] [] σ)
theorem cd_has_b67_l (σ : gM) (x1 x2 x3 x4 : Int) : Lm (fun n => gB (e_cd_has 119) rF tF n 67 [(2, 52), (0, x1), (0, x2), (0, x3), (0, x4)] [] σ) (cd_has_b67 σ x1 x2 x3 x4) := .of fun n => gB_le (gMos_spec (mb_cd_has)) n _ _ _ σ
noncomputable def cd_has_b133 (σ : gM) (x1 x2 x3 : Int) : Option (gM × Int) := lim (fun n => gB (e_cd_has 119) rF tF n 133 [(2, 52), (0, x1), (0, x2), (0, x3), (9, 0)] [] σ)
theorem cd_has_b133_l (σ : gM) (x1 x2 x3 : Int) : Lm (fun n => gB (e_cd_has 119) rF tF n 133 [(2, 52), (0, x1), (0, x2), (0, x3), (9, 0)] [] σ) (cd_has_b133 σ x1 x2 x3) := .of fun n => gB_le (gMos_spec (mb_cd_has)) n _ _ _ σ
theorem cd_has_e (σ : gM) (x1 x2 : Int) : cd_has σ x1 x2 =
  (if 0 ≤ x1 ∧ x1 < 60 then
  (cd_has_b10 σ x1 x2 (σ 26 x1))
  else none) := Lm.eqn (cd_has_l ..) (.ite (cd_has_b10_l ..) .cst) fun n => (rfl)
theorem cd_has_b10_e (σ : gM) (x1 x2 x3 : Int) : cd_has_b10 σ x1 x2 x3 =
  (if 0 ≤ x1 ∧ x1 < 60 then
  (if 0 ≤ x1 ∧ x1 < 60 then
    (if x3 < w32 ((σ 26 x1) + (σ 27 x1)) then
      (if 0 ≤ x3 ∧ x3 < 16000 then
        (if σ 9 x3 = 21 then
          (cd_has_b64 σ x1 x2 x3)
          else
          (if 0 ≤ x3 ∧ x3 < 16000 then
            (if σ 9 x3 = 22 then
              (cd_has_b64 σ x1 x2 x3)
              else
              (cd_has_b133 σ x1 x2 x3))
            else none))
        else none)
      else
      (some (σ, 0)))
    else none)
  else none) := Lm.eqn (cd_has_b10_l ..) (.ite (.ite (.ite (.ite (.ite (cd_has_b64_l ..) (.ite (.ite (cd_has_b64_l ..) (cd_has_b133_l ..)) .cst)) .cst) .cst) .cst) .cst) fun n => (rfl)
theorem cd_has_b64_e (σ : gM) (x1 x2 x3 : Int) : cd_has_b64 σ x1 x2 x3 =
  (cd_has_b67 σ x1 x2 x3 0) := Lm.eqn (cd_has_b64_l ..) (cd_has_b67_l ..) fun n => (rfl)
theorem cd_has_b67_e (σ : gM) (x1 x2 x3 x4 : Int) : cd_has_b67 σ x1 x2 x3 x4 =
  (if 0 ≤ x3 ∧ x3 < 16000 then
  (if x4 < σ 18 x3 then
    (if 0 ≤ w32 ((w32 (9 * x3)) + (w32 (3 * x4))) ∧ w32 ((w32 (9 * x3)) + (w32 (3 * x4))) < 144000 then
      (if σ 19 (w32 ((w32 (9 * x3)) + (w32 (3 * x4)))) = x2 then
        (some (σ, 1))
        else
        (if 0 ≤ w32 ((w32 ((w32 (9 * x3)) + (w32 (3 * x4)))) + 2) ∧ w32 ((w32 ((w32 (9 * x3)) + (w32 (3 * x4)))) + 2) < 144000 then
          (if σ 19 (w32 ((w32 ((w32 (9 * x3)) + (w32 (3 * x4)))) + 2)) = x2 then
            (some (σ, 1))
            else
            (cd_has_b67 σ x1 x2 x3 (w32 (x4 + 1))))
          else none))
      else none)
    else
    (cd_has_b133 σ x1 x2 x3))
  else none) := Lm.eqn (cd_has_b67_l ..) (.ite (.ite (.ite (.ite .cst (.ite (.ite .cst (cd_has_b67_l ..)) .cst)) .cst) (cd_has_b133_l ..)) .cst) fun n => (rfl)
theorem cd_has_b133_e (σ : gM) (x1 x2 x3 : Int) : cd_has_b133 σ x1 x2 x3 =
  (cd_has_b10 σ x1 x2 (w32 (x3 + 1))) := Lm.eqn (cd_has_b133_l ..) (cd_has_b10_l ..) fun n => (rfl)
def k_cd_obsolete : List gC := [(0, 1, .iconst 0, [], none), (1, 1, .istore_n 2, [], none), (2, 1, .iload_n 2, [], some [true, true, true, false, false]), (3, 1, .aload_n 0, [], none),
  (4, 3, .getfield 65, [], none), (7, 3, .if_icmp .ge 76, [(0, 83)], none), (10, 1, .aload_n 0, [], none), (11, 3, .getfield 36, [], none),
  (14, 1, .iload_n 2, [], none), (15, 1, .baload, [], none), (16, 3, .ifCond .ne 6, [(0, 22)], none), (19, 3, .goto 58, [(0, 77)], none),
  (22, 1, .iconst 0, [], none), (23, 1, .istore_n 3, [], none), (24, 1, .iconst 0, [], none), (25, 2, .istore 4, [], none),
  (27, 2, .iload 4, [], some [true, true, true, true, true]), (29, 1, .aload_n 0, [], none), (30, 3, .getfield 18, [], none), (33, 1, .iload_n 2, [], none),
  (34, 1, .iaload, [], none), (35, 3, .if_icmp .ge 33, [(0, 68)], none), (38, 1, .iload_n 3, [], none), (39, 3, .ifCond .ne 29, [(0, 68)], none),
  (42, 1, .aload_n 0, [], none), (43, 1, .aload_n 0, [], none), (44, 3, .getfield 40, [], none), (47, 1, .aload_n 0, [], none),
  (48, 3, .getfield 15, [], none), (51, 1, .iload_n 2, [], none), (52, 1, .iaload, [], none), (53, 2, .iload 4, [], none),
  (55, 1, .iadd, [], none), (56, 1, .iaload, [], none), (57, 1, .iload_n 1, [], none), (58, 3, .invokevirtual 176, [], none),
  (61, 1, .istore_n 3, [], none), (62, 3, .iinc 4 1, [], none), (65, 3, .goto (-38), [(0, 27)], none), (68, 1, .iload_n 3, [], some [true, true, true, true, false]),
  (69, 3, .ifCond .eq 8, [(0, 77)], none), (72, 1, .aload_n 0, [], none), (73, 1, .iload_n 2, [], none), (74, 3, .invokevirtual 166, [], none),
  (77, 3, .iinc 2 1, [], some [true, true, true, false, false]), (80, 3, .goto (-78), [(0, 2)], none), (83, 1, .return_, [], none)]
def e_cd_obsolete (m : Nat) : gE := (k_cd_obsolete, f_cd, c_cd, [(176, 3, 14, 0, .inl (fn_cd_has m)), (166, 2, 14, 5, .inl (fn_cd_ends m))], [], (m, 2305843030688530432), 5)
theorem ok_cd_obsolete : gchk cX6_obsolete 5 k_cd_obsolete = true := by decide +kernel
def fn_cd_obsolete (m : Nat) : gFn := gF (e_cd_obsolete m) 5
theorem mo_cd_obsolete (m : Nat) : gMo (.inl (fn_cd_obsolete m)) := gF_mo (E := e_cd_obsolete m) ⟨mo_cd_has m, ⟨mo_cd_ends m, trivial⟩⟩
noncomputable def cd_obsolete (σ : gM) (x1 : Int) : Option (gM × Int) := lim (fun n => fn_cd_obsolete 119 n [(2, 52), (0, x1)] σ)
theorem cd_obsolete_l (σ : gM) (x1 : Int) : Lm (fun n => fn_cd_obsolete 119 n [(2, 52), (0, x1)] σ) (cd_obsolete σ x1) := .of fun n => mo_cd_obsolete 119 n [(2, 52), (0, x1)] σ
theorem mb_cd_obsolete : gMos (e_cd_obsolete 119).2.2.2.1 := ⟨mo_cd_has 119, ⟨mo_cd_ends 119, trivial⟩⟩
noncomputable def cd_obsolete_b2 (σ : gM) (x1 x2 : Int) : Option (gM × Int) := lim (fun n => gB (e_cd_obsolete 119) rF tF n 2 [(2, 52), (0, x1), (0, x2), (9, 0), (9, 0)] [] σ)
theorem cd_obsolete_b2_l (σ : gM) (x1 x2 : Int) : Lm (fun n => gB (e_cd_obsolete 119) rF tF n 2 [(2, 52), (0, x1), (0, x2), (9, 0), (9, 0)] [] σ) (cd_obsolete_b2 σ x1 x2) := .of fun n => gB_le (gMos_spec (mb_cd_obsolete)) n _ _ _ σ
noncomputable def cd_obsolete_b27 (σ : gM) (x1 x2 x3 x4 : Int) : Option (gM × Int) := lim (fun n => gB (e_cd_obsolete 119) rF tF n 27 [(2, 52), (0, x1), (0, x2), (0, x3), (0, x4)] [] σ)
theorem cd_obsolete_b27_l (σ : gM) (x1 x2 x3 x4 : Int) : Lm (fun n => gB (e_cd_obsolete 119) rF tF n 27 [(2, 52), (0, x1), (0, x2), (0, x3), (0, x4)] [] σ) (cd_obsolete_b27 σ x1 x2 x3 x4) := .of fun n => gB_le (gMos_spec (mb_cd_obsolete)) n _ _ _ σ
noncomputable def cd_obsolete_b68 (σ : gM) (x1 x2 x3 : Int) : Option (gM × Int) := lim (fun n => gB (e_cd_obsolete 119) rF tF n 68 [(2, 52), (0, x1), (0, x2), (0, x3), (9, 0)] [] σ)
theorem cd_obsolete_b68_l (σ : gM) (x1 x2 x3 : Int) : Lm (fun n => gB (e_cd_obsolete 119) rF tF n 68 [(2, 52), (0, x1), (0, x2), (0, x3), (9, 0)] [] σ) (cd_obsolete_b68 σ x1 x2 x3) := .of fun n => gB_le (gMos_spec (mb_cd_obsolete)) n _ _ _ σ
noncomputable def cd_obsolete_b77 (σ : gM) (x1 x2 : Int) : Option (gM × Int) := lim (fun n => gB (e_cd_obsolete 119) rF tF n 77 [(2, 52), (0, x1), (0, x2), (9, 0), (9, 0)] [] σ)
theorem cd_obsolete_b77_l (σ : gM) (x1 x2 : Int) : Lm (fun n => gB (e_cd_obsolete 119) rF tF n 77 [(2, 52), (0, x1), (0, x2), (9, 0), (9, 0)] [] σ) (cd_obsolete_b77 σ x1 x2) := .of fun n => gB_le (gMos_spec (mb_cd_obsolete)) n _ _ _ σ
theorem cd_obsolete_e (σ : gM) (x1 : Int) : cd_obsolete σ x1 =
  (cd_obsolete_b2 σ x1 0) := Lm.eqn (cd_obsolete_l ..) (cd_obsolete_b2_l ..) fun n => (rfl)
theorem cd_obsolete_b2_e (σ : gM) (x1 x2 : Int) : cd_obsolete_b2 σ x1 x2 =
  (if x2 < σ 52 10 then
  (if 0 ≤ x2 ∧ x2 < 100 then
    (if σ 61 x2 = 0 then
      (cd_obsolete_b77 σ x1 x2)
      else
      (cd_obsolete_b27 σ x1 x2 0 0))
    else none)
  else
  (some (σ, 0))) := Lm.eqn (cd_obsolete_b2_l ..) (.ite (.ite (.ite (cd_obsolete_b77_l ..) (cd_obsolete_b27_l ..)) .cst) .cst) fun n => (rfl)
theorem cd_obsolete_b27_e (σ : gM) (x1 x2 x3 x4 : Int) : cd_obsolete_b27 σ x1 x2 x3 x4 =
  (if 0 ≤ x2 ∧ x2 < 100 then
  (if x4 < σ 55 x2 then
    (if x3 = 0 then
      (if 0 ≤ x2 ∧ x2 < 100 then
        (if 0 ≤ w32 ((σ 54 x2) + x4) ∧ w32 ((σ 54 x2) + x4) < 16000 then
          ((cd_has σ (σ 62 (w32 ((σ 54 x2) + x4))) x1).bind fun p1 =>
            cd_obsolete_b27 p1.1 x1 x2 p1.2 (w32 (x4 + 1)))
          else none)
        else none)
      else
      (cd_obsolete_b68 σ x1 x2 x3))
    else
    (cd_obsolete_b68 σ x1 x2 x3))
  else none) := Lm.eqn (cd_obsolete_b27_l ..) (.ite (.ite (.ite (.ite (.ite (.bind (cd_has_l ..) fun p1 => (cd_obsolete_b27_l ..)) .cst) .cst) (cd_obsolete_b68_l ..)) (cd_obsolete_b68_l ..)) .cst) fun n => (rfl)
theorem cd_obsolete_b68_e (σ : gM) (x1 x2 x3 : Int) : cd_obsolete_b68 σ x1 x2 x3 =
  (if x3 = 0 then
  (cd_obsolete_b77 σ x1 x2)
  else
  ((cd_ends σ x2).bind fun p1 =>
    cd_obsolete_b77 p1.1 x1 x2)) := Lm.eqn (cd_obsolete_b68_l ..) (.ite (cd_obsolete_b77_l ..) (.bind (cd_ends_l ..) fun p1 => (cd_obsolete_b77_l ..))) fun n => (rfl)
theorem cd_obsolete_b77_e (σ : gM) (x1 x2 : Int) : cd_obsolete_b77 σ x1 x2 =
  (cd_obsolete_b2 σ x1 (w32 (x2 + 1))) := Lm.eqn (cd_obsolete_b77_l ..) (cd_obsolete_b2_l ..) fun n => (rfl)
def k_cd_calls : List gC := [(0, 1, .aload_n 0, [], none), (1, 3, .getfield 61, [], none), (4, 3, .getfield 122, [], none), (7, 1, .iload_n 1, [], none),
  (8, 1, .iaload, [], none), (9, 1, .istore_n 3, [], none), (10, 1, .iload_n 3, [], some [true, true, true, true, false]), (11, 1, .aload_n 0, [], none),
  (12, 3, .getfield 61, [], none), (15, 3, .getfield 122, [], none), (18, 1, .iload_n 1, [], none), (19, 1, .iaload, [], none),
  (20, 1, .aload_n 0, [], none), (21, 3, .getfield 61, [], none), (24, 3, .getfield 120, [], none), (27, 1, .iload_n 1, [], none),
  (28, 1, .iaload, [], none), (29, 1, .iadd, [], none), (30, 3, .if_icmp .ge 80, [(0, 110)], none), (33, 1, .aload_n 0, [], none),
  (34, 3, .getfield 61, [], none), (37, 3, .getfield 128, [], none), (40, 1, .iload_n 3, [], none), (41, 1, .iaload, [], none),
  (42, 2, .bipush 23, [], none), (44, 3, .if_icmp .eq 6, [(0, 50)], none), (47, 3, .goto 57, [(0, 104)], none), (50, 1, .iconst 0, [], none),
  (51, 2, .istore 4, [], none), (53, 2, .iload 4, [], some [true, true, true, true, true]), (55, 1, .aload_n 0, [], none), (56, 3, .getfield 61, [], none),
  (59, 3, .getfield 131, [], none), (62, 1, .iload_n 3, [], none), (63, 1, .iaload, [], none), (64, 3, .if_icmp .ge 40, [(0, 104)], none),
  (67, 1, .aload_n 0, [], none), (68, 3, .getfield 61, [], none), (71, 3, .getfield 169, [], none), (74, 1, .aload_n 0, [], none),
  (75, 3, .getfield 61, [], none), (78, 3, .getfield 134, [], none), (81, 2, .bipush 9, [], none), (83, 1, .iload_n 3, [], none),
  (84, 1, .imul, [], none), (85, 1, .iconst 3, [], none), (86, 2, .iload 4, [], none), (88, 1, .imul, [], none),
  (89, 1, .iadd, [], none), (90, 1, .iaload, [], none), (91, 1, .iaload, [], none), (92, 1, .iload_n 2, [], none),
  (93, 3, .if_icmp .ne 5, [(0, 98)], none), (96, 1, .iconst 1, [], none), (97, 1, .ireturn, [], none), (98, 3, .iinc 4 1, [], none),
  (101, 3, .goto (-48), [(0, 53)], none), (104, 3, .iinc 3 1, [], some [true, true, true, true, false]), (107, 3, .goto (-97), [(0, 10)], none), (110, 1, .iconst 0, [], none),
  (111, 1, .ireturn, [], none)]
def e_cd_calls (m : Nat) : gE := (k_cd_calls, f_cd, c_cd, [], [], (m, 0), 6)
theorem ok_cd_calls : gchk cX6_calls 5 k_cd_calls = true := by decide +kernel
def fn_cd_calls (m : Nat) : gFn := gF (e_cd_calls m) 5
theorem mo_cd_calls (m : Nat) : gMo (.inl (fn_cd_calls m)) := gF_mo (E := e_cd_calls m) trivial
noncomputable def cd_calls (σ : gM) (x1 x2 : Int) : Option (gM × Int) := lim (fun n => fn_cd_calls 119 n [(2, 52), (0, x1), (0, x2)] σ)
theorem cd_calls_l (σ : gM) (x1 x2 : Int) : Lm (fun n => fn_cd_calls 119 n [(2, 52), (0, x1), (0, x2)] σ) (cd_calls σ x1 x2) := .of fun n => mo_cd_calls 119 n [(2, 52), (0, x1), (0, x2)] σ
theorem mb_cd_calls : gMos (e_cd_calls 119).2.2.2.1 := trivial
noncomputable def cd_calls_b10 (σ : gM) (x1 x2 x3 : Int) : Option (gM × Int) := lim (fun n => gB (e_cd_calls 119) rF tF n 10 [(2, 52), (0, x1), (0, x2), (0, x3), (9, 0)] [] σ)
theorem cd_calls_b10_l (σ : gM) (x1 x2 x3 : Int) : Lm (fun n => gB (e_cd_calls 119) rF tF n 10 [(2, 52), (0, x1), (0, x2), (0, x3), (9, 0)] [] σ) (cd_calls_b10 σ x1 x2 x3) := .of fun n => gB_le (gMos_spec (mb_cd_calls)) n _ _ _ σ
noncomputable def cd_calls_b53 (σ : gM) (x1 x2 x3 x4 : Int) : Option (gM × Int) := lim (fun n => gB (e_cd_calls 119) rF tF n 53 [(2, 52), (0, x1), (0, x2), (0, x3), (0, x4)] [] σ)
theorem cd_calls_b53_l (σ : gM) (x1 x2 x3 x4 : Int) : Lm (fun n => gB (e_cd_calls 119) rF tF n 53 [(2, 52), (0, x1), (0, x2), (0, x3), (0, x4)] [] σ) (cd_calls_b53 σ x1 x2 x3 x4) := .of fun n => gB_le (gMos_spec (mb_cd_calls)) n _ _ _ σ
noncomputable def cd_calls_b104 (σ : gM) (x1 x2 x3 : Int) : Option (gM × Int) := lim (fun n => gB (e_cd_calls 119) rF tF n 104 [(2, 52), (0, x1), (0, x2), (0, x3), (9, 0)] [] σ)
theorem cd_calls_b104_l (σ : gM) (x1 x2 x3 : Int) : Lm (fun n => gB (e_cd_calls 119) rF tF n 104 [(2, 52), (0, x1), (0, x2), (0, x3), (9, 0)] [] σ) (cd_calls_b104 σ x1 x2 x3) := .of fun n => gB_le (gMos_spec (mb_cd_calls)) n _ _ _ σ
theorem cd_calls_e (σ : gM) (x1 x2 : Int) : cd_calls σ x1 x2 =
  (if 0 ≤ x1 ∧ x1 < 60 then
  (cd_calls_b10 σ x1 x2 (σ 26 x1))
  else none) := Lm.eqn (cd_calls_l ..) (.ite (cd_calls_b10_l ..) .cst) fun n => (rfl)
theorem cd_calls_b10_e (σ : gM) (x1 x2 x3 : Int) : cd_calls_b10 σ x1 x2 x3 =
  (if 0 ≤ x1 ∧ x1 < 60 then
  (if 0 ≤ x1 ∧ x1 < 60 then
    (if x3 < w32 ((σ 26 x1) + (σ 27 x1)) then
      (if 0 ≤ x3 ∧ x3 < 16000 then
        (if σ 9 x3 = 23 then
          (cd_calls_b53 σ x1 x2 x3 0)
          else
          (cd_calls_b104 σ x1 x2 x3))
        else none)
      else
      (some (σ, 0)))
    else none)
  else none) := Lm.eqn (cd_calls_b10_l ..) (.ite (.ite (.ite (.ite (.ite (cd_calls_b53_l ..) (cd_calls_b104_l ..)) .cst) .cst) .cst) .cst) fun n => (rfl)
theorem cd_calls_b53_e (σ : gM) (x1 x2 x3 x4 : Int) : cd_calls_b53 σ x1 x2 x3 x4 =
  (if 0 ≤ x3 ∧ x3 < 16000 then
  (if x4 < σ 18 x3 then
    (if 0 ≤ w32 ((w32 (9 * x3)) + (w32 (3 * x4))) ∧ w32 ((w32 (9 * x3)) + (w32 (3 * x4))) < 144000 then
      (if 0 ≤ σ 19 (w32 ((w32 (9 * x3)) + (w32 (3 * x4)))) ∧ σ 19 (w32 ((w32 (9 * x3)) + (w32 (3 * x4)))) < 60 then
        (if σ 25 (σ 19 (w32 ((w32 (9 * x3)) + (w32 (3 * x4))))) = x2 then
          (some (σ, 1))
          else
          (cd_calls_b53 σ x1 x2 x3 (w32 (x4 + 1))))
        else none)
      else none)
    else
    (cd_calls_b104 σ x1 x2 x3))
  else none) := Lm.eqn (cd_calls_b53_l ..) (.ite (.ite (.ite (.ite (.ite .cst (cd_calls_b53_l ..)) .cst) .cst) (cd_calls_b104_l ..)) .cst) fun n => (rfl)
theorem cd_calls_b104_e (σ : gM) (x1 x2 x3 : Int) : cd_calls_b104 σ x1 x2 x3 =
  (cd_calls_b10 σ x1 x2 (w32 (x3 + 1))) := Lm.eqn (cd_calls_b104_l ..) (cd_calls_b10_l ..) fun n => (rfl)
def k_cd_defined : List gC := [(0, 1, .iconst 0, [], none), (1, 1, .istore_n 2, [], none), (2, 1, .iload_n 2, [], some [true, true, true, false, false]), (3, 1, .aload_n 0, [], none),
  (4, 3, .getfield 65, [], none), (7, 3, .if_icmp .ge 110, [(0, 117)], none), (10, 1, .aload_n 0, [], none), (11, 3, .getfield 36, [], none),
  (14, 1, .iload_n 2, [], none), (15, 1, .baload, [], none), (16, 3, .ifCond .ne 6, [(0, 22)], none), (19, 3, .goto 92, [(0, 111)], none),
  (22, 1, .iconst 0, [], none), (23, 1, .istore_n 3, [], none), (24, 1, .iconst 0, [], none), (25, 2, .istore 4, [], none),
  (27, 2, .iload 4, [], some [true, true, true, true, true]), (29, 1, .aload_n 0, [], none), (30, 3, .getfield 18, [], none), (33, 1, .iload_n 2, [], none),
  (34, 1, .iaload, [], none), (35, 3, .if_icmp .ge 67, [(0, 102)], none), (38, 1, .iload_n 3, [], none), (39, 3, .ifCond .ne 63, [(0, 102)], none),
  (42, 1, .aload_n 0, [], none), (43, 3, .getfield 61, [], none), (46, 3, .getfield 169, [], none), (49, 1, .aload_n 0, [], none),
  (50, 3, .getfield 40, [], none), (53, 1, .aload_n 0, [], none), (54, 3, .getfield 15, [], none), (57, 1, .iload_n 2, [], none),
  (58, 1, .iaload, [], none), (59, 2, .iload 4, [], none), (61, 1, .iadd, [], none), (62, 1, .iaload, [], none),
  (63, 1, .iaload, [], none), (64, 1, .iload_n 1, [], none), (65, 3, .if_icmp .eq 25, [(0, 90)], none), (68, 1, .aload_n 0, [], none),
  (69, 1, .aload_n 0, [], none), (70, 3, .getfield 40, [], none), (73, 1, .aload_n 0, [], none), (74, 3, .getfield 15, [], none),
  (77, 1, .iload_n 2, [], none), (78, 1, .iaload, [], none), (79, 2, .iload 4, [], none), (81, 1, .iadd, [], none),
  (82, 1, .iaload, [], none), (83, 1, .iload_n 1, [], none), (84, 3, .invokevirtual 172, [], none), (87, 3, .ifCond .eq 7, [(0, 94)], none),
  (90, 1, .iconst 1, [], some [true, true, true, false, true]), (91, 3, .goto 4, [(0, 95)], none), (94, 1, .iconst 0, [], none), (95, 1, .istore_n 3, [], some [true, true, true, false, true]),
  (96, 3, .iinc 4 1, [], none), (99, 3, .goto (-72), [(0, 27)], none), (102, 1, .iload_n 3, [], some [true, true, true, true, false]), (103, 3, .ifCond .eq 8, [(0, 111)], none),
  (106, 1, .aload_n 0, [], none), (107, 1, .iload_n 2, [], none), (108, 3, .invokevirtual 166, [], none), (111, 3, .iinc 2 1, [], some [true, true, true, false, false]),
  (114, 3, .goto (-112), [(0, 2)], none), (117, 1, .return_, [], none)]
def e_cd_defined (m : Nat) : gE := (k_cd_defined, f_cd, c_cd, [(172, 3, 14, 0, .inl (fn_cd_calls m)), (166, 2, 14, 5, .inl (fn_cd_ends m))], [], (m, 2305843030688530432), 5)
theorem ok_cd_defined : gchk cX6_defined 5 k_cd_defined = true := by decide +kernel
def fn_cd_defined (m : Nat) : gFn := gF (e_cd_defined m) 5
theorem mo_cd_defined (m : Nat) : gMo (.inl (fn_cd_defined m)) := gF_mo (E := e_cd_defined m) ⟨mo_cd_calls m, ⟨mo_cd_ends m, trivial⟩⟩
noncomputable def cd_defined (σ : gM) (x1 : Int) : Option (gM × Int) := lim (fun n => fn_cd_defined 119 n [(2, 52), (0, x1)] σ)
theorem cd_defined_l (σ : gM) (x1 : Int) : Lm (fun n => fn_cd_defined 119 n [(2, 52), (0, x1)] σ) (cd_defined σ x1) := .of fun n => mo_cd_defined 119 n [(2, 52), (0, x1)] σ
theorem mb_cd_defined : gMos (e_cd_defined 119).2.2.2.1 := ⟨mo_cd_calls 119, ⟨mo_cd_ends 119, trivial⟩⟩
noncomputable def cd_defined_b2 (σ : gM) (x1 x2 : Int) : Option (gM × Int) := lim (fun n => gB (e_cd_defined 119) rF tF n 2 [(2, 52), (0, x1), (0, x2), (9, 0), (9, 0)] [] σ)
theorem cd_defined_b2_l (σ : gM) (x1 x2 : Int) : Lm (fun n => gB (e_cd_defined 119) rF tF n 2 [(2, 52), (0, x1), (0, x2), (9, 0), (9, 0)] [] σ) (cd_defined_b2 σ x1 x2) := .of fun n => gB_le (gMos_spec (mb_cd_defined)) n _ _ _ σ
noncomputable def cd_defined_b27 (σ : gM) (x1 x2 x3 x4 : Int) : Option (gM × Int) := lim (fun n => gB (e_cd_defined 119) rF tF n 27 [(2, 52), (0, x1), (0, x2), (0, x3), (0, x4)] [] σ)
theorem cd_defined_b27_l (σ : gM) (x1 x2 x3 x4 : Int) : Lm (fun n => gB (e_cd_defined 119) rF tF n 27 [(2, 52), (0, x1), (0, x2), (0, x3), (0, x4)] [] σ) (cd_defined_b27 σ x1 x2 x3 x4) := .of fun n => gB_le (gMos_spec (mb_cd_defined)) n _ _ _ σ
noncomputable def cd_defined_b90 (σ : gM) (x1 x2 x4 : Int) : Option (gM × Int) := lim (fun n => gB (e_cd_defined 119) rF tF n 90 [(2, 52), (0, x1), (0, x2), (9, 0), (0, x4)] [] σ)
theorem cd_defined_b90_l (σ : gM) (x1 x2 x4 : Int) : Lm (fun n => gB (e_cd_defined 119) rF tF n 90 [(2, 52), (0, x1), (0, x2), (9, 0), (0, x4)] [] σ) (cd_defined_b90 σ x1 x2 x4) := .of fun n => gB_le (gMos_spec (mb_cd_defined)) n _ _ _ σ
noncomputable def cd_defined_b95 (σ : gM) (x1 x2 x4 y0 : Int) : Option (gM × Int) := lim (fun n => gB (e_cd_defined 119) rF tF n 95 [(2, 52), (0, x1), (0, x2), (9, 0), (0, x4)] [(0, y0)] σ)
theorem cd_defined_b95_l (σ : gM) (x1 x2 x4 y0 : Int) : Lm (fun n => gB (e_cd_defined 119) rF tF n 95 [(2, 52), (0, x1), (0, x2), (9, 0), (0, x4)] [(0, y0)] σ) (cd_defined_b95 σ x1 x2 x4 y0) := .of fun n => gB_le (gMos_spec (mb_cd_defined)) n _ _ _ σ
noncomputable def cd_defined_b102 (σ : gM) (x1 x2 x3 : Int) : Option (gM × Int) := lim (fun n => gB (e_cd_defined 119) rF tF n 102 [(2, 52), (0, x1), (0, x2), (0, x3), (9, 0)] [] σ)
theorem cd_defined_b102_l (σ : gM) (x1 x2 x3 : Int) : Lm (fun n => gB (e_cd_defined 119) rF tF n 102 [(2, 52), (0, x1), (0, x2), (0, x3), (9, 0)] [] σ) (cd_defined_b102 σ x1 x2 x3) := .of fun n => gB_le (gMos_spec (mb_cd_defined)) n _ _ _ σ
noncomputable def cd_defined_b111 (σ : gM) (x1 x2 : Int) : Option (gM × Int) := lim (fun n => gB (e_cd_defined 119) rF tF n 111 [(2, 52), (0, x1), (0, x2), (9, 0), (9, 0)] [] σ)
theorem cd_defined_b111_l (σ : gM) (x1 x2 : Int) : Lm (fun n => gB (e_cd_defined 119) rF tF n 111 [(2, 52), (0, x1), (0, x2), (9, 0), (9, 0)] [] σ) (cd_defined_b111 σ x1 x2) := .of fun n => gB_le (gMos_spec (mb_cd_defined)) n _ _ _ σ
theorem cd_defined_e (σ : gM) (x1 : Int) : cd_defined σ x1 =
  (cd_defined_b2 σ x1 0) := Lm.eqn (cd_defined_l ..) (cd_defined_b2_l ..) fun n => (rfl)
theorem cd_defined_b2_e (σ : gM) (x1 x2 : Int) : cd_defined_b2 σ x1 x2 =
  (if x2 < σ 52 10 then
  (if 0 ≤ x2 ∧ x2 < 100 then
    (if σ 61 x2 = 0 then
      (cd_defined_b111 σ x1 x2)
      else
      (cd_defined_b27 σ x1 x2 0 0))
    else none)
  else
  (some (σ, 0))) := Lm.eqn (cd_defined_b2_l ..) (.ite (.ite (.ite (cd_defined_b111_l ..) (cd_defined_b27_l ..)) .cst) .cst) fun n => (rfl)
theorem cd_defined_b27_e (σ : gM) (x1 x2 x3 x4 : Int) : cd_defined_b27 σ x1 x2 x3 x4 =
  (if 0 ≤ x2 ∧ x2 < 100 then
  (if x4 < σ 55 x2 then
    (if x3 = 0 then
      (if 0 ≤ x2 ∧ x2 < 100 then
        (if 0 ≤ w32 ((σ 54 x2) + x4) ∧ w32 ((σ 54 x2) + x4) < 16000 then
          (if 0 ≤ σ 62 (w32 ((σ 54 x2) + x4)) ∧ σ 62 (w32 ((σ 54 x2) + x4)) < 60 then
            (if σ 25 (σ 62 (w32 ((σ 54 x2) + x4))) = x1 then
              (cd_defined_b90 σ x1 x2 x4)
              else
              (if 0 ≤ x2 ∧ x2 < 100 then
                (if 0 ≤ w32 ((σ 54 x2) + x4) ∧ w32 ((σ 54 x2) + x4) < 16000 then
                  ((cd_calls σ (σ 62 (w32 ((σ 54 x2) + x4))) x1).bind fun p1 =>
                    if p1.2 = 0 then
                    (cd_defined_b95 p1.1 x1 x2 x4 0)
                    else
                    (cd_defined_b90 p1.1 x1 x2 x4))
                  else none)
                else none))
            else none)
          else none)
        else none)
      else
      (cd_defined_b102 σ x1 x2 x3))
    else
    (cd_defined_b102 σ x1 x2 x3))
  else none) := Lm.eqn (cd_defined_b27_l ..) (.ite (.ite (.ite (.ite (.ite (.ite (.ite (cd_defined_b90_l ..) (.ite (.ite (.bind (cd_calls_l ..) fun p1 => (.ite (cd_defined_b95_l ..) (cd_defined_b90_l ..))) .cst) .cst)) .cst) .cst) .cst) (cd_defined_b102_l ..)) (cd_defined_b102_l ..)) .cst) fun n => (rfl)
theorem cd_defined_b90_e (σ : gM) (x1 x2 x4 : Int) : cd_defined_b90 σ x1 x2 x4 =
  (cd_defined_b95 σ x1 x2 x4 1) := Lm.eqn (cd_defined_b90_l ..) (cd_defined_b95_l ..) fun n => (rfl)
theorem cd_defined_b95_e (σ : gM) (x1 x2 x4 y0 : Int) : cd_defined_b95 σ x1 x2 x4 y0 =
  (cd_defined_b27 σ x1 x2 y0 (w32 (x4 + 1))) := Lm.eqn (cd_defined_b95_l ..) (cd_defined_b27_l ..) fun n => (rfl)
theorem cd_defined_b102_e (σ : gM) (x1 x2 x3 : Int) : cd_defined_b102 σ x1 x2 x3 =
  (if x3 = 0 then
  (cd_defined_b111 σ x1 x2)
  else
  ((cd_ends σ x2).bind fun p1 =>
    cd_defined_b111 p1.1 x1 x2)) := Lm.eqn (cd_defined_b102_l ..) (.ite (cd_defined_b111_l ..) (.bind (cd_ends_l ..) fun p1 => (cd_defined_b111_l ..))) fun n => (rfl)
theorem cd_defined_b111_e (σ : gM) (x1 x2 : Int) : cd_defined_b111 σ x1 x2 =
  (cd_defined_b2 σ x1 (w32 (x2 + 1))) := Lm.eqn (cd_defined_b111_l ..) (cd_defined_b2_l ..) fun n => (rfl)
def k_cd_unit : List gC := [(0, 1, .iconst 0, [], none), (1, 2, .istore 5, [], none), (3, 2, .iload 5, [], some [true, true, true, true, true, true]), (5, 1, .aload_n 0, [], none),
  (6, 3, .getfield 18, [], none), (9, 1, .iload_n 1, [], none), (10, 1, .iaload, [], none), (11, 3, .if_icmp .ge 67, [(0, 78)], none),
  (14, 1, .aload_n 0, [], none), (15, 3, .getfield 43, [], none), (18, 1, .aload_n 0, [], none), (19, 3, .getfield 15, [], none),
  (22, 1, .iload_n 1, [], none), (23, 1, .iaload, [], none), (24, 2, .iload 5, [], none), (26, 1, .iadd, [], none),
  (27, 1, .iaload, [], none), (28, 1, .iload_n 2, [], none), (29, 3, .if_icmp .ne 43, [(0, 72)], none), (32, 1, .aload_n 0, [], none),
  (33, 3, .getfield 46, [], none), (36, 1, .aload_n 0, [], none), (37, 3, .getfield 15, [], none), (40, 1, .iload_n 1, [], none),
  (41, 1, .iaload, [], none), (42, 2, .iload 5, [], none), (44, 1, .iadd, [], none), (45, 1, .iaload, [], none),
  (46, 1, .iload_n 3, [], none), (47, 3, .if_icmp .ne 25, [(0, 72)], none), (50, 1, .aload_n 0, [], none), (51, 3, .getfield 40, [], none),
  (54, 1, .aload_n 0, [], none), (55, 3, .getfield 15, [], none), (58, 1, .iload_n 1, [], none), (59, 1, .iaload, [], none),
  (60, 2, .iload 5, [], none), (62, 1, .iadd, [], none), (63, 1, .iaload, [], none), (64, 2, .iload 4, [], none),
  (66, 3, .if_icmp .ne 6, [(0, 72)], none), (69, 2, .iload 5, [], none), (71, 1, .ireturn, [], none), (72, 3, .iinc 5 1, [], some [true, true, true, true, true, true]),
  (75, 3, .goto (-72), [(0, 3)], none), (78, 1, .iconst (-1), [], none), (79, 1, .ireturn, [], none)]
def e_cd_unit (m : Nat) : gE := (k_cd_unit, f_cd, c_cd, [], [], (m, 0), 0)
theorem ok_cd_unit : gchk cX6_unit 6 k_cd_unit = true := by decide +kernel
def fn_cd_unit (m : Nat) : gFn := gF (e_cd_unit m) 6
theorem mo_cd_unit (m : Nat) : gMo (.inl (fn_cd_unit m)) := gF_mo (E := e_cd_unit m) trivial
noncomputable def cd_unit (σ : gM) (x1 x2 x3 x4 : Int) : Option (gM × Int) := lim (fun n => fn_cd_unit 119 n [(2, 52), (0, x1), (0, x2), (0, x3), (0, x4)] σ)
theorem cd_unit_l (σ : gM) (x1 x2 x3 x4 : Int) : Lm (fun n => fn_cd_unit 119 n [(2, 52), (0, x1), (0, x2), (0, x3), (0, x4)] σ) (cd_unit σ x1 x2 x3 x4) := .of fun n => mo_cd_unit 119 n [(2, 52), (0, x1), (0, x2), (0, x3), (0, x4)] σ
theorem mb_cd_unit : gMos (e_cd_unit 119).2.2.2.1 := trivial
noncomputable def cd_unit_b3 (σ : gM) (x1 x2 x3 x4 x5 : Int) : Option (gM × Int) := lim (fun n => gB (e_cd_unit 119) rF tF n 3 [(2, 52), (0, x1), (0, x2), (0, x3), (0, x4), (0, x5)] [] σ)
theorem cd_unit_b3_l (σ : gM) (x1 x2 x3 x4 x5 : Int) : Lm (fun n => gB (e_cd_unit 119) rF tF n 3 [(2, 52), (0, x1), (0, x2), (0, x3), (0, x4), (0, x5)] [] σ) (cd_unit_b3 σ x1 x2 x3 x4 x5) := .of fun n => gB_le (gMos_spec (mb_cd_unit)) n _ _ _ σ
noncomputable def cd_unit_b72 (σ : gM) (x1 x2 x3 x4 x5 : Int) : Option (gM × Int) := lim (fun n => gB (e_cd_unit 119) rF tF n 72 [(2, 52), (0, x1), (0, x2), (0, x3), (0, x4), (0, x5)] [] σ)
theorem cd_unit_b72_l (σ : gM) (x1 x2 x3 x4 x5 : Int) : Lm (fun n => gB (e_cd_unit 119) rF tF n 72 [(2, 52), (0, x1), (0, x2), (0, x3), (0, x4), (0, x5)] [] σ) (cd_unit_b72 σ x1 x2 x3 x4 x5) := .of fun n => gB_le (gMos_spec (mb_cd_unit)) n _ _ _ σ
theorem cd_unit_e (σ : gM) (x1 x2 x3 x4 : Int) : cd_unit σ x1 x2 x3 x4 =
  (cd_unit_b3 σ x1 x2 x3 x4 0) := Lm.eqn (cd_unit_l ..) (cd_unit_b3_l ..) fun n => (rfl)
theorem cd_unit_b3_e (σ : gM) (x1 x2 x3 x4 x5 : Int) : cd_unit_b3 σ x1 x2 x3 x4 x5 =
  (if 0 ≤ x1 ∧ x1 < 100 then
  (if x5 < σ 55 x1 then
    (if 0 ≤ x1 ∧ x1 < 100 then
      (if 0 ≤ w32 ((σ 54 x1) + x5) ∧ w32 ((σ 54 x1) + x5) < 16000 then
        (if σ 63 (w32 ((σ 54 x1) + x5)) = x2 then
          (if 0 ≤ x1 ∧ x1 < 100 then
            (if 0 ≤ w32 ((σ 54 x1) + x5) ∧ w32 ((σ 54 x1) + x5) < 16000 then
              (if σ 64 (w32 ((σ 54 x1) + x5)) = x3 then
                (if 0 ≤ x1 ∧ x1 < 100 then
                  (if 0 ≤ w32 ((σ 54 x1) + x5) ∧ w32 ((σ 54 x1) + x5) < 16000 then
                    (if σ 62 (w32 ((σ 54 x1) + x5)) = x4 then
                      (some (σ, x5))
                      else
                      (cd_unit_b72 σ x1 x2 x3 x4 x5))
                    else none)
                  else none)
                else
                (cd_unit_b72 σ x1 x2 x3 x4 x5))
              else none)
            else none)
          else
          (cd_unit_b72 σ x1 x2 x3 x4 x5))
        else none)
      else none)
    else
    (some (σ, (-1))))
  else none) := Lm.eqn (cd_unit_b3_l ..) (.ite (.ite (.ite (.ite (.ite (.ite (.ite (.ite (.ite (.ite (.ite .cst (cd_unit_b72_l ..)) .cst) .cst) (cd_unit_b72_l ..)) .cst) .cst) (cd_unit_b72_l ..)) .cst) .cst) .cst) .cst) fun n => (rfl)
theorem cd_unit_b72_e (σ : gM) (x1 x2 x3 x4 x5 : Int) : cd_unit_b72 σ x1 x2 x3 x4 x5 =
  (cd_unit_b3 σ x1 x2 x3 x4 (w32 (x5 + 1))) := Lm.eqn (cd_unit_b72_l ..) (cd_unit_b3_l ..) fun n => (rfl)
def k_cd_adds : List gC := [(0, 1, .aload_n 0, [], none), (1, 3, .getfield 40, [], none), (4, 1, .aload_n 0, [], none), (5, 3, .getfield 69, [], none),
  (8, 1, .iload_n 2, [], none), (9, 1, .iastore, [], none), (10, 1, .aload_n 0, [], none), (11, 3, .getfield 43, [], none),
  (14, 1, .aload_n 0, [], none), (15, 3, .getfield 69, [], none), (18, 1, .iload_n 3, [], none), (19, 1, .iastore, [], none),
  (20, 1, .aload_n 0, [], none), (21, 3, .getfield 46, [], none), (24, 1, .aload_n 0, [], none), (25, 3, .getfield 69, [], none),
  (28, 2, .iload 4, [], none), (30, 1, .iastore, [], none), (31, 1, .aload_n 0, [], none), (32, 1, .dup, [], none),
  (33, 3, .getfield 69, [], none), (36, 1, .iconst 1, [], none), (37, 1, .iadd, [], none), (38, 3, .putfield 69, [], none),
  (41, 1, .aload_n 0, [], none), (42, 3, .getfield 18, [], none), (45, 1, .iload_n 1, [], none), (46, 1, .dup2, [], none),
  (47, 1, .iaload, [], none), (48, 1, .iconst 1, [], none), (49, 1, .iadd, [], none), (50, 1, .iastore, [], none),
  (51, 1, .aload_n 0, [], none), (52, 3, .getfield 21, [], none), (55, 1, .iload_n 1, [], none), (56, 1, .dup2, [], none),
  (57, 1, .iaload, [], none), (58, 1, .aload_n 0, [], none), (59, 3, .getfield 61, [], none), (62, 3, .getfield 120, [], none),
  (65, 1, .iload_n 2, [], none), (66, 1, .iaload, [], none), (67, 1, .iadd, [], none), (68, 1, .iastore, [], none),
  (69, 1, .return_, [], none)]
def e_cd_adds (m : Nat) : gE := (k_cd_adds, f_cd, c_cd, [], [], (m, 4479489484355608421114884561136888556243290994469299069799978201927583742360321890794144875063262838784), 5)
theorem ok_cd_adds : gchk cX6_adds 5 k_cd_adds = true := by decide +kernel
def fn_cd_adds (m : Nat) : gFn := gF (e_cd_adds m) 5
theorem mo_cd_adds (m : Nat) : gMo (.inl (fn_cd_adds m)) := gF_mo (E := e_cd_adds m) trivial
noncomputable def cd_adds (σ : gM) (x1 x2 x3 x4 : Int) : Option (gM × Int) := lim (fun n => fn_cd_adds 119 n [(2, 52), (0, x1), (0, x2), (0, x3), (0, x4)] σ)
theorem cd_adds_l (σ : gM) (x1 x2 x3 x4 : Int) : Lm (fun n => fn_cd_adds 119 n [(2, 52), (0, x1), (0, x2), (0, x3), (0, x4)] σ) (cd_adds σ x1 x2 x3 x4) := .of fun n => mo_cd_adds 119 n [(2, 52), (0, x1), (0, x2), (0, x3), (0, x4)] σ
theorem cd_adds_e (σ : gM) (x1 x2 x3 x4 : Int) : cd_adds σ x1 x2 x3 x4 =
  (if 0 ≤ σ 52 11 ∧ σ 52 11 < 16000 then
  (if 0 ≤ σ 52 11 ∧ σ 52 11 < 16000 then
    (if 0 ≤ σ 52 11 ∧ σ 52 11 < 16000 then
      (if 0 ≤ x1 ∧ x1 < 100 then
        (if 0 ≤ x1 ∧ x1 < 100 then
          (if 0 ≤ x1 ∧ x1 < 100 then
            (if 0 ≤ x2 ∧ x2 < 60 then
              (if 0 ≤ x1 ∧ x1 < 100 then
                (some (gW (gW (gW (gW (gW (gW σ 62 (σ 52 11) x2) 63 (σ 52 11) x3) 64 (σ 52 11) x4) 52 11 (w32 ((σ 52 11) + 1))) 55 x1 (w32 ((σ 55 x1) + 1))) 56 x1 (w32 ((σ 56 x1) + (σ 27 x2))), 0))
                else none)
              else none)
            else none)
          else none)
        else none)
      else none)
    else none)
  else none) := Lm.eqn (cd_adds_l ..) (.ite (.ite (.ite (.ite (.ite (.ite (.ite (.ite .cst .cst) .cst) .cst) .cst) .cst) .cst) .cst) .cst) fun n => (rfl)
def k_cd_inlines : List gC := [(0, 1, .aload_n 0, [], none), (1, 3, .getfield 40, [], none), (4, 1, .aload_n 0, [], none), (5, 3, .getfield 15, [], none),
  (8, 1, .iload_n 1, [], none), (9, 1, .iaload, [], none), (10, 1, .iload_n 2, [], none), (11, 1, .iadd, [], none),
  (12, 1, .iaload, [], none), (13, 1, .istore_n 3, [], none), (14, 1, .iconst 0, [], none), (15, 2, .istore 4, [], none),
  (17, 1, .iload_n 2, [], none), (18, 2, .istore 5, [], none), (20, 2, .iload 5, [], some [true, true, true, true, true, true, false, false, false]), (22, 3, .ifCond .lt 25, [(0, 47)], none),
  (25, 3, .iinc 4 1, [], none), (28, 1, .aload_n 0, [], none), (29, 3, .getfield 43, [], none), (32, 1, .aload_n 0, [], none),
  (33, 3, .getfield 15, [], none), (36, 1, .iload_n 1, [], none), (37, 1, .iaload, [], none), (38, 2, .iload 5, [], none),
  (40, 1, .iadd, [], none), (41, 1, .iaload, [], none), (42, 2, .istore 5, [], none), (44, 3, .goto (-24), [(0, 20)], none),
  (47, 1, .aload_n 0, [], none), (48, 3, .getfield 61, [], none), (51, 3, .getfield 122, [], none), (54, 1, .iload_n 3, [], none),
  (55, 1, .iaload, [], none), (56, 2, .istore 5, [], none), (58, 2, .iload 5, [], some [true, true, true, true, true, true, false, false, false]), (60, 1, .aload_n 0, [], none),
  (61, 3, .getfield 61, [], none), (64, 3, .getfield 122, [], none), (67, 1, .iload_n 3, [], none), (68, 1, .iaload, [], none),
  (69, 1, .aload_n 0, [], none), (70, 3, .getfield 61, [], none), (73, 3, .getfield 120, [], none), (76, 1, .iload_n 3, [], none),
  (77, 1, .iaload, [], none), (78, 1, .iadd, [], none), (79, 3, .if_icmp .ge 183, [(0, 262)], none), (82, 2, .iload 4, [], none),
  (84, 1, .iconst 3, [], none), (85, 3, .if_icmp .ge 177, [(0, 262)], none), (88, 1, .aload_n 0, [], none), (89, 3, .getfield 61, [], none),
  (92, 3, .getfield 128, [], none), (95, 2, .iload 5, [], none), (97, 1, .iaload, [], none), (98, 2, .bipush 23, [], none),
  (100, 3, .if_icmp .ne 156, [(0, 256)], none), (103, 1, .aload_n 0, [], none), (104, 3, .getfield 61, [], none), (107, 3, .getfield 131, [], none),
  (110, 2, .iload 5, [], none), (112, 1, .iaload, [], none), (113, 1, .iconst 1, [], none), (114, 3, .if_icmp .eq 6, [(0, 120)], none),
  (117, 3, .goto 139, [(0, 256)], none), (120, 1, .aload_n 0, [], none), (121, 3, .getfield 61, [], none), (124, 3, .getfield 134, [], none),
  (127, 2, .bipush 9, [], none), (129, 2, .iload 5, [], none), (131, 1, .imul, [], none), (132, 1, .iaload, [], none),
  (133, 2, .istore 6, [], none), (135, 2, .iload 6, [], none), (137, 1, .iconst 4, [], none), (138, 3, .if_icmp .lt 42, [(0, 180)], none),
  (141, 1, .aload_n 0, [], none), (142, 3, .getfield 61, [], none), (145, 2, .iload 6, [], none), (147, 3, .invokevirtual 101, [], none),
  (150, 3, .ifCond .eq 30, [(0, 180)], none), (153, 1, .aload_n 0, [], none), (154, 3, .getfield 21, [], none), (157, 1, .iload_n 1, [], none),
  (158, 1, .iaload, [], none), (159, 1, .aload_n 0, [], none), (160, 3, .getfield 61, [], none), (163, 3, .getfield 120, [], none),
  (166, 2, .iload 6, [], none), (168, 1, .iaload, [], none), (169, 1, .iadd, [], none), (170, 3, .sipush 150, [], none),
  (173, 3, .if_icmp .gt 7, [(0, 180)], none), (176, 1, .iconst 1, [], none), (177, 3, .goto 4, [(0, 181)], none), (180, 1, .iconst 0, [], some [true, true, true, true, true, true, true, false, false]),
  (181, 2, .istore 7, [], some [true, true, true, true, true, true, true, false, false]), (183, 1, .iload_n 2, [], none), (184, 2, .istore 8, [], none), (186, 2, .iload 8, [], some [true, true, true, true, true, true, true, true, true]),
  (188, 3, .ifCond .lt 53, [(0, 241)], none), (191, 2, .iload 7, [], none), (193, 3, .ifCond .eq 48, [(0, 241)], none), (196, 1, .aload_n 0, [], none),
  (197, 3, .getfield 40, [], none), (200, 1, .aload_n 0, [], none), (201, 3, .getfield 15, [], none), (204, 1, .iload_n 1, [], none),
  (205, 1, .iaload, [], none), (206, 2, .iload 8, [], none), (208, 1, .iadd, [], none), (209, 1, .iaload, [], none),
  (210, 2, .iload 6, [], none), (212, 3, .if_icmp .eq 7, [(0, 219)], none), (215, 1, .iconst 1, [], none), (216, 3, .goto 4, [(0, 220)], none),
  (219, 1, .iconst 0, [], none), (220, 2, .istore 7, [], some [true, true, true, true, true, true, true, false, true]), (222, 1, .aload_n 0, [], none), (223, 3, .getfield 43, [], none),
  (226, 1, .aload_n 0, [], none), (227, 3, .getfield 15, [], none), (230, 1, .iload_n 1, [], none), (231, 1, .iaload, [], none),
  (232, 2, .iload 8, [], none), (234, 1, .iadd, [], none), (235, 1, .iaload, [], none), (236, 2, .istore 8, [], none),
  (238, 3, .goto (-52), [(0, 186)], none), (241, 2, .iload 7, [], some [true, true, true, true, true, true, true, true, false]), (243, 3, .ifCond .eq 13, [(0, 256)], none), (246, 1, .aload_n 0, [], none),
  (247, 1, .iload_n 1, [], none), (248, 2, .iload 6, [], none), (250, 1, .iload_n 2, [], none), (251, 2, .iload 5, [], none),
  (253, 3, .invokevirtual 109, [], none), (256, 3, .iinc 5 1, [], some [true, true, true, true, true, true, false, false, false]), (259, 3, .goto (-201), [(0, 58)], none), (262, 1, .return_, [], none)]
def e_cd_inlines (m : Nat) : gE := (k_cd_inlines, f_cd, c_cd, [(101, 2, 11, 0, .inl (fn_fr_isNewest m)), (109, 5, 14, 5, .inl (fn_cd_adds m))], [], (m, 4479489484355608421114884561136888556243290994469299069799978201927583742360321890794144875063262838784), 5)
theorem ok_cd_inlines : gchk cX6_inlines 9 k_cd_inlines = true := by decide +kernel
def fn_cd_inlines (m : Nat) : gFn := gF (e_cd_inlines m) 9
theorem mo_cd_inlines (m : Nat) : gMo (.inl (fn_cd_inlines m)) := gF_mo (E := e_cd_inlines m) ⟨mo_fr_isNewest m, ⟨mo_cd_adds m, trivial⟩⟩
noncomputable def cd_inlines (σ : gM) (x1 x2 : Int) : Option (gM × Int) := lim (fun n => fn_cd_inlines 119 n [(2, 52), (0, x1), (0, x2)] σ)
theorem cd_inlines_l (σ : gM) (x1 x2 : Int) : Lm (fun n => fn_cd_inlines 119 n [(2, 52), (0, x1), (0, x2)] σ) (cd_inlines σ x1 x2) := .of fun n => mo_cd_inlines 119 n [(2, 52), (0, x1), (0, x2)] σ
theorem mb_cd_inlines : gMos (e_cd_inlines 119).2.2.2.1 := ⟨mo_fr_isNewest 119, ⟨mo_cd_adds 119, trivial⟩⟩
noncomputable def cd_inlines_b20 (σ : gM) (x1 x2 x3 x4 x5 : Int) : Option (gM × Int) := lim (fun n => gB (e_cd_inlines 119) rF tF n 20 [(2, 52), (0, x1), (0, x2), (0, x3), (0, x4), (0, x5), (9, 0), (9, 0), (9, 0)] [] σ)
theorem cd_inlines_b20_l (σ : gM) (x1 x2 x3 x4 x5 : Int) : Lm (fun n => gB (e_cd_inlines 119) rF tF n 20 [(2, 52), (0, x1), (0, x2), (0, x3), (0, x4), (0, x5), (9, 0), (9, 0), (9, 0)] [] σ) (cd_inlines_b20 σ x1 x2 x3 x4 x5) := .of fun n => gB_le (gMos_spec (mb_cd_inlines)) n _ _ _ σ
noncomputable def cd_inlines_b58 (σ : gM) (x1 x2 x3 x4 x5 : Int) : Option (gM × Int) := lim (fun n => gB (e_cd_inlines 119) rF tF n 58 [(2, 52), (0, x1), (0, x2), (0, x3), (0, x4), (0, x5), (9, 0), (9, 0), (9, 0)] [] σ)
theorem cd_inlines_b58_l (σ : gM) (x1 x2 x3 x4 x5 : Int) : Lm (fun n => gB (e_cd_inlines 119) rF tF n 58 [(2, 52), (0, x1), (0, x2), (0, x3), (0, x4), (0, x5), (9, 0), (9, 0), (9, 0)] [] σ) (cd_inlines_b58 σ x1 x2 x3 x4 x5) := .of fun n => gB_le (gMos_spec (mb_cd_inlines)) n _ _ _ σ
noncomputable def cd_inlines_b180 (σ : gM) (x1 x2 x3 x4 x5 x6 : Int) : Option (gM × Int) := lim (fun n => gB (e_cd_inlines 119) rF tF n 180 [(2, 52), (0, x1), (0, x2), (0, x3), (0, x4), (0, x5), (0, x6), (9, 0), (9, 0)] [] σ)
theorem cd_inlines_b180_l (σ : gM) (x1 x2 x3 x4 x5 x6 : Int) : Lm (fun n => gB (e_cd_inlines 119) rF tF n 180 [(2, 52), (0, x1), (0, x2), (0, x3), (0, x4), (0, x5), (0, x6), (9, 0), (9, 0)] [] σ) (cd_inlines_b180 σ x1 x2 x3 x4 x5 x6) := .of fun n => gB_le (gMos_spec (mb_cd_inlines)) n _ _ _ σ
noncomputable def cd_inlines_b181 (σ : gM) (x1 x2 x3 x4 x5 x6 y0 : Int) : Option (gM × Int) := lim (fun n => gB (e_cd_inlines 119) rF tF n 181 [(2, 52), (0, x1), (0, x2), (0, x3), (0, x4), (0, x5), (0, x6), (9, 0), (9, 0)] [(0, y0)] σ)
theorem cd_inlines_b181_l (σ : gM) (x1 x2 x3 x4 x5 x6 y0 : Int) : Lm (fun n => gB (e_cd_inlines 119) rF tF n 181 [(2, 52), (0, x1), (0, x2), (0, x3), (0, x4), (0, x5), (0, x6), (9, 0), (9, 0)] [(0, y0)] σ) (cd_inlines_b181 σ x1 x2 x3 x4 x5 x6 y0) := .of fun n => gB_le (gMos_spec (mb_cd_inlines)) n _ _ _ σ
noncomputable def cd_inlines_b186 (σ : gM) (x1 x2 x3 x4 x5 x6 x7 x8 : Int) : Option (gM × Int) := lim (fun n => gB (e_cd_inlines 119) rF tF n 186 [(2, 52), (0, x1), (0, x2), (0, x3), (0, x4), (0, x5), (0, x6), (0, x7), (0, x8)] [] σ)
theorem cd_inlines_b186_l (σ : gM) (x1 x2 x3 x4 x5 x6 x7 x8 : Int) : Lm (fun n => gB (e_cd_inlines 119) rF tF n 186 [(2, 52), (0, x1), (0, x2), (0, x3), (0, x4), (0, x5), (0, x6), (0, x7), (0, x8)] [] σ) (cd_inlines_b186 σ x1 x2 x3 x4 x5 x6 x7 x8) := .of fun n => gB_le (gMos_spec (mb_cd_inlines)) n _ _ _ σ
noncomputable def cd_inlines_b220 (σ : gM) (x1 x2 x3 x4 x5 x6 x8 y0 : Int) : Option (gM × Int) := lim (fun n => gB (e_cd_inlines 119) rF tF n 220 [(2, 52), (0, x1), (0, x2), (0, x3), (0, x4), (0, x5), (0, x6), (9, 0), (0, x8)] [(0, y0)] σ)
theorem cd_inlines_b220_l (σ : gM) (x1 x2 x3 x4 x5 x6 x8 y0 : Int) : Lm (fun n => gB (e_cd_inlines 119) rF tF n 220 [(2, 52), (0, x1), (0, x2), (0, x3), (0, x4), (0, x5), (0, x6), (9, 0), (0, x8)] [(0, y0)] σ) (cd_inlines_b220 σ x1 x2 x3 x4 x5 x6 x8 y0) := .of fun n => gB_le (gMos_spec (mb_cd_inlines)) n _ _ _ σ
noncomputable def cd_inlines_b241 (σ : gM) (x1 x2 x3 x4 x5 x6 x7 : Int) : Option (gM × Int) := lim (fun n => gB (e_cd_inlines 119) rF tF n 241 [(2, 52), (0, x1), (0, x2), (0, x3), (0, x4), (0, x5), (0, x6), (0, x7), (9, 0)] [] σ)
theorem cd_inlines_b241_l (σ : gM) (x1 x2 x3 x4 x5 x6 x7 : Int) : Lm (fun n => gB (e_cd_inlines 119) rF tF n 241 [(2, 52), (0, x1), (0, x2), (0, x3), (0, x4), (0, x5), (0, x6), (0, x7), (9, 0)] [] σ) (cd_inlines_b241 σ x1 x2 x3 x4 x5 x6 x7) := .of fun n => gB_le (gMos_spec (mb_cd_inlines)) n _ _ _ σ
noncomputable def cd_inlines_b256 (σ : gM) (x1 x2 x3 x4 x5 : Int) : Option (gM × Int) := lim (fun n => gB (e_cd_inlines 119) rF tF n 256 [(2, 52), (0, x1), (0, x2), (0, x3), (0, x4), (0, x5), (9, 0), (9, 0), (9, 0)] [] σ)
theorem cd_inlines_b256_l (σ : gM) (x1 x2 x3 x4 x5 : Int) : Lm (fun n => gB (e_cd_inlines 119) rF tF n 256 [(2, 52), (0, x1), (0, x2), (0, x3), (0, x4), (0, x5), (9, 0), (9, 0), (9, 0)] [] σ) (cd_inlines_b256 σ x1 x2 x3 x4 x5) := .of fun n => gB_le (gMos_spec (mb_cd_inlines)) n _ _ _ σ
theorem cd_inlines_e (σ : gM) (x1 x2 : Int) : cd_inlines σ x1 x2 =
  (if 0 ≤ x1 ∧ x1 < 100 then
  (if 0 ≤ w32 ((σ 54 x1) + x2) ∧ w32 ((σ 54 x1) + x2) < 16000 then
    (cd_inlines_b20 σ x1 x2 (σ 62 (w32 ((σ 54 x1) + x2))) 0 x2)
    else none)
  else none) := Lm.eqn (cd_inlines_l ..) (.ite (.ite (cd_inlines_b20_l ..) .cst) .cst) fun n => (rfl)
theorem cd_inlines_b20_e (σ : gM) (x1 x2 x3 x4 x5 : Int) : cd_inlines_b20 σ x1 x2 x3 x4 x5 =
  (if x5 < 0 then
  (if 0 ≤ x3 ∧ x3 < 60 then
    (cd_inlines_b58 σ x1 x2 x3 x4 (σ 26 x3))
    else none)
  else
  (if 0 ≤ x1 ∧ x1 < 100 then
    (if 0 ≤ w32 ((σ 54 x1) + x5) ∧ w32 ((σ 54 x1) + x5) < 16000 then
      (cd_inlines_b20 σ x1 x2 x3 (w32 (x4 + 1)) (σ 63 (w32 ((σ 54 x1) + x5))))
      else none)
    else none)) := Lm.eqn (cd_inlines_b20_l ..) (.ite (.ite (cd_inlines_b58_l ..) .cst) (.ite (.ite (cd_inlines_b20_l ..) .cst) .cst)) fun n => (rfl)
theorem cd_inlines_b58_e (σ : gM) (x1 x2 x3 x4 x5 : Int) : cd_inlines_b58 σ x1 x2 x3 x4 x5 =
  (if 0 ≤ x3 ∧ x3 < 60 then
  (if 0 ≤ x3 ∧ x3 < 60 then
    (if x5 < w32 ((σ 26 x3) + (σ 27 x3)) then
      (if x4 < 3 then
        (if 0 ≤ x5 ∧ x5 < 16000 then
          (if σ 9 x5 = 23 then
            (if 0 ≤ x5 ∧ x5 < 16000 then
              (if σ 18 x5 = 1 then
                (if 0 ≤ w32 (9 * x5) ∧ w32 (9 * x5) < 144000 then
                  (if σ 19 (w32 (9 * x5)) < 4 then
                    (cd_inlines_b180 σ x1 x2 x3 x4 x5 (σ 19 (w32 (9 * x5))))
                    else
                    ((fr_isNewest σ (σ 19 (w32 (9 * x5)))).bind fun p1 =>
                      if p1.2 = 0 then
                      (cd_inlines_b180 p1.1 x1 x2 x3 x4 x5 (σ 19 (w32 (9 * x5))))
                      else
                      (if 0 ≤ x1 ∧ x1 < 100 then
                        (if 0 ≤ σ 19 (w32 (9 * x5)) ∧ σ 19 (w32 (9 * x5)) < 60 then
                          (if 150 < w32 ((p1.1 56 x1) + (p1.1 27 (σ 19 (w32 (9 * x5))))) then
                            (cd_inlines_b180 p1.1 x1 x2 x3 x4 x5 (σ 19 (w32 (9 * x5))))
                            else
                            (cd_inlines_b181 p1.1 x1 x2 x3 x4 x5 (σ 19 (w32 (9 * x5))) 1))
                          else none)
                        else none)))
                  else none)
                else
                (cd_inlines_b256 σ x1 x2 x3 x4 x5))
              else none)
            else
            (cd_inlines_b256 σ x1 x2 x3 x4 x5))
          else none)
        else
        (some (σ, 0)))
      else
      (some (σ, 0)))
    else none)
  else none) := Lm.eqn (cd_inlines_b58_l ..) (.ite (.ite (.ite (.ite (.ite (.ite (.ite (.ite (.ite (.ite (cd_inlines_b180_l ..) (.bind (fr_isNewest_l ..) fun p1 => (.ite (cd_inlines_b180_l ..) (.ite (.ite (.ite (cd_inlines_b180_l ..) (cd_inlines_b181_l ..)) .cst) .cst)))) .cst) (cd_inlines_b256_l ..)) .cst) (cd_inlines_b256_l ..)) .cst) .cst) .cst) .cst) .cst) fun n => (rfl)
theorem cd_inlines_b180_e (σ : gM) (x1 x2 x3 x4 x5 x6 : Int) : cd_inlines_b180 σ x1 x2 x3 x4 x5 x6 =
  (cd_inlines_b181 σ x1 x2 x3 x4 x5 x6 0) := Lm.eqn (cd_inlines_b180_l ..) (cd_inlines_b181_l ..) fun n => (rfl)
theorem cd_inlines_b181_e (σ : gM) (x1 x2 x3 x4 x5 x6 y0 : Int) : cd_inlines_b181 σ x1 x2 x3 x4 x5 x6 y0 =
  (cd_inlines_b186 σ x1 x2 x3 x4 x5 x6 y0 x2) := Lm.eqn (cd_inlines_b181_l ..) (cd_inlines_b186_l ..) fun n => (rfl)
theorem cd_inlines_b186_e (σ : gM) (x1 x2 x3 x4 x5 x6 x7 x8 : Int) : cd_inlines_b186 σ x1 x2 x3 x4 x5 x6 x7 x8 =
  (if x8 < 0 then
  (cd_inlines_b241 σ x1 x2 x3 x4 x5 x6 x7)
  else
  (if x7 = 0 then
    (cd_inlines_b241 σ x1 x2 x3 x4 x5 x6 x7)
    else
    (if 0 ≤ x1 ∧ x1 < 100 then
      (if 0 ≤ w32 ((σ 54 x1) + x8) ∧ w32 ((σ 54 x1) + x8) < 16000 then
        (if σ 62 (w32 ((σ 54 x1) + x8)) = x6 then
          (cd_inlines_b220 σ x1 x2 x3 x4 x5 x6 x8 0)
          else
          (cd_inlines_b220 σ x1 x2 x3 x4 x5 x6 x8 1))
        else none)
      else none))) := Lm.eqn (cd_inlines_b186_l ..) (.ite (cd_inlines_b241_l ..) (.ite (cd_inlines_b241_l ..) (.ite (.ite (.ite (cd_inlines_b220_l ..) (cd_inlines_b220_l ..)) .cst) .cst))) fun n => (rfl)
theorem cd_inlines_b220_e (σ : gM) (x1 x2 x3 x4 x5 x6 x8 y0 : Int) : cd_inlines_b220 σ x1 x2 x3 x4 x5 x6 x8 y0 =
  (if 0 ≤ x1 ∧ x1 < 100 then
  (if 0 ≤ w32 ((σ 54 x1) + x8) ∧ w32 ((σ 54 x1) + x8) < 16000 then
    (cd_inlines_b186 σ x1 x2 x3 x4 x5 x6 y0 (σ 63 (w32 ((σ 54 x1) + x8))))
    else none)
  else none) := Lm.eqn (cd_inlines_b220_l ..) (.ite (.ite (cd_inlines_b186_l ..) .cst) .cst) fun n => (rfl)
theorem cd_inlines_b241_e (σ : gM) (x1 x2 x3 x4 x5 x6 x7 : Int) : cd_inlines_b241 σ x1 x2 x3 x4 x5 x6 x7 =
  (if x7 = 0 then
  (cd_inlines_b256 σ x1 x2 x3 x4 x5)
  else
  ((cd_adds σ x1 x6 x2 x5).bind fun p1 =>
    cd_inlines_b256 p1.1 x1 x2 x3 x4 x5)) := Lm.eqn (cd_inlines_b241_l ..) (.ite (cd_inlines_b256_l ..) (.bind (cd_adds_l ..) fun p1 => (cd_inlines_b256_l ..))) fun n => (rfl)
theorem cd_inlines_b256_e (σ : gM) (x1 x2 x3 x4 x5 : Int) : cd_inlines_b256 σ x1 x2 x3 x4 x5 =
  (cd_inlines_b58 σ x1 x2 x3 x4 (w32 (x5 + 1))) := Lm.eqn (cd_inlines_b256_l ..) (cd_inlines_b58_l ..) fun n => (rfl)
def k_cd_lays : List gC := [(0, 1, .aload_n 0, [], none), (1, 3, .getfield 40, [], none), (4, 1, .iload_n 1, [], none), (5, 1, .iaload, [], none),
  (6, 1, .istore_n 2, [], none), (7, 1, .aload_n 0, [], none), (8, 3, .getfield 49, [], none), (11, 1, .iload_n 1, [], none),
  (12, 2, .ldc 137, [], none), (14, 1, .aload_n 0, [], none), (15, 3, .getfield 72, [], none), (18, 1, .iadd, [], none),
  (19, 1, .iastore, [], none), (20, 1, .iconst 0, [], none), (21, 1, .istore_n 3, [], none), (22, 1, .iload_n 3, [], some [true, true, true, true, false, false, false, false, false]),
  (23, 1, .aload_n 0, [], none), (24, 3, .getfield 61, [], none), (27, 3, .getfield 138, [], none), (30, 1, .iload_n 2, [], none),
  (31, 1, .iaload, [], none), (32, 3, .if_icmp .ge 250, [(0, 282)], none), (35, 1, .aload_n 0, [], none), (36, 3, .getfield 61, [], none),
  (39, 3, .getfield 141, [], none), (42, 1, .iload_n 2, [], none), (43, 1, .iaload, [], none), (44, 1, .iload_n 3, [], none),
  (45, 1, .iadd, [], none), (46, 2, .istore 4, [], none), (48, 2, .ldc 137, [], none), (50, 1, .aload_n 0, [], none),
  (51, 3, .getfield 72, [], none), (54, 1, .iadd, [], none), (55, 2, .istore 5, [], none), (57, 1, .aload_n 0, [], none),
  (58, 3, .getfield 61, [], none), (61, 3, .getfield 142, [], none), (64, 2, .iload 4, [], none), (66, 1, .iaload, [], none),
  (67, 2, .istore 6, [], none), (69, 1, .aload_n 0, [], none), (70, 3, .getfield 61, [], none), (73, 3, .getfield 145, [], none),
  (76, 2, .iload 4, [], none), (78, 1, .iaload, [], none), (79, 2, .istore 7, [], none), (81, 2, .iload 6, [], none),
  (83, 1, .iconst 4, [], none), (84, 3, .if_icmp .eq 31, [(0, 115)], none), (87, 2, .iload 6, [], none), (89, 2, .bipush 11, [], none),
  (91, 3, .if_icmp .eq 24, [(0, 115)], none), (94, 2, .iload 6, [], none), (96, 2, .bipush 12, [], none), (98, 3, .if_icmp .eq 17, [(0, 115)], none),
  (101, 2, .iload 6, [], none), (103, 2, .bipush 13, [], none), (105, 3, .if_icmp .eq 10, [(0, 115)], none), (108, 2, .iload 6, [], none),
  (110, 2, .bipush 14, [], none), (112, 3, .if_icmp .ne 7, [(0, 119)], none), (115, 1, .iconst 1, [], some [true, true, true, true, true, true, true, true, false]), (116, 3, .goto 4, [(0, 120)], none),
  (119, 1, .iconst 0, [], none), (120, 2, .istore 8, [], some [true, true, true, true, true, true, true, true, false]), (122, 2, .iload 6, [], none), (124, 1, .iconst 3, [], none),
  (125, 3, .if_icmp .ne 36, [(0, 161)], none), (128, 1, .aload_n 0, [], none), (129, 3, .getfield 61, [], none), (132, 3, .getfield 148, [], none),
  (135, 2, .iload 7, [], none), (137, 1, .iaload, [], none), (138, 1, .iconst 1, [], none), (139, 3, .if_icmp .ne 22, [(0, 161)], none),
  (142, 1, .aload_n 0, [], none), (143, 3, .getfield 61, [], none), (146, 3, .getfield 128, [], none), (149, 2, .iload 7, [], none),
  (151, 1, .iaload, [], none), (152, 2, .bipush 15, [], none), (154, 3, .if_icmp .gt 7, [(0, 161)], none), (157, 2, .bipush 18, [], none),
  (159, 2, .istore 6, [], none), (161, 2, .iload 6, [], some [true, true, true, true, true, true, true, true, true]), (163, 1, .iconst 1, [], none), (164, 3, .if_icmp .ne 21, [(0, 185)], none),
  (167, 1, .aload_n 0, [], none), (168, 3, .getfield 61, [], none), (171, 3, .getfield 148, [], none), (174, 2, .iload 7, [], none),
  (176, 1, .iaload, [], none), (177, 1, .iconst 1, [], none), (178, 3, .if_icmp .ne 7, [(0, 185)], none), (181, 2, .bipush 19, [], none),
  (183, 2, .istore 6, [], none), (185, 1, .aload_n 0, [], some [true, true, true, true, true, true, true, true, true]), (186, 3, .getfield 61, [], none), (189, 3, .getfield 142, [], none),
  (192, 2, .iload 5, [], none), (194, 2, .iload 6, [], none), (196, 1, .iastore, [], none), (197, 1, .aload_n 0, [], none),
  (198, 3, .getfield 61, [], none), (201, 3, .getfield 151, [], none), (204, 2, .iload 5, [], none), (206, 2, .iload 8, [], none),
  (208, 3, .ifCond .eq 33, [(0, 241)], none), (211, 1, .aload_n 0, [], none), (212, 3, .getfield 61, [], none), (215, 3, .getfield 151, [], none),
  (218, 2, .iload 4, [], none), (220, 1, .iaload, [], none), (221, 1, .aload_n 0, [], none), (222, 3, .getfield 61, [], none),
  (225, 3, .getfield 141, [], none), (228, 1, .iload_n 2, [], none), (229, 1, .iaload, [], none), (230, 1, .isub, [], none),
  (231, 1, .aload_n 0, [], none), (232, 3, .getfield 49, [], none), (235, 1, .iload_n 1, [], none), (236, 1, .iaload, [], none),
  (237, 1, .iadd, [], none), (238, 3, .goto 4, [(0, 242)], none), (241, 1, .iconst 0, [], none), (242, 1, .iastore, [], some [true, true, true, true, true, true, false, true, false]),
  (243, 1, .aload_n 0, [], none), (244, 3, .getfield 61, [], none), (247, 3, .getfield 145, [], none), (250, 2, .iload 5, [], none),
  (252, 2, .iload 7, [], none), (254, 1, .iastore, [], none), (255, 1, .aload_n 0, [], none), (256, 3, .getfield 55, [], none),
  (259, 1, .aload_n 0, [], none), (260, 3, .getfield 72, [], none), (263, 2, .iload 4, [], none), (265, 1, .iastore, [], none),
  (266, 1, .aload_n 0, [], none), (267, 1, .dup, [], none), (268, 3, .getfield 72, [], none), (271, 1, .iconst 1, [], none),
  (272, 1, .iadd, [], none), (273, 3, .putfield 72, [], none), (276, 3, .iinc 3 1, [], none), (279, 3, .goto (-257), [(0, 22)], none),
  (282, 1, .return_, [], none)]
def e_cd_lays (m : Nat) : gE := (k_cd_lays, f_cd, c_cd, [], [], (m, 8958978968711216842229769122273777112486581988938598139599956403855167484720643781634190437528693112832), 5)
theorem ok_cd_lays : gchk cX6_lays 9 k_cd_lays = true := by decide +kernel
def fn_cd_lays (m : Nat) : gFn := gF (e_cd_lays m) 9
theorem mo_cd_lays (m : Nat) : gMo (.inl (fn_cd_lays m)) := gF_mo (E := e_cd_lays m) trivial
noncomputable def cd_lays (σ : gM) (x1 : Int) : Option (gM × Int) := lim (fun n => fn_cd_lays 119 n [(2, 52), (0, x1)] σ)
theorem cd_lays_l (σ : gM) (x1 : Int) : Lm (fun n => fn_cd_lays 119 n [(2, 52), (0, x1)] σ) (cd_lays σ x1) := .of fun n => mo_cd_lays 119 n [(2, 52), (0, x1)] σ
theorem mb_cd_lays : gMos (e_cd_lays 119).2.2.2.1 := trivial
noncomputable def cd_lays_b22 (σ : gM) (x1 x2 x3 : Int) : Option (gM × Int) := lim (fun n => gB (e_cd_lays 119) rF tF n 22 [(2, 52), (0, x1), (0, x2), (0, x3), (9, 0), (9, 0), (9, 0), (9, 0), (9, 0)] [] σ)
theorem cd_lays_b22_l (σ : gM) (x1 x2 x3 : Int) : Lm (fun n => gB (e_cd_lays 119) rF tF n 22 [(2, 52), (0, x1), (0, x2), (0, x3), (9, 0), (9, 0), (9, 0), (9, 0), (9, 0)] [] σ) (cd_lays_b22 σ x1 x2 x3) := .of fun n => gB_le (gMos_spec (mb_cd_lays)) n _ _ _ σ
noncomputable def cd_lays_b115 (σ : gM) (x1 x2 x3 x4 x5 x6 x7 : Int) : Option (gM × Int) := lim (fun n => gB (e_cd_lays 119) rF tF n 115 [(2, 52), (0, x1), (0, x2), (0, x3), (0, x4), (0, x5), (0, x6), (0, x7), (9, 0)] [] σ)
theorem cd_lays_b115_l (σ : gM) (x1 x2 x3 x4 x5 x6 x7 : Int) : Lm (fun n => gB (e_cd_lays 119) rF tF n 115 [(2, 52), (0, x1), (0, x2), (0, x3), (0, x4), (0, x5), (0, x6), (0, x7), (9, 0)] [] σ) (cd_lays_b115 σ x1 x2 x3 x4 x5 x6 x7) := .of fun n => gB_le (gMos_spec (mb_cd_lays)) n _ _ _ σ
noncomputable def cd_lays_b120 (σ : gM) (x1 x2 x3 x4 x5 x6 x7 y0 : Int) : Option (gM × Int) := lim (fun n => gB (e_cd_lays 119) rF tF n 120 [(2, 52), (0, x1), (0, x2), (0, x3), (0, x4), (0, x5), (0, x6), (0, x7), (9, 0)] [(0, y0)] σ)
theorem cd_lays_b120_l (σ : gM) (x1 x2 x3 x4 x5 x6 x7 y0 : Int) : Lm (fun n => gB (e_cd_lays 119) rF tF n 120 [(2, 52), (0, x1), (0, x2), (0, x3), (0, x4), (0, x5), (0, x6), (0, x7), (9, 0)] [(0, y0)] σ) (cd_lays_b120 σ x1 x2 x3 x4 x5 x6 x7 y0) := .of fun n => gB_le (gMos_spec (mb_cd_lays)) n _ _ _ σ
noncomputable def cd_lays_b161 (σ : gM) (x1 x2 x3 x4 x5 x6 x7 x8 : Int) : Option (gM × Int) := lim (fun n => gB (e_cd_lays 119) rF tF n 161 [(2, 52), (0, x1), (0, x2), (0, x3), (0, x4), (0, x5), (0, x6), (0, x7), (0, x8)] [] σ)
theorem cd_lays_b161_l (σ : gM) (x1 x2 x3 x4 x5 x6 x7 x8 : Int) : Lm (fun n => gB (e_cd_lays 119) rF tF n 161 [(2, 52), (0, x1), (0, x2), (0, x3), (0, x4), (0, x5), (0, x6), (0, x7), (0, x8)] [] σ) (cd_lays_b161 σ x1 x2 x3 x4 x5 x6 x7 x8) := .of fun n => gB_le (gMos_spec (mb_cd_lays)) n _ _ _ σ
noncomputable def cd_lays_b185 (σ : gM) (x1 x2 x3 x4 x5 x6 x7 x8 : Int) : Option (gM × Int) := lim (fun n => gB (e_cd_lays 119) rF tF n 185 [(2, 52), (0, x1), (0, x2), (0, x3), (0, x4), (0, x5), (0, x6), (0, x7), (0, x8)] [] σ)
theorem cd_lays_b185_l (σ : gM) (x1 x2 x3 x4 x5 x6 x7 x8 : Int) : Lm (fun n => gB (e_cd_lays 119) rF tF n 185 [(2, 52), (0, x1), (0, x2), (0, x3), (0, x4), (0, x5), (0, x6), (0, x7), (0, x8)] [] σ) (cd_lays_b185 σ x1 x2 x3 x4 x5 x6 x7 x8) := .of fun n => gB_le (gMos_spec (mb_cd_lays)) n _ _ _ σ
noncomputable def cd_lays_b242 (σ : gM) (x1 x2 x3 x4 x5 x7 y0 y1 : Int) : Option (gM × Int) := lim (fun n => gB (e_cd_lays 119) rF tF n 242 [(2, 52), (0, x1), (0, x2), (0, x3), (0, x4), (0, x5), (9, 0), (0, x7), (9, 0)] [(0, y0), (0, y1), (2, 21)] σ)
theorem cd_lays_b242_l (σ : gM) (x1 x2 x3 x4 x5 x7 y0 y1 : Int) : Lm (fun n => gB (e_cd_lays 119) rF tF n 242 [(2, 52), (0, x1), (0, x2), (0, x3), (0, x4), (0, x5), (9, 0), (0, x7), (9, 0)] [(0, y0), (0, y1), (2, 21)] σ) (cd_lays_b242 σ x1 x2 x3 x4 x5 x7 y0 y1) := .of fun n => gB_le (gMos_spec (mb_cd_lays)) n _ _ _ σ
theorem cd_lays_e (σ : gM) (x1 : Int) : cd_lays σ x1 =
  (if 0 ≤ x1 ∧ x1 < 16000 then
  (if 0 ≤ x1 ∧ x1 < 16000 then
    (cd_lays_b22 (gW σ 65 x1 (w32 (64000 + (σ 52 12)))) x1 (σ 62 x1) 0)
    else none)
  else none) := Lm.eqn (cd_lays_l ..) (.ite (.ite (cd_lays_b22_l ..) .cst) .cst) fun n => (rfl)
theorem cd_lays_b22_e (σ : gM) (x1 x2 x3 : Int) : cd_lays_b22 σ x1 x2 x3 =
  (if 0 ≤ x2 ∧ x2 < 60 then
  (if x3 < σ 29 x2 then
    (if 0 ≤ x2 ∧ x2 < 60 then
      (if 0 ≤ w32 ((σ 28 x2) + x3) ∧ w32 ((σ 28 x2) + x3) < 164000 then
        (if 0 ≤ w32 ((σ 28 x2) + x3) ∧ w32 ((σ 28 x2) + x3) < 164000 then
          (if σ 20 (w32 ((σ 28 x2) + x3)) = 4 then
            (cd_lays_b115 σ x1 x2 x3 (w32 ((σ 28 x2) + x3)) (w32 (64000 + (σ 52 12))) (σ 20 (w32 ((σ 28 x2) + x3))) (σ 22 (w32 ((σ 28 x2) + x3))))
            else
            (if σ 20 (w32 ((σ 28 x2) + x3)) = 11 then
              (cd_lays_b115 σ x1 x2 x3 (w32 ((σ 28 x2) + x3)) (w32 (64000 + (σ 52 12))) (σ 20 (w32 ((σ 28 x2) + x3))) (σ 22 (w32 ((σ 28 x2) + x3))))
              else
              (if σ 20 (w32 ((σ 28 x2) + x3)) = 12 then
                (cd_lays_b115 σ x1 x2 x3 (w32 ((σ 28 x2) + x3)) (w32 (64000 + (σ 52 12))) (σ 20 (w32 ((σ 28 x2) + x3))) (σ 22 (w32 ((σ 28 x2) + x3))))
                else
                (if σ 20 (w32 ((σ 28 x2) + x3)) = 13 then
                  (cd_lays_b115 σ x1 x2 x3 (w32 ((σ 28 x2) + x3)) (w32 (64000 + (σ 52 12))) (σ 20 (w32 ((σ 28 x2) + x3))) (σ 22 (w32 ((σ 28 x2) + x3))))
                  else
                  (if σ 20 (w32 ((σ 28 x2) + x3)) = 14 then
                    (cd_lays_b115 σ x1 x2 x3 (w32 ((σ 28 x2) + x3)) (w32 (64000 + (σ 52 12))) (σ 20 (w32 ((σ 28 x2) + x3))) (σ 22 (w32 ((σ 28 x2) + x3))))
                    else
                    (cd_lays_b120 σ x1 x2 x3 (w32 ((σ 28 x2) + x3)) (w32 (64000 + (σ 52 12))) (σ 20 (w32 ((σ 28 x2) + x3))) (σ 22 (w32 ((σ 28 x2) + x3))) 0))))))
          else none)
        else none)
      else none)
    else
    (some (σ, 0)))
  else none) := Lm.eqn (cd_lays_b22_l ..) (.ite (.ite (.ite (.ite (.ite (.ite (cd_lays_b115_l ..) (.ite (cd_lays_b115_l ..) (.ite (cd_lays_b115_l ..) (.ite (cd_lays_b115_l ..) (.ite (cd_lays_b115_l ..) (cd_lays_b120_l ..)))))) .cst) .cst) .cst) .cst) .cst) fun n => (rfl)
theorem cd_lays_b115_e (σ : gM) (x1 x2 x3 x4 x5 x6 x7 : Int) : cd_lays_b115 σ x1 x2 x3 x4 x5 x6 x7 =
  (cd_lays_b120 σ x1 x2 x3 x4 x5 x6 x7 1) := Lm.eqn (cd_lays_b115_l ..) (cd_lays_b120_l ..) fun n => (rfl)
theorem cd_lays_b120_e (σ : gM) (x1 x2 x3 x4 x5 x6 x7 y0 : Int) : cd_lays_b120 σ x1 x2 x3 x4 x5 x6 x7 y0 =
  (if x6 = 3 then
  (if 0 ≤ x7 ∧ x7 < 16000 then
    (if σ 11 x7 = 1 then
      (if 0 ≤ x7 ∧ x7 < 16000 then
        (if 15 < σ 9 x7 then
          (cd_lays_b161 σ x1 x2 x3 x4 x5 x6 x7 y0)
          else
          (cd_lays_b161 σ x1 x2 x3 x4 x5 18 x7 y0))
        else none)
      else
      (cd_lays_b161 σ x1 x2 x3 x4 x5 x6 x7 y0))
    else none)
  else
  (cd_lays_b161 σ x1 x2 x3 x4 x5 x6 x7 y0)) := Lm.eqn (cd_lays_b120_l ..) (.ite (.ite (.ite (.ite (.ite (cd_lays_b161_l ..) (cd_lays_b161_l ..)) .cst) (cd_lays_b161_l ..)) .cst) (cd_lays_b161_l ..)) fun n => (rfl)
theorem cd_lays_b161_e (σ : gM) (x1 x2 x3 x4 x5 x6 x7 x8 : Int) : cd_lays_b161 σ x1 x2 x3 x4 x5 x6 x7 x8 =
  (if x6 = 1 then
  (if 0 ≤ x7 ∧ x7 < 16000 then
    (if σ 11 x7 = 1 then
      (cd_lays_b185 σ x1 x2 x3 x4 x5 19 x7 x8)
      else
      (cd_lays_b185 σ x1 x2 x3 x4 x5 x6 x7 x8))
    else none)
  else
  (cd_lays_b185 σ x1 x2 x3 x4 x5 x6 x7 x8)) := Lm.eqn (cd_lays_b161_l ..) (.ite (.ite (.ite (cd_lays_b185_l ..) (cd_lays_b185_l ..)) .cst) (cd_lays_b185_l ..)) fun n => (rfl)
theorem cd_lays_b185_e (σ : gM) (x1 x2 x3 x4 x5 x6 x7 x8 : Int) : cd_lays_b185 σ x1 x2 x3 x4 x5 x6 x7 x8 =
  (if 0 ≤ x5 ∧ x5 < 164000 then
  (if x8 = 0 then
    (cd_lays_b242 (gW σ 20 x5 x6) x1 x2 x3 x4 x5 x7 0 x5)
    else
    (if 0 ≤ x4 ∧ x4 < 164000 then
      (if 0 ≤ x2 ∧ x2 < 60 then
        (if 0 ≤ x1 ∧ x1 < 16000 then
          (cd_lays_b242 (gW σ 20 x5 x6) x1 x2 x3 x4 x5 x7 (w32 ((w32 ((σ 21 x4) - (σ 28 x2))) + (σ 65 x1))) x5)
          else none)
        else none)
      else none))
  else none) := Lm.eqn (cd_lays_b185_l ..) (.ite (.ite (cd_lays_b242_l ..) (.ite (.ite (.ite (cd_lays_b242_l ..) .cst) .cst) .cst)) .cst) fun n => (rfl)
theorem cd_lays_b242_e (σ : gM) (x1 x2 x3 x4 x5 x7 y0 y1 : Int) : cd_lays_b242 σ x1 x2 x3 x4 x5 x7 y0 y1 =
  (if 0 ≤ y1 ∧ y1 < 164000 then
  (if 0 ≤ x5 ∧ x5 < 164000 then
    (if 0 ≤ σ 52 12 ∧ σ 52 12 < 100000 then
      (cd_lays_b22 (gW (gW (gW (gW σ 21 y1 y0) 22 x5 x7) 66 (σ 52 12) x4) 52 12 (w32 ((σ 52 12) + 1))) x1 x2 (w32 (x3 + 1)))
      else none)
    else none)
  else none) := Lm.eqn (cd_lays_b242_l ..) (.ite (.ite (.ite (cd_lays_b22_l ..) .cst) .cst) .cst) fun n => (rfl)
def k_cd_isSure : List gC := [(0, 1, .aload_n 0, [], none), (1, 3, .getfield 61, [], none), (4, 3, .getfield 128, [], none), (7, 1, .iload_n 1, [], none),
  (8, 1, .iaload, [], none), (9, 1, .istore_n 2, [], none), (10, 1, .iload_n 2, [], none), (11, 1, .iconst 1, [], none),
  (12, 3, .if_icmp .ne 21, [(0, 33)], none), (15, 1, .aload_n 0, [], none), (16, 3, .getfield 61, [], none), (19, 3, .getfield 154, [], none),
  (22, 1, .iload_n 1, [], none), (23, 1, .iaload, [], none), (24, 3, .ifCond .ne 7, [(0, 31)], none), (27, 1, .iconst 1, [], none),
  (28, 3, .goto 4, [(0, 32)], none), (31, 1, .iconst 0, [], none), (32, 1, .ireturn, [], none), (33, 1, .iload_n 2, [], none),
  (34, 1, .iconst 5, [], none), (35, 3, .if_icmp .eq 15, [(0, 50)], none), (38, 1, .iload_n 2, [], none), (39, 2, .bipush 8, [], none),
  (41, 3, .if_icmp .lt 26, [(0, 67)], none), (44, 1, .iload_n 2, [], none), (45, 2, .bipush 11, [], none), (47, 3, .if_icmp .gt 20, [(0, 67)], none),
  (50, 1, .aload_n 0, [], some [true, true, false]), (51, 3, .getfield 61, [], none), (54, 3, .getfield 148, [], none), (57, 1, .iload_n 1, [], none),
  (58, 1, .iaload, [], none), (59, 1, .iconst 1, [], none), (60, 3, .if_icmp .ne 7, [(0, 67)], none), (63, 1, .iconst 1, [], none),
  (64, 3, .goto 4, [(0, 68)], none), (67, 1, .iconst 0, [], none), (68, 1, .ireturn, [], none)]
def e_cd_isSure (m : Nat) : gE := (k_cd_isSure, f_cd, c_cd, [], [], (m, 0), 6)
theorem ok_cd_isSure : gchk cX6_isSure 3 k_cd_isSure = true := by decide +kernel
def fn_cd_isSure (m : Nat) : gFn := gF (e_cd_isSure m) 3
theorem mo_cd_isSure (m : Nat) : gMo (.inl (fn_cd_isSure m)) := gF_mo (E := e_cd_isSure m) trivial
noncomputable def cd_isSure (σ : gM) (x1 : Int) : Option (gM × Int) := lim (fun n => fn_cd_isSure 119 n [(2, 52), (0, x1)] σ)
theorem cd_isSure_l (σ : gM) (x1 : Int) : Lm (fun n => fn_cd_isSure 119 n [(2, 52), (0, x1)] σ) (cd_isSure σ x1) := .of fun n => mo_cd_isSure 119 n [(2, 52), (0, x1)] σ
theorem mb_cd_isSure : gMos (e_cd_isSure 119).2.2.2.1 := trivial
noncomputable def cd_isSure_b50 (σ : gM) (x1 : Int) : Option (gM × Int) := lim (fun n => gB (e_cd_isSure 119) rF tF n 50 [(2, 52), (0, x1), (9, 0)] [] σ)
theorem cd_isSure_b50_l (σ : gM) (x1 : Int) : Lm (fun n => gB (e_cd_isSure 119) rF tF n 50 [(2, 52), (0, x1), (9, 0)] [] σ) (cd_isSure_b50 σ x1) := .of fun n => gB_le (gMos_spec (mb_cd_isSure)) n _ _ _ σ
theorem cd_isSure_e (σ : gM) (x1 : Int) : cd_isSure σ x1 =
  (if 0 ≤ x1 ∧ x1 < 16000 then
  (if σ 9 x1 = 1 then
    (if 0 ≤ x1 ∧ x1 < 16000 then
      (if σ 16 x1 = 0 then
        (some (σ, 1))
        else
        (some (σ, 0)))
      else none)
    else
    (if σ 9 x1 = 5 then
      (cd_isSure_b50 σ x1)
      else
      (if σ 9 x1 < 8 then
        (some (σ, 0))
        else
        (if 11 < σ 9 x1 then
          (some (σ, 0))
          else
          (cd_isSure_b50 σ x1)))))
  else none) := Lm.eqn (cd_isSure_l ..) (.ite (.ite (.ite (.ite .cst .cst) .cst) (.ite (cd_isSure_b50_l ..) (.ite .cst (.ite .cst (cd_isSure_b50_l ..))))) .cst) fun n => (rfl)
theorem cd_isSure_b50_e (σ : gM) (x1 : Int) : cd_isSure_b50 σ x1 =
  (if 0 ≤ x1 ∧ x1 < 16000 then
  (if σ 11 x1 = 1 then
    (some (σ, 1))
    else
    (some (σ, 0)))
  else none) := Lm.eqn (cd_isSure_b50_l ..) (.ite (.ite .cst .cst) .cst) fun n => (rfl)
def k_cd_guardsOf : List gC := [(0, 1, .aload_n 0, [], none), (1, 3, .getfield 61, [], none), (4, 3, .getfield 148, [], none), (7, 1, .iload_n 1, [], none),
  (8, 1, .iaload, [], none), (9, 1, .istore_n 2, [], none), (10, 1, .aload_n 0, [], none), (11, 3, .getfield 61, [], none),
  (14, 3, .getfield 128, [], none), (17, 1, .iload_n 1, [], none), (18, 1, .iaload, [], none), (19, 117, .tableswitch 237 0 25 #[175, 237, 237, 237, 237, 212, 186, 237, 117, 117, 117, 117, 117, 117, 117, 117, 117, 117, 164, 164, 237, 223, 223, 223, 164, 164], [(0, 256), (0, 194), (5, 231), (6, 205), (8, 136), (9, 136), (10, 136), (11, 136), (12, 136), (13, 136), (14, 136), (15, 136), (16, 136), (17, 136), (18, 183), (19, 183), (21, 242), (22, 242), (23, 242), (24, 183), (25, 183)], none),
  (136, 1, .iload_n 2, [], none), (137, 1, .iconst 1, [], none), (138, 3, .if_icmp .eq 5, [(0, 143)], none), (141, 1, .iconst 1, [], none),
  (142, 1, .ireturn, [], none), (143, 1, .aload_n 0, [], none), (144, 1, .iload_n 1, [], none), (145, 1, .iconst 1, [], none),
  (146, 1, .iadd, [], none), (147, 3, .invokevirtual 157, [], none), (150, 3, .ifCond .eq 7, [(0, 157)], none), (153, 1, .iconst 0, [], none),
  (154, 3, .goto 4, [(0, 158)], none), (157, 1, .iconst 1, [], none), (158, 1, .aload_n 0, [], some [true, true, false]), (159, 1, .aload_n 0, [], none),
  (160, 3, .getfield 61, [], none), (163, 3, .getfield 160, [], none), (166, 1, .iload_n 1, [], none), (167, 1, .iconst 1, [], none),
  (168, 1, .iadd, [], none), (169, 1, .iaload, [], none), (170, 3, .invokevirtual 157, [], none), (173, 3, .ifCond .eq 7, [(0, 180)], none),
  (176, 1, .iconst 0, [], none), (177, 3, .goto 4, [(0, 181)], none), (180, 1, .iconst 1, [], none), (181, 1, .iadd, [], some [false, false, false]),
  (182, 1, .ireturn, [], none), (183, 1, .iload_n 2, [], none), (184, 1, .iconst 3, [], none), (185, 3, .if_icmp .ne 7, [(0, 192)], none),
  (188, 1, .iconst 0, [], none), (189, 3, .goto 4, [(0, 193)], none), (192, 1, .iconst 1, [], none), (193, 1, .ireturn, [], none),
  (194, 1, .iload_n 2, [], none), (195, 1, .iconst 4, [], none), (196, 3, .if_icmp .ne 7, [(0, 203)], none), (199, 1, .iconst 0, [], none),
  (200, 3, .goto 4, [(0, 204)], none), (203, 1, .iconst 1, [], none), (204, 1, .ireturn, [], none), (205, 1, .iload_n 2, [], none),
  (206, 1, .iconst 4, [], none), (207, 3, .if_icmp .eq 18, [(0, 225)], none), (210, 1, .iload_n 2, [], none), (211, 1, .iconst 1, [], none),
  (212, 3, .if_icmp .ne 17, [(0, 229)], none), (215, 1, .aload_n 0, [], none), (216, 1, .iload_n 1, [], none), (217, 1, .iconst 1, [], none),
  (218, 1, .iadd, [], none), (219, 3, .invokevirtual 157, [], none), (222, 3, .ifCond .eq 7, [(0, 229)], none), (225, 1, .iconst 0, [], some [false, false, false]),
  (226, 3, .goto 4, [(0, 230)], none), (229, 1, .iconst 1, [], none), (230, 1, .ireturn, [], none), (231, 1, .iload_n 2, [], none),
  (232, 1, .iconst 4, [], none), (233, 3, .if_icmp .ne 7, [(0, 240)], none), (236, 1, .iconst 0, [], none), (237, 3, .goto 4, [(0, 241)], none),
  (240, 1, .iconst 1, [], none), (241, 1, .ireturn, [], none), (242, 1, .iconst 1, [], none), (243, 1, .aload_n 0, [], none),
  (244, 3, .getfield 61, [], none), (247, 3, .getfield 131, [], none), (250, 1, .iload_n 1, [], none), (251, 1, .iaload, [], none),
  (252, 3, .invokestatic 163, [], none), (255, 1, .ireturn, [], none), (256, 1, .iconst 0, [], none), (257, 1, .ireturn, [], none)]
def e_cd_guardsOf (m : Nat) : gE := (k_cd_guardsOf, f_cd, c_cd, [(157, 2, 14, 0, .inl (fn_cd_isSure m)), (163, 2, 0, 0, .inl (fn_jm_max 0))], [], (m, 0), 0)
theorem ok_cd_guardsOf : gchk cX6_guardsOf 3 k_cd_guardsOf = true := by decide +kernel
def fn_cd_guardsOf (m : Nat) : gFn := gF (e_cd_guardsOf m) 3
theorem mo_cd_guardsOf (m : Nat) : gMo (.inl (fn_cd_guardsOf m)) := gF_mo (E := e_cd_guardsOf m) ⟨mo_cd_isSure m, ⟨mo_jm_max 0, trivial⟩⟩
noncomputable def cd_guardsOf (σ : gM) (x1 : Int) : Option (gM × Int) := lim (fun n => fn_cd_guardsOf 119 n [(2, 52), (0, x1)] σ)
theorem cd_guardsOf_l (σ : gM) (x1 : Int) : Lm (fun n => fn_cd_guardsOf 119 n [(2, 52), (0, x1)] σ) (cd_guardsOf σ x1) := .of fun n => mo_cd_guardsOf 119 n [(2, 52), (0, x1)] σ
theorem mb_cd_guardsOf : gMos (e_cd_guardsOf 119).2.2.2.1 := ⟨mo_cd_isSure 119, ⟨mo_jm_max 0, trivial⟩⟩
noncomputable def cd_guardsOf_b158 (σ : gM) (x1 y0 : Int) : Option (gM × Int) := lim (fun n => gB (e_cd_guardsOf 119) rF tF n 158 [(2, 52), (0, x1), (9, 0)] [(0, y0)] σ)
theorem cd_guardsOf_b158_l (σ : gM) (x1 y0 : Int) : Lm (fun n => gB (e_cd_guardsOf 119) rF tF n 158 [(2, 52), (0, x1), (9, 0)] [(0, y0)] σ) (cd_guardsOf_b158 σ x1 y0) := .of fun n => gB_le (gMos_spec (mb_cd_guardsOf)) n _ _ _ σ
noncomputable def cd_guardsOf_b181 (σ : gM) (y0 y1 : Int) : Option (gM × Int) := lim (fun n => gB (e_cd_guardsOf 119) rF tF n 181 [(9, 0), (9, 0), (9, 0)] [(0, y0), (0, y1)] σ)
theorem cd_guardsOf_b181_l (σ : gM) (y0 y1 : Int) : Lm (fun n => gB (e_cd_guardsOf 119) rF tF n 181 [(9, 0), (9, 0), (9, 0)] [(0, y0), (0, y1)] σ) (cd_guardsOf_b181 σ y0 y1) := .of fun n => gB_le (gMos_spec (mb_cd_guardsOf)) n _ _ _ σ
noncomputable def cd_guardsOf_b225 (σ : gM) : Option (gM × Int) := lim (fun n => gB (e_cd_guardsOf 119) rF tF n 225 [(9, 0), (9, 0), (9, 0)] [] σ)
theorem cd_guardsOf_b225_l (σ : gM) : Lm (fun n => gB (e_cd_guardsOf 119) rF tF n 225 [(9, 0), (9, 0), (9, 0)] [] σ) (cd_guardsOf_b225 σ) := .of fun n => gB_le (gMos_spec (mb_cd_guardsOf)) n _ _ _ σ
theorem cd_guardsOf_e (σ : gM) (x1 : Int) : cd_guardsOf σ x1 =
  (if 0 ≤ x1 ∧ x1 < 16000 then
  (if 0 ≤ x1 ∧ x1 < 16000 then
    (if σ 9 x1 = 0 then
      (if σ 11 x1 = 4 then
        (some (σ, 0))
        else
        (some (σ, 1)))
      else if σ 9 x1 = 5 then
      (if σ 11 x1 = 4 then
        (some (σ, 0))
        else
        (some (σ, 1)))
      else if σ 9 x1 = 6 then
      (if σ 11 x1 = 4 then
        (cd_guardsOf_b225 σ)
        else
        (if σ 11 x1 = 1 then
          ((cd_isSure σ (w32 (x1 + 1))).bind fun p1 =>
            if p1.2 = 0 then
            (some (p1.1, 1))
            else
            (cd_guardsOf_b225 p1.1))
          else
          (some (σ, 1))))
      else if σ 9 x1 = 8 then
      (if σ 11 x1 = 1 then
        ((cd_isSure σ (w32 (x1 + 1))).bind fun p2 =>
          if p2.2 = 0 then
          (cd_guardsOf_b158 p2.1 x1 1)
          else
          (cd_guardsOf_b158 p2.1 x1 0))
        else
        (some (σ, 1)))
      else if σ 9 x1 = 9 then
      (if σ 11 x1 = 1 then
        ((cd_isSure σ (w32 (x1 + 1))).bind fun p3 =>
          if p3.2 = 0 then
          (cd_guardsOf_b158 p3.1 x1 1)
          else
          (cd_guardsOf_b158 p3.1 x1 0))
        else
        (some (σ, 1)))
      else if σ 9 x1 = 10 then
      (if σ 11 x1 = 1 then
        ((cd_isSure σ (w32 (x1 + 1))).bind fun p4 =>
          if p4.2 = 0 then
          (cd_guardsOf_b158 p4.1 x1 1)
          else
          (cd_guardsOf_b158 p4.1 x1 0))
        else
        (some (σ, 1)))
      else if σ 9 x1 = 11 then
      (if σ 11 x1 = 1 then
        ((cd_isSure σ (w32 (x1 + 1))).bind fun p5 =>
          if p5.2 = 0 then
          (cd_guardsOf_b158 p5.1 x1 1)
          else
          (cd_guardsOf_b158 p5.1 x1 0))
        else
        (some (σ, 1)))
      else if σ 9 x1 = 12 then
      (if σ 11 x1 = 1 then
        ((cd_isSure σ (w32 (x1 + 1))).bind fun p6 =>
          if p6.2 = 0 then
          (cd_guardsOf_b158 p6.1 x1 1)
          else
          (cd_guardsOf_b158 p6.1 x1 0))
        else
        (some (σ, 1)))
      else if σ 9 x1 = 13 then
      (if σ 11 x1 = 1 then
        ((cd_isSure σ (w32 (x1 + 1))).bind fun p7 =>
          if p7.2 = 0 then
          (cd_guardsOf_b158 p7.1 x1 1)
          else
          (cd_guardsOf_b158 p7.1 x1 0))
        else
        (some (σ, 1)))
      else if σ 9 x1 = 14 then
      (if σ 11 x1 = 1 then
        ((cd_isSure σ (w32 (x1 + 1))).bind fun p8 =>
          if p8.2 = 0 then
          (cd_guardsOf_b158 p8.1 x1 1)
          else
          (cd_guardsOf_b158 p8.1 x1 0))
        else
        (some (σ, 1)))
      else if σ 9 x1 = 15 then
      (if σ 11 x1 = 1 then
        ((cd_isSure σ (w32 (x1 + 1))).bind fun p9 =>
          if p9.2 = 0 then
          (cd_guardsOf_b158 p9.1 x1 1)
          else
          (cd_guardsOf_b158 p9.1 x1 0))
        else
        (some (σ, 1)))
      else if σ 9 x1 = 16 then
      (if σ 11 x1 = 1 then
        ((cd_isSure σ (w32 (x1 + 1))).bind fun p10 =>
          if p10.2 = 0 then
          (cd_guardsOf_b158 p10.1 x1 1)
          else
          (cd_guardsOf_b158 p10.1 x1 0))
        else
        (some (σ, 1)))
      else if σ 9 x1 = 17 then
      (if σ 11 x1 = 1 then
        ((cd_isSure σ (w32 (x1 + 1))).bind fun p11 =>
          if p11.2 = 0 then
          (cd_guardsOf_b158 p11.1 x1 1)
          else
          (cd_guardsOf_b158 p11.1 x1 0))
        else
        (some (σ, 1)))
      else if σ 9 x1 = 18 then
      (if σ 11 x1 = 3 then
        (some (σ, 0))
        else
        (some (σ, 1)))
      else if σ 9 x1 = 19 then
      (if σ 11 x1 = 3 then
        (some (σ, 0))
        else
        (some (σ, 1)))
      else if σ 9 x1 = 21 then
      (if 0 ≤ x1 ∧ x1 < 16000 then
        ((jm_max σ 1 (σ 18 x1)).bind fun p12 =>
          some (p12.1, p12.2))
        else none)
      else if σ 9 x1 = 22 then
      (if 0 ≤ x1 ∧ x1 < 16000 then
        ((jm_max σ 1 (σ 18 x1)).bind fun p13 =>
          some (p13.1, p13.2))
        else none)
      else if σ 9 x1 = 23 then
      (if 0 ≤ x1 ∧ x1 < 16000 then
        ((jm_max σ 1 (σ 18 x1)).bind fun p14 =>
          some (p14.1, p14.2))
        else none)
      else if σ 9 x1 = 24 then
      (if σ 11 x1 = 3 then
        (some (σ, 0))
        else
        (some (σ, 1)))
      else if σ 9 x1 = 25 then
      (if σ 11 x1 = 3 then
        (some (σ, 0))
        else
        (some (σ, 1)))
      else (some (σ, 0)))
    else none)
  else none) := Lm.eqn (cd_guardsOf_l ..) (.ite (.ite (.ite (.ite .cst .cst) (.ite (.ite .cst .cst) (.ite (.ite (cd_guardsOf_b225_l ..) (.ite (.bind (cd_isSure_l ..) fun p1 => (.ite .cst (cd_guardsOf_b225_l ..))) .cst)) (.ite (.ite (.bind (cd_isSure_l ..) fun p2 => (.ite (cd_guardsOf_b158_l ..) (cd_guardsOf_b158_l ..))) .cst) (.ite (.ite (.bind (cd_isSure_l ..) fun p3 => (.ite (cd_guardsOf_b158_l ..) (cd_guardsOf_b158_l ..))) .cst) (.ite (.ite (.bind (cd_isSure_l ..) fun p4 => (.ite (cd_guardsOf_b158_l ..) (cd_guardsOf_b158_l ..))) .cst) (.ite (.ite (.bind (cd_isSure_l ..) fun p5 => (.ite (cd_guardsOf_b158_l ..) (cd_guardsOf_b158_l ..))) .cst) (.ite (.ite (.bind (cd_isSure_l ..) fun p6 => (.ite (cd_guardsOf_b158_l ..) (cd_guardsOf_b158_l ..))) .cst) (.ite (.ite (.bind (cd_isSure_l ..) fun p7 => (.ite (cd_guardsOf_b158_l ..) (cd_guardsOf_b158_l ..))) .cst) (.ite (.ite (.bind (cd_isSure_l ..) fun p8 => (.ite (cd_guardsOf_b158_l ..) (cd_guardsOf_b158_l ..))) .cst) (.ite (.ite (.bind (cd_isSure_l ..) fun p9 => (.ite (cd_guardsOf_b158_l ..) (cd_guardsOf_b158_l ..))) .cst) (.ite (.ite (.bind (cd_isSure_l ..) fun p10 => (.ite (cd_guardsOf_b158_l ..) (cd_guardsOf_b158_l ..))) .cst) (.ite (.ite (.bind (cd_isSure_l ..) fun p11 => (.ite (cd_guardsOf_b158_l ..) (cd_guardsOf_b158_l ..))) .cst) (.ite (.ite .cst .cst) (.ite (.ite .cst .cst) (.ite (.ite (.bind (jm_max_l ..) fun p12 => .cst) .cst) (.ite (.ite (.bind (jm_max_l ..) fun p13 => .cst) .cst) (.ite (.ite (.bind (jm_max_l ..) fun p14 => .cst) .cst) (.ite (.ite .cst .cst) (.ite (.ite .cst .cst) .cst)))))))))))))))))))) .cst) .cst) fun n => (rfl)
theorem cd_guardsOf_b158_e (σ : gM) (x1 y0 : Int) : cd_guardsOf_b158 σ x1 y0 =
  (if 0 ≤ w32 (x1 + 1) ∧ w32 (x1 + 1) < 16000 then
  ((cd_isSure σ (σ 15 (w32 (x1 + 1)))).bind fun p1 =>
    if p1.2 = 0 then
    (cd_guardsOf_b181 p1.1 1 y0)
    else
    (cd_guardsOf_b181 p1.1 0 y0))
  else none) := Lm.eqn (cd_guardsOf_b158_l ..) (.ite (.bind (cd_isSure_l ..) fun p1 => (.ite (cd_guardsOf_b181_l ..) (cd_guardsOf_b181_l ..))) .cst) fun n => (rfl)
theorem cd_guardsOf_b181_e (σ : gM) (y0 y1 : Int) : cd_guardsOf_b181 σ y0 y1 =
  (some (σ, w32 (y1 + y0))) := Lm.eqn (cd_guardsOf_b181_l ..) .cst fun n => (rfl)
theorem cd_guardsOf_b225_e (σ : gM) : cd_guardsOf_b225 σ =
  (some (σ, 0)) := Lm.eqn (cd_guardsOf_b225_l ..) .cst fun n => (rfl)
def k_cd_make : List gC := [(0, 1, .aload_n 0, [], none), (1, 3, .getfield 65, [], none), (4, 1, .istore_n 2, [], none), (5, 1, .aload_n 0, [], none),
  (6, 1, .dup, [], none), (7, 3, .getfield 65, [], none), (10, 1, .iconst 1, [], none), (11, 1, .iadd, [], none),
  (12, 3, .putfield 65, [], none), (15, 1, .aload_n 0, [], none), (16, 3, .getfield 9, [], none), (19, 1, .iload_n 2, [], none),
  (20, 1, .iload_n 1, [], none), (21, 1, .iastore, [], none), (22, 1, .aload_n 0, [], none), (23, 3, .getfield 15, [], none),
  (26, 1, .iload_n 2, [], none), (27, 1, .aload_n 0, [], none), (28, 3, .getfield 69, [], none), (31, 1, .iastore, [], none),
  (32, 1, .aload_n 0, [], none), (33, 3, .getfield 18, [], none), (36, 1, .iload_n 2, [], none), (37, 1, .iconst 0, [], none),
  (38, 1, .iastore, [], none), (39, 1, .aload_n 0, [], none), (40, 3, .getfield 21, [], none), (43, 1, .iload_n 2, [], none),
  (44, 1, .iconst 0, [], none), (45, 1, .iastore, [], none), (46, 1, .aload_n 0, [], none), (47, 3, .getfield 27, [], none),
  (50, 1, .iload_n 2, [], none), (51, 1, .iconst 0, [], none), (52, 1, .iastore, [], none), (53, 1, .aload_n 0, [], none),
  (54, 3, .getfield 30, [], none), (57, 1, .iload_n 2, [], none), (58, 1, .iconst 0, [], none), (59, 1, .iastore, [], none),
  (60, 1, .aload_n 0, [], none), (61, 3, .getfield 33, [], none), (64, 1, .iload_n 2, [], none), (65, 1, .iconst 0, [], none),
  (66, 1, .iastore, [], none), (67, 1, .aload_n 0, [], none), (68, 3, .getfield 36, [], none), (71, 1, .iload_n 2, [], none),
  (72, 1, .iconst 1, [], none), (73, 1, .bastore, [], none), (74, 1, .aload_n 0, [], none), (75, 3, .getfield 61, [], none),
  (78, 3, .getfield 95, [], none), (81, 1, .iload_n 1, [], none), (82, 1, .iload_n 2, [], none), (83, 1, .iastore, [], none),
  (84, 1, .aload_n 0, [], none), (85, 3, .getfield 61, [], none), (88, 3, .getfield 98, [], none), (91, 1, .iload_n 1, [], none),
  (92, 1, .dup2, [], none), (93, 1, .iaload, [], none), (94, 1, .iconst 1, [], none), (95, 1, .iadd, [], none),
  (96, 1, .iastore, [], none), (97, 1, .aload_n 0, [], none), (98, 1, .iload_n 2, [], none), (99, 1, .iload_n 1, [], none),
  (100, 1, .iconst (-1), [], none), (101, 1, .iconst (-1), [], none), (102, 3, .invokevirtual 109, [], none), (105, 1, .iconst 0, [], none),
  (106, 1, .istore_n 3, [], none), (107, 1, .iload_n 3, [], some [true, false, true, true, false]), (108, 1, .aload_n 0, [], none), (109, 3, .getfield 18, [], none),
  (112, 1, .iload_n 2, [], none), (113, 1, .iaload, [], none), (114, 3, .if_icmp .ge 15, [(0, 129)], none), (117, 1, .aload_n 0, [], none),
  (118, 1, .iload_n 2, [], none), (119, 1, .iload_n 3, [], none), (120, 3, .invokevirtual 113, [], none), (123, 3, .iinc 3 1, [], none),
  (126, 3, .goto (-19), [(0, 107)], none), (129, 1, .aload_n 0, [], none), (130, 3, .getfield 24, [], none), (133, 1, .iload_n 2, [], none),
  (134, 1, .iconst 0, [], none), (135, 1, .iastore, [], none), (136, 1, .iconst 0, [], none), (137, 1, .istore_n 3, [], none),
  (138, 1, .iload_n 3, [], some [true, false, true, true, false]), (139, 1, .aload_n 0, [], none), (140, 3, .getfield 18, [], none), (143, 1, .iload_n 2, [], none),
  (144, 1, .iaload, [], none), (145, 3, .if_icmp .ge 93, [(0, 238)], none), (148, 1, .aload_n 0, [], none), (149, 1, .aload_n 0, [], none),
  (150, 3, .getfield 15, [], none), (153, 1, .iload_n 2, [], none), (154, 1, .iaload, [], none), (155, 1, .iload_n 3, [], none),
  (156, 1, .iadd, [], none), (157, 3, .invokevirtual 117, [], none), (160, 1, .iconst 0, [], none), (161, 2, .istore 4, [], none),
  (163, 2, .iload 4, [], some [true, false, true, true, true]), (165, 1, .aload_n 0, [], none), (166, 3, .getfield 61, [], none), (169, 3, .getfield 120, [], none),
  (172, 1, .aload_n 0, [], none), (173, 3, .getfield 40, [], none), (176, 1, .aload_n 0, [], none), (177, 3, .getfield 15, [], none),
  (180, 1, .iload_n 2, [], none), (181, 1, .iaload, [], none), (182, 1, .iload_n 3, [], none), (183, 1, .iadd, [], none),
  (184, 1, .iaload, [], none), (185, 1, .iaload, [], none), (186, 3, .if_icmp .ge 46, [(0, 232)], none), (189, 1, .aload_n 0, [], none),
  (190, 3, .getfield 24, [], none), (193, 1, .iload_n 2, [], none), (194, 1, .dup2, [], none), (195, 1, .iaload, [], none),
  (196, 1, .aload_n 0, [], none), (197, 1, .aload_n 0, [], none), (198, 3, .getfield 61, [], none), (201, 3, .getfield 122, [], none),
  (204, 1, .aload_n 0, [], none), (205, 3, .getfield 40, [], none), (208, 1, .aload_n 0, [], none), (209, 3, .getfield 15, [], none),
  (212, 1, .iload_n 2, [], none), (213, 1, .iaload, [], none), (214, 1, .iload_n 3, [], none), (215, 1, .iadd, [], none),
  (216, 1, .iaload, [], none), (217, 1, .iaload, [], none), (218, 2, .iload 4, [], none), (220, 1, .iadd, [], none),
  (221, 3, .invokevirtual 125, [], none), (224, 1, .iadd, [], none), (225, 1, .iastore, [], none), (226, 3, .iinc 4 1, [], none),
  (229, 3, .goto (-66), [(0, 163)], none), (232, 3, .iinc 3 1, [], none), (235, 3, .goto (-97), [(0, 138)], none), (238, 1, .return_, [], none)]
def e_cd_make (m : Nat) : gE := (k_cd_make, f_cd, c_cd, [(109, 5, 14, 5, .inl (fn_cd_adds m)), (113, 3, 14, 5, .inl (fn_cd_inlines m)), (117, 2, 14, 5, .inl (fn_cd_lays m)), (125, 2, 14, 0, .inl (fn_cd_guardsOf m))], [], (m, 15678213195244629473902095963979109946851518480642546744299923706746543098261126617813707398317448626176), 5)
theorem ok_cd_make : gchk cX6_make 5 k_cd_make = true := by decide +kernel
def fn_cd_make (m : Nat) : gFn := gF (e_cd_make m) 5
theorem mo_cd_make (m : Nat) : gMo (.inl (fn_cd_make m)) := gF_mo (E := e_cd_make m) ⟨mo_cd_adds m, ⟨mo_cd_inlines m, ⟨mo_cd_lays m, ⟨mo_cd_guardsOf m, trivial⟩⟩⟩⟩
noncomputable def cd_make (σ : gM) (x1 : Int) : Option (gM × Int) := lim (fun n => fn_cd_make 119 n [(2, 52), (0, x1)] σ)
theorem cd_make_l (σ : gM) (x1 : Int) : Lm (fun n => fn_cd_make 119 n [(2, 52), (0, x1)] σ) (cd_make σ x1) := .of fun n => mo_cd_make 119 n [(2, 52), (0, x1)] σ
theorem mb_cd_make : gMos (e_cd_make 119).2.2.2.1 := ⟨mo_cd_adds 119, ⟨mo_cd_inlines 119, ⟨mo_cd_lays 119, ⟨mo_cd_guardsOf 119, trivial⟩⟩⟩⟩
noncomputable def cd_make_b107 (σ : gM) (x2 x3 : Int) : Option (gM × Int) := lim (fun n => gB (e_cd_make 119) rF tF n 107 [(2, 52), (9, 0), (0, x2), (0, x3), (9, 0)] [] σ)
theorem cd_make_b107_l (σ : gM) (x2 x3 : Int) : Lm (fun n => gB (e_cd_make 119) rF tF n 107 [(2, 52), (9, 0), (0, x2), (0, x3), (9, 0)] [] σ) (cd_make_b107 σ x2 x3) := .of fun n => gB_le (gMos_spec (mb_cd_make)) n _ _ _ σ
noncomputable def cd_make_b138 (σ : gM) (x2 x3 : Int) : Option (gM × Int) := lim (fun n => gB (e_cd_make 119) rF tF n 138 [(2, 52), (9, 0), (0, x2), (0, x3), (9, 0)] [] σ)
theorem cd_make_b138_l (σ : gM) (x2 x3 : Int) : Lm (fun n => gB (e_cd_make 119) rF tF n 138 [(2, 52), (9, 0), (0, x2), (0, x3), (9, 0)] [] σ) (cd_make_b138 σ x2 x3) := .of fun n => gB_le (gMos_spec (mb_cd_make)) n _ _ _ σ
noncomputable def cd_make_b163 (σ : gM) (x2 x3 x4 : Int) : Option (gM × Int) := lim (fun n => gB (e_cd_make 119) rF tF n 163 [(2, 52), (9, 0), (0, x2), (0, x3), (0, x4)] [] σ)
theorem cd_make_b163_l (σ : gM) (x2 x3 x4 : Int) : Lm (fun n => gB (e_cd_make 119) rF tF n 163 [(2, 52), (9, 0), (0, x2), (0, x3), (0, x4)] [] σ) (cd_make_b163 σ x2 x3 x4) := .of fun n => gB_le (gMos_spec (mb_cd_make)) n _ _ _ σ
theorem cd_make_e (σ : gM) (x1 : Int) : cd_make σ x1 =
  (if 0 ≤ σ 52 10 ∧ σ 52 10 < 100 then
  (if 0 ≤ σ 52 10 ∧ σ 52 10 < 100 then
    (if 0 ≤ σ 52 10 ∧ σ 52 10 < 100 then
      (if 0 ≤ σ 52 10 ∧ σ 52 10 < 100 then
        (if 0 ≤ σ 52 10 ∧ σ 52 10 < 100 then
          (if 0 ≤ σ 52 10 ∧ σ 52 10 < 100 then
            (if 0 ≤ σ 52 10 ∧ σ 52 10 < 100 then
              (if 0 ≤ σ 52 10 ∧ σ 52 10 < 100 then
                (if 0 ≤ x1 ∧ x1 < 60 then
                  (if 0 ≤ x1 ∧ x1 < 60 then
                    (if 0 ≤ x1 ∧ x1 < 60 then
                      ((cd_adds (gW (gW (gW (gW (gW (gW (gW (gW (gW (gW (gW σ 52 10 (w32 ((σ 52 10) + 1))) 53 (σ 52 10) x1) 54 (σ 52 10) (σ 52 11)) 55 (σ 52 10) 0) 56 (σ 52 10) 0) 58 (σ 52 10) 0) 59 (σ 52 10) 0) 60 (σ 52 10) 0) 61 (σ 52 10) 1) 34 x1 (σ 52 10)) 33 x1 (w32 ((σ 33 x1) + 1))) (σ 52 10) x1 (-1) (-1)).bind fun p1 =>
                        cd_make_b107 p1.1 (σ 52 10) 0)
                      else none)
                    else none)
                  else none)
                else none)
              else none)
            else none)
          else none)
        else none)
      else none)
    else none)
  else none) := Lm.eqn (cd_make_l ..) (.ite (.ite (.ite (.ite (.ite (.ite (.ite (.ite (.ite (.ite (.ite (.bind (cd_adds_l ..) fun p1 => (cd_make_b107_l ..)) .cst) .cst) .cst) .cst) .cst) .cst) .cst) .cst) .cst) .cst) .cst) fun n => (rfl)
theorem cd_make_b107_e (σ : gM) (x2 x3 : Int) : cd_make_b107 σ x2 x3 =
  (if 0 ≤ x2 ∧ x2 < 100 then
  (if x3 < σ 55 x2 then
    ((cd_inlines σ x2 x3).bind fun p1 =>
      cd_make_b107 p1.1 x2 (w32 (x3 + 1)))
    else
    (if 0 ≤ x2 ∧ x2 < 100 then
      (cd_make_b138 (gW σ 57 x2 0) x2 0)
      else none))
  else none) := Lm.eqn (cd_make_b107_l ..) (.ite (.ite (.bind (cd_inlines_l ..) fun p1 => (cd_make_b107_l ..)) (.ite (cd_make_b138_l ..) .cst)) .cst) fun n => (rfl)
theorem cd_make_b138_e (σ : gM) (x2 x3 : Int) : cd_make_b138 σ x2 x3 =
  (if 0 ≤ x2 ∧ x2 < 100 then
  (if x3 < σ 55 x2 then
    (if 0 ≤ x2 ∧ x2 < 100 then
      ((cd_lays σ (w32 ((σ 54 x2) + x3))).bind fun p1 =>
        cd_make_b163 p1.1 x2 x3 0)
      else none)
    else
    (some (σ, 0)))
  else none) := Lm.eqn (cd_make_b138_l ..) (.ite (.ite (.ite (.bind (cd_lays_l ..) fun p1 => (cd_make_b163_l ..)) .cst) .cst) .cst) fun n => (rfl)
theorem cd_make_b163_e (σ : gM) (x2 x3 x4 : Int) : cd_make_b163 σ x2 x3 x4 =
  (if 0 ≤ x2 ∧ x2 < 100 then
  (if 0 ≤ w32 ((σ 54 x2) + x3) ∧ w32 ((σ 54 x2) + x3) < 16000 then
    (if 0 ≤ σ 62 (w32 ((σ 54 x2) + x3)) ∧ σ 62 (w32 ((σ 54 x2) + x3)) < 60 then
      (if x4 < σ 27 (σ 62 (w32 ((σ 54 x2) + x3))) then
        (if 0 ≤ x2 ∧ x2 < 100 then
          (if 0 ≤ x2 ∧ x2 < 100 then
            (if 0 ≤ w32 ((σ 54 x2) + x3) ∧ w32 ((σ 54 x2) + x3) < 16000 then
              (if 0 ≤ σ 62 (w32 ((σ 54 x2) + x3)) ∧ σ 62 (w32 ((σ 54 x2) + x3)) < 60 then
                ((cd_guardsOf σ (w32 ((σ 26 (σ 62 (w32 ((σ 54 x2) + x3)))) + x4))).bind fun p1 =>
                  if 0 ≤ x2 ∧ x2 < 100 then
                  (cd_make_b163 (gW p1.1 57 x2 (w32 ((σ 57 x2) + p1.2))) x2 x3 (w32 (x4 + 1)))
                  else none)
                else none)
              else none)
            else none)
          else none)
        else
        (cd_make_b138 σ x2 (w32 (x3 + 1))))
      else none)
    else none)
  else none) := Lm.eqn (cd_make_b163_l ..) (.ite (.ite (.ite (.ite (.ite (.ite (.ite (.ite (.bind (cd_guardsOf_l ..) fun p1 => (.ite (cd_make_b163_l ..) .cst)) .cst) .cst) .cst) .cst) (cd_make_b138_l ..)) .cst) .cst) .cst) fun n => (rfl)
def k_cd_compile : List gC := [(0, 1, .aload_n 0, [], some [true, false, false]), (1, 3, .getfield 75, [], none), (4, 3, .ifCond .le 80, [(0, 84)], none), (7, 1, .aload_n 0, [], none),
  (8, 3, .getfield 65, [], none), (11, 2, .bipush 100, [], none), (13, 3, .if_icmp .ge 71, [(0, 84)], none), (16, 1, .aload_n 0, [], none),
  (17, 3, .getfield 58, [], none), (20, 1, .iconst 0, [], none), (21, 1, .iaload, [], none), (22, 1, .istore_n 1, [], none),
  (23, 1, .aload_n 0, [], none), (24, 1, .dup, [], none), (25, 3, .getfield 75, [], none), (28, 1, .iconst 1, [], none),
  (29, 1, .isub, [], none), (30, 3, .putfield 75, [], none), (33, 1, .iconst 0, [], none), (34, 1, .istore_n 2, [], none),
  (35, 1, .iload_n 2, [], some [true, true, true]), (36, 1, .aload_n 0, [], none), (37, 3, .getfield 75, [], none), (40, 3, .if_icmp .ge 23, [(0, 63)], none),
  (43, 1, .aload_n 0, [], none), (44, 3, .getfield 58, [], none), (47, 1, .iload_n 2, [], none), (48, 1, .aload_n 0, [], none),
  (49, 3, .getfield 58, [], none), (52, 1, .iload_n 2, [], none), (53, 1, .iconst 1, [], none), (54, 1, .iadd, [], none),
  (55, 1, .iaload, [], none), (56, 1, .iastore, [], none), (57, 3, .iinc 2 1, [], none), (60, 3, .goto (-25), [(0, 35)], none),
  (63, 1, .aload_n 0, [], none), (64, 3, .getfield 61, [], none), (67, 1, .iload_n 1, [], none), (68, 3, .invokevirtual 101, [], none),
  (71, 3, .ifCond .ne 6, [(0, 77)], none), (74, 3, .goto (-74), [(0, 0)], none), (77, 1, .aload_n 0, [], none), (78, 1, .iload_n 1, [], none),
  (79, 3, .invokevirtual 105, [], none), (82, 1, .iload_n 1, [], none), (83, 1, .ireturn, [], none), (84, 1, .iconst (-1), [], none),
  (85, 1, .ireturn, [], none)]
def e_cd_compile (m : Nat) : gE := (k_cd_compile, f_cd, c_cd, [(101, 2, 11, 0, .inl (fn_fr_isNewest m)), (105, 2, 14, 5, .inl (fn_cd_make m))], [], (m, 1162427521190280385279312543615022580345134013064783108613094343400207981142503530652970557905969968316416), 0)
theorem ok_cd_compile : gchk cX6_compile 3 k_cd_compile = true := by decide +kernel
def fn_cd_compile (m : Nat) : gFn := gF (e_cd_compile m) 3
theorem mo_cd_compile (m : Nat) : gMo (.inl (fn_cd_compile m)) := gF_mo (E := e_cd_compile m) ⟨mo_fr_isNewest m, ⟨mo_cd_make m, trivial⟩⟩
noncomputable def cd_compile (σ : gM) : Option (gM × Int) := lim (fun n => fn_cd_compile 119 n [(2, 52)] σ)
theorem cd_compile_l (σ : gM) : Lm (fun n => fn_cd_compile 119 n [(2, 52)] σ) (cd_compile σ) := .of fun n => mo_cd_compile 119 n [(2, 52)] σ
theorem mb_cd_compile : gMos (e_cd_compile 119).2.2.2.1 := ⟨mo_fr_isNewest 119, ⟨mo_cd_make 119, trivial⟩⟩
noncomputable def cd_compile_b0 (σ : gM) : Option (gM × Int) := lim (fun n => gB (e_cd_compile 119) rF tF n 0 [(2, 52), (9, 0), (9, 0)] [] σ)
theorem cd_compile_b0_l (σ : gM) : Lm (fun n => gB (e_cd_compile 119) rF tF n 0 [(2, 52), (9, 0), (9, 0)] [] σ) (cd_compile_b0 σ) := .of fun n => gB_le (gMos_spec (mb_cd_compile)) n _ _ _ σ
noncomputable def cd_compile_b35 (σ : gM) (x1 x2 : Int) : Option (gM × Int) := lim (fun n => gB (e_cd_compile 119) rF tF n 35 [(2, 52), (0, x1), (0, x2)] [] σ)
theorem cd_compile_b35_l (σ : gM) (x1 x2 : Int) : Lm (fun n => gB (e_cd_compile 119) rF tF n 35 [(2, 52), (0, x1), (0, x2)] [] σ) (cd_compile_b35 σ x1 x2) := .of fun n => gB_le (gMos_spec (mb_cd_compile)) n _ _ _ σ
theorem cd_compile_e (σ : gM) : cd_compile σ =
  (if 0 < σ 52 19 then
  (if σ 52 10 < 100 then
    (if (0 : Int) ≤ 0 ∧ (0 : Int) < 60 then
      (cd_compile_b35 (gW σ 52 19 (w32 ((σ 52 19) - 1))) (σ 67 0) 0)
      else none)
    else
    (some (σ, (-1))))
  else
  (some (σ, (-1)))) := Lm.eqn (cd_compile_l ..) (.ite (.ite (.ite (cd_compile_b35_l ..) .cst) .cst) .cst) fun n => (rfl)
theorem cd_compile_b0_e (σ : gM) : cd_compile_b0 σ =
  (if 0 < σ 52 19 then
  (if σ 52 10 < 100 then
    (if (0 : Int) ≤ 0 ∧ (0 : Int) < 60 then
      (cd_compile_b35 (gW σ 52 19 (w32 ((σ 52 19) - 1))) (σ 67 0) 0)
      else none)
    else
    (some (σ, (-1))))
  else
  (some (σ, (-1)))) := Lm.eqn (cd_compile_b0_l ..) (.ite (.ite (.ite (cd_compile_b35_l ..) .cst) .cst) .cst) fun n => (rfl)
theorem cd_compile_b35_e (σ : gM) (x1 x2 : Int) : cd_compile_b35 σ x1 x2 =
  (if x2 < σ 52 19 then
  (if 0 ≤ w32 (x2 + 1) ∧ w32 (x2 + 1) < 60 then
    (if 0 ≤ x2 ∧ x2 < 60 then
      (cd_compile_b35 (gW σ 67 x2 (σ 67 (w32 (x2 + 1)))) x1 (w32 (x2 + 1)))
      else none)
    else none)
  else
  ((fr_isNewest σ x1).bind fun p1 =>
    if p1.2 = 0 then
    (cd_compile_b0 p1.1)
    else
    ((cd_make p1.1 x1).bind fun p2 =>
      some (p2.1, x1)))) := Lm.eqn (cd_compile_b35_l ..) (.ite (.ite (.ite (cd_compile_b35_l ..) .cst) .cst) (.bind (fr_isNewest_l ..) fun p1 => (.ite (cd_compile_b0_l ..) (.bind (cd_make_l ..) fun p2 => .cst)))) fun n => (rfl)
