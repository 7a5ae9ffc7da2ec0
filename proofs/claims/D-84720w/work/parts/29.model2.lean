set_option maxRecDepth 100000
def k_md_need : List gC := [(0, 1, .aload_n 0, [], none), (1, 3, .getfield 436, [], none), (4, 1, .iload_n 1, [], none), (5, 3, .if_icmp .eq 13, [(0, 18)], none),
  (8, 1, .aload_n 0, [], none), (9, 1, .iconst 2, [], none), (10, 1, .aload_n 0, [], none), (11, 3, .getfield 433, [], none),
  (14, 3, .invokevirtual 446, [], none), (17, 1, .athrow, [], none), (18, 1, .return_, [], none)]
def e_md_need (m : Nat) : gE := (k_md_need, f_md, c_md, [(446, 3, 20, 2, .inl (fn_md_fails m))], [], (m, 1198751443321341016850533336240575861407461686783348921929916272496142747706789998126197543576380916925373541550620143191852022660846701557615427584), 5)
theorem ok_md_need : gchk cX10_need 2 k_md_need = true := by decide +kernel
def fn_md_need (m : Nat) : gFt := gG (e_md_need m) 2
theorem mo_md_need (m : Nat) : gMo (.inr (fn_md_need m)) := gG_mo (E := e_md_need m) ⟨mo_md_fails m, trivial⟩
noncomputable def md_need (σ : gM) (x1 : Int) : Option (gM × Option Int) := lim (fun n => fn_md_need 227 n [(2, 119), (0, x1)] σ)
theorem md_need_l (σ : gM) (x1 : Int) : Lm (fun n => fn_md_need 227 n [(2, 119), (0, x1)] σ) (md_need σ x1) := .of fun n => mo_md_need 227 n [(2, 119), (0, x1)] σ
theorem md_need_e (σ : gM) (x1 : Int) : md_need σ x1 =
  (if σ 119 25 = x1 then
  (some (σ, some 0))
  else
  ((md_fails σ 2 (σ 119 26)).bind fun p1 =>
    gthr p1.1 p1.2)) := Lm.eqn (md_need_l ..) (.ite .cst (.bind (md_fails_l ..) fun p1 => .cst)) fun n => (rfl)
def k_md_opens : List gC := [(0, 1, .aload_n 0, [], none), (1, 3, .getfield 473, [], none), (4, 2, .bipush 20, [], none), (6, 3, .if_icmp .ne 13, [(0, 19)], none),
  (9, 1, .aload_n 0, [], none), (10, 1, .iconst 3, [], none), (11, 1, .aload_n 0, [], none), (12, 3, .getfield 433, [], none),
  (15, 3, .invokevirtual 446, [], none), (18, 1, .athrow, [], none), (19, 1, .aload_n 0, [], none), (20, 1, .dup, [], none),
  (21, 3, .getfield 473, [], none), (24, 1, .iconst 1, [], none), (25, 1, .iadd, [], none), (26, 3, .putfield 473, [], none),
  (29, 1, .return_, [], none)]
def e_md_opens (m : Nat) : gE := (k_md_opens, f_md, c_md, [(446, 3, 20, 2, .inl (fn_md_fails m))], [], (m, 1298647396931452768254744447593957183191416827348627998757409295204154643349022497970047338874412660002488003346505155124506357882583926687416713216), 5)
theorem ok_md_opens : gchk cX10_opens 1 k_md_opens = true := by decide +kernel
def fn_md_opens (m : Nat) : gFt := gG (e_md_opens m) 1
theorem mo_md_opens (m : Nat) : gMo (.inr (fn_md_opens m)) := gG_mo (E := e_md_opens m) ⟨mo_md_fails m, trivial⟩
noncomputable def md_opens (σ : gM) : Option (gM × Option Int) := lim (fun n => fn_md_opens 227 n [(2, 119)] σ)
theorem md_opens_l (σ : gM) : Lm (fun n => fn_md_opens 227 n [(2, 119)] σ) (md_opens σ) := .of fun n => mo_md_opens 227 n [(2, 119)] σ
theorem md_opens_e (σ : gM) : md_opens σ =
  (if σ 119 28 = 20 then
  ((md_fails σ 3 (σ 119 26)).bind fun p1 =>
    gthr p1.1 p1.2)
  else
  (some (gW σ 119 28 (w32 ((σ 119 28) + 1)), some 0))) := Lm.eqn (md_opens_l ..) (.ite (.bind (md_fails_l ..) fun p1 => .cst) .cst) fun n => (rfl)
def k_md_pass : List gC := [(0, 1, .aload_n 0, [], none), (1, 1, .iload_n 1, [], none), (2, 3, .invokevirtual 476, [], none), (5, 1, .iload_n 1, [], none),
  (6, 2, .bipush 30, [], none), (8, 3, .if_icmp .eq 9, [(0, 17)], none), (11, 1, .iload_n 1, [], none), (12, 2, .bipush 32, [], none),
  (14, 3, .if_icmp .ne 10, [(0, 24)], none), (17, 1, .aload_n 0, [], some [true, false]), (18, 3, .invokevirtual 479, [], none), (21, 3, .goto 31, [(0, 52)], none),
  (24, 1, .iload_n 1, [], none), (25, 2, .bipush 31, [], none), (27, 3, .if_icmp .eq 15, [(0, 42)], none), (30, 1, .iload_n 1, [], none),
  (31, 2, .bipush 33, [], none), (33, 3, .if_icmp .eq 9, [(0, 42)], none), (36, 1, .iload_n 1, [], none), (37, 2, .bipush 35, [], none),
  (39, 3, .if_icmp .ne 13, [(0, 52)], none), (42, 1, .aload_n 0, [], some [true, false]), (43, 1, .dup, [], none), (44, 3, .getfield 473, [], none),
  (47, 1, .iconst 1, [], none), (48, 1, .isub, [], none), (49, 3, .putfield 473, [], none), (52, 1, .aload_n 0, [], some [true, false]),
  (53, 3, .invokevirtual 482, [], none), (56, 1, .return_, [], none)]
def e_md_pass (m : Nat) : gE := (k_md_pass, f_md, c_md, [(476, 2, 20, 5, .inr (fn_md_need m)), (479, 1, 20, 5, .inr (fn_md_opens m)), (482, 1, 20, 5, .inr (fn_md_take m))], [], (m, 1392299853440932535196192364487752172363874771628577133283184003992915795513615466573656521966317419137282811280147353811369797152962575246605418496), 5)
theorem ok_md_pass : gchk cX10_pass 2 k_md_pass = true := by decide +kernel
def fn_md_pass (m : Nat) : gFt := gG (e_md_pass m) 2
theorem mo_md_pass (m : Nat) : gMo (.inr (fn_md_pass m)) := gG_mo (E := e_md_pass m) ⟨mo_md_need m, ⟨mo_md_opens m, ⟨mo_md_take m, trivial⟩⟩⟩
noncomputable def md_pass (σ : gM) (x1 : Int) : Option (gM × Option Int) := lim (fun n => fn_md_pass 227 n [(2, 119), (0, x1)] σ)
theorem md_pass_l (σ : gM) (x1 : Int) : Lm (fun n => fn_md_pass 227 n [(2, 119), (0, x1)] σ) (md_pass σ x1) := .of fun n => mo_md_pass 227 n [(2, 119), (0, x1)] σ
theorem mb_md_pass : gMos (e_md_pass 227).2.2.2.1 := ⟨mo_md_need 227, ⟨mo_md_opens 227, ⟨mo_md_take 227, trivial⟩⟩⟩
noncomputable def md_pass_b17 (σ : gM) : Option (gM × Option Int) := lim (fun n => gB (e_md_pass 227) rG gthr n 17 [(2, 119), (9, 0)] [] σ)
theorem md_pass_b17_l (σ : gM) : Lm (fun n => gB (e_md_pass 227) rG gthr n 17 [(2, 119), (9, 0)] [] σ) (md_pass_b17 σ) := .of fun n => gB_le (gMos_spec (mb_md_pass)) n _ _ _ σ
noncomputable def md_pass_b42 (σ : gM) : Option (gM × Option Int) := lim (fun n => gB (e_md_pass 227) rG gthr n 42 [(2, 119), (9, 0)] [] σ)
theorem md_pass_b42_l (σ : gM) : Lm (fun n => gB (e_md_pass 227) rG gthr n 42 [(2, 119), (9, 0)] [] σ) (md_pass_b42 σ) := .of fun n => gB_le (gMos_spec (mb_md_pass)) n _ _ _ σ
noncomputable def md_pass_b52 (σ : gM) : Option (gM × Option Int) := lim (fun n => gB (e_md_pass 227) rG gthr n 52 [(2, 119), (9, 0)] [] σ)
theorem md_pass_b52_l (σ : gM) : Lm (fun n => gB (e_md_pass 227) rG gthr n 52 [(2, 119), (9, 0)] [] σ) (md_pass_b52 σ) := .of fun n => gB_le (gMos_spec (mb_md_pass)) n _ _ _ σ
theorem md_pass_e (σ : gM) (x1 : Int) : md_pass σ x1 =
  ((md_need σ x1).bind fun p1 => gtry p1.2 (fun v2 =>
  if x1 = 30 then
    (md_pass_b17 p1.1)
    else
    (if x1 = 32 then
      (md_pass_b17 p1.1)
      else
      (if x1 = 31 then
        (md_pass_b42 p1.1)
        else
        (if x1 = 33 then
          (md_pass_b42 p1.1)
          else
          (if x1 = 35 then
            (md_pass_b42 p1.1)
            else
            (md_pass_b52 p1.1))))))
  (some (p1.1, none))) := Lm.eqn (md_pass_l ..) (.bind (md_need_l ..) fun p1 => .xtry (fun v2 => (.ite (md_pass_b17_l ..) (.ite (md_pass_b17_l ..) (.ite (md_pass_b42_l ..) (.ite (md_pass_b42_l ..) (.ite (md_pass_b42_l ..) (md_pass_b52_l ..))))))) .cst) fun n => (rfl)
theorem md_pass_b17_e (σ : gM) : md_pass_b17 σ =
  ((md_opens σ).bind fun p1 => gtry p1.2 (fun v2 =>
  md_pass_b52 p1.1)
  (some (p1.1, none))) := Lm.eqn (md_pass_b17_l ..) (.bind (md_opens_l ..) fun p1 => .xtry (fun v2 => (md_pass_b52_l ..)) .cst) fun n => (rfl)
theorem md_pass_b42_e (σ : gM) : md_pass_b42 σ =
  (md_pass_b52 (gW σ 119 28 (w32 ((σ 119 28) - 1)))) := Lm.eqn (md_pass_b42_l ..) (md_pass_b52_l ..) fun n => (rfl)
theorem md_pass_b52_e (σ : gM) : md_pass_b52 σ =
  ((md_take σ).bind fun p1 => gtry p1.2 (fun v2 =>
  some (p1.1, some 0))
  (some (p1.1, none))) := Lm.eqn (md_pass_b52_l ..) (.bind (md_take_l ..) fun p1 => .xtry (fun v2 => .cst) .cst) fun n => (rfl)
def k_md_isWord : List gC := [(0, 1, .iload_n 2, [], none), (1, 1, .iload_n 1, [], none), (2, 1, .isub, [], none), (3, 2, .iload 4, [], none),
  (5, 1, .iload_n 3, [], none), (6, 1, .isub, [], none), (7, 3, .if_icmp .ne 7, [(0, 14)], none), (10, 1, .iconst 1, [], none),
  (11, 3, .goto 4, [(0, 15)], none), (14, 1, .iconst 0, [], none), (15, 2, .istore 5, [], some [true, true, true, true, false, false, false]), (17, 1, .iconst 0, [], none),
  (18, 2, .istore 6, [], none), (20, 2, .iload 6, [], some [true, true, true, true, false, true, true]), (22, 1, .iload_n 2, [], none), (23, 1, .iload_n 1, [], none),
  (24, 1, .isub, [], none), (25, 3, .if_icmp .ge 42, [(0, 67)], none), (28, 2, .iload 5, [], none), (30, 3, .ifCond .eq 37, [(0, 67)], none),
  (33, 1, .aload_n 0, [], none), (34, 3, .getfield 61, [], none), (37, 1, .iload_n 1, [], none), (38, 2, .iload 6, [], none),
  (40, 1, .iadd, [], none), (41, 1, .baload, [], none), (42, 1, .aload_n 0, [], none), (43, 3, .getfield 61, [], none),
  (46, 1, .iload_n 3, [], none), (47, 2, .iload 6, [], none), (49, 1, .iadd, [], none), (50, 1, .baload, [], none),
  (51, 3, .if_icmp .ne 7, [(0, 58)], none), (54, 1, .iconst 1, [], none), (55, 3, .goto 4, [(0, 59)], none), (58, 1, .iconst 0, [], none),
  (59, 2, .istore 5, [], some [true, true, true, true, false, false, true]), (61, 3, .iinc 6 1, [], none), (64, 3, .goto (-44), [(0, 20)], none), (67, 2, .iload 5, [], none),
  (69, 1, .ireturn, [], none)]
def e_md_isWord (m : Nat) : gE := (k_md_isWord, f_md, c_md, [], [], (m, 0), 6)
theorem ok_md_isWord : gchk cX10_isWord 7 k_md_isWord = true := by decide +kernel
def fn_md_isWord (m : Nat) : gFn := gF (e_md_isWord m) 7
theorem mo_md_isWord (m : Nat) : gMo (.inl (fn_md_isWord m)) := gF_mo (E := e_md_isWord m) trivial
noncomputable def md_isWord (σ : gM) (x1 x2 x3 x4 : Int) : Option (gM × Int) := lim (fun n => fn_md_isWord 227 n [(2, 119), (0, x1), (0, x2), (0, x3), (0, x4)] σ)
theorem md_isWord_l (σ : gM) (x1 x2 x3 x4 : Int) : Lm (fun n => fn_md_isWord 227 n [(2, 119), (0, x1), (0, x2), (0, x3), (0, x4)] σ) (md_isWord σ x1 x2 x3 x4) := .of fun n => mo_md_isWord 227 n [(2, 119), (0, x1), (0, x2), (0, x3), (0, x4)] σ
theorem mb_md_isWord : gMos (e_md_isWord 227).2.2.2.1 := trivial
noncomputable def md_isWord_b15 (σ : gM) (x1 x2 x3 y0 : Int) : Option (gM × Int) := lim (fun n => gB (e_md_isWord 227) rF tF n 15 [(2, 119), (0, x1), (0, x2), (0, x3), (9, 0), (9, 0), (9, 0)] [(0, y0)] σ)
theorem md_isWord_b15_l (σ : gM) (x1 x2 x3 y0 : Int) : Lm (fun n => gB (e_md_isWord 227) rF tF n 15 [(2, 119), (0, x1), (0, x2), (0, x3), (9, 0), (9, 0), (9, 0)] [(0, y0)] σ) (md_isWord_b15 σ x1 x2 x3 y0) := .of fun n => gB_le (gMos_spec (mb_md_isWord)) n _ _ _ σ
noncomputable def md_isWord_b20 (σ : gM) (x1 x2 x3 x5 x6 : Int) : Option (gM × Int) := lim (fun n => gB (e_md_isWord 227) rF tF n 20 [(2, 119), (0, x1), (0, x2), (0, x3), (9, 0), (0, x5), (0, x6)] [] σ)
theorem md_isWord_b20_l (σ : gM) (x1 x2 x3 x5 x6 : Int) : Lm (fun n => gB (e_md_isWord 227) rF tF n 20 [(2, 119), (0, x1), (0, x2), (0, x3), (9, 0), (0, x5), (0, x6)] [] σ) (md_isWord_b20 σ x1 x2 x3 x5 x6) := .of fun n => gB_le (gMos_spec (mb_md_isWord)) n _ _ _ σ
noncomputable def md_isWord_b59 (σ : gM) (x1 x2 x3 x6 y0 : Int) : Option (gM × Int) := lim (fun n => gB (e_md_isWord 227) rF tF n 59 [(2, 119), (0, x1), (0, x2), (0, x3), (9, 0), (9, 0), (0, x6)] [(0, y0)] σ)
theorem md_isWord_b59_l (σ : gM) (x1 x2 x3 x6 y0 : Int) : Lm (fun n => gB (e_md_isWord 227) rF tF n 59 [(2, 119), (0, x1), (0, x2), (0, x3), (9, 0), (9, 0), (0, x6)] [(0, y0)] σ) (md_isWord_b59 σ x1 x2 x3 x6 y0) := .of fun n => gB_le (gMos_spec (mb_md_isWord)) n _ _ _ σ
theorem md_isWord_e (σ : gM) (x1 x2 x3 x4 : Int) : md_isWord σ x1 x2 x3 x4 =
  (if w32 (x2 - x1) = w32 (x4 - x3) then
  (md_isWord_b15 σ x1 x2 x3 1)
  else
  (md_isWord_b15 σ x1 x2 x3 0)) := Lm.eqn (md_isWord_l ..) (.ite (md_isWord_b15_l ..) (md_isWord_b15_l ..)) fun n => (rfl)
theorem md_isWord_b15_e (σ : gM) (x1 x2 x3 y0 : Int) : md_isWord_b15 σ x1 x2 x3 y0 =
  (md_isWord_b20 σ x1 x2 x3 y0 0) := Lm.eqn (md_isWord_b15_l ..) (md_isWord_b20_l ..) fun n => (rfl)
theorem md_isWord_b20_e (σ : gM) (x1 x2 x3 x5 x6 : Int) : md_isWord_b20 σ x1 x2 x3 x5 x6 =
  (if x6 < w32 (x2 - x1) then
  (if x5 = 0 then
    (g01 x5 (some (σ, x5)))
    else
    (if 0 ≤ w32 (x1 + x6) ∧ w32 (x1 + x6) < 4000 then
      (if 0 ≤ w32 (x3 + x6) ∧ w32 (x3 + x6) < 4000 then
        (if σ 134 (w32 (x1 + x6)) = σ 134 (w32 (x3 + x6)) then
          (md_isWord_b59 σ x1 x2 x3 x6 1)
          else
          (md_isWord_b59 σ x1 x2 x3 x6 0))
        else none)
      else none))
  else
  (g01 x5 (some (σ, x5)))) := Lm.eqn (md_isWord_b20_l ..) (.ite (.ite .cst (.ite (.ite (.ite (md_isWord_b59_l ..) (md_isWord_b59_l ..)) .cst) .cst)) .cst) fun n => (rfl)
theorem md_isWord_b59_e (σ : gM) (x1 x2 x3 x6 y0 : Int) : md_isWord_b59 σ x1 x2 x3 x6 y0 =
  (md_isWord_b20 σ x1 x2 x3 y0 (w32 (x6 + 1))) := Lm.eqn (md_isWord_b59_l ..) (md_isWord_b20_l ..) fun n => (rfl)
def k_md_localOf : List gC := [(0, 1, .iconst 0, [], none), (1, 1, .istore_n 3, [], none), (2, 1, .iload_n 3, [], some [true, true, true, true]), (3, 1, .aload_n 0, [], none),
  (4, 3, .getfield 116, [], none), (7, 1, .aload_n 0, [], none), (8, 3, .getfield 485, [], none), (11, 1, .iaload, [], none),
  (12, 3, .if_icmp .ge 48, [(0, 60)], none), (15, 1, .aload_n 0, [], none), (16, 1, .aload_n 0, [], none), (17, 3, .getfield 119, [], none),
  (20, 2, .bipush 12, [], none), (22, 1, .aload_n 0, [], none), (23, 3, .getfield 485, [], none), (26, 1, .imul, [], none),
  (27, 1, .iload_n 3, [], none), (28, 1, .iadd, [], none), (29, 1, .iaload, [], none), (30, 1, .aload_n 0, [], none),
  (31, 3, .getfield 122, [], none), (34, 2, .bipush 12, [], none), (36, 1, .aload_n 0, [], none), (37, 3, .getfield 485, [], none),
  (40, 1, .imul, [], none), (41, 1, .iload_n 3, [], none), (42, 1, .iadd, [], none), (43, 1, .iaload, [], none),
  (44, 1, .iload_n 1, [], none), (45, 1, .iload_n 2, [], none), (46, 3, .invokevirtual 491, [], none), (49, 3, .ifCond .eq 5, [(0, 54)], none),
  (52, 1, .iload_n 3, [], none), (53, 1, .ireturn, [], none), (54, 3, .iinc 3 1, [], none), (57, 3, .goto (-55), [(0, 2)], none),
  (60, 1, .iconst (-1), [], none), (61, 1, .ireturn, [], none)]
def e_md_localOf (m : Nat) : gE := (k_md_localOf, f_md, c_md, [(491, 5, 20, 0, .inl (fn_md_isWord m))], [], (m, 0), 0)
theorem ok_md_localOf : gchk cX10_localOf 4 k_md_localOf = true := by decide +kernel
def fn_md_localOf (m : Nat) : gFn := gF (e_md_localOf m) 4
theorem mo_md_localOf (m : Nat) : gMo (.inl (fn_md_localOf m)) := gF_mo (E := e_md_localOf m) ⟨mo_md_isWord m, trivial⟩
noncomputable def md_localOf (σ : gM) (x1 x2 : Int) : Option (gM × Int) := lim (fun n => fn_md_localOf 227 n [(2, 119), (0, x1), (0, x2)] σ)
theorem md_localOf_l (σ : gM) (x1 x2 : Int) : Lm (fun n => fn_md_localOf 227 n [(2, 119), (0, x1), (0, x2)] σ) (md_localOf σ x1 x2) := .of fun n => mo_md_localOf 227 n [(2, 119), (0, x1), (0, x2)] σ
theorem mb_md_localOf : gMos (e_md_localOf 227).2.2.2.1 := ⟨mo_md_isWord 227, trivial⟩
noncomputable def md_localOf_b2 (σ : gM) (x1 x2 x3 : Int) : Option (gM × Int) := lim (fun n => gB (e_md_localOf 227) rF tF n 2 [(2, 119), (0, x1), (0, x2), (0, x3)] [] σ)
theorem md_localOf_b2_l (σ : gM) (x1 x2 x3 : Int) : Lm (fun n => gB (e_md_localOf 227) rF tF n 2 [(2, 119), (0, x1), (0, x2), (0, x3)] [] σ) (md_localOf_b2 σ x1 x2 x3) := .of fun n => gB_le (gMos_spec (mb_md_localOf)) n _ _ _ σ
theorem md_localOf_e (σ : gM) (x1 x2 : Int) : md_localOf σ x1 x2 =
  (md_localOf_b2 σ x1 x2 0) := Lm.eqn (md_localOf_l ..) (md_localOf_b2_l ..) fun n => (rfl)
theorem md_localOf_b2_e (σ : gM) (x1 x2 x3 : Int) : md_localOf_b2 σ x1 x2 x3 =
  (if 0 ≤ σ 119 54 ∧ σ 119 54 < 51 then
  (if x3 < σ 152 (σ 119 54) then
    (if 0 ≤ w32 ((w32 (12 * (σ 119 54))) + x3) ∧ w32 ((w32 (12 * (σ 119 54))) + x3) < 612 then
      (if 0 ≤ w32 ((w32 (12 * (σ 119 54))) + x3) ∧ w32 ((w32 (12 * (σ 119 54))) + x3) < 612 then
        ((md_isWord σ (σ 153 (w32 ((w32 (12 * (σ 119 54))) + x3))) (σ 154 (w32 ((w32 (12 * (σ 119 54))) + x3))) x1 x2).bind fun p1 =>
          if p1.2 = 0 then
          (md_localOf_b2 p1.1 x1 x2 (w32 (x3 + 1)))
          else
          (some (p1.1, x3)))
        else none)
      else none)
    else
    (some (σ, (-1))))
  else none) := Lm.eqn (md_localOf_b2_l ..) (.ite (.ite (.ite (.ite (.bind (md_isWord_l ..) fun p1 => (.ite (md_localOf_b2_l ..) .cst)) .cst) .cst) .cst) .cst) fun n => (rfl)
def k_md_newNode : List gC := [(0, 1, .aload_n 0, [], none), (1, 3, .getfield 467, [], none), (4, 1, .aload_n 0, [], none), (5, 3, .getfield 470, [], none),
  (8, 1, .isub, [], none), (9, 3, .sipush 300, [], none), (12, 3, .if_icmp .ne 13, [(0, 25)], none), (15, 1, .aload_n 0, [], none),
  (16, 1, .iconst 4, [], none), (17, 1, .aload_n 0, [], none), (18, 3, .getfield 433, [], none), (21, 3, .invokevirtual 446, [], none),
  (24, 1, .athrow, [], none), (25, 1, .aload_n 0, [], none), (26, 3, .getfield 467, [], none), (29, 1, .istore_n 2, [], none),
  (30, 1, .aload_n 0, [], none), (31, 3, .getfield 64, [], none), (34, 1, .iload_n 2, [], none), (35, 1, .iload_n 1, [], none),
  (36, 1, .iastore, [], none), (37, 1, .aload_n 0, [], none), (38, 3, .getfield 67, [], none), (41, 1, .iload_n 2, [], none),
  (42, 1, .aload_n 0, [], none), (43, 3, .getfield 433, [], none), (46, 1, .iastore, [], none), (47, 1, .aload_n 0, [], none),
  (48, 3, .getfield 85, [], none), (51, 1, .iload_n 2, [], none), (52, 1, .aload_n 0, [], none), (53, 3, .getfield 433, [], none),
  (56, 1, .iastore, [], none), (57, 1, .aload_n 0, [], none), (58, 3, .getfield 88, [], none), (61, 1, .iload_n 2, [], none),
  (62, 1, .aload_n 0, [], none), (63, 3, .getfield 460, [], none), (66, 1, .iastore, [], none), (67, 1, .aload_n 0, [], none),
  (68, 3, .getfield 73, [], none), (71, 1, .iload_n 2, [], none), (72, 1, .iconst (-1), [], none), (73, 1, .iastore, [], none),
  (74, 1, .aload_n 0, [], none), (75, 3, .getfield 76, [], none), (78, 1, .iload_n 2, [], none), (79, 1, .iconst (-1), [], none),
  (80, 1, .iastore, [], none), (81, 1, .aload_n 0, [], none), (82, 3, .getfield 79, [], none), (85, 1, .iload_n 2, [], none),
  (86, 1, .iconst (-1), [], none), (87, 1, .iastore, [], none), (88, 1, .aload_n 0, [], none), (89, 3, .getfield 82, [], none),
  (92, 1, .iload_n 2, [], none), (93, 1, .iconst (-1), [], none), (94, 1, .iastore, [], none), (95, 1, .aload_n 0, [], none),
  (96, 3, .getfield 94, [], none), (99, 1, .iload_n 2, [], none), (100, 1, .iconst 0, [], none), (101, 1, .bastore, [], none),
  (102, 1, .aload_n 0, [], none), (103, 1, .dup, [], none), (104, 3, .getfield 467, [], none), (107, 1, .iconst 1, [], none),
  (108, 1, .iadd, [], none), (109, 3, .putfield 467, [], none), (112, 1, .iload_n 2, [], none), (113, 1, .ireturn, [], none)]
def e_md_newNode (m : Nat) : gE := (k_md_newNode, f_md, c_md, [(446, 3, 20, 2, .inl (fn_md_fails m))], [], (m, 3274589359339463211030040230163839728078049507729848138405221284368629939152381344881396289869480538067812124353565571914877916559141308943639005626368), 0)
theorem ok_md_newNode : gchk cX10_newNode 3 k_md_newNode = true := by decide +kernel
def fn_md_newNode (m : Nat) : gFt := gG (e_md_newNode m) 3
theorem mo_md_newNode (m : Nat) : gMo (.inr (fn_md_newNode m)) := gG_mo (E := e_md_newNode m) ⟨mo_md_fails m, trivial⟩
noncomputable def md_newNode (σ : gM) (x1 : Int) : Option (gM × Option Int) := lim (fun n => fn_md_newNode 227 n [(2, 119), (0, x1)] σ)
theorem md_newNode_l (σ : gM) (x1 : Int) : Lm (fun n => fn_md_newNode 227 n [(2, 119), (0, x1)] σ) (md_newNode σ x1) := .of fun n => mo_md_newNode 227 n [(2, 119), (0, x1)] σ
theorem md_newNode_e (σ : gM) (x1 : Int) : md_newNode σ x1 =
  (if w32 ((σ 119 43) - (σ 119 44)) = 300 then
  ((md_fails σ 4 (σ 119 26)).bind fun p1 =>
    gthr p1.1 p1.2)
  else
  (if 0 ≤ σ 119 43 ∧ σ 119 43 < 4004 then
    (if 0 ≤ σ 119 43 ∧ σ 119 43 < 4004 then
      (if 0 ≤ σ 119 43 ∧ σ 119 43 < 4004 then
        (if 0 ≤ σ 119 43 ∧ σ 119 43 < 4004 then
          (if 0 ≤ σ 119 43 ∧ σ 119 43 < 4004 then
            (if 0 ≤ σ 119 43 ∧ σ 119 43 < 4004 then
              (if 0 ≤ σ 119 43 ∧ σ 119 43 < 4004 then
                (if 0 ≤ σ 119 43 ∧ σ 119 43 < 4004 then
                  (if 0 ≤ σ 119 43 ∧ σ 119 43 < 4004 then
                    (some (gW (gW (gW (gW (gW (gW (gW (gW (gW (gW σ 135 (σ 119 43) x1) 136 (σ 119 43) (σ 119 26)) 142 (σ 119 43) (σ 119 26)) 143 (σ 119 43) (σ 119 27)) 138 (σ 119 43) (-1)) 139 (σ 119 43) (-1)) 140 (σ 119 43) (-1)) 141 (σ 119 43) (-1)) 145 (σ 119 43) 0) 119 43 (w32 ((σ 119 43) + 1)), some (σ 119 43)))
                    else none)
                  else none)
                else none)
              else none)
            else none)
          else none)
        else none)
      else none)
    else none)) := Lm.eqn (md_newNode_l ..) (.ite (.bind (md_fails_l ..) fun p1 => .cst) (.ite (.ite (.ite (.ite (.ite (.ite (.ite (.ite (.ite .cst .cst) .cst) .cst) .cst) .cst) .cst) .cst) .cst) .cst)) fun n => (rfl)
def k_md_addLocal : List gC := [(0, 1, .aload_n 0, [], none), (1, 3, .getfield 119, [], none), (4, 2, .bipush 12, [], none), (6, 1, .aload_n 0, [], none),
  (7, 3, .getfield 485, [], none), (10, 1, .imul, [], none), (11, 1, .aload_n 0, [], none), (12, 3, .getfield 116, [], none),
  (15, 1, .aload_n 0, [], none), (16, 3, .getfield 485, [], none), (19, 1, .iaload, [], none), (20, 1, .iadd, [], none),
  (21, 1, .iload_n 1, [], none), (22, 1, .iastore, [], none), (23, 1, .aload_n 0, [], none), (24, 3, .getfield 122, [], none),
  (27, 2, .bipush 12, [], none), (29, 1, .aload_n 0, [], none), (30, 3, .getfield 485, [], none), (33, 1, .imul, [], none),
  (34, 1, .aload_n 0, [], none), (35, 3, .getfield 116, [], none), (38, 1, .aload_n 0, [], none), (39, 3, .getfield 485, [], none),
  (42, 1, .iaload, [], none), (43, 1, .iadd, [], none), (44, 1, .iload_n 2, [], none), (45, 1, .iastore, [], none),
  (46, 1, .aload_n 0, [], none), (47, 3, .getfield 116, [], none), (50, 1, .aload_n 0, [], none), (51, 3, .getfield 485, [], none),
  (54, 1, .dup2, [], none), (55, 1, .iaload, [], none), (56, 1, .iconst 1, [], none), (57, 1, .iadd, [], none),
  (58, 1, .iastore, [], none), (59, 1, .return_, [], none)]
def e_md_addLocal (m : Nat) : gE := (k_md_addLocal, f_md, c_md, [], [], (m, 39962935395766876669632007144585863818716905472), 5)
theorem ok_md_addLocal : gchk cX10_addLocal 3 k_md_addLocal = true := by decide +kernel
def fn_md_addLocal (m : Nat) : gFn := gF (e_md_addLocal m) 3
theorem mo_md_addLocal (m : Nat) : gMo (.inl (fn_md_addLocal m)) := gF_mo (E := e_md_addLocal m) trivial
noncomputable def md_addLocal (σ : gM) (x1 x2 : Int) : Option (gM × Int) := lim (fun n => fn_md_addLocal 227 n [(2, 119), (0, x1), (0, x2)] σ)
theorem md_addLocal_l (σ : gM) (x1 x2 : Int) : Lm (fun n => fn_md_addLocal 227 n [(2, 119), (0, x1), (0, x2)] σ) (md_addLocal σ x1 x2) := .of fun n => mo_md_addLocal 227 n [(2, 119), (0, x1), (0, x2)] σ
theorem md_addLocal_e (σ : gM) (x1 x2 : Int) : md_addLocal σ x1 x2 =
  (if 0 ≤ σ 119 54 ∧ σ 119 54 < 51 then
  (if 0 ≤ w32 ((w32 (12 * (σ 119 54))) + (σ 152 (σ 119 54))) ∧ w32 ((w32 (12 * (σ 119 54))) + (σ 152 (σ 119 54))) < 612 then
    (if 0 ≤ σ 119 54 ∧ σ 119 54 < 51 then
      (if 0 ≤ w32 ((w32 (12 * (σ 119 54))) + (σ 152 (σ 119 54))) ∧ w32 ((w32 (12 * (σ 119 54))) + (σ 152 (σ 119 54))) < 612 then
        (if 0 ≤ σ 119 54 ∧ σ 119 54 < 51 then
          (if 0 ≤ σ 119 54 ∧ σ 119 54 < 51 then
            (some (gW (gW (gW σ 153 (w32 ((w32 (12 * (σ 119 54))) + (σ 152 (σ 119 54)))) x1) 154 (w32 ((w32 (12 * (σ 119 54))) + (σ 152 (σ 119 54)))) x2) 152 (σ 119 54) (w32 ((σ 152 (σ 119 54)) + 1)), 0))
            else none)
          else none)
        else none)
      else none)
    else none)
  else none) := Lm.eqn (md_addLocal_l ..) (.ite (.ite (.ite (.ite (.ite (.ite .cst .cst) .cst) .cst) .cst) .cst) .cst) fun n => (rfl)
def k_md_canBegin : List gC := [(0, 1, .aload_n 0, [], none), (1, 3, .getfield 436, [], none), (4, 1, .iconst 1, [], none), (5, 3, .if_icmp .eq 55, [(0, 60)], none),
  (8, 1, .aload_n 0, [], none), (9, 3, .getfield 436, [], none), (12, 1, .iconst 2, [], none), (13, 3, .if_icmp .eq 47, [(0, 60)], none),
  (16, 1, .aload_n 0, [], none), (17, 3, .getfield 436, [], none), (20, 1, .iconst 3, [], none), (21, 3, .if_icmp .eq 39, [(0, 60)], none),
  (24, 1, .aload_n 0, [], none), (25, 3, .getfield 436, [], none), (28, 2, .bipush 17, [], none), (30, 3, .if_icmp .lt 12, [(0, 42)], none),
  (33, 1, .aload_n 0, [], none), (34, 3, .getfield 436, [], none), (37, 2, .bipush 19, [], none), (39, 3, .if_icmp .le 21, [(0, 60)], none),
  (42, 1, .aload_n 0, [], some [true]), (43, 3, .getfield 436, [], none), (46, 2, .bipush 30, [], none), (48, 3, .if_icmp .eq 12, [(0, 60)], none),
  (51, 1, .aload_n 0, [], none), (52, 3, .getfield 436, [], none), (55, 2, .bipush 41, [], none), (57, 3, .if_icmp .ne 7, [(0, 64)], none),
  (60, 1, .iconst 1, [], some [false]), (61, 3, .goto 4, [(0, 65)], none), (64, 1, .iconst 0, [], none), (65, 1, .ireturn, [], none)]
def e_md_canBegin (m : Nat) : gE := (k_md_canBegin, f_md, c_md, [], [], (m, 0), 6)
theorem ok_md_canBegin : gchk cX10_canBegin 1 k_md_canBegin = true := by decide +kernel
def fn_md_canBegin (m : Nat) : gFn := gF (e_md_canBegin m) 1
theorem mo_md_canBegin (m : Nat) : gMo (.inl (fn_md_canBegin m)) := gF_mo (E := e_md_canBegin m) trivial
noncomputable def md_canBegin (σ : gM) : Option (gM × Int) := lim (fun n => fn_md_canBegin 227 n [(2, 119)] σ)
theorem md_canBegin_l (σ : gM) : Lm (fun n => fn_md_canBegin 227 n [(2, 119)] σ) (md_canBegin σ) := .of fun n => mo_md_canBegin 227 n [(2, 119)] σ
theorem mb_md_canBegin : gMos (e_md_canBegin 227).2.2.2.1 := trivial
noncomputable def md_canBegin_b42 (σ : gM) : Option (gM × Int) := lim (fun n => gB (e_md_canBegin 227) rF tF n 42 [(2, 119)] [] σ)
theorem md_canBegin_b42_l (σ : gM) : Lm (fun n => gB (e_md_canBegin 227) rF tF n 42 [(2, 119)] [] σ) (md_canBegin_b42 σ) := .of fun n => gB_le (gMos_spec (mb_md_canBegin)) n _ _ _ σ
noncomputable def md_canBegin_b60 (σ : gM) : Option (gM × Int) := lim (fun n => gB (e_md_canBegin 227) rF tF n 60 [(9, 0)] [] σ)
theorem md_canBegin_b60_l (σ : gM) : Lm (fun n => gB (e_md_canBegin 227) rF tF n 60 [(9, 0)] [] σ) (md_canBegin_b60 σ) := .of fun n => gB_le (gMos_spec (mb_md_canBegin)) n _ _ _ σ
theorem md_canBegin_e (σ : gM) : md_canBegin σ =
  (if σ 119 25 = 1 then
  (md_canBegin_b60 σ)
  else
  (if σ 119 25 = 2 then
    (md_canBegin_b60 σ)
    else
    (if σ 119 25 = 3 then
      (md_canBegin_b60 σ)
      else
      (if σ 119 25 < 17 then
        (md_canBegin_b42 σ)
        else
        (if 19 < σ 119 25 then
          (md_canBegin_b42 σ)
          else
          (md_canBegin_b60 σ)))))) := Lm.eqn (md_canBegin_l ..) (.ite (md_canBegin_b60_l ..) (.ite (md_canBegin_b60_l ..) (.ite (md_canBegin_b60_l ..) (.ite (md_canBegin_b42_l ..) (.ite (md_canBegin_b42_l ..) (md_canBegin_b60_l ..)))))) fun n => (rfl)
theorem md_canBegin_b42_e (σ : gM) : md_canBegin_b42 σ =
  (if σ 119 25 = 30 then
  (md_canBegin_b60 σ)
  else
  (if σ 119 25 = 41 then
    (md_canBegin_b60 σ)
    else
    (some (σ, 0)))) := Lm.eqn (md_canBegin_b42_l ..) (.ite (md_canBegin_b60_l ..) (.ite (md_canBegin_b60_l ..) .cst)) fun n => (rfl)
theorem md_canBegin_b60_e (σ : gM) : md_canBegin_b60 σ =
  (some (σ, 1)) := Lm.eqn (md_canBegin_b60_l ..) .cst fun n => (rfl)
def k_md_pair : List gC := [(0, 1, .aload_n 0, [], none), (1, 1, .iload_n 1, [], none), (2, 3, .invokevirtual 505, [], none), (5, 1, .istore_n 3, [], none),
  (6, 1, .aload_n 0, [], none), (7, 3, .getfield 73, [], none), (10, 1, .iload_n 3, [], none), (11, 1, .iload_n 2, [], none),
  (12, 1, .iastore, [], none), (13, 1, .aload_n 0, [], none), (14, 3, .invokevirtual 482, [], none), (17, 1, .iload_n 3, [], none),
  (18, 1, .ireturn, [], none)]
def e_md_pair (m : Nat) : gE := (k_md_pair, f_md, c_md, [(505, 2, 20, 0, .inr (fn_md_newNode m)), (482, 1, 20, 5, .inr (fn_md_take m))], [], (m, 3274683011795972690796981678080733523067221965674128087539747059077418700304545937849999899052572442826946919161499214113564779998411687592198194331648), 0)
theorem ok_md_pair : gchk cX10_pair 4 k_md_pair = true := by decide +kernel
def fn_md_pair (m : Nat) : gFt := gG (e_md_pair m) 4
theorem mo_md_pair (m : Nat) : gMo (.inr (fn_md_pair m)) := gG_mo (E := e_md_pair m) ⟨mo_md_newNode m, ⟨mo_md_take m, trivial⟩⟩
noncomputable def md_pair (σ : gM) (x1 x2 : Int) : Option (gM × Option Int) := lim (fun n => fn_md_pair 227 n [(2, 119), (0, x1), (0, x2)] σ)
theorem md_pair_l (σ : gM) (x1 x2 : Int) : Lm (fun n => fn_md_pair 227 n [(2, 119), (0, x1), (0, x2)] σ) (md_pair σ x1 x2) := .of fun n => mo_md_pair 227 n [(2, 119), (0, x1), (0, x2)] σ
theorem md_pair_e (σ : gM) (x1 x2 : Int) : md_pair σ x1 x2 =
  ((md_newNode σ x1).bind fun p1 => gtry p1.2 (fun v2 =>
  if 0 ≤ v2 ∧ v2 < 4004 then
    ((md_take (gW p1.1 138 v2 x2)).bind fun p3 => gtry p3.2 (fun v4 =>
      some (p3.1, some v2))
      (some (p3.1, none)))
    else none)
  (some (p1.1, none))) := Lm.eqn (md_pair_l ..) (.bind (md_newNode_l ..) fun p1 => .xtry (fun v2 => (.ite (.bind (md_take_l ..) fun p3 => .xtry (fun v4 => .cst) .cst) .cst)) .cst) fun n => (rfl)
def k_md_get : List gC := [(0, 1, .aload_n 0, [], none), (1, 3, .getfield 436, [], none), (4, 2, .bipush 34, [], none), (6, 3, .if_icmp .ne 7, [(0, 13)], none),
  (9, 1, .aload_n 0, [], none), (10, 3, .invokevirtual 479, [], none), (13, 1, .aload_n 0, [], some [true, true, false, false]), (14, 2, .bipush 21, [], none),
  (16, 3, .invokevirtual 505, [], none), (19, 1, .istore_n 2, [], none), (20, 1, .aload_n 0, [], none), (21, 3, .getfield 73, [], none),
  (24, 1, .iload_n 2, [], none), (25, 1, .iload_n 1, [], none), (26, 1, .iastore, [], none), (27, 1, .aload_n 0, [], none),
  (28, 3, .getfield 436, [], none), (31, 2, .bipush 38, [], none), (33, 3, .if_icmp .ne 7, [(0, 40)], none), (36, 1, .iconst 1, [], none),
  (37, 3, .goto 4, [(0, 41)], none), (40, 1, .iconst 0, [], none), (41, 1, .istore_n 3, [], some [true, false, true, false]), (42, 1, .aload_n 0, [], none),
  (43, 3, .invokevirtual 482, [], none), (46, 1, .iload_n 3, [], none), (47, 3, .ifCond .eq 35, [(0, 82)], none), (50, 1, .aload_n 0, [], none),
  (51, 1, .iconst 1, [], none), (52, 3, .invokevirtual 476, [], none), (55, 1, .aload_n 0, [], none), (56, 3, .getfield 85, [], none),
  (59, 1, .iload_n 2, [], none), (60, 1, .aload_n 0, [], none), (61, 3, .getfield 433, [], none), (64, 1, .iastore, [], none),
  (65, 1, .aload_n 0, [], none), (66, 3, .getfield 88, [], none), (69, 1, .iload_n 2, [], none), (70, 1, .aload_n 0, [], none),
  (71, 3, .getfield 460, [], none), (74, 1, .iastore, [], none), (75, 1, .aload_n 0, [], none), (76, 3, .invokevirtual 482, [], none),
  (79, 3, .goto 19, [(0, 98)], none), (82, 1, .aload_n 0, [], none), (83, 3, .getfield 76, [], none), (86, 1, .iload_n 2, [], none),
  (87, 1, .aload_n 0, [], none), (88, 3, .invokevirtual 518, [], none), (91, 1, .iastore, [], none), (92, 1, .aload_n 0, [], none),
  (93, 2, .bipush 35, [], none), (95, 3, .invokevirtual 495, [], none), (98, 1, .iload_n 2, [], none), (99, 1, .ireturn, [], none)]
def e_md_get (m : Nat) (r : Nat → gFt) : gE := (k_md_get, f_md, c_md, [(479, 1, 20, 5, .inr (fn_md_opens m)), (505, 2, 20, 0, .inr (fn_md_newNode m)), (482, 1, 20, 5, .inr (fn_md_take m)), (476, 2, 20, 5, .inr (fn_md_need m)), (518, 1, 20, 0, .inr (r 4)), (495, 2, 20, 5, .inr (fn_md_pass m))], [], (m, 3274782907749582802548385889192086904389005920814693366616574552100126712200188170349843748847870474570063996558690866002167066340778010681146712522752), 0)
theorem ok_md_get : gchk cX10_get 4 k_md_get = true := by decide +kernel
def k_md_call : List gC := [(0, 1, .aload_n 0, [], none), (1, 3, .invokevirtual 479, [], none), (4, 1, .aload_n 0, [], none), (5, 2, .bipush 23, [], none),
  (7, 3, .invokevirtual 505, [], none), (10, 1, .istore_n 2, [], none), (11, 1, .aload_n 0, [], none), (12, 3, .getfield 73, [], none),
  (15, 1, .iload_n 2, [], none), (16, 1, .iload_n 1, [], none), (17, 1, .iastore, [], none), (18, 1, .aload_n 0, [], none),
  (19, 3, .invokevirtual 482, [], none), (22, 1, .iconst 0, [], none), (23, 1, .istore_n 3, [], none), (24, 1, .iconst (-1), [], none),
  (25, 2, .istore 4, [], none), (27, 1, .aload_n 0, [], none), (28, 3, .getfield 436, [], none), (31, 2, .bipush 31, [], none),
  (33, 3, .if_icmp .eq 7, [(0, 40)], none), (36, 1, .iconst 1, [], none), (37, 3, .goto 4, [(0, 41)], none), (40, 1, .iconst 0, [], none),
  (41, 2, .istore 5, [], some [true, false, true, true, true, false, false]), (43, 2, .iload 5, [], some [true, false, true, true, true, true, false]), (45, 3, .ifCond .eq 125, [(0, 170)], none), (48, 1, .iload_n 3, [], none),
  (49, 2, .bipush 12, [], none), (51, 3, .if_icmp .ne 52, [(0, 103)], none), (54, 1, .aload_n 0, [], none), (55, 3, .invokevirtual 554, [], none),
  (58, 3, .ifCond .ne 13, [(0, 71)], none), (61, 1, .aload_n 0, [], none), (62, 1, .iconst 2, [], none), (63, 1, .aload_n 0, [], none),
  (64, 3, .getfield 433, [], none), (67, 3, .invokevirtual 446, [], none), (70, 1, .athrow, [], none), (71, 1, .aload_n 0, [], none),
  (72, 3, .getfield 436, [], none), (75, 2, .bipush 30, [], none), (77, 3, .if_icmp .eq 12, [(0, 89)], none), (80, 1, .aload_n 0, [], none),
  (81, 3, .getfield 436, [], none), (84, 2, .bipush 41, [], none), (86, 3, .if_icmp .ne 7, [(0, 93)], none), (89, 1, .aload_n 0, [], some [true, false, false, false, false, false, false]),
  (90, 3, .invokevirtual 479, [], none), (93, 1, .aload_n 0, [], some [true, false, false, false, false, false, false]), (94, 1, .iconst 4, [], none), (95, 1, .aload_n 0, [], none),
  (96, 3, .getfield 433, [], none), (99, 3, .invokevirtual 446, [], none), (102, 1, .athrow, [], none), (103, 1, .aload_n 0, [], none),
  (104, 3, .invokevirtual 518, [], none), (107, 2, .istore 6, [], none), (109, 2, .iload 4, [], none), (111, 1, .iconst (-1), [], none),
  (112, 3, .if_icmp .ne 14, [(0, 126)], none), (115, 1, .aload_n 0, [], none), (116, 3, .getfield 76, [], none), (119, 1, .iload_n 2, [], none),
  (120, 2, .iload 6, [], none), (122, 1, .iastore, [], none), (123, 3, .goto 12, [(0, 135)], none), (126, 1, .aload_n 0, [], none),
  (127, 3, .getfield 82, [], none), (130, 2, .iload 4, [], none), (132, 2, .iload 6, [], none), (134, 1, .iastore, [], none),
  (135, 2, .iload 6, [], some [true, false, true, true, false, false, true]), (137, 2, .istore 4, [], none), (139, 3, .iinc 3 1, [], none), (142, 1, .aload_n 0, [], none),
  (143, 3, .getfield 436, [], none), (146, 2, .bipush 36, [], none), (148, 3, .if_icmp .ne 7, [(0, 155)], none), (151, 1, .iconst 1, [], none),
  (152, 3, .goto 4, [(0, 156)], none), (155, 1, .iconst 0, [], none), (156, 2, .istore 5, [], some [true, false, true, true, true, false, false]), (158, 2, .iload 5, [], none),
  (160, 3, .ifCond .eq 7, [(0, 167)], none), (163, 1, .aload_n 0, [], none), (164, 3, .invokevirtual 482, [], none), (167, 3, .goto (-124), [(0, 43)], some [true, false, true, true, true, true, false]),
  (170, 1, .aload_n 0, [], none), (171, 2, .bipush 31, [], none), (173, 3, .invokevirtual 495, [], none), (176, 1, .iload_n 2, [], none),
  (177, 1, .ireturn, [], none)]
def e_md_call (m : Nat) (r : Nat → gFt) : gE := (k_md_call, f_md, c_md, [(479, 1, 20, 5, .inr (fn_md_opens m)), (505, 2, 20, 0, .inr (fn_md_newNode m)), (482, 1, 20, 5, .inr (fn_md_take m)), (554, 1, 20, 0, .inl (fn_md_canBegin m)), (446, 3, 20, 2, .inl (fn_md_fails m)), (518, 1, 20, 0, .inr (r 4)), (495, 2, 20, 5, .inr (fn_md_pass m))], [], (m, 3274782907749582802548385889192086904389005920814693366616574552100126712200188170349843748847870474570063996558690866002167066340778010681146712522752), 0)
theorem ok_md_call : gchk cX10_call 7 k_md_call = true := by decide +kernel
def k_md_atom : List gC := [(0, 1, .aload_n 0, [], none), (1, 3, .getfield 436, [], none), (4, 68, .lookupswitch 149 #[(1, 68), (2, 77), (3, 86), (17, 95), (18, 95), (19, 114), (30, 123)], [(0, 153), (1, 72), (2, 81), (3, 90), (17, 99), (18, 99), (19, 118), (30, 127)], none), (72, 1, .aload_n 0, [], none),
  (73, 1, .iconst 5, [], none), (74, 3, .invokevirtual 505, [], none), (77, 1, .istore_n 1, [], none), (78, 3, .goto 85, [(0, 163)], none),
  (81, 1, .aload_n 0, [], none), (82, 1, .iconst 1, [], none), (83, 3, .invokevirtual 505, [], none), (86, 1, .istore_n 1, [], none),
  (87, 3, .goto 76, [(0, 163)], none), (90, 1, .aload_n 0, [], none), (91, 1, .iconst 2, [], none), (92, 3, .invokevirtual 505, [], none),
  (95, 1, .istore_n 1, [], none), (96, 3, .goto 67, [(0, 163)], none), (99, 1, .aload_n 0, [], none), (100, 1, .iconst 3, [], none),
  (101, 3, .invokevirtual 505, [], none), (104, 1, .istore_n 1, [], none), (105, 1, .aload_n 0, [], none), (106, 3, .getfield 76, [], none),
  (109, 1, .iload_n 1, [], none), (110, 1, .aload_n 0, [], none), (111, 3, .getfield 436, [], none), (114, 1, .iastore, [], none),
  (115, 3, .goto 48, [(0, 163)], none), (118, 1, .aload_n 0, [], none), (119, 1, .iconst 4, [], none), (120, 3, .invokevirtual 505, [], none),
  (123, 1, .istore_n 1, [], none), (124, 3, .goto 39, [(0, 163)], none), (127, 1, .aload_n 0, [], none), (128, 2, .bipush 30, [], none),
  (130, 3, .invokevirtual 495, [], none), (133, 1, .aload_n 0, [], none), (134, 3, .invokevirtual 518, [], none), (137, 1, .istore_n 1, [], none),
  (138, 1, .aload_n 0, [], none), (139, 2, .bipush 31, [], none), (141, 3, .invokevirtual 495, [], none), (144, 1, .aload_n 0, [], none),
  (145, 3, .getfield 94, [], none), (148, 1, .iload_n 1, [], none), (149, 1, .iconst 1, [], none), (150, 1, .bastore, [], none),
  (151, 1, .iload_n 1, [], none), (152, 1, .ireturn, [], none), (153, 1, .aload_n 0, [], none), (154, 1, .iconst 2, [], none),
  (155, 1, .aload_n 0, [], none), (156, 3, .getfield 433, [], none), (159, 3, .invokevirtual 446, [], none), (162, 1, .athrow, [], none),
  (163, 1, .aload_n 0, [], some [true, true]), (164, 3, .invokevirtual 482, [], none), (167, 1, .iload_n 1, [], none), (168, 1, .ireturn, [], none)]
def e_md_atom (m : Nat) (r : Nat → gFt) : gE := (k_md_atom, f_md, c_md, [(505, 2, 20, 0, .inr (fn_md_newNode m)), (495, 2, 20, 5, .inr (fn_md_pass m)), (518, 1, 20, 0, .inr (r 4)), (446, 3, 20, 2, .inl (fn_md_fails m)), (482, 1, 20, 5, .inr (fn_md_take m))], [], (m, 3274782907749582802548385889192086904389005920814693366616574552100126712200188170349843748847870474570063996558690866002167066340778010681146712522752), 0)
theorem ok_md_atom : gchk cX10_atom 2 k_md_atom = true := by decide +kernel
def k_md_unary : List gC := [(0, 1, .aload_n 0, [], none), (1, 3, .getfield 436, [], none), (4, 2, .bipush 41, [], none), (6, 3, .if_icmp .ne 40, [(0, 46)], none),
  (9, 1, .aload_n 0, [], none), (10, 3, .invokevirtual 479, [], none), (13, 1, .aload_n 0, [], none), (14, 2, .bipush 20, [], none),
  (16, 3, .invokevirtual 505, [], none), (19, 1, .istore_n 1, [], none), (20, 1, .aload_n 0, [], none), (21, 3, .invokevirtual 482, [], none),
  (24, 1, .aload_n 0, [], none), (25, 3, .getfield 73, [], none), (28, 1, .iload_n 1, [], none), (29, 1, .aload_n 0, [], none),
  (30, 3, .invokevirtual 542, [], none), (33, 1, .iastore, [], none), (34, 1, .aload_n 0, [], none), (35, 1, .dup, [], none),
  (36, 3, .getfield 473, [], none), (39, 1, .iconst 1, [], none), (40, 1, .isub, [], none), (41, 3, .putfield 473, [], none),
  (44, 1, .iload_n 1, [], none), (45, 1, .ireturn, [], none), (46, 1, .aload_n 0, [], none), (47, 3, .invokevirtual 545, [], none),
  (50, 1, .istore_n 1, [], none), (51, 1, .aload_n 0, [], some [true, true]), (52, 3, .getfield 436, [], none), (55, 2, .bipush 30, [], none),
  (57, 3, .if_icmp .eq 21, [(0, 78)], none), (60, 1, .aload_n 0, [], none), (61, 3, .getfield 436, [], none), (64, 2, .bipush 38, [], none),
  (66, 3, .if_icmp .eq 12, [(0, 78)], none), (69, 1, .aload_n 0, [], none), (70, 3, .getfield 436, [], none), (73, 2, .bipush 34, [], none),
  (75, 3, .if_icmp .ne 29, [(0, 104)], none), (78, 1, .aload_n 0, [], some [true, true]), (79, 3, .getfield 436, [], none), (82, 2, .bipush 30, [], none),
  (84, 3, .if_icmp .ne 11, [(0, 95)], none), (87, 1, .aload_n 0, [], none), (88, 1, .iload_n 1, [], none), (89, 3, .invokevirtual 548, [], none),
  (92, 3, .goto 8, [(0, 100)], none), (95, 1, .aload_n 0, [], none), (96, 1, .iload_n 1, [], none), (97, 3, .invokevirtual 551, [], none),
  (100, 1, .istore_n 1, [], some [true, false]), (101, 3, .goto (-50), [(0, 51)], none), (104, 1, .iload_n 1, [], none), (105, 1, .ireturn, [], none)]
def e_md_unary (m : Nat) (r : Nat → gFt) : gE := (k_md_unary, f_md, c_md, [(479, 1, 20, 5, .inr (fn_md_opens m)), (505, 2, 20, 0, .inr (fn_md_newNode m)), (482, 1, 20, 5, .inr (fn_md_take m)), (542, 1, 20, 0, .inr (r 10)), (545, 1, 20, 0, .inr (r 1)), (548, 2, 20, 0, .inr (r 3)), (551, 2, 20, 0, .inr (r 6))], [], (m, 3274782907749582802548385889192086904389005920814693366616574552100126712200188170349843748847870474570063996558690866002167066340778010681146712522752), 0)
theorem ok_md_unary : gchk cX10_unary 2 k_md_unary = true := by decide +kernel
def k_md_product : List gC := [(0, 1, .aload_n 0, [], none), (1, 3, .invokevirtual 542, [], none), (4, 1, .istore_n 1, [], none), (5, 1, .aload_n 0, [], some [true, true]),
  (6, 3, .getfield 436, [], none), (9, 2, .bipush 49, [], none), (11, 3, .if_icmp .eq 12, [(0, 23)], none), (14, 1, .aload_n 0, [], none),
  (15, 3, .getfield 436, [], none), (18, 2, .bipush 50, [], none), (20, 3, .if_icmp .ne 32, [(0, 52)], none), (23, 1, .aload_n 0, [], some [true, true]),
  (24, 2, .bipush 8, [], none), (26, 1, .aload_n 0, [], none), (27, 3, .getfield 436, [], none), (30, 1, .iadd, [], none),
  (31, 2, .bipush 47, [], none), (33, 1, .isub, [], none), (34, 1, .iload_n 1, [], none), (35, 3, .invokevirtual 527, [], none),
  (38, 1, .istore_n 1, [], none), (39, 1, .aload_n 0, [], none), (40, 3, .getfield 76, [], none), (43, 1, .iload_n 1, [], none),
  (44, 1, .aload_n 0, [], none), (45, 3, .invokevirtual 542, [], none), (48, 1, .iastore, [], none), (49, 3, .goto (-44), [(0, 5)], none),
  (52, 1, .iload_n 1, [], none), (53, 1, .ireturn, [], none)]
def e_md_product (m : Nat) (r : Nat → gFt) : gE := (k_md_product, f_md, c_md, [(542, 1, 20, 0, .inr (r 10)), (527, 3, 20, 0, .inr (fn_md_pair m))], [], (m, 3274782907749582802548385889192086904389005920814693366616574552100126712200188170349843748847870474570063996558690866002167066340778010681146712522752), 0)
theorem ok_md_product : gchk cX10_product 2 k_md_product = true := by decide +kernel
def k_md_added : List gC := [(0, 1, .aload_n 0, [], none), (1, 3, .invokevirtual 539, [], none), (4, 1, .istore_n 1, [], none), (5, 1, .aload_n 0, [], some [true, true]),
  (6, 3, .getfield 436, [], none), (9, 2, .bipush 47, [], none), (11, 3, .if_icmp .eq 12, [(0, 23)], none), (14, 1, .aload_n 0, [], none),
  (15, 3, .getfield 436, [], none), (18, 2, .bipush 48, [], none), (20, 3, .if_icmp .ne 32, [(0, 52)], none), (23, 1, .aload_n 0, [], some [true, true]),
  (24, 2, .bipush 8, [], none), (26, 1, .aload_n 0, [], none), (27, 3, .getfield 436, [], none), (30, 1, .iadd, [], none),
  (31, 2, .bipush 47, [], none), (33, 1, .isub, [], none), (34, 1, .iload_n 1, [], none), (35, 3, .invokevirtual 527, [], none),
  (38, 1, .istore_n 1, [], none), (39, 1, .aload_n 0, [], none), (40, 3, .getfield 76, [], none), (43, 1, .iload_n 1, [], none),
  (44, 1, .aload_n 0, [], none), (45, 3, .invokevirtual 539, [], none), (48, 1, .iastore, [], none), (49, 3, .goto (-44), [(0, 5)], none),
  (52, 1, .iload_n 1, [], none), (53, 1, .ireturn, [], none)]
def e_md_added (m : Nat) (r : Nat → gFt) : gE := (k_md_added, f_md, c_md, [(539, 1, 20, 0, .inr (r 8)), (527, 3, 20, 0, .inr (fn_md_pair m))], [], (m, 3274782907749582802548385889192086904389005920814693366616574552100126712200188170349843748847870474570063996558690866002167066340778010681146712522752), 0)
theorem ok_md_added : gchk cX10_added 2 k_md_added = true := by decide +kernel
def k_md_less : List gC := [(0, 1, .aload_n 0, [], none), (1, 3, .invokevirtual 536, [], none), (4, 1, .istore_n 1, [], none), (5, 1, .aload_n 0, [], none),
  (6, 3, .getfield 436, [], none), (9, 2, .bipush 43, [], none), (11, 3, .if_icmp .lt 38, [(0, 49)], none), (14, 1, .aload_n 0, [], none),
  (15, 3, .getfield 436, [], none), (18, 2, .bipush 46, [], none), (20, 3, .if_icmp .gt 29, [(0, 49)], none), (23, 1, .aload_n 0, [], none),
  (24, 2, .bipush 12, [], none), (26, 1, .aload_n 0, [], none), (27, 3, .getfield 436, [], none), (30, 1, .iadd, [], none),
  (31, 2, .bipush 43, [], none), (33, 1, .isub, [], none), (34, 1, .iload_n 1, [], none), (35, 3, .invokevirtual 527, [], none),
  (38, 1, .istore_n 1, [], none), (39, 1, .aload_n 0, [], none), (40, 3, .getfield 76, [], none), (43, 1, .iload_n 1, [], none),
  (44, 1, .aload_n 0, [], none), (45, 3, .invokevirtual 536, [], none), (48, 1, .iastore, [], none), (49, 1, .iload_n 1, [], none),
  (50, 1, .ireturn, [], none)]
def e_md_less (m : Nat) (r : Nat → gFt) : gE := (k_md_less, f_md, c_md, [(536, 1, 20, 0, .inr (r 0)), (527, 3, 20, 0, .inr (fn_md_pair m))], [], (m, 3274782907749582802548385889192086904389005920814693366616574552100126712200188170349843748847870474570063996558690866002167066340778010681146712522752), 0)
theorem ok_md_less : gchk cX10_less 2 k_md_less = true := by decide +kernel
def k_md_same : List gC := [(0, 1, .aload_n 0, [], none), (1, 3, .invokevirtual 533, [], none), (4, 1, .istore_n 1, [], none), (5, 1, .aload_n 0, [], none),
  (6, 3, .getfield 436, [], none), (9, 2, .bipush 40, [], none), (11, 3, .if_icmp .eq 12, [(0, 23)], none), (14, 1, .aload_n 0, [], none),
  (15, 3, .getfield 436, [], none), (18, 2, .bipush 42, [], none), (20, 3, .if_icmp .ne 35, [(0, 55)], none), (23, 1, .aload_n 0, [], some [true, true]),
  (24, 1, .aload_n 0, [], none), (25, 3, .getfield 436, [], none), (28, 2, .bipush 40, [], none), (30, 3, .if_icmp .ne 8, [(0, 38)], none),
  (33, 2, .bipush 16, [], none), (35, 3, .goto 5, [(0, 40)], none), (38, 2, .bipush 17, [], none), (40, 1, .iload_n 1, [], some [true, true]),
  (41, 3, .invokevirtual 527, [], none), (44, 1, .istore_n 1, [], none), (45, 1, .aload_n 0, [], none), (46, 3, .getfield 76, [], none),
  (49, 1, .iload_n 1, [], none), (50, 1, .aload_n 0, [], none), (51, 3, .invokevirtual 533, [], none), (54, 1, .iastore, [], none),
  (55, 1, .iload_n 1, [], none), (56, 1, .ireturn, [], none)]
def e_md_same (m : Nat) (r : Nat → gFt) : gE := (k_md_same, f_md, c_md, [(533, 1, 20, 0, .inr (r 7)), (527, 3, 20, 0, .inr (fn_md_pair m))], [], (m, 3274782907749582802548385889192086904389005920814693366616574552100126712200188170349843748847870474570063996558690866002167066340778010681146712522752), 0)
theorem ok_md_same : gchk cX10_same 2 k_md_same = true := by decide +kernel
def k_md_both : List gC := [(0, 1, .aload_n 0, [], none), (1, 3, .invokevirtual 530, [], none), (4, 1, .istore_n 1, [], none), (5, 1, .aload_n 0, [], some [true, true]),
  (6, 3, .getfield 436, [], none), (9, 2, .bipush 51, [], none), (11, 3, .if_icmp .ne 24, [(0, 35)], none), (14, 1, .aload_n 0, [], none),
  (15, 2, .bipush 18, [], none), (17, 1, .iload_n 1, [], none), (18, 3, .invokevirtual 527, [], none), (21, 1, .istore_n 1, [], none),
  (22, 1, .aload_n 0, [], none), (23, 3, .getfield 76, [], none), (26, 1, .iload_n 1, [], none), (27, 1, .aload_n 0, [], none),
  (28, 3, .invokevirtual 530, [], none), (31, 1, .iastore, [], none), (32, 3, .goto (-27), [(0, 5)], none), (35, 1, .iload_n 1, [], none),
  (36, 1, .ireturn, [], none)]
def e_md_both (m : Nat) (r : Nat → gFt) : gE := (k_md_both, f_md, c_md, [(530, 1, 20, 0, .inr (r 9)), (527, 3, 20, 0, .inr (fn_md_pair m))], [], (m, 3274782907749582802548385889192086904389005920814693366616574552100126712200188170349843748847870474570063996558690866002167066340778010681146712522752), 0)
theorem ok_md_both : gchk cX10_both 2 k_md_both = true := by decide +kernel
def k_md_either : List gC := [(0, 1, .aload_n 0, [], none), (1, 3, .invokevirtual 524, [], none), (4, 1, .istore_n 1, [], none), (5, 1, .aload_n 0, [], some [true, true]),
  (6, 3, .getfield 436, [], none), (9, 2, .bipush 52, [], none), (11, 3, .if_icmp .ne 24, [(0, 35)], none), (14, 1, .aload_n 0, [], none),
  (15, 2, .bipush 19, [], none), (17, 1, .iload_n 1, [], none), (18, 3, .invokevirtual 527, [], none), (21, 1, .istore_n 1, [], none),
  (22, 1, .aload_n 0, [], none), (23, 3, .getfield 76, [], none), (26, 1, .iload_n 1, [], none), (27, 1, .aload_n 0, [], none),
  (28, 3, .invokevirtual 524, [], none), (31, 1, .iastore, [], none), (32, 3, .goto (-27), [(0, 5)], none), (35, 1, .iload_n 1, [], none),
  (36, 1, .ireturn, [], none)]
def e_md_either (m : Nat) (r : Nat → gFt) : gE := (k_md_either, f_md, c_md, [(524, 1, 20, 0, .inr (r 2)), (527, 3, 20, 0, .inr (fn_md_pair m))], [], (m, 3274782907749582802548385889192086904389005920814693366616574552100126712200188170349843748847870474570063996558690866002167066340778010681146712522752), 0)
theorem ok_md_either : gchk cX10_either 2 k_md_either = true := by decide +kernel
def k_md_e : List gC := [(0, 1, .aload_n 0, [], none), (1, 3, .invokevirtual 521, [], none), (4, 1, .istore_n 1, [], none), (5, 1, .aload_n 0, [], none),
  (6, 3, .getfield 436, [], none), (9, 2, .bipush 39, [], none), (11, 3, .if_icmp .eq 5, [(0, 16)], none), (14, 1, .iload_n 1, [], none),
  (15, 1, .ireturn, [], none), (16, 1, .aload_n 0, [], none), (17, 3, .getfield 64, [], none), (20, 1, .iload_n 1, [], none),
  (21, 1, .iaload, [], none), (22, 1, .iconst 5, [], none), (23, 3, .if_icmp .ne 7, [(0, 30)], none), (26, 1, .iconst 1, [], none),
  (27, 3, .goto 4, [(0, 31)], none), (30, 1, .iconst 0, [], none), (31, 1, .istore_n 2, [], some [true, true, false, false]), (32, 1, .aload_n 0, [], none),
  (33, 3, .getfield 94, [], none), (36, 1, .iload_n 1, [], none), (37, 1, .baload, [], none), (38, 3, .ifCond .ne 18, [(0, 56)], none),
  (41, 1, .iload_n 2, [], none), (42, 3, .ifCond .ne 24, [(0, 66)], none), (45, 1, .aload_n 0, [], none), (46, 3, .getfield 64, [], none),
  (49, 1, .iload_n 1, [], none), (50, 1, .iaload, [], none), (51, 2, .bipush 21, [], none), (53, 3, .if_icmp .eq 13, [(0, 66)], none),
  (56, 1, .aload_n 0, [], some [true, false, false, false]), (57, 1, .iconst 2, [], none), (58, 1, .aload_n 0, [], none), (59, 3, .getfield 433, [], none),
  (62, 3, .invokevirtual 446, [], none), (65, 1, .athrow, [], none), (66, 1, .aload_n 0, [], some [true, true, true, false]), (67, 3, .invokevirtual 479, [], none),
  (70, 1, .iload_n 2, [], none), (71, 3, .ifCond .eq 64, [(0, 135)], none), (74, 1, .aload_n 0, [], none), (75, 1, .aload_n 0, [], none),
  (76, 3, .getfield 85, [], none), (79, 1, .iload_n 1, [], none), (80, 1, .iaload, [], none), (81, 1, .aload_n 0, [], none),
  (82, 3, .getfield 88, [], none), (85, 1, .iload_n 1, [], none), (86, 1, .iaload, [], none), (87, 3, .invokevirtual 501, [], none),
  (90, 3, .ifCond .ge 45, [(0, 135)], none), (93, 1, .aload_n 0, [], none), (94, 3, .getfield 116, [], none), (97, 1, .aload_n 0, [], none),
  (98, 3, .getfield 485, [], none), (101, 1, .iaload, [], none), (102, 2, .bipush 12, [], none), (104, 3, .if_icmp .ne 15, [(0, 119)], none),
  (107, 1, .aload_n 0, [], none), (108, 1, .iconst 4, [], none), (109, 1, .aload_n 0, [], none), (110, 3, .getfield 85, [], none),
  (113, 1, .iload_n 1, [], none), (114, 1, .iaload, [], none), (115, 3, .invokevirtual 446, [], none), (118, 1, .athrow, [], none),
  (119, 1, .aload_n 0, [], none), (120, 1, .aload_n 0, [], none), (121, 3, .getfield 85, [], none), (124, 1, .iload_n 1, [], none),
  (125, 1, .iaload, [], none), (126, 1, .aload_n 0, [], none), (127, 3, .getfield 88, [], none), (130, 1, .iload_n 1, [], none),
  (131, 1, .iaload, [], none), (132, 3, .invokevirtual 508, [], none), (135, 1, .aload_n 0, [], some [true, true, true, false]), (136, 3, .invokevirtual 482, [], none),
  (139, 1, .aload_n 0, [], none), (140, 3, .invokevirtual 518, [], none), (143, 1, .istore_n 3, [], none), (144, 1, .aload_n 0, [], none),
  (145, 1, .dup, [], none), (146, 3, .getfield 473, [], none), (149, 1, .iconst 1, [], none), (150, 1, .isub, [], none),
  (151, 3, .putfield 473, [], none), (154, 1, .aload_n 0, [], none), (155, 3, .getfield 64, [], none), (158, 1, .iload_n 1, [], none),
  (159, 1, .iload_n 2, [], none), (160, 3, .ifCond .eq 8, [(0, 168)], none), (163, 2, .bipush 6, [], none), (165, 3, .goto 5, [(0, 170)], none),
  (168, 2, .bipush 22, [], none), (170, 1, .iastore, [], some [true, true, true, true]), (171, 1, .iload_n 2, [], none), (172, 3, .ifCond .eq 13, [(0, 185)], none),
  (175, 1, .aload_n 0, [], none), (176, 3, .getfield 73, [], none), (179, 1, .iload_n 1, [], none), (180, 1, .iload_n 3, [], none),
  (181, 1, .iastore, [], none), (182, 3, .goto 10, [(0, 192)], none), (185, 1, .aload_n 0, [], none), (186, 3, .getfield 79, [], none),
  (189, 1, .iload_n 1, [], none), (190, 1, .iload_n 3, [], none), (191, 1, .iastore, [], none), (192, 1, .iload_n 1, [], none),
  (193, 1, .ireturn, [], none)]
def e_md_e (m : Nat) (r : Nat → gFt) : gE := (k_md_e, f_md, c_md, [(521, 1, 20, 0, .inr (r 5)), (446, 3, 20, 2, .inl (fn_md_fails m)), (479, 1, 20, 5, .inr (fn_md_opens m)), (501, 3, 20, 0, .inl (fn_md_localOf m)), (508, 3, 20, 5, .inl (fn_md_addLocal m)), (482, 1, 20, 5, .inr (fn_md_take m)), (518, 1, 20, 0, .inr (r 4))], [], (m, 3274782907749582802548385889192086904389005920814693366616574552100126712200188170349843748847870474570063996558690866002167066340778010681146712522752), 0)
theorem ok_md_e : gchk cX10_e 4 k_md_e = true := by decide +kernel
def rec_md_added (m : Nat) : Nat → Nat → gFt
  | 0, _ => fun _ _ _ => none
  | d + 1, k => match k with
    | 0 => gG (e_md_added m (rec_md_added m d)) 2
    | 1 => gG (e_md_atom m (rec_md_added m d)) 2
    | 2 => gG (e_md_both m (rec_md_added m d)) 2
    | 3 => gG (e_md_call m (rec_md_added m d)) 7
    | 4 => gG (e_md_e m (rec_md_added m d)) 4
    | 5 => gG (e_md_either m (rec_md_added m d)) 2
    | 6 => gG (e_md_get m (rec_md_added m d)) 4
    | 7 => gG (e_md_less m (rec_md_added m d)) 2
    | 8 => gG (e_md_product m (rec_md_added m d)) 2
    | 9 => gG (e_md_same m (rec_md_added m d)) 2
    | _ => gG (e_md_unary m (rec_md_added m d)) 2
theorem mo_rec_md_added (m : Nat) : ∀ (d k : Nat), gMo (.inr (rec_md_added m d k))
  | 0, _ => gMo_none2
  | d + 1, 0 => gG_mo (E := e_md_added m (rec_md_added m d)) ⟨mo_rec_md_added m d 8, ⟨mo_md_pair m, trivial⟩⟩
  | d + 1, 1 => gG_mo (E := e_md_atom m (rec_md_added m d)) ⟨mo_md_newNode m, ⟨mo_md_pass m, ⟨mo_rec_md_added m d 4, ⟨mo_md_fails m, ⟨mo_md_take m, trivial⟩⟩⟩⟩⟩
  | d + 1, 2 => gG_mo (E := e_md_both m (rec_md_added m d)) ⟨mo_rec_md_added m d 9, ⟨mo_md_pair m, trivial⟩⟩
  | d + 1, 3 => gG_mo (E := e_md_call m (rec_md_added m d)) ⟨mo_md_opens m, ⟨mo_md_newNode m, ⟨mo_md_take m, ⟨mo_md_canBegin m, ⟨mo_md_fails m, ⟨mo_rec_md_added m d 4, ⟨mo_md_pass m, trivial⟩⟩⟩⟩⟩⟩⟩
  | d + 1, 4 => gG_mo (E := e_md_e m (rec_md_added m d)) ⟨mo_rec_md_added m d 5, ⟨mo_md_fails m, ⟨mo_md_opens m, ⟨mo_md_localOf m, ⟨mo_md_addLocal m, ⟨mo_md_take m, ⟨mo_rec_md_added m d 4, trivial⟩⟩⟩⟩⟩⟩⟩
  | d + 1, 5 => gG_mo (E := e_md_either m (rec_md_added m d)) ⟨mo_rec_md_added m d 2, ⟨mo_md_pair m, trivial⟩⟩
  | d + 1, 6 => gG_mo (E := e_md_get m (rec_md_added m d)) ⟨mo_md_opens m, ⟨mo_md_newNode m, ⟨mo_md_take m, ⟨mo_md_need m, ⟨mo_rec_md_added m d 4, ⟨mo_md_pass m, trivial⟩⟩⟩⟩⟩⟩
  | d + 1, 7 => gG_mo (E := e_md_less m (rec_md_added m d)) ⟨mo_rec_md_added m d 0, ⟨mo_md_pair m, trivial⟩⟩
  | d + 1, 8 => gG_mo (E := e_md_product m (rec_md_added m d)) ⟨mo_rec_md_added m d 10, ⟨mo_md_pair m, trivial⟩⟩
  | d + 1, 9 => gG_mo (E := e_md_same m (rec_md_added m d)) ⟨mo_rec_md_added m d 7, ⟨mo_md_pair m, trivial⟩⟩
  | d + 1, _ + 10 => gG_mo (E := e_md_unary m (rec_md_added m d)) ⟨mo_md_opens m, ⟨mo_md_newNode m, ⟨mo_md_take m, ⟨mo_rec_md_added m d 10, ⟨mo_rec_md_added m d 1, ⟨mo_rec_md_added m d 3, ⟨mo_rec_md_added m d 6, trivial⟩⟩⟩⟩⟩⟩⟩
noncomputable def md_get (d : Nat) (σ : gM) (x1 : Int) : Option (gM × Option Int) := lim (fun n => rec_md_added 227 d 6 n [(2, 119), (0, x1)] σ)
theorem md_get_l (d : Nat) (σ : gM) (x1 : Int) : Lm (fun n => rec_md_added 227 d 6 n [(2, 119), (0, x1)] σ) (md_get d σ x1) := .of fun n => mo_rec_md_added 227 d 6 n [(2, 119), (0, x1)] σ
theorem mb_md_get (d : Nat) : gMos (e_md_get 227 (rec_md_added 227 d)).2.2.2.1 := ⟨mo_md_opens 227, ⟨mo_md_newNode 227, ⟨mo_md_take 227, ⟨mo_md_need 227, ⟨mo_rec_md_added 227 d 4, ⟨mo_md_pass 227, trivial⟩⟩⟩⟩⟩⟩
noncomputable def md_get_b13 (d : Nat) (σ : gM) (x1 : Int) : Option (gM × Option Int) := lim (fun n => gB (e_md_get 227 (rec_md_added 227 d)) rG gthr n 13 [(2, 119), (0, x1), (9, 0), (9, 0)] [] σ)
theorem md_get_b13_l (d : Nat) (σ : gM) (x1 : Int) : Lm (fun n => gB (e_md_get 227 (rec_md_added 227 d)) rG gthr n 13 [(2, 119), (0, x1), (9, 0), (9, 0)] [] σ) (md_get_b13 d σ x1) := .of fun n => gB_le (gMos_spec (mb_md_get d)) n _ _ _ σ
noncomputable def md_get_b41 (d : Nat) (σ : gM) (x2 y0 : Int) : Option (gM × Option Int) := lim (fun n => gB (e_md_get 227 (rec_md_added 227 d)) rG gthr n 41 [(2, 119), (9, 0), (0, x2), (9, 0)] [(0, y0)] σ)
theorem md_get_b41_l (d : Nat) (σ : gM) (x2 y0 : Int) : Lm (fun n => gB (e_md_get 227 (rec_md_added 227 d)) rG gthr n 41 [(2, 119), (9, 0), (0, x2), (9, 0)] [(0, y0)] σ) (md_get_b41 d σ x2 y0) := .of fun n => gB_le (gMos_spec (mb_md_get d)) n _ _ _ σ
noncomputable def md_call (d : Nat) (σ : gM) (x1 : Int) : Option (gM × Option Int) := lim (fun n => rec_md_added 227 d 3 n [(2, 119), (0, x1)] σ)
theorem md_call_l (d : Nat) (σ : gM) (x1 : Int) : Lm (fun n => rec_md_added 227 d 3 n [(2, 119), (0, x1)] σ) (md_call d σ x1) := .of fun n => mo_rec_md_added 227 d 3 n [(2, 119), (0, x1)] σ
theorem mb_md_call (d : Nat) : gMos (e_md_call 227 (rec_md_added 227 d)).2.2.2.1 := ⟨mo_md_opens 227, ⟨mo_md_newNode 227, ⟨mo_md_take 227, ⟨mo_md_canBegin 227, ⟨mo_md_fails 227, ⟨mo_rec_md_added 227 d 4, ⟨mo_md_pass 227, trivial⟩⟩⟩⟩⟩⟩⟩
noncomputable def md_call_b41 (d : Nat) (σ : gM) (x2 x3 x4 y0 : Int) : Option (gM × Option Int) := lim (fun n => gB (e_md_call 227 (rec_md_added 227 d)) rG gthr n 41 [(2, 119), (9, 0), (0, x2), (0, x3), (0, x4), (9, 0), (9, 0)] [(0, y0)] σ)
theorem md_call_b41_l (d : Nat) (σ : gM) (x2 x3 x4 y0 : Int) : Lm (fun n => gB (e_md_call 227 (rec_md_added 227 d)) rG gthr n 41 [(2, 119), (9, 0), (0, x2), (0, x3), (0, x4), (9, 0), (9, 0)] [(0, y0)] σ) (md_call_b41 d σ x2 x3 x4 y0) := .of fun n => gB_le (gMos_spec (mb_md_call d)) n _ _ _ σ
noncomputable def md_call_b43 (d : Nat) (σ : gM) (x2 x3 x4 x5 : Int) : Option (gM × Option Int) := lim (fun n => gB (e_md_call 227 (rec_md_added 227 d)) rG gthr n 43 [(2, 119), (9, 0), (0, x2), (0, x3), (0, x4), (0, x5), (9, 0)] [] σ)
theorem md_call_b43_l (d : Nat) (σ : gM) (x2 x3 x4 x5 : Int) : Lm (fun n => gB (e_md_call 227 (rec_md_added 227 d)) rG gthr n 43 [(2, 119), (9, 0), (0, x2), (0, x3), (0, x4), (0, x5), (9, 0)] [] σ) (md_call_b43 d σ x2 x3 x4 x5) := .of fun n => gB_le (gMos_spec (mb_md_call d)) n _ _ _ σ
noncomputable def md_call_b89 (d : Nat) (σ : gM) : Option (gM × Option Int) := lim (fun n => gB (e_md_call 227 (rec_md_added 227 d)) rG gthr n 89 [(2, 119), (9, 0), (9, 0), (9, 0), (9, 0), (9, 0), (9, 0)] [] σ)
theorem md_call_b89_l (d : Nat) (σ : gM) : Lm (fun n => gB (e_md_call 227 (rec_md_added 227 d)) rG gthr n 89 [(2, 119), (9, 0), (9, 0), (9, 0), (9, 0), (9, 0), (9, 0)] [] σ) (md_call_b89 d σ) := .of fun n => gB_le (gMos_spec (mb_md_call d)) n _ _ _ σ
noncomputable def md_call_b93 (d : Nat) (σ : gM) : Option (gM × Option Int) := lim (fun n => gB (e_md_call 227 (rec_md_added 227 d)) rG gthr n 93 [(2, 119), (9, 0), (9, 0), (9, 0), (9, 0), (9, 0), (9, 0)] [] σ)
theorem md_call_b93_l (d : Nat) (σ : gM) : Lm (fun n => gB (e_md_call 227 (rec_md_added 227 d)) rG gthr n 93 [(2, 119), (9, 0), (9, 0), (9, 0), (9, 0), (9, 0), (9, 0)] [] σ) (md_call_b93 d σ) := .of fun n => gB_le (gMos_spec (mb_md_call d)) n _ _ _ σ
noncomputable def md_call_b135 (d : Nat) (σ : gM) (x2 x3 x6 : Int) : Option (gM × Option Int) := lim (fun n => gB (e_md_call 227 (rec_md_added 227 d)) rG gthr n 135 [(2, 119), (9, 0), (0, x2), (0, x3), (9, 0), (9, 0), (0, x6)] [] σ)
theorem md_call_b135_l (d : Nat) (σ : gM) (x2 x3 x6 : Int) : Lm (fun n => gB (e_md_call 227 (rec_md_added 227 d)) rG gthr n 135 [(2, 119), (9, 0), (0, x2), (0, x3), (9, 0), (9, 0), (0, x6)] [] σ) (md_call_b135 d σ x2 x3 x6) := .of fun n => gB_le (gMos_spec (mb_md_call d)) n _ _ _ σ
noncomputable def md_call_b156 (d : Nat) (σ : gM) (x2 x3 x4 y0 : Int) : Option (gM × Option Int) := lim (fun n => gB (e_md_call 227 (rec_md_added 227 d)) rG gthr n 156 [(2, 119), (9, 0), (0, x2), (0, x3), (0, x4), (9, 0), (9, 0)] [(0, y0)] σ)
theorem md_call_b156_l (d : Nat) (σ : gM) (x2 x3 x4 y0 : Int) : Lm (fun n => gB (e_md_call 227 (rec_md_added 227 d)) rG gthr n 156 [(2, 119), (9, 0), (0, x2), (0, x3), (0, x4), (9, 0), (9, 0)] [(0, y0)] σ) (md_call_b156 d σ x2 x3 x4 y0) := .of fun n => gB_le (gMos_spec (mb_md_call d)) n _ _ _ σ
noncomputable def md_call_b167 (d : Nat) (σ : gM) (x2 x3 x4 x5 : Int) : Option (gM × Option Int) := lim (fun n => gB (e_md_call 227 (rec_md_added 227 d)) rG gthr n 167 [(2, 119), (9, 0), (0, x2), (0, x3), (0, x4), (0, x5), (9, 0)] [] σ)
theorem md_call_b167_l (d : Nat) (σ : gM) (x2 x3 x4 x5 : Int) : Lm (fun n => gB (e_md_call 227 (rec_md_added 227 d)) rG gthr n 167 [(2, 119), (9, 0), (0, x2), (0, x3), (0, x4), (0, x5), (9, 0)] [] σ) (md_call_b167 d σ x2 x3 x4 x5) := .of fun n => gB_le (gMos_spec (mb_md_call d)) n _ _ _ σ
noncomputable def md_atom (d : Nat) (σ : gM) : Option (gM × Option Int) := lim (fun n => rec_md_added 227 d 1 n [(2, 119)] σ)
theorem md_atom_l (d : Nat) (σ : gM) : Lm (fun n => rec_md_added 227 d 1 n [(2, 119)] σ) (md_atom d σ) := .of fun n => mo_rec_md_added 227 d 1 n [(2, 119)] σ
theorem mb_md_atom (d : Nat) : gMos (e_md_atom 227 (rec_md_added 227 d)).2.2.2.1 := ⟨mo_md_newNode 227, ⟨mo_md_pass 227, ⟨mo_rec_md_added 227 d 4, ⟨mo_md_fails 227, ⟨mo_md_take 227, trivial⟩⟩⟩⟩⟩
noncomputable def md_atom_b163 (d : Nat) (σ : gM) (x1 : Int) : Option (gM × Option Int) := lim (fun n => gB (e_md_atom 227 (rec_md_added 227 d)) rG gthr n 163 [(2, 119), (0, x1)] [] σ)
theorem md_atom_b163_l (d : Nat) (σ : gM) (x1 : Int) : Lm (fun n => gB (e_md_atom 227 (rec_md_added 227 d)) rG gthr n 163 [(2, 119), (0, x1)] [] σ) (md_atom_b163 d σ x1) := .of fun n => gB_le (gMos_spec (mb_md_atom d)) n _ _ _ σ
noncomputable def md_unary (d : Nat) (σ : gM) : Option (gM × Option Int) := lim (fun n => rec_md_added 227 d 10 n [(2, 119)] σ)
theorem md_unary_l (d : Nat) (σ : gM) : Lm (fun n => rec_md_added 227 d 10 n [(2, 119)] σ) (md_unary d σ) := .of fun n => mo_rec_md_added 227 d 10 n [(2, 119)] σ
theorem mb_md_unary (d : Nat) : gMos (e_md_unary 227 (rec_md_added 227 d)).2.2.2.1 := ⟨mo_md_opens 227, ⟨mo_md_newNode 227, ⟨mo_md_take 227, ⟨mo_rec_md_added 227 d 10, ⟨mo_rec_md_added 227 d 1, ⟨mo_rec_md_added 227 d 3, ⟨mo_rec_md_added 227 d 6, trivial⟩⟩⟩⟩⟩⟩⟩
noncomputable def md_unary_b51 (d : Nat) (σ : gM) (x1 : Int) : Option (gM × Option Int) := lim (fun n => gB (e_md_unary 227 (rec_md_added 227 d)) rG gthr n 51 [(2, 119), (0, x1)] [] σ)
theorem md_unary_b51_l (d : Nat) (σ : gM) (x1 : Int) : Lm (fun n => gB (e_md_unary 227 (rec_md_added 227 d)) rG gthr n 51 [(2, 119), (0, x1)] [] σ) (md_unary_b51 d σ x1) := .of fun n => gB_le (gMos_spec (mb_md_unary d)) n _ _ _ σ
noncomputable def md_unary_b78 (d : Nat) (σ : gM) (x1 : Int) : Option (gM × Option Int) := lim (fun n => gB (e_md_unary 227 (rec_md_added 227 d)) rG gthr n 78 [(2, 119), (0, x1)] [] σ)
theorem md_unary_b78_l (d : Nat) (σ : gM) (x1 : Int) : Lm (fun n => gB (e_md_unary 227 (rec_md_added 227 d)) rG gthr n 78 [(2, 119), (0, x1)] [] σ) (md_unary_b78 d σ x1) := .of fun n => gB_le (gMos_spec (mb_md_unary d)) n _ _ _ σ
noncomputable def md_unary_b100 (d : Nat) (σ : gM) (y0 : Int) : Option (gM × Option Int) := lim (fun n => gB (e_md_unary 227 (rec_md_added 227 d)) rG gthr n 100 [(2, 119), (9, 0)] [(0, y0)] σ)
theorem md_unary_b100_l (d : Nat) (σ : gM) (y0 : Int) : Lm (fun n => gB (e_md_unary 227 (rec_md_added 227 d)) rG gthr n 100 [(2, 119), (9, 0)] [(0, y0)] σ) (md_unary_b100 d σ y0) := .of fun n => gB_le (gMos_spec (mb_md_unary d)) n _ _ _ σ
noncomputable def md_product (d : Nat) (σ : gM) : Option (gM × Option Int) := lim (fun n => rec_md_added 227 d 8 n [(2, 119)] σ)
theorem md_product_l (d : Nat) (σ : gM) : Lm (fun n => rec_md_added 227 d 8 n [(2, 119)] σ) (md_product d σ) := .of fun n => mo_rec_md_added 227 d 8 n [(2, 119)] σ
theorem mb_md_product (d : Nat) : gMos (e_md_product 227 (rec_md_added 227 d)).2.2.2.1 := ⟨mo_rec_md_added 227 d 10, ⟨mo_md_pair 227, trivial⟩⟩
noncomputable def md_product_b5 (d : Nat) (σ : gM) (x1 : Int) : Option (gM × Option Int) := lim (fun n => gB (e_md_product 227 (rec_md_added 227 d)) rG gthr n 5 [(2, 119), (0, x1)] [] σ)
theorem md_product_b5_l (d : Nat) (σ : gM) (x1 : Int) : Lm (fun n => gB (e_md_product 227 (rec_md_added 227 d)) rG gthr n 5 [(2, 119), (0, x1)] [] σ) (md_product_b5 d σ x1) := .of fun n => gB_le (gMos_spec (mb_md_product d)) n _ _ _ σ
noncomputable def md_product_b23 (d : Nat) (σ : gM) (x1 : Int) : Option (gM × Option Int) := lim (fun n => gB (e_md_product 227 (rec_md_added 227 d)) rG gthr n 23 [(2, 119), (0, x1)] [] σ)
theorem md_product_b23_l (d : Nat) (σ : gM) (x1 : Int) : Lm (fun n => gB (e_md_product 227 (rec_md_added 227 d)) rG gthr n 23 [(2, 119), (0, x1)] [] σ) (md_product_b23 d σ x1) := .of fun n => gB_le (gMos_spec (mb_md_product d)) n _ _ _ σ
noncomputable def md_added (d : Nat) (σ : gM) : Option (gM × Option Int) := lim (fun n => rec_md_added 227 d 0 n [(2, 119)] σ)
theorem md_added_l (d : Nat) (σ : gM) : Lm (fun n => rec_md_added 227 d 0 n [(2, 119)] σ) (md_added d σ) := .of fun n => mo_rec_md_added 227 d 0 n [(2, 119)] σ
theorem mb_md_added (d : Nat) : gMos (e_md_added 227 (rec_md_added 227 d)).2.2.2.1 := ⟨mo_rec_md_added 227 d 8, ⟨mo_md_pair 227, trivial⟩⟩
noncomputable def md_added_b5 (d : Nat) (σ : gM) (x1 : Int) : Option (gM × Option Int) := lim (fun n => gB (e_md_added 227 (rec_md_added 227 d)) rG gthr n 5 [(2, 119), (0, x1)] [] σ)
theorem md_added_b5_l (d : Nat) (σ : gM) (x1 : Int) : Lm (fun n => gB (e_md_added 227 (rec_md_added 227 d)) rG gthr n 5 [(2, 119), (0, x1)] [] σ) (md_added_b5 d σ x1) := .of fun n => gB_le (gMos_spec (mb_md_added d)) n _ _ _ σ
noncomputable def md_added_b23 (d : Nat) (σ : gM) (x1 : Int) : Option (gM × Option Int) := lim (fun n => gB (e_md_added 227 (rec_md_added 227 d)) rG gthr n 23 [(2, 119), (0, x1)] [] σ)
theorem md_added_b23_l (d : Nat) (σ : gM) (x1 : Int) : Lm (fun n => gB (e_md_added 227 (rec_md_added 227 d)) rG gthr n 23 [(2, 119), (0, x1)] [] σ) (md_added_b23 d σ x1) := .of fun n => gB_le (gMos_spec (mb_md_added d)) n _ _ _ σ
noncomputable def md_less (d : Nat) (σ : gM) : Option (gM × Option Int) := lim (fun n => rec_md_added 227 d 7 n [(2, 119)] σ)
theorem md_less_l (d : Nat) (σ : gM) : Lm (fun n => rec_md_added 227 d 7 n [(2, 119)] σ) (md_less d σ) := .of fun n => mo_rec_md_added 227 d 7 n [(2, 119)] σ
noncomputable def md_same (d : Nat) (σ : gM) : Option (gM × Option Int) := lim (fun n => rec_md_added 227 d 9 n [(2, 119)] σ)
theorem md_same_l (d : Nat) (σ : gM) : Lm (fun n => rec_md_added 227 d 9 n [(2, 119)] σ) (md_same d σ) := .of fun n => mo_rec_md_added 227 d 9 n [(2, 119)] σ
theorem mb_md_same (d : Nat) : gMos (e_md_same 227 (rec_md_added 227 d)).2.2.2.1 := ⟨mo_rec_md_added 227 d 7, ⟨mo_md_pair 227, trivial⟩⟩
noncomputable def md_same_b23 (d : Nat) (σ : gM) (x1 : Int) : Option (gM × Option Int) := lim (fun n => gB (e_md_same 227 (rec_md_added 227 d)) rG gthr n 23 [(2, 119), (0, x1)] [] σ)
theorem md_same_b23_l (d : Nat) (σ : gM) (x1 : Int) : Lm (fun n => gB (e_md_same 227 (rec_md_added 227 d)) rG gthr n 23 [(2, 119), (0, x1)] [] σ) (md_same_b23 d σ x1) := .of fun n => gB_le (gMos_spec (mb_md_same d)) n _ _ _ σ
noncomputable def md_same_b40 (d : Nat) (σ : gM) (x1 y0 : Int) : Option (gM × Option Int) := lim (fun n => gB (e_md_same 227 (rec_md_added 227 d)) rG gthr n 40 [(2, 119), (0, x1)] [(0, y0), (2, 119)] σ)
theorem md_same_b40_l (d : Nat) (σ : gM) (x1 y0 : Int) : Lm (fun n => gB (e_md_same 227 (rec_md_added 227 d)) rG gthr n 40 [(2, 119), (0, x1)] [(0, y0), (2, 119)] σ) (md_same_b40 d σ x1 y0) := .of fun n => gB_le (gMos_spec (mb_md_same d)) n _ _ _ σ
noncomputable def md_both (d : Nat) (σ : gM) : Option (gM × Option Int) := lim (fun n => rec_md_added 227 d 2 n [(2, 119)] σ)
theorem md_both_l (d : Nat) (σ : gM) : Lm (fun n => rec_md_added 227 d 2 n [(2, 119)] σ) (md_both d σ) := .of fun n => mo_rec_md_added 227 d 2 n [(2, 119)] σ
theorem mb_md_both (d : Nat) : gMos (e_md_both 227 (rec_md_added 227 d)).2.2.2.1 := ⟨mo_rec_md_added 227 d 9, ⟨mo_md_pair 227, trivial⟩⟩
noncomputable def md_both_b5 (d : Nat) (σ : gM) (x1 : Int) : Option (gM × Option Int) := lim (fun n => gB (e_md_both 227 (rec_md_added 227 d)) rG gthr n 5 [(2, 119), (0, x1)] [] σ)
theorem md_both_b5_l (d : Nat) (σ : gM) (x1 : Int) : Lm (fun n => gB (e_md_both 227 (rec_md_added 227 d)) rG gthr n 5 [(2, 119), (0, x1)] [] σ) (md_both_b5 d σ x1) := .of fun n => gB_le (gMos_spec (mb_md_both d)) n _ _ _ σ
noncomputable def md_either (d : Nat) (σ : gM) : Option (gM × Option Int) := lim (fun n => rec_md_added 227 d 5 n [(2, 119)] σ)
theorem md_either_l (d : Nat) (σ : gM) : Lm (fun n => rec_md_added 227 d 5 n [(2, 119)] σ) (md_either d σ) := .of fun n => mo_rec_md_added 227 d 5 n [(2, 119)] σ
theorem mb_md_either (d : Nat) : gMos (e_md_either 227 (rec_md_added 227 d)).2.2.2.1 := ⟨mo_rec_md_added 227 d 2, ⟨mo_md_pair 227, trivial⟩⟩
noncomputable def md_either_b5 (d : Nat) (σ : gM) (x1 : Int) : Option (gM × Option Int) := lim (fun n => gB (e_md_either 227 (rec_md_added 227 d)) rG gthr n 5 [(2, 119), (0, x1)] [] σ)
theorem md_either_b5_l (d : Nat) (σ : gM) (x1 : Int) : Lm (fun n => gB (e_md_either 227 (rec_md_added 227 d)) rG gthr n 5 [(2, 119), (0, x1)] [] σ) (md_either_b5 d σ x1) := .of fun n => gB_le (gMos_spec (mb_md_either d)) n _ _ _ σ
noncomputable def md_e (d : Nat) (σ : gM) : Option (gM × Option Int) := lim (fun n => rec_md_added 227 d 4 n [(2, 119)] σ)
theorem md_e_l (d : Nat) (σ : gM) : Lm (fun n => rec_md_added 227 d 4 n [(2, 119)] σ) (md_e d σ) := .of fun n => mo_rec_md_added 227 d 4 n [(2, 119)] σ
theorem mb_md_e (d : Nat) : gMos (e_md_e 227 (rec_md_added 227 d)).2.2.2.1 := ⟨mo_rec_md_added 227 d 5, ⟨mo_md_fails 227, ⟨mo_md_opens 227, ⟨mo_md_localOf 227, ⟨mo_md_addLocal 227, ⟨mo_md_take 227, ⟨mo_rec_md_added 227 d 4, trivial⟩⟩⟩⟩⟩⟩⟩
noncomputable def md_e_b31 (d : Nat) (σ : gM) (x1 y0 : Int) : Option (gM × Option Int) := lim (fun n => gB (e_md_e 227 (rec_md_added 227 d)) rG gthr n 31 [(2, 119), (0, x1), (9, 0), (9, 0)] [(0, y0)] σ)
theorem md_e_b31_l (d : Nat) (σ : gM) (x1 y0 : Int) : Lm (fun n => gB (e_md_e 227 (rec_md_added 227 d)) rG gthr n 31 [(2, 119), (0, x1), (9, 0), (9, 0)] [(0, y0)] σ) (md_e_b31 d σ x1 y0) := .of fun n => gB_le (gMos_spec (mb_md_e d)) n _ _ _ σ
noncomputable def md_e_b56 (d : Nat) (σ : gM) : Option (gM × Option Int) := lim (fun n => gB (e_md_e 227 (rec_md_added 227 d)) rG gthr n 56 [(2, 119), (9, 0), (9, 0), (9, 0)] [] σ)
theorem md_e_b56_l (d : Nat) (σ : gM) : Lm (fun n => gB (e_md_e 227 (rec_md_added 227 d)) rG gthr n 56 [(2, 119), (9, 0), (9, 0), (9, 0)] [] σ) (md_e_b56 d σ) := .of fun n => gB_le (gMos_spec (mb_md_e d)) n _ _ _ σ
noncomputable def md_e_b66 (d : Nat) (σ : gM) (x1 x2 : Int) : Option (gM × Option Int) := lim (fun n => gB (e_md_e 227 (rec_md_added 227 d)) rG gthr n 66 [(2, 119), (0, x1), (0, x2), (9, 0)] [] σ)
theorem md_e_b66_l (d : Nat) (σ : gM) (x1 x2 : Int) : Lm (fun n => gB (e_md_e 227 (rec_md_added 227 d)) rG gthr n 66 [(2, 119), (0, x1), (0, x2), (9, 0)] [] σ) (md_e_b66 d σ x1 x2) := .of fun n => gB_le (gMos_spec (mb_md_e d)) n _ _ _ σ
noncomputable def md_e_b135 (d : Nat) (σ : gM) (x1 x2 : Int) : Option (gM × Option Int) := lim (fun n => gB (e_md_e 227 (rec_md_added 227 d)) rG gthr n 135 [(2, 119), (0, x1), (0, x2), (9, 0)] [] σ)
theorem md_e_b135_l (d : Nat) (σ : gM) (x1 x2 : Int) : Lm (fun n => gB (e_md_e 227 (rec_md_added 227 d)) rG gthr n 135 [(2, 119), (0, x1), (0, x2), (9, 0)] [] σ) (md_e_b135 d σ x1 x2) := .of fun n => gB_le (gMos_spec (mb_md_e d)) n _ _ _ σ
noncomputable def md_e_b170 (d : Nat) (σ : gM) (x1 x2 x3 y0 y1 : Int) : Option (gM × Option Int) := lim (fun n => gB (e_md_e 227 (rec_md_added 227 d)) rG gthr n 170 [(2, 119), (0, x1), (0, x2), (0, x3)] [(0, y0), (0, y1), (2, 135)] σ)
theorem md_e_b170_l (d : Nat) (σ : gM) (x1 x2 x3 y0 y1 : Int) : Lm (fun n => gB (e_md_e 227 (rec_md_added 227 d)) rG gthr n 170 [(2, 119), (0, x1), (0, x2), (0, x3)] [(0, y0), (0, y1), (2, 135)] σ) (md_e_b170 d σ x1 x2 x3 y0 y1) := .of fun n => gB_le (gMos_spec (mb_md_e d)) n _ _ _ σ
theorem md_get_e (d : Nat) (σ : gM) (x1 : Int) : md_get (d + 1) σ x1 =
  (if σ 119 25 = 34 then
  ((md_opens σ).bind fun p1 => gtry p1.2 (fun v2 =>
    md_get_b13 d p1.1 x1)
    (some (p1.1, none)))
  else
  (md_get_b13 d σ x1)) := Lm.eqn (md_get_l ..) (.ite (.bind (md_opens_l ..) fun p1 => .xtry (fun v2 => (md_get_b13_l ..)) .cst) (md_get_b13_l ..)) fun n => (rfl)
theorem md_get_b13_e (d : Nat) (σ : gM) (x1 : Int) : md_get_b13 d σ x1 =
  ((md_newNode σ 21).bind fun p1 => gtry p1.2 (fun v2 =>
  if 0 ≤ v2 ∧ v2 < 4004 then
    (if p1.1 119 25 = 38 then
      (md_get_b41 d (gW p1.1 138 v2 x1) v2 1)
      else
      (md_get_b41 d (gW p1.1 138 v2 x1) v2 0))
    else none)
  (some (p1.1, none))) := Lm.eqn (md_get_b13_l ..) (.bind (md_newNode_l ..) fun p1 => .xtry (fun v2 => (.ite (.ite (md_get_b41_l ..) (md_get_b41_l ..)) .cst)) .cst) fun n => (rfl)
theorem md_get_b41_e (d : Nat) (σ : gM) (x2 y0 : Int) : md_get_b41 d σ x2 y0 =
  ((md_take σ).bind fun p1 => gtry p1.2 (fun v2 =>
  if y0 = 0 then
    ((md_e d p1.1).bind fun p3 => gtry p3.2 (fun v4 =>
      if 0 ≤ x2 ∧ x2 < 4004 then
        ((md_pass (gW p3.1 139 x2 v4) 35).bind fun p5 => gtry p5.2 (fun v6 =>
          some (p5.1, some x2))
          (some (p5.1, none)))
        else none)
      (some (p3.1, none)))
    else
    ((md_need p1.1 1).bind fun p7 => gtry p7.2 (fun v8 =>
      if 0 ≤ x2 ∧ x2 < 4004 then
        (if 0 ≤ x2 ∧ x2 < 4004 then
          ((md_take (gW (gW p7.1 142 x2 (p7.1 119 26)) 143 x2 (p7.1 119 27))).bind fun p9 => gtry p9.2 (fun v10 =>
            some (p9.1, some x2))
            (some (p9.1, none)))
          else none)
        else none)
      (some (p7.1, none))))
  (some (p1.1, none))) := Lm.eqn (md_get_b41_l ..) (.bind (md_take_l ..) fun p1 => .xtry (fun v2 => (.ite (.bind (md_e_l ..) fun p3 => .xtry (fun v4 => (.ite (.bind (md_pass_l ..) fun p5 => .xtry (fun v6 => .cst) .cst) .cst)) .cst) (.bind (md_need_l ..) fun p7 => .xtry (fun v8 => (.ite (.ite (.bind (md_take_l ..) fun p9 => .xtry (fun v10 => .cst) .cst) .cst) .cst)) .cst))) .cst) fun n => (rfl)
theorem md_call_e (d : Nat) (σ : gM) (x1 : Int) : md_call (d + 1) σ x1 =
  ((md_opens σ).bind fun p1 => gtry p1.2 (fun v2 =>
  (md_newNode p1.1 23).bind fun p3 => gtry p3.2 (fun v4 =>
    if 0 ≤ v4 ∧ v4 < 4004 then
      ((md_take (gW p3.1 138 v4 x1)).bind fun p5 => gtry p5.2 (fun v6 =>
        if p5.1 119 25 = 31 then
          (md_call_b41 d p5.1 v4 0 (-1) 0)
          else
          (md_call_b41 d p5.1 v4 0 (-1) 1))
        (some (p5.1, none)))
      else none)
    (some (p3.1, none)))
  (some (p1.1, none))) := Lm.eqn (md_call_l ..) (.bind (md_opens_l ..) fun p1 => .xtry (fun v2 => (.bind (md_newNode_l ..) fun p3 => .xtry (fun v4 => (.ite (.bind (md_take_l ..) fun p5 => .xtry (fun v6 => (.ite (md_call_b41_l ..) (md_call_b41_l ..))) .cst) .cst)) .cst)) .cst) fun n => (rfl)
theorem md_call_b41_e (d : Nat) (σ : gM) (x2 x3 x4 y0 : Int) : md_call_b41 d σ x2 x3 x4 y0 =
  (md_call_b43 d σ x2 x3 x4 y0) := Lm.eqn (md_call_b41_l ..) (md_call_b43_l ..) fun n => (rfl)
theorem md_call_b43_e (d : Nat) (σ : gM) (x2 x3 x4 x5 : Int) : md_call_b43 d σ x2 x3 x4 x5 =
  (if x5 = 0 then
  ((md_pass σ 31).bind fun p1 => gtry p1.2 (fun v2 =>
    some (p1.1, some x2))
    (some (p1.1, none)))
  else
  (if x3 = 12 then
    ((md_canBegin σ).bind fun p5 =>
      if p5.2 = 0 then
      ((md_fails p5.1 2 (p5.1 119 26)).bind fun p6 =>
        gthr p6.1 p6.2)
      else
      (if p5.1 119 25 = 30 then
        (md_call_b89 d p5.1)
        else
        (if p5.1 119 25 = 41 then
          (md_call_b89 d p5.1)
          else
          (md_call_b93 d p5.1))))
    else
    ((md_e d σ).bind fun p3 => gtry p3.2 (fun v4 =>
      if x4 = (-1) then
        (if 0 ≤ x2 ∧ x2 < 4004 then
          (md_call_b135 d (gW p3.1 139 x2 v4) x2 x3 v4)
          else none)
        else
        (if 0 ≤ x4 ∧ x4 < 4004 then
          (md_call_b135 d (gW p3.1 141 x4 v4) x2 x3 v4)
          else none))
      (some (p3.1, none))))) := Lm.eqn (md_call_b43_l ..) (.ite (.bind (md_pass_l ..) fun p1 => .xtry (fun v2 => .cst) .cst) (.ite (.bind (md_canBegin_l ..) fun p5 => (.ite (.bind (md_fails_l ..) fun p6 => .cst) (.ite (md_call_b89_l ..) (.ite (md_call_b89_l ..) (md_call_b93_l ..))))) (.bind (md_e_l ..) fun p3 => .xtry (fun v4 => (.ite (.ite (md_call_b135_l ..) .cst) (.ite (md_call_b135_l ..) .cst))) .cst))) fun n => (rfl)
theorem md_call_b89_e (d : Nat) (σ : gM) : md_call_b89 d σ =
  ((md_opens σ).bind fun p1 => gtry p1.2 (fun v2 =>
  md_call_b93 d p1.1)
  (some (p1.1, none))) := Lm.eqn (md_call_b89_l ..) (.bind (md_opens_l ..) fun p1 => .xtry (fun v2 => (md_call_b93_l ..)) .cst) fun n => (rfl)
theorem md_call_b93_e (d : Nat) (σ : gM) : md_call_b93 d σ =
  ((md_fails σ 4 (σ 119 26)).bind fun p1 =>
  gthr p1.1 p1.2) := Lm.eqn (md_call_b93_l ..) (.bind (md_fails_l ..) fun p1 => .cst) fun n => (rfl)
theorem md_call_b135_e (d : Nat) (σ : gM) (x2 x3 x6 : Int) : md_call_b135 d σ x2 x3 x6 =
  (if σ 119 25 = 36 then
  (md_call_b156 d σ x2 (w32 (x3 + 1)) x6 1)
  else
  (md_call_b156 d σ x2 (w32 (x3 + 1)) x6 0)) := Lm.eqn (md_call_b135_l ..) (.ite (md_call_b156_l ..) (md_call_b156_l ..)) fun n => (rfl)
theorem md_call_b156_e (d : Nat) (σ : gM) (x2 x3 x4 y0 : Int) : md_call_b156 d σ x2 x3 x4 y0 =
  (if y0 = 0 then
  (md_call_b167 d σ x2 x3 x4 y0)
  else
  ((md_take σ).bind fun p1 => gtry p1.2 (fun v2 =>
    md_call_b167 d p1.1 x2 x3 x4 y0)
    (some (p1.1, none)))) := Lm.eqn (md_call_b156_l ..) (.ite (md_call_b167_l ..) (.bind (md_take_l ..) fun p1 => .xtry (fun v2 => (md_call_b167_l ..)) .cst)) fun n => (rfl)
theorem md_call_b167_e (d : Nat) (σ : gM) (x2 x3 x4 x5 : Int) : md_call_b167 d σ x2 x3 x4 x5 =
  (md_call_b43 d σ x2 x3 x4 x5) := Lm.eqn (md_call_b167_l ..) (md_call_b43_l ..) fun n => (rfl)
theorem md_atom_e (d : Nat) (σ : gM) : md_atom (d + 1) σ =
  (if σ 119 25 = 1 then
  ((md_newNode σ 5).bind fun p1 => gtry p1.2 (fun v2 =>
    md_atom_b163 d p1.1 v2)
    (some (p1.1, none)))
  else if σ 119 25 = 2 then
  ((md_newNode σ 1).bind fun p3 => gtry p3.2 (fun v4 =>
    md_atom_b163 d p3.1 v4)
    (some (p3.1, none)))
  else if σ 119 25 = 3 then
  ((md_newNode σ 2).bind fun p5 => gtry p5.2 (fun v6 =>
    md_atom_b163 d p5.1 v6)
    (some (p5.1, none)))
  else if σ 119 25 = 17 then
  ((md_newNode σ 3).bind fun p7 => gtry p7.2 (fun v8 =>
    if 0 ≤ v8 ∧ v8 < 4004 then
      (md_atom_b163 d (gW p7.1 139 v8 (p7.1 119 25)) v8)
      else none)
    (some (p7.1, none)))
  else if σ 119 25 = 18 then
  ((md_newNode σ 3).bind fun p9 => gtry p9.2 (fun v10 =>
    if 0 ≤ v10 ∧ v10 < 4004 then
      (md_atom_b163 d (gW p9.1 139 v10 (p9.1 119 25)) v10)
      else none)
    (some (p9.1, none)))
  else if σ 119 25 = 19 then
  ((md_newNode σ 4).bind fun p11 => gtry p11.2 (fun v12 =>
    md_atom_b163 d p11.1 v12)
    (some (p11.1, none)))
  else if σ 119 25 = 30 then
  ((md_pass σ 30).bind fun p13 => gtry p13.2 (fun v14 =>
    (md_e d p13.1).bind fun p15 => gtry p15.2 (fun v16 =>
      (md_pass p15.1 31).bind fun p17 => gtry p17.2 (fun v18 =>
        if 0 ≤ v16 ∧ v16 < 4004 then
          (some (gW p17.1 145 v16 1, some v16))
          else none)
        (some (p17.1, none)))
      (some (p15.1, none)))
    (some (p13.1, none)))
  else ((md_fails σ 2 (σ 119 26)).bind fun p19 =>
    gthr p19.1 p19.2)) := Lm.eqn (md_atom_l ..) (.ite (.bind (md_newNode_l ..) fun p1 => .xtry (fun v2 => (md_atom_b163_l ..)) .cst) (.ite (.bind (md_newNode_l ..) fun p3 => .xtry (fun v4 => (md_atom_b163_l ..)) .cst) (.ite (.bind (md_newNode_l ..) fun p5 => .xtry (fun v6 => (md_atom_b163_l ..)) .cst) (.ite (.bind (md_newNode_l ..) fun p7 => .xtry (fun v8 => (.ite (md_atom_b163_l ..) .cst)) .cst) (.ite (.bind (md_newNode_l ..) fun p9 => .xtry (fun v10 => (.ite (md_atom_b163_l ..) .cst)) .cst) (.ite (.bind (md_newNode_l ..) fun p11 => .xtry (fun v12 => (md_atom_b163_l ..)) .cst) (.ite (.bind (md_pass_l ..) fun p13 => .xtry (fun v14 => (.bind (md_e_l ..) fun p15 => .xtry (fun v16 => (.bind (md_pass_l ..) fun p17 => .xtry (fun v18 => (.ite .cst .cst)) .cst)) .cst)) .cst) (.bind (md_fails_l ..) fun p19 => .cst)))))))) fun n => (rfl)
theorem md_atom_b163_e (d : Nat) (σ : gM) (x1 : Int) : md_atom_b163 d σ x1 =
  ((md_take σ).bind fun p1 => gtry p1.2 (fun v2 =>
  some (p1.1, some x1))
  (some (p1.1, none))) := Lm.eqn (md_atom_b163_l ..) (.bind (md_take_l ..) fun p1 => .xtry (fun v2 => .cst) .cst) fun n => (rfl)
theorem md_unary_e (d : Nat) (σ : gM) : md_unary (d + 1) σ =
  (if σ 119 25 = 41 then
  ((md_opens σ).bind fun p3 => gtry p3.2 (fun v4 =>
    (md_newNode p3.1 20).bind fun p5 => gtry p5.2 (fun v6 =>
      (md_take p5.1).bind fun p7 => gtry p7.2 (fun v8 =>
        (md_unary d p7.1).bind fun p9 => gtry p9.2 (fun v10 =>
          if 0 ≤ v6 ∧ v6 < 4004 then
            (some (gW (gW p9.1 138 v6 v10) 119 28 (w32 ((p9.1 119 28) - 1)), some v6))
            else none)
          (some (p9.1, none)))
        (some (p7.1, none)))
      (some (p5.1, none)))
    (some (p3.1, none)))
  else
  ((md_atom d σ).bind fun p1 => gtry p1.2 (fun v2 =>
    md_unary_b51 d p1.1 v2)
    (some (p1.1, none)))) := Lm.eqn (md_unary_l ..) (.ite (.bind (md_opens_l ..) fun p3 => .xtry (fun v4 => (.bind (md_newNode_l ..) fun p5 => .xtry (fun v6 => (.bind (md_take_l ..) fun p7 => .xtry (fun v8 => (.bind (md_unary_l ..) fun p9 => .xtry (fun v10 => (.ite .cst .cst)) .cst)) .cst)) .cst)) .cst) (.bind (md_atom_l ..) fun p1 => .xtry (fun v2 => (md_unary_b51_l ..)) .cst)) fun n => (rfl)
theorem md_unary_b51_e (d : Nat) (σ : gM) (x1 : Int) : md_unary_b51 d σ x1 =
  (if σ 119 25 = 30 then
  (md_unary_b78 d σ x1)
  else
  (if σ 119 25 = 38 then
    (md_unary_b78 d σ x1)
    else
    (if σ 119 25 = 34 then
      (md_unary_b78 d σ x1)
      else
      (some (σ, some x1))))) := Lm.eqn (md_unary_b51_l ..) (.ite (md_unary_b78_l ..) (.ite (md_unary_b78_l ..) (.ite (md_unary_b78_l ..) .cst))) fun n => (rfl)
theorem md_unary_b78_e (d : Nat) (σ : gM) (x1 : Int) : md_unary_b78 d σ x1 =
  (if σ 119 25 = 30 then
  ((md_call d σ x1).bind fun p3 => gtry p3.2 (fun v4 =>
    md_unary_b100 d p3.1 v4)
    (some (p3.1, none)))
  else
  ((md_get d σ x1).bind fun p1 => gtry p1.2 (fun v2 =>
    md_unary_b100 d p1.1 v2)
    (some (p1.1, none)))) := Lm.eqn (md_unary_b78_l ..) (.ite (.bind (md_call_l ..) fun p3 => .xtry (fun v4 => (md_unary_b100_l ..)) .cst) (.bind (md_get_l ..) fun p1 => .xtry (fun v2 => (md_unary_b100_l ..)) .cst)) fun n => (rfl)
theorem md_unary_b100_e (d : Nat) (σ : gM) (y0 : Int) : md_unary_b100 d σ y0 =
  (md_unary_b51 d σ y0) := Lm.eqn (md_unary_b100_l ..) (md_unary_b51_l ..) fun n => (rfl)
theorem md_product_e (d : Nat) (σ : gM) : md_product (d + 1) σ =
  ((md_unary d σ).bind fun p1 => gtry p1.2 (fun v2 =>
  md_product_b5 d p1.1 v2)
  (some (p1.1, none))) := Lm.eqn (md_product_l ..) (.bind (md_unary_l ..) fun p1 => .xtry (fun v2 => (md_product_b5_l ..)) .cst) fun n => (rfl)
theorem md_product_b5_e (d : Nat) (σ : gM) (x1 : Int) : md_product_b5 d σ x1 =
  (if σ 119 25 = 49 then
  (md_product_b23 d σ x1)
  else
  (if σ 119 25 = 50 then
    (md_product_b23 d σ x1)
    else
    (some (σ, some x1)))) := Lm.eqn (md_product_b5_l ..) (.ite (md_product_b23_l ..) (.ite (md_product_b23_l ..) .cst)) fun n => (rfl)
theorem md_product_b23_e (d : Nat) (σ : gM) (x1 : Int) : md_product_b23 d σ x1 =
  ((md_pair σ (w32 ((w32 (8 + (σ 119 25))) - 47)) x1).bind fun p1 => gtry p1.2 (fun v2 =>
  (md_unary d p1.1).bind fun p3 => gtry p3.2 (fun v4 =>
    if 0 ≤ v2 ∧ v2 < 4004 then
      (md_product_b5 d (gW p3.1 139 v2 v4) v2)
      else none)
    (some (p3.1, none)))
  (some (p1.1, none))) := Lm.eqn (md_product_b23_l ..) (.bind (md_pair_l ..) fun p1 => .xtry (fun v2 => (.bind (md_unary_l ..) fun p3 => .xtry (fun v4 => (.ite (md_product_b5_l ..) .cst)) .cst)) .cst) fun n => (rfl)
theorem md_added_e (d : Nat) (σ : gM) : md_added (d + 1) σ =
  ((md_product d σ).bind fun p1 => gtry p1.2 (fun v2 =>
  md_added_b5 d p1.1 v2)
  (some (p1.1, none))) := Lm.eqn (md_added_l ..) (.bind (md_product_l ..) fun p1 => .xtry (fun v2 => (md_added_b5_l ..)) .cst) fun n => (rfl)
theorem md_added_b5_e (d : Nat) (σ : gM) (x1 : Int) : md_added_b5 d σ x1 =
  (if σ 119 25 = 47 then
  (md_added_b23 d σ x1)
  else
  (if σ 119 25 = 48 then
    (md_added_b23 d σ x1)
    else
    (some (σ, some x1)))) := Lm.eqn (md_added_b5_l ..) (.ite (md_added_b23_l ..) (.ite (md_added_b23_l ..) .cst)) fun n => (rfl)
theorem md_added_b23_e (d : Nat) (σ : gM) (x1 : Int) : md_added_b23 d σ x1 =
  ((md_pair σ (w32 ((w32 (8 + (σ 119 25))) - 47)) x1).bind fun p1 => gtry p1.2 (fun v2 =>
  (md_product d p1.1).bind fun p3 => gtry p3.2 (fun v4 =>
    if 0 ≤ v2 ∧ v2 < 4004 then
      (md_added_b5 d (gW p3.1 139 v2 v4) v2)
      else none)
    (some (p3.1, none)))
  (some (p1.1, none))) := Lm.eqn (md_added_b23_l ..) (.bind (md_pair_l ..) fun p1 => .xtry (fun v2 => (.bind (md_product_l ..) fun p3 => .xtry (fun v4 => (.ite (md_added_b5_l ..) .cst)) .cst)) .cst) fun n => (rfl)
theorem md_less_e (d : Nat) (σ : gM) : md_less (d + 1) σ =
  ((md_added d σ).bind fun p1 => gtry p1.2 (fun v2 =>
  if p1.1 119 25 < 43 then
    (some (p1.1, some v2))
    else
    (if 46 < p1.1 119 25 then
      (some (p1.1, some v2))
      else
      ((md_pair p1.1 (w32 ((w32 (12 + (p1.1 119 25))) - 43)) v2).bind fun p3 => gtry p3.2 (fun v4 =>
        (md_added d p3.1).bind fun p5 => gtry p5.2 (fun v6 =>
          if 0 ≤ v4 ∧ v4 < 4004 then
            (some (gW p5.1 139 v4 v6, some v4))
            else none)
          (some (p5.1, none)))
        (some (p3.1, none)))))
  (some (p1.1, none))) := Lm.eqn (md_less_l ..) (.bind (md_added_l ..) fun p1 => .xtry (fun v2 => (.ite .cst (.ite .cst (.bind (md_pair_l ..) fun p3 => .xtry (fun v4 => (.bind (md_added_l ..) fun p5 => .xtry (fun v6 => (.ite .cst .cst)) .cst)) .cst)))) .cst) fun n => (rfl)
theorem md_same_e (d : Nat) (σ : gM) : md_same (d + 1) σ =
  ((md_less d σ).bind fun p1 => gtry p1.2 (fun v2 =>
  if p1.1 119 25 = 40 then
    (md_same_b23 d p1.1 v2)
    else
    (if p1.1 119 25 = 42 then
      (md_same_b23 d p1.1 v2)
      else
      (some (p1.1, some v2))))
  (some (p1.1, none))) := Lm.eqn (md_same_l ..) (.bind (md_less_l ..) fun p1 => .xtry (fun v2 => (.ite (md_same_b23_l ..) (.ite (md_same_b23_l ..) .cst))) .cst) fun n => (rfl)
theorem md_same_b23_e (d : Nat) (σ : gM) (x1 : Int) : md_same_b23 d σ x1 =
  (if σ 119 25 = 40 then
  (md_same_b40 d σ x1 16)
  else
  (md_same_b40 d σ x1 17)) := Lm.eqn (md_same_b23_l ..) (.ite (md_same_b40_l ..) (md_same_b40_l ..)) fun n => (rfl)
theorem md_same_b40_e (d : Nat) (σ : gM) (x1 y0 : Int) : md_same_b40 d σ x1 y0 =
  ((md_pair σ y0 x1).bind fun p1 => gtry p1.2 (fun v2 =>
  (md_less d p1.1).bind fun p3 => gtry p3.2 (fun v4 =>
    if 0 ≤ v2 ∧ v2 < 4004 then
      (some (gW p3.1 139 v2 v4, some v2))
      else none)
    (some (p3.1, none)))
  (some (p1.1, none))) := Lm.eqn (md_same_b40_l ..) (.bind (md_pair_l ..) fun p1 => .xtry (fun v2 => (.bind (md_less_l ..) fun p3 => .xtry (fun v4 => (.ite .cst .cst)) .cst)) .cst) fun n => (rfl)
theorem md_both_e (d : Nat) (σ : gM) : md_both (d + 1) σ =
  ((md_same d σ).bind fun p1 => gtry p1.2 (fun v2 =>
  md_both_b5 d p1.1 v2)
  (some (p1.1, none))) := Lm.eqn (md_both_l ..) (.bind (md_same_l ..) fun p1 => .xtry (fun v2 => (md_both_b5_l ..)) .cst) fun n => (rfl)
theorem md_both_b5_e (d : Nat) (σ : gM) (x1 : Int) : md_both_b5 d σ x1 =
  (if σ 119 25 = 51 then
  ((md_pair σ 18 x1).bind fun p1 => gtry p1.2 (fun v2 =>
    (md_same d p1.1).bind fun p3 => gtry p3.2 (fun v4 =>
      if 0 ≤ v2 ∧ v2 < 4004 then
        (md_both_b5 d (gW p3.1 139 v2 v4) v2)
        else none)
      (some (p3.1, none)))
    (some (p1.1, none)))
  else
  (some (σ, some x1))) := Lm.eqn (md_both_b5_l ..) (.ite (.bind (md_pair_l ..) fun p1 => .xtry (fun v2 => (.bind (md_same_l ..) fun p3 => .xtry (fun v4 => (.ite (md_both_b5_l ..) .cst)) .cst)) .cst) .cst) fun n => (rfl)
theorem md_either_e (d : Nat) (σ : gM) : md_either (d + 1) σ =
  ((md_both d σ).bind fun p1 => gtry p1.2 (fun v2 =>
  md_either_b5 d p1.1 v2)
  (some (p1.1, none))) := Lm.eqn (md_either_l ..) (.bind (md_both_l ..) fun p1 => .xtry (fun v2 => (md_either_b5_l ..)) .cst) fun n => (rfl)
theorem md_either_b5_e (d : Nat) (σ : gM) (x1 : Int) : md_either_b5 d σ x1 =
  (if σ 119 25 = 52 then
  ((md_pair σ 19 x1).bind fun p1 => gtry p1.2 (fun v2 =>
    (md_both d p1.1).bind fun p3 => gtry p3.2 (fun v4 =>
      if 0 ≤ v2 ∧ v2 < 4004 then
        (md_either_b5 d (gW p3.1 139 v2 v4) v2)
        else none)
      (some (p3.1, none)))
    (some (p1.1, none)))
  else
  (some (σ, some x1))) := Lm.eqn (md_either_b5_l ..) (.ite (.bind (md_pair_l ..) fun p1 => .xtry (fun v2 => (.bind (md_both_l ..) fun p3 => .xtry (fun v4 => (.ite (md_either_b5_l ..) .cst)) .cst)) .cst) .cst) fun n => (rfl)
theorem md_e_e (d : Nat) (σ : gM) : md_e (d + 1) σ =
  ((md_either d σ).bind fun p1 => gtry p1.2 (fun v2 =>
  if p1.1 119 25 = 39 then
    (if 0 ≤ v2 ∧ v2 < 4004 then
      (if p1.1 135 v2 = 5 then
        (md_e_b31 d p1.1 v2 1)
        else
        (md_e_b31 d p1.1 v2 0))
      else none)
    else
    (some (p1.1, some v2)))
  (some (p1.1, none))) := Lm.eqn (md_e_l ..) (.bind (md_either_l ..) fun p1 => .xtry (fun v2 => (.ite (.ite (.ite (md_e_b31_l ..) (md_e_b31_l ..)) .cst) .cst)) .cst) fun n => (rfl)
theorem md_e_b31_e (d : Nat) (σ : gM) (x1 y0 : Int) : md_e_b31 d σ x1 y0 =
  (if 0 ≤ x1 ∧ x1 < 4004 then
  (if σ 145 x1 = 0 then
    (if y0 = 0 then
      (if 0 ≤ x1 ∧ x1 < 4004 then
        (if σ 135 x1 = 21 then
          (md_e_b66 d σ x1 y0)
          else
          (md_e_b56 d σ))
        else none)
      else
      (md_e_b66 d σ x1 y0))
    else
    (md_e_b56 d σ))
  else none) := Lm.eqn (md_e_b31_l ..) (.ite (.ite (.ite (.ite (.ite (md_e_b66_l ..) (md_e_b56_l ..)) .cst) (md_e_b66_l ..)) (md_e_b56_l ..)) .cst) fun n => (rfl)
theorem md_e_b56_e (d : Nat) (σ : gM) : md_e_b56 d σ =
  ((md_fails σ 2 (σ 119 26)).bind fun p1 =>
  gthr p1.1 p1.2) := Lm.eqn (md_e_b56_l ..) (.bind (md_fails_l ..) fun p1 => .cst) fun n => (rfl)
theorem md_e_b66_e (d : Nat) (σ : gM) (x1 x2 : Int) : md_e_b66 d σ x1 x2 =
  ((md_opens σ).bind fun p1 => gtry p1.2 (fun v2 =>
  if x2 = 0 then
    (md_e_b135 d p1.1 x1 x2)
    else
    (if 0 ≤ x1 ∧ x1 < 4004 then
      (if 0 ≤ x1 ∧ x1 < 4004 then
        ((md_localOf p1.1 (p1.1 142 x1) (p1.1 143 x1)).bind fun p3 =>
          if p3.2 < 0 then
          (if 0 ≤ p3.1 119 54 ∧ p3.1 119 54 < 51 then
            (if p3.1 152 (p3.1 119 54) = 12 then
              (if 0 ≤ x1 ∧ x1 < 4004 then
                ((md_fails p3.1 4 (p3.1 142 x1)).bind fun p5 =>
                  gthr p5.1 p5.2)
                else none)
              else
              (if 0 ≤ x1 ∧ x1 < 4004 then
                (if 0 ≤ x1 ∧ x1 < 4004 then
                  ((md_addLocal p3.1 (p3.1 142 x1) (p3.1 143 x1)).bind fun p4 =>
                    md_e_b135 d p4.1 x1 x2)
                  else none)
                else none))
            else none)
          else
          (md_e_b135 d p3.1 x1 x2))
        else none)
      else none))
  (some (p1.1, none))) := Lm.eqn (md_e_b66_l ..) (.bind (md_opens_l ..) fun p1 => .xtry (fun v2 => (.ite (md_e_b135_l ..) (.ite (.ite (.bind (md_localOf_l ..) fun p3 => (.ite (.ite (.ite (.ite (.bind (md_fails_l ..) fun p5 => .cst) .cst) (.ite (.ite (.bind (md_addLocal_l ..) fun p4 => (md_e_b135_l ..)) .cst) .cst)) .cst) (md_e_b135_l ..))) .cst) .cst))) .cst) fun n => (rfl)
theorem md_e_b135_e (d : Nat) (σ : gM) (x1 x2 : Int) : md_e_b135 d σ x1 x2 =
  ((md_take σ).bind fun p1 => gtry p1.2 (fun v2 =>
  (md_e d p1.1).bind fun p3 => gtry p3.2 (fun v4 =>
    if x2 = 0 then
      (md_e_b170 d (gW p3.1 119 28 (w32 ((p3.1 119 28) - 1))) x1 x2 v4 22 x1)
      else
      (md_e_b170 d (gW p3.1 119 28 (w32 ((p3.1 119 28) - 1))) x1 x2 v4 6 x1))
    (some (p3.1, none)))
  (some (p1.1, none))) := Lm.eqn (md_e_b135_l ..) (.bind (md_take_l ..) fun p1 => .xtry (fun v2 => (.bind (md_e_l ..) fun p3 => .xtry (fun v4 => (.ite (md_e_b170_l ..) (md_e_b170_l ..))) .cst)) .cst) fun n => (rfl)
theorem md_e_b170_e (d : Nat) (σ : gM) (x1 x2 x3 y0 y1 : Int) : md_e_b170 d σ x1 x2 x3 y0 y1 =
  (if 0 ≤ y1 ∧ y1 < 4004 then
  (if x2 = 0 then
    (if 0 ≤ x1 ∧ x1 < 4004 then
      (some (gW (gW σ 135 y1 y0) 140 x1 x3, some x1))
      else none)
    else
    (if 0 ≤ x1 ∧ x1 < 4004 then
      (some (gW (gW σ 135 y1 y0) 138 x1 x3, some x1))
      else none))
  else none) := Lm.eqn (md_e_b170_l ..) (.ite (.ite (.ite .cst .cst) (.ite .cst .cst)) .cst) fun n => (rfl)
def k_md_statement : List gC := [(0, 1, .aload_n 0, [], none), (1, 3, .getfield 436, [], none), (4, 2, .bipush 11, [], none), (6, 3, .if_icmp .eq 12, [(0, 18)], none),
  (9, 1, .aload_n 0, [], none), (10, 3, .getfield 436, [], none), (13, 2, .bipush 13, [], none), (15, 3, .if_icmp .ne 133, [(0, 148)], none),
  (18, 1, .aload_n 0, [], some [true, false, false]), (19, 3, .getfield 436, [], none), (22, 1, .istore_n 1, [], none), (23, 1, .aload_n 0, [], none),
  (24, 1, .iload_n 1, [], none), (25, 2, .bipush 11, [], none), (27, 3, .if_icmp .ne 8, [(0, 35)], none), (30, 2, .bipush 24, [], none),
  (32, 3, .goto 5, [(0, 37)], none), (35, 2, .bipush 25, [], none), (37, 3, .invokevirtual 505, [], some [true, true, false]), (40, 1, .istore_n 2, [], none),
  (41, 1, .aload_n 0, [], none), (42, 3, .invokevirtual 482, [], none), (45, 1, .aload_n 0, [], none), (46, 2, .bipush 30, [], none),
  (48, 3, .invokevirtual 495, [], none), (51, 1, .aload_n 0, [], none), (52, 3, .getfield 73, [], none), (55, 1, .iload_n 2, [], none),
  (56, 1, .aload_n 0, [], none), (57, 3, .invokevirtual 518, [], none), (60, 1, .iastore, [], none), (61, 1, .aload_n 0, [], none),
  (62, 2, .bipush 31, [], none), (64, 3, .invokevirtual 495, [], none), (67, 1, .aload_n 0, [], none), (68, 1, .dup, [], none),
  (69, 3, .getfield 498, [], none), (72, 1, .iload_n 1, [], none), (73, 2, .bipush 13, [], none), (75, 3, .if_icmp .ne 7, [(0, 82)], none),
  (78, 1, .iconst 1, [], none), (79, 3, .goto 4, [(0, 83)], none), (82, 1, .iconst 0, [], none), (83, 1, .iadd, [], some [true, true, true]),
  (84, 3, .putfield 498, [], none), (87, 1, .aload_n 0, [], none), (88, 3, .getfield 76, [], none), (91, 1, .iload_n 2, [], none),
  (92, 1, .aload_n 0, [], none), (93, 3, .invokevirtual 512, [], none), (96, 1, .iastore, [], none), (97, 1, .aload_n 0, [], none),
  (98, 1, .dup, [], none), (99, 3, .getfield 498, [], none), (102, 1, .iload_n 1, [], none), (103, 2, .bipush 13, [], none),
  (105, 3, .if_icmp .ne 7, [(0, 112)], none), (108, 1, .iconst 1, [], none), (109, 3, .goto 4, [(0, 113)], none), (112, 1, .iconst 0, [], none),
  (113, 1, .isub, [], some [true, true, true]), (114, 3, .putfield 498, [], none), (117, 1, .iload_n 1, [], none), (118, 2, .bipush 11, [], none),
  (120, 3, .if_icmp .ne 26, [(0, 146)], none), (123, 1, .aload_n 0, [], none), (124, 3, .getfield 436, [], none), (127, 2, .bipush 12, [], none),
  (129, 3, .if_icmp .ne 17, [(0, 146)], none), (132, 1, .aload_n 0, [], none), (133, 3, .invokevirtual 482, [], none), (136, 1, .aload_n 0, [], none),
  (137, 3, .getfield 79, [], none), (140, 1, .iload_n 2, [], none), (141, 1, .aload_n 0, [], none), (142, 3, .invokevirtual 512, [], none),
  (145, 1, .iastore, [], none), (146, 1, .iload_n 2, [], none), (147, 1, .ireturn, [], none), (148, 1, .aload_n 0, [], none),
  (149, 3, .getfield 436, [], none), (152, 2, .bipush 14, [], none), (154, 3, .if_icmp .ne 36, [(0, 190)], none), (157, 1, .aload_n 0, [], none),
  (158, 2, .bipush 26, [], none), (160, 3, .invokevirtual 505, [], none), (163, 1, .istore_n 1, [], none), (164, 1, .aload_n 0, [], none),
  (165, 3, .invokevirtual 482, [], none), (168, 1, .aload_n 0, [], none), (169, 3, .getfield 436, [], none), (172, 2, .bipush 37, [], none),
  (174, 3, .if_icmp .eq 84, [(0, 258)], none), (177, 1, .aload_n 0, [], none), (178, 3, .getfield 73, [], none), (181, 1, .iload_n 1, [], none),
  (182, 1, .aload_n 0, [], none), (183, 3, .invokevirtual 518, [], none), (186, 1, .iastore, [], none), (187, 3, .goto 71, [(0, 258)], none),
  (190, 1, .aload_n 0, [], none), (191, 3, .getfield 436, [], none), (194, 2, .bipush 15, [], none), (196, 3, .if_icmp .eq 12, [(0, 208)], none),
  (199, 1, .aload_n 0, [], none), (200, 3, .getfield 436, [], none), (203, 2, .bipush 16, [], none), (205, 3, .if_icmp .ne 48, [(0, 253)], none),
  (208, 1, .aload_n 0, [], some [true, false, false]), (209, 1, .aload_n 0, [], none), (210, 3, .getfield 436, [], none), (213, 2, .bipush 15, [], none),
  (215, 3, .if_icmp .ne 8, [(0, 223)], none), (218, 2, .bipush 27, [], none), (220, 3, .goto 5, [(0, 225)], none), (223, 2, .bipush 28, [], none),
  (225, 3, .invokevirtual 505, [], some [true, false, false]), (228, 1, .istore_n 1, [], none), (229, 1, .aload_n 0, [], none), (230, 3, .getfield 498, [], none),
  (233, 3, .ifCond .ne 13, [(0, 246)], none), (236, 1, .aload_n 0, [], none), (237, 1, .iconst 5, [], none), (238, 1, .aload_n 0, [], none),
  (239, 3, .getfield 433, [], none), (242, 3, .invokevirtual 446, [], none), (245, 1, .athrow, [], none), (246, 1, .aload_n 0, [], none),
  (247, 3, .invokevirtual 482, [], none), (250, 3, .goto 8, [(0, 258)], none), (253, 1, .aload_n 0, [], none), (254, 3, .invokevirtual 518, [], none),
  (257, 1, .istore_n 1, [], none), (258, 1, .aload_n 0, [], some [true, true, false]), (259, 2, .bipush 37, [], none), (261, 3, .invokevirtual 495, [], none),
  (264, 1, .iload_n 1, [], none), (265, 1, .ireturn, [], none)]
def e_md_statement (m : Nat) (r : Nat → gFt) : gE := (k_md_statement, f_md, c_md, [(505, 2, 20, 0, .inr (fn_md_newNode m)), (482, 1, 20, 5, .inr (fn_md_take m)), (495, 2, 20, 5, .inr (fn_md_pass m)), (518, 1, 20, 0, .inr (rec_md_added m 300 4)), (512, 1, 20, 0, .inr (r 0)), (446, 3, 20, 2, .inl (fn_md_fails m))], [], (m, 3274982699656803026051194311414793667032573831095823924770229538145542735991472635349531448438466538056218225482282636026032375011221485131406315094016), 0)
theorem ok_md_statement : gchk cX10_statement 3 k_md_statement = true := by decide +kernel
def k_md_block : List gC := [(0, 1, .aload_n 0, [], none), (1, 2, .bipush 32, [], none), (3, 3, .invokevirtual 495, [], none), (6, 1, .iconst (-1), [], none),
  (7, 1, .istore_n 1, [], none), (8, 1, .iconst (-1), [], none), (9, 1, .istore_n 2, [], none), (10, 1, .aload_n 0, [], some [true, true, true, false]),
  (11, 3, .getfield 436, [], none), (14, 2, .bipush 33, [], none), (16, 3, .if_icmp .eq 30, [(0, 46)], none), (19, 1, .aload_n 0, [], none),
  (20, 3, .invokevirtual 515, [], none), (23, 1, .istore_n 3, [], none), (24, 1, .iload_n 2, [], none), (25, 1, .iconst (-1), [], none),
  (26, 3, .if_icmp .ne 8, [(0, 34)], none), (29, 1, .iload_n 3, [], none), (30, 1, .istore_n 1, [], none), (31, 3, .goto 10, [(0, 41)], none),
  (34, 1, .aload_n 0, [], none), (35, 3, .getfield 82, [], none), (38, 1, .iload_n 2, [], none), (39, 1, .iload_n 3, [], none),
  (40, 1, .iastore, [], none), (41, 1, .iload_n 3, [], some [true, true, false, true]), (42, 1, .istore_n 2, [], none), (43, 3, .goto (-33), [(0, 10)], none),
  (46, 1, .aload_n 0, [], none), (47, 2, .bipush 33, [], none), (49, 3, .invokevirtual 495, [], none), (52, 1, .iload_n 1, [], none),
  (53, 1, .ireturn, [], none)]
def e_md_block (m : Nat) (r : Nat → gFt) : gE := (k_md_block, f_md, c_md, [(495, 2, 20, 5, .inr (fn_md_pass m)), (515, 1, 20, 0, .inr (r 1))], [], (m, 3274982699656803026051194311414793667032573831095823924770229538145542735991472635349531448438466538056218225482282636026032375011221485131406315094016), 0)
theorem ok_md_block : gchk cX10_block 4 k_md_block = true := by decide +kernel
def rec_md_block (m : Nat) : Nat → Nat → gFt
  | 0, _ => fun _ _ _ => none
  | d + 1, k => match k with
    | 0 => gG (e_md_block m (rec_md_block m d)) 4
    | _ => gG (e_md_statement m (rec_md_block m d)) 3
theorem mo_rec_md_block (m : Nat) : ∀ (d k : Nat), gMo (.inr (rec_md_block m d k))
  | 0, _ => gMo_none2
  | d + 1, 0 => gG_mo (E := e_md_block m (rec_md_block m d)) ⟨mo_md_pass m, ⟨mo_rec_md_block m d 1, trivial⟩⟩
  | d + 1, _ + 1 => gG_mo (E := e_md_statement m (rec_md_block m d)) ⟨mo_md_newNode m, ⟨mo_md_take m, ⟨mo_md_pass m, ⟨mo_rec_md_added m 300 4, ⟨mo_rec_md_block m d 0, ⟨mo_md_fails m, trivial⟩⟩⟩⟩⟩⟩
noncomputable def md_statement (d : Nat) (σ : gM) : Option (gM × Option Int) := lim (fun n => rec_md_block 227 d 1 n [(2, 119)] σ)
theorem md_statement_l (d : Nat) (σ : gM) : Lm (fun n => rec_md_block 227 d 1 n [(2, 119)] σ) (md_statement d σ) := .of fun n => mo_rec_md_block 227 d 1 n [(2, 119)] σ
theorem mb_md_statement (d : Nat) : gMos (e_md_statement 227 (rec_md_block 227 d)).2.2.2.1 := ⟨mo_md_newNode 227, ⟨mo_md_take 227, ⟨mo_md_pass 227, ⟨mo_rec_md_added 227 300 4, ⟨mo_rec_md_block 227 d 0, ⟨mo_md_fails 227, trivial⟩⟩⟩⟩⟩⟩
noncomputable def md_statement_b18 (d : Nat) (σ : gM) : Option (gM × Option Int) := lim (fun n => gB (e_md_statement 227 (rec_md_block 227 d)) rG gthr n 18 [(2, 119), (9, 0), (9, 0)] [] σ)
theorem md_statement_b18_l (d : Nat) (σ : gM) : Lm (fun n => gB (e_md_statement 227 (rec_md_block 227 d)) rG gthr n 18 [(2, 119), (9, 0), (9, 0)] [] σ) (md_statement_b18 d σ) := .of fun n => gB_le (gMos_spec (mb_md_statement d)) n _ _ _ σ
noncomputable def md_statement_b37 (d : Nat) (σ : gM) (x1 y0 : Int) : Option (gM × Option Int) := lim (fun n => gB (e_md_statement 227 (rec_md_block 227 d)) rG gthr n 37 [(2, 119), (0, x1), (9, 0)] [(0, y0), (2, 119)] σ)
theorem md_statement_b37_l (d : Nat) (σ : gM) (x1 y0 : Int) : Lm (fun n => gB (e_md_statement 227 (rec_md_block 227 d)) rG gthr n 37 [(2, 119), (0, x1), (9, 0)] [(0, y0), (2, 119)] σ) (md_statement_b37 d σ x1 y0) := .of fun n => gB_le (gMos_spec (mb_md_statement d)) n _ _ _ σ
noncomputable def md_statement_b83 (d : Nat) (σ : gM) (x1 x2 y0 y1 : Int) : Option (gM × Option Int) := lim (fun n => gB (e_md_statement 227 (rec_md_block 227 d)) rG gthr n 83 [(2, 119), (0, x1), (0, x2)] [(0, y0), (0, y1), (2, 119)] σ)
theorem md_statement_b83_l (d : Nat) (σ : gM) (x1 x2 y0 y1 : Int) : Lm (fun n => gB (e_md_statement 227 (rec_md_block 227 d)) rG gthr n 83 [(2, 119), (0, x1), (0, x2)] [(0, y0), (0, y1), (2, 119)] σ) (md_statement_b83 d σ x1 x2 y0 y1) := .of fun n => gB_le (gMos_spec (mb_md_statement d)) n _ _ _ σ
noncomputable def md_statement_b113 (d : Nat) (σ : gM) (x1 x2 y0 y1 : Int) : Option (gM × Option Int) := lim (fun n => gB (e_md_statement 227 (rec_md_block 227 d)) rG gthr n 113 [(2, 119), (0, x1), (0, x2)] [(0, y0), (0, y1), (2, 119)] σ)
theorem md_statement_b113_l (d : Nat) (σ : gM) (x1 x2 y0 y1 : Int) : Lm (fun n => gB (e_md_statement 227 (rec_md_block 227 d)) rG gthr n 113 [(2, 119), (0, x1), (0, x2)] [(0, y0), (0, y1), (2, 119)] σ) (md_statement_b113 d σ x1 x2 y0 y1) := .of fun n => gB_le (gMos_spec (mb_md_statement d)) n _ _ _ σ
noncomputable def md_statement_b208 (d : Nat) (σ : gM) : Option (gM × Option Int) := lim (fun n => gB (e_md_statement 227 (rec_md_block 227 d)) rG gthr n 208 [(2, 119), (9, 0), (9, 0)] [] σ)
theorem md_statement_b208_l (d : Nat) (σ : gM) : Lm (fun n => gB (e_md_statement 227 (rec_md_block 227 d)) rG gthr n 208 [(2, 119), (9, 0), (9, 0)] [] σ) (md_statement_b208 d σ) := .of fun n => gB_le (gMos_spec (mb_md_statement d)) n _ _ _ σ
noncomputable def md_statement_b225 (d : Nat) (σ : gM) (y0 : Int) : Option (gM × Option Int) := lim (fun n => gB (e_md_statement 227 (rec_md_block 227 d)) rG gthr n 225 [(2, 119), (9, 0), (9, 0)] [(0, y0), (2, 119)] σ)
theorem md_statement_b225_l (d : Nat) (σ : gM) (y0 : Int) : Lm (fun n => gB (e_md_statement 227 (rec_md_block 227 d)) rG gthr n 225 [(2, 119), (9, 0), (9, 0)] [(0, y0), (2, 119)] σ) (md_statement_b225 d σ y0) := .of fun n => gB_le (gMos_spec (mb_md_statement d)) n _ _ _ σ
noncomputable def md_statement_b258 (d : Nat) (σ : gM) (x1 : Int) : Option (gM × Option Int) := lim (fun n => gB (e_md_statement 227 (rec_md_block 227 d)) rG gthr n 258 [(2, 119), (0, x1), (9, 0)] [] σ)
theorem md_statement_b258_l (d : Nat) (σ : gM) (x1 : Int) : Lm (fun n => gB (e_md_statement 227 (rec_md_block 227 d)) rG gthr n 258 [(2, 119), (0, x1), (9, 0)] [] σ) (md_statement_b258 d σ x1) := .of fun n => gB_le (gMos_spec (mb_md_statement d)) n _ _ _ σ
noncomputable def md_block (d : Nat) (σ : gM) : Option (gM × Option Int) := lim (fun n => rec_md_block 227 d 0 n [(2, 119)] σ)
theorem md_block_l (d : Nat) (σ : gM) : Lm (fun n => rec_md_block 227 d 0 n [(2, 119)] σ) (md_block d σ) := .of fun n => mo_rec_md_block 227 d 0 n [(2, 119)] σ
theorem mb_md_block (d : Nat) : gMos (e_md_block 227 (rec_md_block 227 d)).2.2.2.1 := ⟨mo_md_pass 227, ⟨mo_rec_md_block 227 d 1, trivial⟩⟩
noncomputable def md_block_b10 (d : Nat) (σ : gM) (x1 x2 : Int) : Option (gM × Option Int) := lim (fun n => gB (e_md_block 227 (rec_md_block 227 d)) rG gthr n 10 [(2, 119), (0, x1), (0, x2), (9, 0)] [] σ)
theorem md_block_b10_l (d : Nat) (σ : gM) (x1 x2 : Int) : Lm (fun n => gB (e_md_block 227 (rec_md_block 227 d)) rG gthr n 10 [(2, 119), (0, x1), (0, x2), (9, 0)] [] σ) (md_block_b10 d σ x1 x2) := .of fun n => gB_le (gMos_spec (mb_md_block d)) n _ _ _ σ
noncomputable def md_block_b41 (d : Nat) (σ : gM) (x1 x3 : Int) : Option (gM × Option Int) := lim (fun n => gB (e_md_block 227 (rec_md_block 227 d)) rG gthr n 41 [(2, 119), (0, x1), (9, 0), (0, x3)] [] σ)
theorem md_block_b41_l (d : Nat) (σ : gM) (x1 x3 : Int) : Lm (fun n => gB (e_md_block 227 (rec_md_block 227 d)) rG gthr n 41 [(2, 119), (0, x1), (9, 0), (0, x3)] [] σ) (md_block_b41 d σ x1 x3) := .of fun n => gB_le (gMos_spec (mb_md_block d)) n _ _ _ σ
theorem md_statement_e (d : Nat) (σ : gM) : md_statement (d + 1) σ =
  (if σ 119 25 = 11 then
  (md_statement_b18 d σ)
  else
  (if σ 119 25 = 13 then
    (md_statement_b18 d σ)
    else
    (if σ 119 25 = 14 then
      ((md_newNode σ 26).bind fun p3 => gtry p3.2 (fun v4 =>
        (md_take p3.1).bind fun p5 => gtry p5.2 (fun v6 =>
          if p5.1 119 25 = 37 then
            (md_statement_b258 d p5.1 v4)
            else
            ((md_e 300 p5.1).bind fun p7 => gtry p7.2 (fun v8 =>
              if 0 ≤ v4 ∧ v4 < 4004 then
                (md_statement_b258 d (gW p7.1 138 v4 v8) v4)
                else none)
              (some (p7.1, none))))
          (some (p5.1, none)))
        (some (p3.1, none)))
      else
      (if σ 119 25 = 15 then
        (md_statement_b208 d σ)
        else
        (if σ 119 25 = 16 then
          (md_statement_b208 d σ)
          else
          ((md_e 300 σ).bind fun p1 => gtry p1.2 (fun v2 =>
            md_statement_b258 d p1.1 v2)
            (some (p1.1, none)))))))) := Lm.eqn (md_statement_l ..) (.ite (md_statement_b18_l ..) (.ite (md_statement_b18_l ..) (.ite (.bind (md_newNode_l ..) fun p3 => .xtry (fun v4 => (.bind (md_take_l ..) fun p5 => .xtry (fun v6 => (.ite (md_statement_b258_l ..) (.bind (md_e_l ..) fun p7 => .xtry (fun v8 => (.ite (md_statement_b258_l ..) .cst)) .cst))) .cst)) .cst) (.ite (md_statement_b208_l ..) (.ite (md_statement_b208_l ..) (.bind (md_e_l ..) fun p1 => .xtry (fun v2 => (md_statement_b258_l ..)) .cst)))))) fun n => (rfl)
theorem md_statement_b18_e (d : Nat) (σ : gM) : md_statement_b18 d σ =
  (if σ 119 25 = 11 then
  (md_statement_b37 d σ (σ 119 25) 24)
  else
  (md_statement_b37 d σ (σ 119 25) 25)) := Lm.eqn (md_statement_b18_l ..) (.ite (md_statement_b37_l ..) (md_statement_b37_l ..)) fun n => (rfl)
theorem md_statement_b37_e (d : Nat) (σ : gM) (x1 y0 : Int) : md_statement_b37 d σ x1 y0 =
  ((md_newNode σ y0).bind fun p1 => gtry p1.2 (fun v2 =>
  (md_take p1.1).bind fun p3 => gtry p3.2 (fun v4 =>
    (md_pass p3.1 30).bind fun p5 => gtry p5.2 (fun v6 =>
      (md_e 300 p5.1).bind fun p7 => gtry p7.2 (fun v8 =>
        if 0 ≤ v2 ∧ v2 < 4004 then
          ((md_pass (gW p7.1 138 v2 v8) 31).bind fun p9 => gtry p9.2 (fun v10 =>
            if x1 = 13 then
              (md_statement_b83 d p9.1 x1 v2 1 (p9.1 119 29))
              else
              (md_statement_b83 d p9.1 x1 v2 0 (p9.1 119 29)))
            (some (p9.1, none)))
          else none)
        (some (p7.1, none)))
      (some (p5.1, none)))
    (some (p3.1, none)))
  (some (p1.1, none))) := Lm.eqn (md_statement_b37_l ..) (.bind (md_newNode_l ..) fun p1 => .xtry (fun v2 => (.bind (md_take_l ..) fun p3 => .xtry (fun v4 => (.bind (md_pass_l ..) fun p5 => .xtry (fun v6 => (.bind (md_e_l ..) fun p7 => .xtry (fun v8 => (.ite (.bind (md_pass_l ..) fun p9 => .xtry (fun v10 => (.ite (md_statement_b83_l ..) (md_statement_b83_l ..))) .cst) .cst)) .cst)) .cst)) .cst)) .cst) fun n => (rfl)
theorem md_statement_b83_e (d : Nat) (σ : gM) (x1 x2 y0 y1 : Int) : md_statement_b83 d σ x1 x2 y0 y1 =
  ((md_block d (gW σ 119 29 (w32 (y1 + y0)))).bind fun p1 => gtry p1.2 (fun v2 =>
  if 0 ≤ x2 ∧ x2 < 4004 then
    (if x1 = 13 then
      (md_statement_b113 d (gW p1.1 139 x2 v2) x1 x2 1 (p1.1 119 29))
      else
      (md_statement_b113 d (gW p1.1 139 x2 v2) x1 x2 0 (p1.1 119 29)))
    else none)
  (some (p1.1, none))) := Lm.eqn (md_statement_b83_l ..) (.bind (md_block_l ..) fun p1 => .xtry (fun v2 => (.ite (.ite (md_statement_b113_l ..) (md_statement_b113_l ..)) .cst)) .cst) fun n => (rfl)
theorem md_statement_b113_e (d : Nat) (σ : gM) (x1 x2 y0 y1 : Int) : md_statement_b113 d σ x1 x2 y0 y1 =
  (if x1 = 11 then
  (if σ 119 25 = 12 then
    ((md_take (gW σ 119 29 (w32 (y1 - y0)))).bind fun p1 => gtry p1.2 (fun v2 =>
      (md_block d p1.1).bind fun p3 => gtry p3.2 (fun v4 =>
        if 0 ≤ x2 ∧ x2 < 4004 then
          (some (gW p3.1 140 x2 v4, some x2))
          else none)
        (some (p3.1, none)))
      (some (p1.1, none)))
    else
    (some (gW σ 119 29 (w32 (y1 - y0)), some x2)))
  else
  (some (gW σ 119 29 (w32 (y1 - y0)), some x2))) := Lm.eqn (md_statement_b113_l ..) (.ite (.ite (.bind (md_take_l ..) fun p1 => .xtry (fun v2 => (.bind (md_block_l ..) fun p3 => .xtry (fun v4 => (.ite .cst .cst)) .cst)) .cst) .cst) .cst) fun n => (rfl)
theorem md_statement_b208_e (d : Nat) (σ : gM) : md_statement_b208 d σ =
  (if σ 119 25 = 15 then
  (md_statement_b225 d σ 27)
  else
  (md_statement_b225 d σ 28)) := Lm.eqn (md_statement_b208_l ..) (.ite (md_statement_b225_l ..) (md_statement_b225_l ..)) fun n => (rfl)
theorem md_statement_b225_e (d : Nat) (σ : gM) (y0 : Int) : md_statement_b225 d σ y0 =
  ((md_newNode σ y0).bind fun p1 => gtry p1.2 (fun v2 =>
  if p1.1 119 29 = 0 then
    ((md_fails p1.1 5 (p1.1 119 26)).bind fun p5 =>
      gthr p5.1 p5.2)
    else
    ((md_take p1.1).bind fun p3 => gtry p3.2 (fun v4 =>
      md_statement_b258 d p3.1 v2)
      (some (p3.1, none))))
  (some (p1.1, none))) := Lm.eqn (md_statement_b225_l ..) (.bind (md_newNode_l ..) fun p1 => .xtry (fun v2 => (.ite (.bind (md_fails_l ..) fun p5 => .cst) (.bind (md_take_l ..) fun p3 => .xtry (fun v4 => (md_statement_b258_l ..)) .cst))) .cst) fun n => (rfl)
theorem md_statement_b258_e (d : Nat) (σ : gM) (x1 : Int) : md_statement_b258 d σ x1 =
  ((md_pass σ 37).bind fun p1 => gtry p1.2 (fun v2 =>
  some (p1.1, some x1))
  (some (p1.1, none))) := Lm.eqn (md_statement_b258_l ..) (.bind (md_pass_l ..) fun p1 => .xtry (fun v2 => .cst) .cst) fun n => (rfl)
theorem md_block_e (d : Nat) (σ : gM) : md_block (d + 1) σ =
  ((md_pass σ 32).bind fun p1 => gtry p1.2 (fun v2 =>
  md_block_b10 d p1.1 (-1) (-1))
  (some (p1.1, none))) := Lm.eqn (md_block_l ..) (.bind (md_pass_l ..) fun p1 => .xtry (fun v2 => (md_block_b10_l ..)) .cst) fun n => (rfl)
theorem md_block_b10_e (d : Nat) (σ : gM) (x1 x2 : Int) : md_block_b10 d σ x1 x2 =
  (if σ 119 25 = 33 then
  ((md_pass σ 33).bind fun p1 => gtry p1.2 (fun v2 =>
    some (p1.1, some x1))
    (some (p1.1, none)))
  else
  ((md_statement d σ).bind fun p3 => gtry p3.2 (fun v4 =>
    if x2 = (-1) then
      (md_block_b41 d p3.1 v4 v4)
      else
      (if 0 ≤ x2 ∧ x2 < 4004 then
        (md_block_b41 d (gW p3.1 141 x2 v4) x1 v4)
        else none))
    (some (p3.1, none)))) := Lm.eqn (md_block_b10_l ..) (.ite (.bind (md_pass_l ..) fun p1 => .xtry (fun v2 => .cst) .cst) (.bind (md_statement_l ..) fun p3 => .xtry (fun v4 => (.ite (md_block_b41_l ..) (.ite (md_block_b41_l ..) .cst))) .cst)) fun n => (rfl)
theorem md_block_b41_e (d : Nat) (σ : gM) (x1 x3 : Int) : md_block_b41 d σ x1 x3 =
  (md_block_b10 d σ x1 x3) := Lm.eqn (md_block_b41_l ..) (md_block_b10_l ..) fun n => (rfl)
def k_md_function : List gC := [(0, 1, .aload_n 0, [], none), (1, 2, .bipush 10, [], none), (3, 3, .invokevirtual 495, [], none), (6, 1, .aload_n 0, [], none),
  (7, 1, .iconst 1, [], none), (8, 3, .invokevirtual 476, [], none), (11, 1, .aload_n 0, [], none), (12, 3, .getfield 485, [], none),
  (15, 2, .bipush 50, [], none), (17, 3, .if_icmp .ne 13, [(0, 30)], none), (20, 1, .aload_n 0, [], none), (21, 1, .iconst 4, [], none),
  (22, 1, .aload_n 0, [], none), (23, 3, .getfield 433, [], none), (26, 3, .invokevirtual 446, [], none), (29, 1, .athrow, [], none),
  (30, 1, .iconst 0, [], none), (31, 1, .istore_n 1, [], none), (32, 1, .iload_n 1, [], some [true, true, false]), (33, 1, .aload_n 0, [], none),
  (34, 3, .getfield 485, [], none), (37, 3, .if_icmp .ge 47, [(0, 84)], none), (40, 1, .aload_n 0, [], none), (41, 1, .aload_n 0, [], none),
  (42, 3, .getfield 98, [], none), (45, 1, .iload_n 1, [], none), (46, 1, .iaload, [], none), (47, 1, .aload_n 0, [], none),
  (48, 3, .getfield 101, [], none), (51, 1, .iload_n 1, [], none), (52, 1, .iaload, [], none), (53, 1, .aload_n 0, [], none),
  (54, 3, .getfield 433, [], none), (57, 1, .aload_n 0, [], none), (58, 3, .getfield 460, [], none), (61, 3, .invokevirtual 491, [], none),
  (64, 3, .ifCond .eq 14, [(0, 78)], none), (67, 1, .aload_n 0, [], none), (68, 2, .bipush 6, [], none), (70, 1, .aload_n 0, [], none),
  (71, 3, .getfield 433, [], none), (74, 3, .invokevirtual 446, [], none), (77, 1, .athrow, [], none), (78, 3, .iinc 1 1, [], none),
  (81, 3, .goto (-49), [(0, 32)], none), (84, 1, .aload_n 0, [], none), (85, 3, .getfield 98, [], none), (88, 1, .aload_n 0, [], none),
  (89, 3, .getfield 485, [], none), (92, 1, .aload_n 0, [], none), (93, 3, .getfield 433, [], none), (96, 1, .iastore, [], none),
  (97, 1, .aload_n 0, [], none), (98, 3, .getfield 101, [], none), (101, 1, .aload_n 0, [], none), (102, 3, .getfield 485, [], none),
  (105, 1, .aload_n 0, [], none), (106, 3, .getfield 460, [], none), (109, 1, .iastore, [], none), (110, 1, .aload_n 0, [], none),
  (111, 3, .getfield 116, [], none), (114, 1, .aload_n 0, [], none), (115, 3, .getfield 485, [], none), (118, 1, .iconst 0, [], none),
  (119, 1, .iastore, [], none), (120, 1, .aload_n 0, [], none), (121, 3, .getfield 104, [], none), (124, 1, .aload_n 0, [], none),
  (125, 3, .getfield 485, [], none), (128, 1, .aload_n 0, [], none), (129, 3, .getfield 467, [], none), (132, 1, .iastore, [], none),
  (133, 1, .aload_n 0, [], none), (134, 1, .aload_n 0, [], none), (135, 3, .getfield 467, [], none), (138, 3, .putfield 470, [], none),
  (141, 1, .aload_n 0, [], none), (142, 1, .iconst 0, [], none), (143, 3, .putfield 498, [], none), (146, 1, .aload_n 0, [], none),
  (147, 3, .invokevirtual 482, [], none), (150, 1, .aload_n 0, [], none), (151, 2, .bipush 30, [], none), (153, 3, .invokevirtual 495, [], none),
  (156, 1, .aload_n 0, [], none), (157, 3, .getfield 436, [], none), (160, 2, .bipush 31, [], none), (162, 3, .if_icmp .eq 7, [(0, 169)], none),
  (165, 1, .iconst 1, [], none), (166, 3, .goto 4, [(0, 170)], none), (169, 1, .iconst 0, [], none), (170, 1, .istore_n 1, [], some [true, false, false]),
  (171, 1, .iload_n 1, [], some [true, true, false]), (172, 3, .ifCond .eq 106, [(0, 278)], none), (175, 1, .aload_n 0, [], none), (176, 1, .iconst 1, [], none),
  (177, 3, .invokevirtual 476, [], none), (180, 1, .aload_n 0, [], none), (181, 3, .getfield 116, [], none), (184, 1, .aload_n 0, [], none),
  (185, 3, .getfield 485, [], none), (188, 1, .iaload, [], none), (189, 2, .bipush 6, [], none), (191, 3, .if_icmp .ne 13, [(0, 204)], none),
  (194, 1, .aload_n 0, [], none), (195, 1, .iconst 4, [], none), (196, 1, .aload_n 0, [], none), (197, 3, .getfield 433, [], none),
  (200, 3, .invokevirtual 446, [], none), (203, 1, .athrow, [], none), (204, 1, .aload_n 0, [], none), (205, 1, .aload_n 0, [], none),
  (206, 3, .getfield 433, [], none), (209, 1, .aload_n 0, [], none), (210, 3, .getfield 460, [], none), (213, 3, .invokevirtual 501, [], none),
  (216, 3, .ifCond .lt 14, [(0, 230)], none), (219, 1, .aload_n 0, [], none), (220, 2, .bipush 6, [], none), (222, 1, .aload_n 0, [], none),
  (223, 3, .getfield 433, [], none), (226, 3, .invokevirtual 446, [], none), (229, 1, .athrow, [], none), (230, 1, .aload_n 0, [], none),
  (231, 1, .iconst 0, [], none), (232, 3, .invokevirtual 505, [], none), (235, 1, .pop, [], none), (236, 1, .aload_n 0, [], none),
  (237, 1, .aload_n 0, [], none), (238, 3, .getfield 433, [], none), (241, 1, .aload_n 0, [], none), (242, 3, .getfield 460, [], none),
  (245, 3, .invokevirtual 508, [], none), (248, 1, .aload_n 0, [], none), (249, 3, .invokevirtual 482, [], none), (252, 1, .aload_n 0, [], none),
  (253, 3, .getfield 436, [], none), (256, 2, .bipush 36, [], none), (258, 3, .if_icmp .ne 7, [(0, 265)], none), (261, 1, .iconst 1, [], none),
  (262, 3, .goto 4, [(0, 266)], none), (265, 1, .iconst 0, [], none), (266, 1, .istore_n 1, [], some [true, false, false]), (267, 1, .iload_n 1, [], none),
  (268, 3, .ifCond .eq (-97), [(0, 171)], none), (271, 1, .aload_n 0, [], none), (272, 3, .invokevirtual 482, [], none), (275, 3, .goto (-104), [(0, 171)], none),
  (278, 1, .aload_n 0, [], none), (279, 3, .getfield 110, [], none), (282, 1, .aload_n 0, [], none), (283, 3, .getfield 485, [], none),
  (286, 1, .aload_n 0, [], none), (287, 3, .getfield 116, [], none), (290, 1, .aload_n 0, [], none), (291, 3, .getfield 485, [], none),
  (294, 1, .iaload, [], none), (295, 1, .iastore, [], none), (296, 1, .aload_n 0, [], none), (297, 2, .bipush 31, [], none),
  (299, 3, .invokevirtual 495, [], none), (302, 1, .aload_n 0, [], none), (303, 3, .getfield 113, [], none), (306, 1, .aload_n 0, [], none),
  (307, 3, .getfield 485, [], none), (310, 1, .aload_n 0, [], none), (311, 3, .invokevirtual 512, [], none), (314, 1, .iastore, [], none),
  (315, 1, .aload_n 0, [], none), (316, 3, .getfield 107, [], none), (319, 1, .aload_n 0, [], none), (320, 3, .getfield 485, [], none),
  (323, 1, .aload_n 0, [], none), (324, 3, .getfield 467, [], none), (327, 1, .iastore, [], none), (328, 1, .aload_n 0, [], none),
  (329, 3, .getfield 104, [], none), (332, 1, .aload_n 0, [], none), (333, 3, .getfield 485, [], none), (336, 1, .iaload, [], none),
  (337, 1, .istore_n 2, [], none), (338, 1, .iload_n 2, [], some [true, false, true]), (339, 1, .aload_n 0, [], none), (340, 3, .getfield 467, [], none),
  (343, 3, .if_icmp .ge 46, [(0, 389)], none), (346, 1, .aload_n 0, [], none), (347, 3, .getfield 64, [], none), (350, 1, .iload_n 2, [], none),
  (351, 1, .iaload, [], none), (352, 1, .iconst 5, [], none), (353, 3, .if_icmp .ne 30, [(0, 383)], none), (356, 1, .aload_n 0, [], none),
  (357, 1, .aload_n 0, [], none), (358, 3, .getfield 85, [], none), (361, 1, .iload_n 2, [], none), (362, 1, .iaload, [], none),
  (363, 1, .aload_n 0, [], none), (364, 3, .getfield 88, [], none), (367, 1, .iload_n 2, [], none), (368, 1, .iaload, [], none),
  (369, 3, .invokevirtual 501, [], none), (372, 3, .ifCond .ge 11, [(0, 383)], none), (375, 1, .aload_n 0, [], none), (376, 3, .getfield 64, [], none),
  (379, 1, .iload_n 2, [], none), (380, 2, .bipush 7, [], none), (382, 1, .iastore, [], none), (383, 3, .iinc 2 1, [], some [true, false, true]),
  (386, 3, .goto (-48), [(0, 338)], none), (389, 1, .aload_n 0, [], none), (390, 1, .dup, [], none), (391, 3, .getfield 485, [], none),
  (394, 1, .iconst 1, [], none), (395, 1, .iadd, [], none), (396, 3, .putfield 485, [], none), (399, 1, .return_, [], none)]
def e_md_function (m : Nat) : gE := (k_md_function, f_md, c_md, [(495, 2, 20, 5, .inr (fn_md_pass m)), (476, 2, 20, 5, .inr (fn_md_need m)), (446, 3, 20, 2, .inl (fn_md_fails m)), (491, 5, 20, 0, .inl (fn_md_isWord m)), (482, 1, 20, 5, .inr (fn_md_take m)), (501, 3, 20, 0, .inl (fn_md_localOf m)), (505, 2, 20, 0, .inr (fn_md_newNode m)), (508, 3, 20, 5, .inl (fn_md_addLocal m)), (512, 1, 20, 0, .inr (rec_md_block m 60 0))], [], (m, 6713725728886747636553090072807993055711148768219378642365517534135219825365574310146053220716541988697373926306768218234638439961077281951841987380379648), 5)
theorem ok_md_function : gchk cX10_function 3 k_md_function = true := by decide +kernel
def fn_md_function (m : Nat) : gFt := gG (e_md_function m) 3
theorem mo_md_function (m : Nat) : gMo (.inr (fn_md_function m)) := gG_mo (E := e_md_function m) ⟨mo_md_pass m, ⟨mo_md_need m, ⟨mo_md_fails m, ⟨mo_md_isWord m, ⟨mo_md_take m, ⟨mo_md_localOf m, ⟨mo_md_newNode m, ⟨mo_md_addLocal m, ⟨mo_rec_md_block m 60 0, trivial⟩⟩⟩⟩⟩⟩⟩⟩⟩
noncomputable def md_function (σ : gM) : Option (gM × Option Int) := lim (fun n => fn_md_function 227 n [(2, 119)] σ)
theorem md_function_l (σ : gM) : Lm (fun n => fn_md_function 227 n [(2, 119)] σ) (md_function σ) := .of fun n => mo_md_function 227 n [(2, 119)] σ
theorem mb_md_function : gMos (e_md_function 227).2.2.2.1 := ⟨mo_md_pass 227, ⟨mo_md_need 227, ⟨mo_md_fails 227, ⟨mo_md_isWord 227, ⟨mo_md_take 227, ⟨mo_md_localOf 227, ⟨mo_md_newNode 227, ⟨mo_md_addLocal 227, ⟨mo_rec_md_block 227 60 0, trivial⟩⟩⟩⟩⟩⟩⟩⟩⟩
noncomputable def md_function_b32 (σ : gM) (x1 : Int) : Option (gM × Option Int) := lim (fun n => gB (e_md_function 227) rG gthr n 32 [(2, 119), (0, x1), (9, 0)] [] σ)
theorem md_function_b32_l (σ : gM) (x1 : Int) : Lm (fun n => gB (e_md_function 227) rG gthr n 32 [(2, 119), (0, x1), (9, 0)] [] σ) (md_function_b32 σ x1) := .of fun n => gB_le (gMos_spec (mb_md_function)) n _ _ _ σ
noncomputable def md_function_b170 (σ : gM) (y0 : Int) : Option (gM × Option Int) := lim (fun n => gB (e_md_function 227) rG gthr n 170 [(2, 119), (9, 0), (9, 0)] [(0, y0)] σ)
theorem md_function_b170_l (σ : gM) (y0 : Int) : Lm (fun n => gB (e_md_function 227) rG gthr n 170 [(2, 119), (9, 0), (9, 0)] [(0, y0)] σ) (md_function_b170 σ y0) := .of fun n => gB_le (gMos_spec (mb_md_function)) n _ _ _ σ
noncomputable def md_function_b171 (σ : gM) (x1 : Int) : Option (gM × Option Int) := lim (fun n => gB (e_md_function 227) rG gthr n 171 [(2, 119), (0, x1), (9, 0)] [] σ)
theorem md_function_b171_l (σ : gM) (x1 : Int) : Lm (fun n => gB (e_md_function 227) rG gthr n 171 [(2, 119), (0, x1), (9, 0)] [] σ) (md_function_b171 σ x1) := .of fun n => gB_le (gMos_spec (mb_md_function)) n _ _ _ σ
noncomputable def md_function_b266 (σ : gM) (y0 : Int) : Option (gM × Option Int) := lim (fun n => gB (e_md_function 227) rG gthr n 266 [(2, 119), (9, 0), (9, 0)] [(0, y0)] σ)
theorem md_function_b266_l (σ : gM) (y0 : Int) : Lm (fun n => gB (e_md_function 227) rG gthr n 266 [(2, 119), (9, 0), (9, 0)] [(0, y0)] σ) (md_function_b266 σ y0) := .of fun n => gB_le (gMos_spec (mb_md_function)) n _ _ _ σ
noncomputable def md_function_b338 (σ : gM) (x2 : Int) : Option (gM × Option Int) := lim (fun n => gB (e_md_function 227) rG gthr n 338 [(2, 119), (9, 0), (0, x2)] [] σ)
theorem md_function_b338_l (σ : gM) (x2 : Int) : Lm (fun n => gB (e_md_function 227) rG gthr n 338 [(2, 119), (9, 0), (0, x2)] [] σ) (md_function_b338 σ x2) := .of fun n => gB_le (gMos_spec (mb_md_function)) n _ _ _ σ
noncomputable def md_function_b383 (σ : gM) (x2 : Int) : Option (gM × Option Int) := lim (fun n => gB (e_md_function 227) rG gthr n 383 [(2, 119), (9, 0), (0, x2)] [] σ)
theorem md_function_b383_l (σ : gM) (x2 : Int) : Lm (fun n => gB (e_md_function 227) rG gthr n 383 [(2, 119), (9, 0), (0, x2)] [] σ) (md_function_b383 σ x2) := .of fun n => gB_le (gMos_spec (mb_md_function)) n _ _ _ σ
theorem md_function_e (σ : gM) : md_function σ =
  ((md_pass σ 10).bind fun p1 => gtry p1.2 (fun v2 =>
  (md_need p1.1 1).bind fun p3 => gtry p3.2 (fun v4 =>
    if p3.1 119 54 = 50 then
      ((md_fails p3.1 4 (p3.1 119 26)).bind fun p5 =>
        gthr p5.1 p5.2)
      else
      (md_function_b32 p3.1 0))
    (some (p3.1, none)))
  (some (p1.1, none))) := Lm.eqn (md_function_l ..) (.bind (md_pass_l ..) fun p1 => .xtry (fun v2 => (.bind (md_need_l ..) fun p3 => .xtry (fun v4 => (.ite (.bind (md_fails_l ..) fun p5 => .cst) (md_function_b32_l ..))) .cst)) .cst) fun n => (rfl)
theorem md_function_b32_e (σ : gM) (x1 : Int) : md_function_b32 σ x1 =
  (if x1 < σ 119 54 then
  (if 0 ≤ x1 ∧ x1 < 51 then
    (if 0 ≤ x1 ∧ x1 < 51 then
      ((md_isWord σ (σ 146 x1) (σ 147 x1) (σ 119 26) (σ 119 27)).bind fun p5 =>
        if p5.2 = 0 then
        (md_function_b32 p5.1 (w32 (x1 + 1)))
        else
        ((md_fails p5.1 6 (p5.1 119 26)).bind fun p6 =>
          gthr p6.1 p6.2))
      else none)
    else none)
  else
  (if 0 ≤ σ 119 54 ∧ σ 119 54 < 51 then
    (if 0 ≤ σ 119 54 ∧ σ 119 54 < 51 then
      (if 0 ≤ σ 119 54 ∧ σ 119 54 < 51 then
        (if 0 ≤ σ 119 54 ∧ σ 119 54 < 51 then
          ((md_take (gW (gW (gW (gW (gW (gW σ 146 (σ 119 54) (σ 119 26)) 147 (σ 119 54) (σ 119 27)) 152 (σ 119 54) 0) 148 (σ 119 54) (σ 119 43)) 119 44 (σ 119 43)) 119 29 0)).bind fun p1 => gtry p1.2 (fun v2 =>
            (md_pass p1.1 30).bind fun p3 => gtry p3.2 (fun v4 =>
              if p3.1 119 25 = 31 then
                (md_function_b170 p3.1 0)
                else
                (md_function_b170 p3.1 1))
              (some (p3.1, none)))
            (some (p1.1, none)))
          else none)
        else none)
      else none)
    else none)) := Lm.eqn (md_function_b32_l ..) (.ite (.ite (.ite (.bind (md_isWord_l ..) fun p5 => (.ite (md_function_b32_l ..) (.bind (md_fails_l ..) fun p6 => .cst))) .cst) .cst) (.ite (.ite (.ite (.ite (.bind (md_take_l ..) fun p1 => .xtry (fun v2 => (.bind (md_pass_l ..) fun p3 => .xtry (fun v4 => (.ite (md_function_b170_l ..) (md_function_b170_l ..))) .cst)) .cst) .cst) .cst) .cst) .cst)) fun n => (rfl)
theorem md_function_b170_e (σ : gM) (y0 : Int) : md_function_b170 σ y0 =
  (md_function_b171 σ y0) := Lm.eqn (md_function_b170_l ..) (md_function_b171_l ..) fun n => (rfl)
theorem md_function_b171_e (σ : gM) (x1 : Int) : md_function_b171 σ x1 =
  (if x1 = 0 then
  (if 0 ≤ σ 119 54 ∧ σ 119 54 < 51 then
    (if 0 ≤ σ 119 54 ∧ σ 119 54 < 51 then
      ((md_pass (gW σ 150 (σ 119 54) (σ 152 (σ 119 54))) 31).bind fun p1 => gtry p1.2 (fun v2 =>
        (md_block 60 p1.1).bind fun p3 => gtry p3.2 (fun v4 =>
          if 0 ≤ p1.1 119 54 ∧ p1.1 119 54 < 51 then
            (if 0 ≤ p3.1 119 54 ∧ p3.1 119 54 < 51 then
              (if 0 ≤ p3.1 119 54 ∧ p3.1 119 54 < 51 then
                (md_function_b338 (gW (gW p3.1 151 (p1.1 119 54) v4) 149 (p3.1 119 54) (p3.1 119 43)) (p3.1 148 (p3.1 119 54)))
                else none)
              else none)
            else none)
          (some (p3.1, none)))
        (some (p1.1, none)))
      else none)
    else none)
  else
  ((md_need σ 1).bind fun p5 => gtry p5.2 (fun v6 =>
    if 0 ≤ p5.1 119 54 ∧ p5.1 119 54 < 51 then
      (if p5.1 152 (p5.1 119 54) = 6 then
        ((md_fails p5.1 4 (p5.1 119 26)).bind fun p14 =>
          gthr p14.1 p14.2)
        else
        ((md_localOf p5.1 (p5.1 119 26) (p5.1 119 27)).bind fun p7 =>
          if p7.2 < 0 then
          ((md_newNode p7.1 0).bind fun p8 => gtry p8.2 (fun v9 =>
            (md_addLocal p8.1 (p8.1 119 26) (p8.1 119 27)).bind fun p10 =>
              (md_take p10.1).bind fun p11 => gtry p11.2 (fun v12 =>
              if p11.1 119 25 = 36 then
                (md_function_b266 p11.1 1)
                else
                (md_function_b266 p11.1 0))
              (some (p11.1, none)))
            (some (p8.1, none)))
          else
          ((md_fails p7.1 6 (p7.1 119 26)).bind fun p13 =>
            gthr p13.1 p13.2)))
      else none)
    (some (p5.1, none)))) := Lm.eqn (md_function_b171_l ..) (.ite (.ite (.ite (.bind (md_pass_l ..) fun p1 => .xtry (fun v2 => (.bind (md_block_l ..) fun p3 => .xtry (fun v4 => (.ite (.ite (.ite (md_function_b338_l ..) .cst) .cst) .cst)) .cst)) .cst) .cst) .cst) (.bind (md_need_l ..) fun p5 => .xtry (fun v6 => (.ite (.ite (.bind (md_fails_l ..) fun p14 => .cst) (.bind (md_localOf_l ..) fun p7 => (.ite (.bind (md_newNode_l ..) fun p8 => .xtry (fun v9 => (.bind (md_addLocal_l ..) fun p10 => (.bind (md_take_l ..) fun p11 => .xtry (fun v12 => (.ite (md_function_b266_l ..) (md_function_b266_l ..))) .cst))) .cst) (.bind (md_fails_l ..) fun p13 => .cst)))) .cst)) .cst)) fun n => (rfl)
theorem md_function_b266_e (σ : gM) (y0 : Int) : md_function_b266 σ y0 =
  (if y0 = 0 then
  (md_function_b171 σ y0)
  else
  ((md_take σ).bind fun p1 => gtry p1.2 (fun v2 =>
    md_function_b171 p1.1 y0)
    (some (p1.1, none)))) := Lm.eqn (md_function_b266_l ..) (.ite (md_function_b171_l ..) (.bind (md_take_l ..) fun p1 => .xtry (fun v2 => (md_function_b171_l ..)) .cst)) fun n => (rfl)
theorem md_function_b338_e (σ : gM) (x2 : Int) : md_function_b338 σ x2 =
  (if x2 < σ 119 43 then
  (if 0 ≤ x2 ∧ x2 < 4004 then
    (if σ 135 x2 = 5 then
      (if 0 ≤ x2 ∧ x2 < 4004 then
        (if 0 ≤ x2 ∧ x2 < 4004 then
          ((md_localOf σ (σ 142 x2) (σ 143 x2)).bind fun p1 =>
            if p1.2 < 0 then
            (if 0 ≤ x2 ∧ x2 < 4004 then
              (md_function_b383 (gW p1.1 135 x2 7) x2)
              else none)
            else
            (md_function_b383 p1.1 x2))
          else none)
        else none)
      else
      (md_function_b383 σ x2))
    else none)
  else
  (some (gW σ 119 54 (w32 ((σ 119 54) + 1)), some 0))) := Lm.eqn (md_function_b338_l ..) (.ite (.ite (.ite (.ite (.ite (.bind (md_localOf_l ..) fun p1 => (.ite (.ite (md_function_b383_l ..) .cst) (md_function_b383_l ..))) .cst) .cst) (md_function_b383_l ..)) .cst) .cst) fun n => (rfl)
theorem md_function_b383_e (σ : gM) (x2 : Int) : md_function_b383 σ x2 =
  (md_function_b338 σ (w32 (x2 + 1))) := Lm.eqn (md_function_b383_l ..) (md_function_b338_l ..) fun n => (rfl)
def k_md_readText : List gC := [(0, 1, .aload_n 0, [], none), (1, 1, .iconst 0, [], none), (2, 3, .putfield 423, [], none), (5, 1, .aload_n 0, [], none),
  (6, 1, .iconst 0, [], none), (7, 3, .putfield 473, [], none), (10, 1, .aload_n 0, [], none), (11, 1, .iconst 0, [], none),
  (12, 3, .putfield 485, [], none), (15, 1, .aload_n 0, [], none), (16, 1, .iconst 0, [], none), (17, 3, .putfield 467, [], none),
  (20, 1, .aload_n 0, [], none), (21, 3, .invokevirtual 482, [], none), (24, 1, .aload_n 0, [], some [true]), (25, 3, .invokevirtual 488, [], none),
  (28, 1, .aload_n 0, [], none), (29, 3, .getfield 436, [], none), (32, 3, .ifCond .ne (-8), [(0, 24)], none), (35, 1, .return_, [], none)]
def e_md_readText (m : Nat) : gE := (k_md_readText, f_md, c_md, [(482, 1, 20, 5, .inr (fn_md_take m)), (488, 1, 20, 5, .inr (fn_md_function m))], [], (m, 6713725728886747636553090072807993055711148768219378642365517534135219825365574310146053220716541988697373926306768218234638439961077281951841987380379648), 5)
theorem ok_md_readText : gchk cX10_readText 1 k_md_readText = true := by decide +kernel
def fn_md_readText (m : Nat) : gFt := gG (e_md_readText m) 1
theorem mo_md_readText (m : Nat) : gMo (.inr (fn_md_readText m)) := gG_mo (E := e_md_readText m) ⟨mo_md_take m, ⟨mo_md_function m, trivial⟩⟩
noncomputable def md_readText (σ : gM) : Option (gM × Option Int) := lim (fun n => fn_md_readText 227 n [(2, 119)] σ)
theorem md_readText_l (σ : gM) : Lm (fun n => fn_md_readText 227 n [(2, 119)] σ) (md_readText σ) := .of fun n => mo_md_readText 227 n [(2, 119)] σ
theorem mb_md_readText : gMos (e_md_readText 227).2.2.2.1 := ⟨mo_md_take 227, ⟨mo_md_function 227, trivial⟩⟩
noncomputable def md_readText_b24 (σ : gM) : Option (gM × Option Int) := lim (fun n => gB (e_md_readText 227) rG gthr n 24 [(2, 119)] [] σ)
theorem md_readText_b24_l (σ : gM) : Lm (fun n => gB (e_md_readText 227) rG gthr n 24 [(2, 119)] [] σ) (md_readText_b24 σ) := .of fun n => gB_le (gMos_spec (mb_md_readText)) n _ _ _ σ
theorem md_readText_e (σ : gM) : md_readText σ =
  ((md_take (gW (gW (gW (gW σ 119 24 0) 119 28 0) 119 54 0) 119 43 0)).bind fun p1 => gtry p1.2 (fun v2 =>
  md_readText_b24 p1.1)
  (some (p1.1, none))) := Lm.eqn (md_readText_l ..) (.bind (md_take_l ..) fun p1 => .xtry (fun v2 => (md_readText_b24_l ..)) .cst) fun n => (rfl)
theorem md_readText_b24_e (σ : gM) : md_readText_b24 σ =
  ((md_function σ).bind fun p1 => gtry p1.2 (fun v2 =>
  if p1.1 119 25 = 0 then
    (some (p1.1, some 0))
    else
    (md_readText_b24 p1.1))
  (some (p1.1, none))) := Lm.eqn (md_readText_b24_l ..) (.bind (md_function_l ..) fun p1 => .xtry (fun v2 => (.ite .cst (md_readText_b24_l ..))) .cst) fun n => (rfl)
def k_md_number : List gC := [(0, 1, .aload_n 0, [], none), (1, 3, .getfield 91, [], none), (4, 1, .iload_n 1, [], none), (5, 1, .aload_n 0, [], none),
  (6, 3, .getfield 567, [], none), (9, 1, .iastore, [], none), (10, 1, .aload_n 0, [], none), (11, 1, .dup, [], none),
  (12, 3, .getfield 567, [], none), (15, 1, .iconst 1, [], none), (16, 1, .iadd, [], none), (17, 3, .putfield 567, [], none),
  (20, 1, .aload_n 0, [], none), (21, 3, .getfield 73, [], none), (24, 1, .iload_n 1, [], none), (25, 1, .iaload, [], none),
  (26, 1, .iconst (-1), [], none), (27, 3, .if_icmp .eq 13, [(0, 40)], none), (30, 1, .aload_n 0, [], none), (31, 1, .aload_n 0, [], none),
  (32, 3, .getfield 73, [], none), (35, 1, .iload_n 1, [], none), (36, 1, .iaload, [], none), (37, 3, .invokevirtual 619, [], none),
  (40, 1, .aload_n 0, [], some [true, true, false, false]), (41, 3, .getfield 64, [], none), (44, 1, .iload_n 1, [], none), (45, 1, .iaload, [], none),
  (46, 2, .bipush 24, [], none), (48, 3, .if_icmp .eq 25, [(0, 73)], none), (51, 1, .aload_n 0, [], none), (52, 3, .getfield 64, [], none),
  (55, 1, .iload_n 1, [], none), (56, 1, .iaload, [], none), (57, 2, .bipush 25, [], none), (59, 3, .if_icmp .eq 14, [(0, 73)], none),
  (62, 1, .aload_n 0, [], none), (63, 3, .getfield 64, [], none), (66, 1, .iload_n 1, [], none), (67, 1, .iaload, [], none),
  (68, 2, .bipush 23, [], none), (70, 3, .if_icmp .ne 7, [(0, 77)], none), (73, 1, .iconst 1, [], some [true, true, false, false]), (74, 3, .goto 4, [(0, 78)], none),
  (77, 1, .iconst 0, [], none), (78, 1, .istore_n 2, [], some [true, true, false, false]), (79, 1, .aload_n 0, [], none), (80, 3, .getfield 64, [], none),
  (83, 1, .iload_n 1, [], none), (84, 1, .iaload, [], none), (85, 1, .iconst 3, [], none), (86, 3, .if_icmp .eq 38, [(0, 124)], none),
  (89, 1, .aload_n 0, [], none), (90, 3, .getfield 76, [], none), (93, 1, .iload_n 1, [], none), (94, 1, .iaload, [], none),
  (95, 1, .istore_n 3, [], none), (96, 1, .iload_n 3, [], some [true, true, true, true]), (97, 1, .iconst (-1), [], none), (98, 3, .if_icmp .eq 26, [(0, 124)], none),
  (101, 1, .aload_n 0, [], none), (102, 1, .iload_n 3, [], none), (103, 3, .invokevirtual 619, [], none), (106, 1, .iload_n 2, [], none),
  (107, 3, .ifCond .eq 12, [(0, 119)], none), (110, 1, .aload_n 0, [], none), (111, 3, .getfield 82, [], none), (114, 1, .iload_n 3, [], none),
  (115, 1, .iaload, [], none), (116, 3, .goto 4, [(0, 120)], none), (119, 1, .iconst (-1), [], none), (120, 1, .istore_n 3, [], some [true, true, true, false]),
  (121, 3, .goto (-25), [(0, 96)], none), (124, 1, .aload_n 0, [], some [true, true, true, false]), (125, 3, .getfield 79, [], none), (128, 1, .iload_n 1, [], none),
  (129, 1, .iaload, [], none), (130, 1, .istore_n 3, [], none), (131, 1, .iload_n 3, [], some [true, false, true, true]), (132, 1, .iconst (-1), [], none),
  (133, 3, .if_icmp .eq 26, [(0, 159)], none), (136, 1, .aload_n 0, [], none), (137, 1, .iload_n 3, [], none), (138, 3, .invokevirtual 619, [], none),
  (141, 1, .iload_n 2, [], none), (142, 3, .ifCond .eq 12, [(0, 154)], none), (145, 1, .aload_n 0, [], none), (146, 3, .getfield 82, [], none),
  (149, 1, .iload_n 3, [], none), (150, 1, .iaload, [], none), (151, 3, .goto 4, [(0, 155)], none), (154, 1, .iconst (-1), [], none),
  (155, 1, .istore_n 3, [], some [true, false, true, false]), (156, 3, .goto (-25), [(0, 131)], none), (159, 1, .return_, [], none)]
def e_md_number (m : Nat) (r : Nat → gFn) : gE := (k_md_number, f_md, c_md, [(619, 2, 20, 5, .inl (r 0))], [], (m, 53631231719770388398296099992823384509917463282369573510894245774887056120294187907207497192667613710760127432768244948613546154389321998058382957530316800), 5)
theorem ok_md_number : gchk cX10_number 4 k_md_number = true := by decide +kernel
def rec_md_number (m : Nat) : Nat → Nat → gFn
  | 0, _ => fun _ _ _ => none
  | d + 1, k => match k with
    | _ => gF (e_md_number m (rec_md_number m d)) 4
theorem mo_rec_md_number (m : Nat) : ∀ (d k : Nat), gMo (.inl (rec_md_number m d k))
  | 0, _ => gMo_none
  | d + 1, _ => gF_mo (E := e_md_number m (rec_md_number m d)) ⟨mo_rec_md_number m d 0, trivial⟩
noncomputable def md_number (d : Nat) (σ : gM) (x1 : Int) : Option (gM × Int) := lim (fun n => rec_md_number 227 d 0 n [(2, 119), (0, x1)] σ)
theorem md_number_l (d : Nat) (σ : gM) (x1 : Int) : Lm (fun n => rec_md_number 227 d 0 n [(2, 119), (0, x1)] σ) (md_number d σ x1) := .of fun n => mo_rec_md_number 227 d 0 n [(2, 119), (0, x1)] σ
theorem mb_md_number (d : Nat) : gMos (e_md_number 227 (rec_md_number 227 d)).2.2.2.1 := ⟨mo_rec_md_number 227 d 0, trivial⟩
noncomputable def md_number_b40 (d : Nat) (σ : gM) (x1 : Int) : Option (gM × Int) := lim (fun n => gB (e_md_number 227 (rec_md_number 227 d)) rF tF n 40 [(2, 119), (0, x1), (9, 0), (9, 0)] [] σ)
theorem md_number_b40_l (d : Nat) (σ : gM) (x1 : Int) : Lm (fun n => gB (e_md_number 227 (rec_md_number 227 d)) rF tF n 40 [(2, 119), (0, x1), (9, 0), (9, 0)] [] σ) (md_number_b40 d σ x1) := .of fun n => gB_le (gMos_spec (mb_md_number d)) n _ _ _ σ
noncomputable def md_number_b73 (d : Nat) (σ : gM) (x1 : Int) : Option (gM × Int) := lim (fun n => gB (e_md_number 227 (rec_md_number 227 d)) rF tF n 73 [(2, 119), (0, x1), (9, 0), (9, 0)] [] σ)
theorem md_number_b73_l (d : Nat) (σ : gM) (x1 : Int) : Lm (fun n => gB (e_md_number 227 (rec_md_number 227 d)) rF tF n 73 [(2, 119), (0, x1), (9, 0), (9, 0)] [] σ) (md_number_b73 d σ x1) := .of fun n => gB_le (gMos_spec (mb_md_number d)) n _ _ _ σ
noncomputable def md_number_b78 (d : Nat) (σ : gM) (x1 y0 : Int) : Option (gM × Int) := lim (fun n => gB (e_md_number 227 (rec_md_number 227 d)) rF tF n 78 [(2, 119), (0, x1), (9, 0), (9, 0)] [(0, y0)] σ)
theorem md_number_b78_l (d : Nat) (σ : gM) (x1 y0 : Int) : Lm (fun n => gB (e_md_number 227 (rec_md_number 227 d)) rF tF n 78 [(2, 119), (0, x1), (9, 0), (9, 0)] [(0, y0)] σ) (md_number_b78 d σ x1 y0) := .of fun n => gB_le (gMos_spec (mb_md_number d)) n _ _ _ σ
noncomputable def md_number_b96 (d : Nat) (σ : gM) (x1 x2 x3 : Int) : Option (gM × Int) := lim (fun n => gB (e_md_number 227 (rec_md_number 227 d)) rF tF n 96 [(2, 119), (0, x1), (0, x2), (0, x3)] [] σ)
theorem md_number_b96_l (d : Nat) (σ : gM) (x1 x2 x3 : Int) : Lm (fun n => gB (e_md_number 227 (rec_md_number 227 d)) rF tF n 96 [(2, 119), (0, x1), (0, x2), (0, x3)] [] σ) (md_number_b96 d σ x1 x2 x3) := .of fun n => gB_le (gMos_spec (mb_md_number d)) n _ _ _ σ
noncomputable def md_number_b120 (d : Nat) (σ : gM) (x1 x2 y0 : Int) : Option (gM × Int) := lim (fun n => gB (e_md_number 227 (rec_md_number 227 d)) rF tF n 120 [(2, 119), (0, x1), (0, x2), (9, 0)] [(0, y0)] σ)
theorem md_number_b120_l (d : Nat) (σ : gM) (x1 x2 y0 : Int) : Lm (fun n => gB (e_md_number 227 (rec_md_number 227 d)) rF tF n 120 [(2, 119), (0, x1), (0, x2), (9, 0)] [(0, y0)] σ) (md_number_b120 d σ x1 x2 y0) := .of fun n => gB_le (gMos_spec (mb_md_number d)) n _ _ _ σ
noncomputable def md_number_b124 (d : Nat) (σ : gM) (x1 x2 : Int) : Option (gM × Int) := lim (fun n => gB (e_md_number 227 (rec_md_number 227 d)) rF tF n 124 [(2, 119), (0, x1), (0, x2), (9, 0)] [] σ)
theorem md_number_b124_l (d : Nat) (σ : gM) (x1 x2 : Int) : Lm (fun n => gB (e_md_number 227 (rec_md_number 227 d)) rF tF n 124 [(2, 119), (0, x1), (0, x2), (9, 0)] [] σ) (md_number_b124 d σ x1 x2) := .of fun n => gB_le (gMos_spec (mb_md_number d)) n _ _ _ σ
noncomputable def md_number_b131 (d : Nat) (σ : gM) (x2 x3 : Int) : Option (gM × Int) := lim (fun n => gB (e_md_number 227 (rec_md_number 227 d)) rF tF n 131 [(2, 119), (9, 0), (0, x2), (0, x3)] [] σ)
theorem md_number_b131_l (d : Nat) (σ : gM) (x2 x3 : Int) : Lm (fun n => gB (e_md_number 227 (rec_md_number 227 d)) rF tF n 131 [(2, 119), (9, 0), (0, x2), (0, x3)] [] σ) (md_number_b131 d σ x2 x3) := .of fun n => gB_le (gMos_spec (mb_md_number d)) n _ _ _ σ
noncomputable def md_number_b155 (d : Nat) (σ : gM) (x2 y0 : Int) : Option (gM × Int) := lim (fun n => gB (e_md_number 227 (rec_md_number 227 d)) rF tF n 155 [(2, 119), (9, 0), (0, x2), (9, 0)] [(0, y0)] σ)
theorem md_number_b155_l (d : Nat) (σ : gM) (x2 y0 : Int) : Lm (fun n => gB (e_md_number 227 (rec_md_number 227 d)) rF tF n 155 [(2, 119), (9, 0), (0, x2), (9, 0)] [(0, y0)] σ) (md_number_b155 d σ x2 y0) := .of fun n => gB_le (gMos_spec (mb_md_number d)) n _ _ _ σ
theorem md_number_e (d : Nat) (σ : gM) (x1 : Int) : md_number (d + 1) σ x1 =
  (if 0 ≤ x1 ∧ x1 < 4004 then
  (if 0 ≤ x1 ∧ x1 < 4004 then
    (if σ 138 x1 = (-1) then
      (md_number_b40 d (gW (gW σ 144 x1 (σ 119 57)) 119 57 (w32 ((σ 119 57) + 1))) x1)
      else
      (if 0 ≤ x1 ∧ x1 < 4004 then
        ((md_number d (gW (gW σ 144 x1 (σ 119 57)) 119 57 (w32 ((σ 119 57) + 1))) (σ 138 x1)).bind fun p1 =>
          md_number_b40 d p1.1 x1)
        else none))
    else none)
  else none) := Lm.eqn (md_number_l ..) (.ite (.ite (.ite (md_number_b40_l ..) (.ite (.bind (md_number_l ..) fun p1 => (md_number_b40_l ..)) .cst)) .cst) .cst) fun n => (rfl)
theorem md_number_b40_e (d : Nat) (σ : gM) (x1 : Int) : md_number_b40 d σ x1 =
  (if 0 ≤ x1 ∧ x1 < 4004 then
  (if σ 135 x1 = 24 then
    (md_number_b73 d σ x1)
    else
    (if 0 ≤ x1 ∧ x1 < 4004 then
      (if σ 135 x1 = 25 then
        (md_number_b73 d σ x1)
        else
        (if 0 ≤ x1 ∧ x1 < 4004 then
          (if σ 135 x1 = 23 then
            (md_number_b73 d σ x1)
            else
            (md_number_b78 d σ x1 0))
          else none))
      else none))
  else none) := Lm.eqn (md_number_b40_l ..) (.ite (.ite (md_number_b73_l ..) (.ite (.ite (md_number_b73_l ..) (.ite (.ite (md_number_b73_l ..) (md_number_b78_l ..)) .cst)) .cst)) .cst) fun n => (rfl)
theorem md_number_b73_e (d : Nat) (σ : gM) (x1 : Int) : md_number_b73 d σ x1 =
  (md_number_b78 d σ x1 1) := Lm.eqn (md_number_b73_l ..) (md_number_b78_l ..) fun n => (rfl)
theorem md_number_b78_e (d : Nat) (σ : gM) (x1 y0 : Int) : md_number_b78 d σ x1 y0 =
  (if 0 ≤ x1 ∧ x1 < 4004 then
  (if σ 135 x1 = 3 then
    (md_number_b124 d σ x1 y0)
    else
    (if 0 ≤ x1 ∧ x1 < 4004 then
      (md_number_b96 d σ x1 y0 (σ 139 x1))
      else none))
  else none) := Lm.eqn (md_number_b78_l ..) (.ite (.ite (md_number_b124_l ..) (.ite (md_number_b96_l ..) .cst)) .cst) fun n => (rfl)
theorem md_number_b96_e (d : Nat) (σ : gM) (x1 x2 x3 : Int) : md_number_b96 d σ x1 x2 x3 =
  (if x3 = (-1) then
  (md_number_b124 d σ x1 x2)
  else
  ((md_number d σ x3).bind fun p1 =>
    if x2 = 0 then
    (md_number_b120 d p1.1 x1 x2 (-1))
    else
    (if 0 ≤ x3 ∧ x3 < 4004 then
      (md_number_b120 d p1.1 x1 x2 (p1.1 141 x3))
      else none))) := Lm.eqn (md_number_b96_l ..) (.ite (md_number_b124_l ..) (.bind (md_number_l ..) fun p1 => (.ite (md_number_b120_l ..) (.ite (md_number_b120_l ..) .cst)))) fun n => (rfl)
theorem md_number_b120_e (d : Nat) (σ : gM) (x1 x2 y0 : Int) : md_number_b120 d σ x1 x2 y0 =
  (md_number_b96 d σ x1 x2 y0) := Lm.eqn (md_number_b120_l ..) (md_number_b96_l ..) fun n => (rfl)
theorem md_number_b124_e (d : Nat) (σ : gM) (x1 x2 : Int) : md_number_b124 d σ x1 x2 =
  (if 0 ≤ x1 ∧ x1 < 4004 then
  (md_number_b131 d σ x2 (σ 140 x1))
  else none) := Lm.eqn (md_number_b124_l ..) (.ite (md_number_b131_l ..) .cst) fun n => (rfl)
theorem md_number_b131_e (d : Nat) (σ : gM) (x2 x3 : Int) : md_number_b131 d σ x2 x3 =
  (if x3 = (-1) then
  (some (σ, 0))
  else
  ((md_number d σ x3).bind fun p1 =>
    if x2 = 0 then
    (md_number_b155 d p1.1 x2 (-1))
    else
    (if 0 ≤ x3 ∧ x3 < 4004 then
      (md_number_b155 d p1.1 x2 (p1.1 141 x3))
      else none))) := Lm.eqn (md_number_b131_l ..) (.ite .cst (.bind (md_number_l ..) fun p1 => (.ite (md_number_b155_l ..) (.ite (md_number_b155_l ..) .cst)))) fun n => (rfl)
theorem md_number_b155_e (d : Nat) (σ : gM) (x2 y0 : Int) : md_number_b155 d σ x2 y0 =
  (md_number_b131 d σ x2 y0) := Lm.eqn (md_number_b155_l ..) (md_number_b131_l ..) fun n => (rfl)
def k_md_numberOf : List gC := [(0, 1, .iload_n 1, [], none), (1, 1, .iconst (-1), [], none), (2, 3, .if_icmp .ne 7, [(0, 9)], none), (5, 1, .iconst (-1), [], none),
  (6, 3, .goto 9, [(0, 15)], none), (9, 1, .aload_n 0, [], none), (10, 3, .getfield 91, [], none), (13, 1, .iload_n 1, [], none),
  (14, 1, .iaload, [], none), (15, 1, .ireturn, [], none)]
def e_md_numberOf (m : Nat) : gE := (k_md_numberOf, f_md, c_md, [], [], (m, 0), 0)
theorem ok_md_numberOf : gchk cX10_numberOf 2 k_md_numberOf = true := by decide +kernel
def fn_md_numberOf (m : Nat) : gFn := gF (e_md_numberOf m) 2
theorem mo_md_numberOf (m : Nat) : gMo (.inl (fn_md_numberOf m)) := gF_mo (E := e_md_numberOf m) trivial
noncomputable def md_numberOf (σ : gM) (x1 : Int) : Option (gM × Int) := lim (fun n => fn_md_numberOf 227 n [(2, 119), (0, x1)] σ)
theorem md_numberOf_l (σ : gM) (x1 : Int) : Lm (fun n => fn_md_numberOf 227 n [(2, 119), (0, x1)] σ) (md_numberOf σ x1) := .of fun n => mo_md_numberOf 227 n [(2, 119), (0, x1)] σ
theorem md_numberOf_e (σ : gM) (x1 : Int) : md_numberOf σ x1 =
  (if x1 = (-1) then
  (some (σ, (-1)))
  else
  (if 0 ≤ x1 ∧ x1 < 4004 then
    (some (σ, σ 144 x1))
    else none)) := Lm.eqn (md_numberOf_l ..) (.ite .cst (.ite .cst .cst)) fun n => (rfl)
def k_md_fitsLong : List gC := [(0, 1, .aload_n 0, [], none), (1, 3, .getfield 51, [], none), (4, 1, .iconst 4, [], none), (5, 1, .iaload, [], none),
  (6, 3, .ifCond .gt 14, [(0, 20)], none), (9, 1, .aload_n 0, [], none), (10, 3, .getfield 51, [], none), (13, 1, .iconst 3, [], none),
  (14, 1, .iaload, [], none), (15, 2, .bipush 9, [], none), (17, 3, .if_icmp .le 5, [(0, 22)], none), (20, 1, .iconst 0, [], none),
  (21, 1, .ireturn, [], none), (22, 1, .aload_n 0, [], none), (23, 3, .getfield 51, [], none), (26, 1, .iconst 3, [], none),
  (27, 1, .iaload, [], none), (28, 2, .bipush 9, [], none), (30, 3, .if_icmp .ge 5, [(0, 35)], none), (33, 1, .iconst 1, [], none),
  (34, 1, .ireturn, [], none), (35, 1, .aload_n 0, [], none), (36, 3, .getfield 51, [], none), (39, 1, .iconst 2, [], none),
  (40, 1, .iaload, [], none), (41, 1, .i2l, [], none), (42, 3, .ldc2_w 396, [], none), (45, 1, .lmul, [], none),
  (46, 1, .aload_n 0, [], none), (47, 3, .getfield 51, [], none), (50, 1, .iconst 1, [], none), (51, 1, .iaload, [], none),
  (52, 1, .i2l, [], none), (53, 1, .ladd, [], none), (54, 1, .lstore_n 1, [], none), (55, 1, .lload_n 1, [], none),
  (56, 3, .ldc2_w 410, [], none), (59, 1, .lcmp, [], none), (60, 3, .ifCond .lt 21, [(0, 81)], none), (63, 1, .lload_n 1, [], none),
  (64, 3, .ldc2_w 410, [], none), (67, 1, .lcmp, [], none), (68, 3, .ifCond .ne 17, [(0, 85)], none), (71, 1, .aload_n 0, [], none),
  (72, 3, .getfield 51, [], none), (75, 1, .iconst 0, [], none), (76, 1, .iaload, [], none), (77, 1, .iconst 1, [], none),
  (78, 3, .if_icmp .ne 7, [(0, 85)], none), (81, 1, .iconst 1, [], some [false, false, false]), (82, 3, .goto 4, [(0, 86)], none), (85, 1, .iconst 0, [], none),
  (86, 1, .ireturn, [], none)]
def e_md_fitsLong (m : Nat) : gE := (k_md_fitsLong, f_md, c_md, [], [], (m, 0), 6)
theorem ok_md_fitsLong : gchk cX10_fitsLong 3 k_md_fitsLong = true := by decide +kernel
def fn_md_fitsLong (m : Nat) : gFn := gF (e_md_fitsLong m) 3
theorem mo_md_fitsLong (m : Nat) : gMo (.inl (fn_md_fitsLong m)) := gF_mo (E := e_md_fitsLong m) trivial
noncomputable def md_fitsLong (σ : gM) : Option (gM × Int) := lim (fun n => fn_md_fitsLong 227 n [(2, 119)] σ)
theorem md_fitsLong_l (σ : gM) : Lm (fun n => fn_md_fitsLong 227 n [(2, 119)] σ) (md_fitsLong σ) := .of fun n => mo_md_fitsLong 227 n [(2, 119)] σ
theorem mb_md_fitsLong : gMos (e_md_fitsLong 227).2.2.2.1 := trivial
noncomputable def md_fitsLong_b81 (σ : gM) : Option (gM × Int) := lim (fun n => gB (e_md_fitsLong 227) rF tF n 81 [(9, 0), (9, 0), (9, 0)] [] σ)
theorem md_fitsLong_b81_l (σ : gM) : Lm (fun n => gB (e_md_fitsLong 227) rF tF n 81 [(9, 0), (9, 0), (9, 0)] [] σ) (md_fitsLong_b81 σ) := .of fun n => gB_le (gMos_spec (mb_md_fitsLong)) n _ _ _ σ
theorem md_fitsLong_e (σ : gM) : md_fitsLong σ =
  (if (0 : Int) ≤ 4 ∧ (4 : Int) < 5 then
  (if 0 < σ 131 4 then
    (some (σ, 0))
    else
    (if (0 : Int) ≤ 3 ∧ (3 : Int) < 5 then
      (if 9 < σ 131 3 then
        (some (σ, 0))
        else
        (if (0 : Int) ≤ 3 ∧ (3 : Int) < 5 then
          (if σ 131 3 < 9 then
            (some (σ, 1))
            else
            (if (0 : Int) ≤ 2 ∧ (2 : Int) < 5 then
              (if (0 : Int) ≤ 1 ∧ (1 : Int) < 5 then
                (if l_cmp (w64 ((w64 ((σ 131 2) * 1000000000)) + (σ 131 1))) 223372036854775808 < 0 then
                  (md_fitsLong_b81 σ)
                  else
                  (if l_cmp (w64 ((w64 ((σ 131 2) * 1000000000)) + (σ 131 1))) 223372036854775808 = 0 then
                    (if (0 : Int) ≤ 0 ∧ (0 : Int) < 5 then
                      (if σ 131 0 = 1 then
                        (md_fitsLong_b81 σ)
                        else
                        (some (σ, 0)))
                      else none)
                    else
                    (some (σ, 0))))
                else none)
              else none))
          else none))
      else none))
  else none) := Lm.eqn (md_fitsLong_l ..) (.ite (.ite .cst (.ite (.ite .cst (.ite (.ite .cst (.ite (.ite (.ite (md_fitsLong_b81_l ..) (.ite (.ite (.ite (md_fitsLong_b81_l ..) .cst) .cst) .cst)) .cst) .cst)) .cst)) .cst)) .cst) fun n => (rfl)
theorem md_fitsLong_b81_e (σ : gM) : md_fitsLong_b81 σ =
  (some (σ, 1)) := Lm.eqn (md_fitsLong_b81_l ..) .cst fun n => (rfl)
def k_md_asLong : List gC := [(0, 1, .aload_n 0, [], none), (1, 3, .getfield 51, [], none), (4, 1, .iconst 2, [], none), (5, 1, .iaload, [], none),
  (6, 1, .i2l, [], none), (7, 3, .ldc2_w 396, [], none), (10, 1, .lmul, [], none), (11, 1, .aload_n 0, [], none),
  (12, 3, .getfield 51, [], none), (15, 1, .iconst 1, [], none), (16, 1, .iaload, [], none), (17, 1, .i2l, [], none),
  (18, 1, .ladd, [], none), (19, 1, .lneg, [], none), (20, 1, .aload_n 0, [], none), (21, 3, .getfield 51, [], none),
  (24, 1, .iconst 3, [], none), (25, 1, .iaload, [], none), (26, 1, .i2l, [], none), (27, 3, .ldc2_w 412, [], none),
  (30, 1, .lmul, [], none), (31, 1, .lsub, [], none), (32, 1, .lstore_n 1, [], none), (33, 1, .aload_n 0, [], none),
  (34, 3, .getfield 51, [], none), (37, 1, .iconst 0, [], none), (38, 1, .iaload, [], none), (39, 1, .iconst 1, [], none),
  (40, 3, .if_icmp .ne 7, [(0, 47)], none), (43, 1, .lload_n 1, [], none), (44, 3, .goto 5, [(0, 49)], none), (47, 1, .lload_n 1, [], none),
  (48, 1, .lneg, [], none), (49, 1, .lreturn, [], none)]
def e_md_asLong (m : Nat) : gE := (k_md_asLong, f_md, c_md, [], [], (m, 0), 1)
theorem ok_md_asLong : gchk cX10_asLong 3 k_md_asLong = true := by decide +kernel
def fn_md_asLong (m : Nat) : gFn := gF (e_md_asLong m) 3
theorem mo_md_asLong (m : Nat) : gMo (.inl (fn_md_asLong m)) := gF_mo (E := e_md_asLong m) trivial
noncomputable def md_asLong (σ : gM) : Option (gM × Int) := lim (fun n => fn_md_asLong 227 n [(2, 119)] σ)
theorem md_asLong_l (σ : gM) : Lm (fun n => fn_md_asLong 227 n [(2, 119)] σ) (md_asLong σ) := .of fun n => mo_md_asLong 227 n [(2, 119)] σ
theorem md_asLong_e (σ : gM) : md_asLong σ =
  (if (0 : Int) ≤ 2 ∧ (2 : Int) < 5 then
  (if (0 : Int) ≤ 1 ∧ (1 : Int) < 5 then
    (if (0 : Int) ≤ 3 ∧ (3 : Int) < 5 then
      (if (0 : Int) ≤ 0 ∧ (0 : Int) < 5 then
        (if σ 131 0 = 1 then
          (some (σ, w64 ((w64 (-(w64 ((w64 ((σ 131 2) * 1000000000)) + (σ 131 1))))) - (w64 ((σ 131 3) * 1000000000000000000)))))
          else
          (some (σ, w64 (-(w64 ((w64 (-(w64 ((w64 ((σ 131 2) * 1000000000)) + (σ 131 1))))) - (w64 ((σ 131 3) * 1000000000000000000))))))))
        else none)
      else none)
    else none)
  else none) := Lm.eqn (md_asLong_l ..) (.ite (.ite (.ite (.ite (.ite .cst .cst) .cst) .cst) .cst) .cst) fun n => (rfl)
def k_md_number_2 : List gC := [(0, 1, .iconst 0, [], none), (1, 2, .istore 4, [], none), (3, 2, .iload 4, [], some [true, true, true, true, true, false, false]), (5, 1, .iconst 5, [], none),
  (6, 3, .if_icmp .ge 17, [(0, 23)], none), (9, 1, .aload_n 0, [], none), (10, 3, .getfield 51, [], none), (13, 2, .iload 4, [], none),
  (15, 1, .iconst 0, [], none), (16, 1, .iastore, [], none), (17, 3, .iinc 4 1, [], none), (20, 3, .goto (-17), [(0, 3)], none),
  (23, 1, .iconst 1, [], none), (24, 2, .istore 4, [], none), (26, 1, .iconst 1, [], none), (27, 2, .istore 5, [], none),
  (29, 1, .iload_n 3, [], none), (30, 1, .iconst 1, [], none), (31, 1, .isub, [], none), (32, 2, .istore 6, [], none),
  (34, 2, .iload 6, [], some [true, true, true, false, true, true, true]), (36, 1, .iload_n 2, [], none), (37, 3, .if_icmp .lt 53, [(0, 90)], none), (40, 1, .aload_n 0, [], none),
  (41, 3, .getfield 51, [], none), (44, 2, .iload 5, [], none), (46, 1, .dup2, [], none), (47, 1, .iaload, [], none),
  (48, 1, .aload_n 0, [], none), (49, 3, .getfield 61, [], none), (52, 2, .iload 6, [], none), (54, 1, .baload, [], none),
  (55, 2, .bipush 48, [], none), (57, 1, .isub, [], none), (58, 2, .iload 4, [], none), (60, 1, .imul, [], none),
  (61, 1, .iadd, [], none), (62, 1, .iastore, [], none), (63, 2, .iload 4, [], none), (65, 2, .bipush 10, [], none),
  (67, 1, .imul, [], none), (68, 2, .istore 4, [], none), (70, 2, .iload 4, [], none), (72, 3, .ldc_w 406, [], none),
  (75, 3, .if_icmp .ne 9, [(0, 84)], none), (78, 1, .iconst 1, [], none), (79, 2, .istore 4, [], none), (81, 3, .iinc 5 1, [], none),
  (84, 3, .iinc 6 (-1), [], some [true, true, true, false, true, true, true]), (87, 3, .goto (-53), [(0, 34)], none), (90, 1, .aload_n 0, [], none), (91, 3, .invokevirtual 630, [], none),
  (94, 3, .ifCond .eq 21, [(0, 115)], none), (97, 1, .aload_n 0, [], none), (98, 3, .getfield 188, [], none), (101, 1, .iload_n 1, [], none),
  (102, 1, .iconst 2, [], none), (103, 1, .iastore, [], none), (104, 1, .aload_n 0, [], none), (105, 3, .getfield 191, [], none),
  (108, 1, .iload_n 1, [], none), (109, 1, .aload_n 0, [], none), (110, 3, .invokevirtual 633, [], none), (113, 1, .lastore, [], none),
  (114, 1, .return_, [], none), (115, 1, .aload_n 0, [], none), (116, 3, .getfield 188, [], none), (119, 1, .iload_n 1, [], none),
  (120, 1, .iconst 3, [], none), (121, 1, .iastore, [], none), (122, 1, .aload_n 0, [], none), (123, 3, .getfield 191, [], none),
  (126, 1, .iload_n 1, [], none), (127, 1, .aload_n 0, [], none), (128, 3, .getfield 561, [], none), (131, 1, .i2l, [], none),
  (132, 1, .lastore, [], none), (133, 1, .iconst 0, [], none), (134, 2, .istore 6, [], none), (136, 2, .iload 6, [], some [true, false, false, false, false, false, true]),
  (138, 1, .iconst 5, [], none), (139, 3, .if_icmp .ge 30, [(0, 169)], none), (142, 1, .aload_n 0, [], none), (143, 3, .getfield 42, [], none),
  (146, 1, .iconst 5, [], none), (147, 1, .aload_n 0, [], none), (148, 3, .getfield 561, [], none), (151, 1, .imul, [], none),
  (152, 2, .iload 6, [], none), (154, 1, .iadd, [], none), (155, 1, .aload_n 0, [], none), (156, 3, .getfield 51, [], none),
  (159, 2, .iload 6, [], none), (161, 1, .iaload, [], none), (162, 1, .iastore, [], none), (163, 3, .iinc 6 1, [], none),
  (166, 3, .goto (-30), [(0, 136)], none), (169, 1, .aload_n 0, [], none), (170, 1, .dup, [], none), (171, 3, .getfield 561, [], none),
  (174, 1, .iconst 1, [], none), (175, 1, .iadd, [], none), (176, 3, .putfield 561, [], none), (179, 1, .return_, [], none)]
def e_md_number_2 (m : Nat) : gE := (k_md_number_2, f_md, c_md, [(630, 1, 20, 0, .inl (fn_md_fitsLong m)), (633, 1, 20, 1, .inl (fn_md_asLong m))], [], (m, 12194330274671844653834364178879555881830461494785043558043581873536608354764709453594946002434679424700297433185350657539485954977691187806208), 5)
theorem ok_md_number_2 : gchk cX10_number_2 7 k_md_number_2 = true := by decide +kernel
def fn_md_number_2 (m : Nat) : gFn := gF (e_md_number_2 m) 7
theorem mo_md_number_2 (m : Nat) : gMo (.inl (fn_md_number_2 m)) := gF_mo (E := e_md_number_2 m) ⟨mo_md_fitsLong m, ⟨mo_md_asLong m, trivial⟩⟩
noncomputable def md_number_2 (σ : gM) (x1 x2 x3 : Int) : Option (gM × Int) := lim (fun n => fn_md_number_2 227 n [(2, 119), (0, x1), (0, x2), (0, x3)] σ)
theorem md_number_2_l (σ : gM) (x1 x2 x3 : Int) : Lm (fun n => fn_md_number_2 227 n [(2, 119), (0, x1), (0, x2), (0, x3)] σ) (md_number_2 σ x1 x2 x3) := .of fun n => mo_md_number_2 227 n [(2, 119), (0, x1), (0, x2), (0, x3)] σ
theorem mb_md_number_2 : gMos (e_md_number_2 227).2.2.2.1 := ⟨mo_md_fitsLong 227, ⟨mo_md_asLong 227, trivial⟩⟩
noncomputable def md_number_2_b3 (σ : gM) (x1 x2 x3 x4 : Int) : Option (gM × Int) := lim (fun n => gB (e_md_number_2 227) rF tF n 3 [(2, 119), (0, x1), (0, x2), (0, x3), (0, x4), (9, 0), (9, 0)] [] σ)
theorem md_number_2_b3_l (σ : gM) (x1 x2 x3 x4 : Int) : Lm (fun n => gB (e_md_number_2 227) rF tF n 3 [(2, 119), (0, x1), (0, x2), (0, x3), (0, x4), (9, 0), (9, 0)] [] σ) (md_number_2_b3 σ x1 x2 x3 x4) := .of fun n => gB_le (gMos_spec (mb_md_number_2)) n _ _ _ σ
noncomputable def md_number_2_b34 (σ : gM) (x1 x2 x4 x5 x6 : Int) : Option (gM × Int) := lim (fun n => gB (e_md_number_2 227) rF tF n 34 [(2, 119), (0, x1), (0, x2), (9, 0), (0, x4), (0, x5), (0, x6)] [] σ)
theorem md_number_2_b34_l (σ : gM) (x1 x2 x4 x5 x6 : Int) : Lm (fun n => gB (e_md_number_2 227) rF tF n 34 [(2, 119), (0, x1), (0, x2), (9, 0), (0, x4), (0, x5), (0, x6)] [] σ) (md_number_2_b34 σ x1 x2 x4 x5 x6) := .of fun n => gB_le (gMos_spec (mb_md_number_2)) n _ _ _ σ
noncomputable def md_number_2_b84 (σ : gM) (x1 x2 x4 x5 x6 : Int) : Option (gM × Int) := lim (fun n => gB (e_md_number_2 227) rF tF n 84 [(2, 119), (0, x1), (0, x2), (9, 0), (0, x4), (0, x5), (0, x6)] [] σ)
theorem md_number_2_b84_l (σ : gM) (x1 x2 x4 x5 x6 : Int) : Lm (fun n => gB (e_md_number_2 227) rF tF n 84 [(2, 119), (0, x1), (0, x2), (9, 0), (0, x4), (0, x5), (0, x6)] [] σ) (md_number_2_b84 σ x1 x2 x4 x5 x6) := .of fun n => gB_le (gMos_spec (mb_md_number_2)) n _ _ _ σ
noncomputable def md_number_2_b136 (σ : gM) (x6 : Int) : Option (gM × Int) := lim (fun n => gB (e_md_number_2 227) rF tF n 136 [(2, 119), (9, 0), (9, 0), (9, 0), (9, 0), (9, 0), (0, x6)] [] σ)
theorem md_number_2_b136_l (σ : gM) (x6 : Int) : Lm (fun n => gB (e_md_number_2 227) rF tF n 136 [(2, 119), (9, 0), (9, 0), (9, 0), (9, 0), (9, 0), (0, x6)] [] σ) (md_number_2_b136 σ x6) := .of fun n => gB_le (gMos_spec (mb_md_number_2)) n _ _ _ σ
theorem md_number_2_e (σ : gM) (x1 x2 x3 : Int) : md_number_2 σ x1 x2 x3 =
  (md_number_2_b3 σ x1 x2 x3 0) := Lm.eqn (md_number_2_l ..) (md_number_2_b3_l ..) fun n => (rfl)
theorem md_number_2_b3_e (σ : gM) (x1 x2 x3 x4 : Int) : md_number_2_b3 σ x1 x2 x3 x4 =
  (if x4 < 5 then
  (if 0 ≤ x4 ∧ x4 < 5 then
    (md_number_2_b3 (gW σ 131 x4 0) x1 x2 x3 (w32 (x4 + 1)))
    else none)
  else
  (md_number_2_b34 σ x1 x2 1 1 (w32 (x3 - 1)))) := Lm.eqn (md_number_2_b3_l ..) (.ite (.ite (md_number_2_b3_l ..) .cst) (md_number_2_b34_l ..)) fun n => (rfl)
theorem md_number_2_b34_e (σ : gM) (x1 x2 x4 x5 x6 : Int) : md_number_2_b34 σ x1 x2 x4 x5 x6 =
  (if x6 < x2 then
  ((md_fitsLong σ).bind fun p1 =>
    if p1.2 = 0 then
    (if 0 ≤ x1 ∧ x1 < 20000 then
      (if 0 ≤ x1 ∧ x1 < 20000 then
        (md_number_2_b136 (gW (gW p1.1 176 x1 3) 177 x1 (p1.1 119 15)) 0)
        else none)
      else none)
    else
    (if 0 ≤ x1 ∧ x1 < 20000 then
      ((md_asLong (gW p1.1 176 x1 2)).bind fun p2 =>
        if 0 ≤ x1 ∧ x1 < 20000 then
        (some (gW p2.1 177 x1 p2.2, 0))
        else none)
      else none))
  else
  (if 0 ≤ x5 ∧ x5 < 5 then
    (if 0 ≤ x6 ∧ x6 < 4000 then
      (if 0 ≤ x5 ∧ x5 < 5 then
        (if w32 (x4 * 10) = 1000000000 then
          (md_number_2_b84 (gW σ 131 x5 (w32 ((σ 131 x5) + (w32 ((w32 ((σ 134 x6) - 48)) * x4))))) x1 x2 1 (w32 (x5 + 1)) x6)
          else
          (md_number_2_b84 (gW σ 131 x5 (w32 ((σ 131 x5) + (w32 ((w32 ((σ 134 x6) - 48)) * x4))))) x1 x2 (w32 (x4 * 10)) x5 x6))
        else none)
      else none)
    else none)) := Lm.eqn (md_number_2_b34_l ..) (.ite (.bind (md_fitsLong_l ..) fun p1 => (.ite (.ite (.ite (md_number_2_b136_l ..) .cst) .cst) (.ite (.bind (md_asLong_l ..) fun p2 => (.ite .cst .cst)) .cst))) (.ite (.ite (.ite (.ite (md_number_2_b84_l ..) (md_number_2_b84_l ..)) .cst) .cst) .cst)) fun n => (rfl)
theorem md_number_2_b84_e (σ : gM) (x1 x2 x4 x5 x6 : Int) : md_number_2_b84 σ x1 x2 x4 x5 x6 =
  (md_number_2_b34 σ x1 x2 x4 x5 (w32 (x6 + (-1)))) := Lm.eqn (md_number_2_b84_l ..) (md_number_2_b34_l ..) fun n => (rfl)
theorem md_number_2_b136_e (σ : gM) (x6 : Int) : md_number_2_b136 σ x6 =
  (if x6 < 5 then
  (if 0 ≤ x6 ∧ x6 < 5 then
    (if 0 ≤ w32 ((w32 (5 * (σ 119 15))) + x6) ∧ w32 ((w32 (5 * (σ 119 15))) + x6) < 135020 then
      (md_number_2_b136 (gW σ 128 (w32 ((w32 (5 * (σ 119 15))) + x6)) (σ 131 x6)) (w32 (x6 + 1)))
      else none)
    else none)
  else
  (some (gW σ 119 15 (w32 ((σ 119 15) + 1)), 0))) := Lm.eqn (md_number_2_b136_l ..) (.ite (.ite (.ite (md_number_2_b136_l ..) .cst) .cst) .cst) fun n => (rfl)
def k_md_lay : List gC := [(0, 1, .aload_n 0, [], none), (1, 3, .getfield 91, [], none), (4, 1, .iload_n 2, [], none), (5, 1, .iaload, [], none),
  (6, 2, .istore 4, [], none), (8, 1, .aload_n 0, [], none), (9, 3, .getfield 164, [], none), (12, 2, .iload 4, [], none),
  (14, 1, .aload_n 0, [], none), (15, 3, .getfield 64, [], none), (18, 1, .iload_n 2, [], none), (19, 1, .iaload, [], none),
  (20, 1, .iastore, [], none), (21, 1, .aload_n 0, [], none), (22, 3, .getfield 167, [], none), (25, 2, .iload 4, [], none),
  (27, 1, .aload_n 0, [], none), (28, 3, .getfield 67, [], none), (31, 1, .iload_n 2, [], none), (32, 1, .iaload, [], none),
  (33, 1, .iastore, [], none), (34, 1, .aload_n 0, [], none), (35, 3, .getfield 170, [], none), (38, 2, .iload 4, [], none),
  (40, 1, .aload_n 0, [], none), (41, 1, .aload_n 0, [], none), (42, 3, .getfield 73, [], none), (45, 1, .iload_n 2, [], none),
  (46, 1, .iaload, [], none), (47, 3, .invokevirtual 625, [], none), (50, 1, .iastore, [], none), (51, 1, .aload_n 0, [], none),
  (52, 3, .getfield 173, [], none), (55, 2, .iload 4, [], none), (57, 1, .aload_n 0, [], none), (58, 3, .getfield 64, [], none),
  (61, 1, .iload_n 2, [], none), (62, 1, .iaload, [], none), (63, 1, .iconst 3, [], none), (64, 3, .if_icmp .ne 7, [(0, 71)], none),
  (67, 1, .iconst (-1), [], none), (68, 3, .goto 13, [(0, 81)], none), (71, 1, .aload_n 0, [], none), (72, 1, .aload_n 0, [], none),
  (73, 3, .getfield 76, [], none), (76, 1, .iload_n 2, [], none), (77, 1, .iaload, [], none), (78, 3, .invokevirtual 625, [], none),
  (81, 1, .iastore, [], some [true, true, true, true, true, false]), (82, 1, .aload_n 0, [], none), (83, 3, .getfield 176, [], none), (86, 2, .iload 4, [], none),
  (88, 1, .aload_n 0, [], none), (89, 1, .aload_n 0, [], none), (90, 3, .getfield 79, [], none), (93, 1, .iload_n 2, [], none),
  (94, 1, .iaload, [], none), (95, 3, .invokevirtual 625, [], none), (98, 1, .iastore, [], none), (99, 1, .aload_n 0, [], none),
  (100, 3, .getfield 179, [], none), (103, 2, .iload 4, [], none), (105, 1, .aload_n 0, [], none), (106, 1, .aload_n 0, [], none),
  (107, 3, .getfield 82, [], none), (110, 1, .iload_n 2, [], none), (111, 1, .iaload, [], none), (112, 3, .invokevirtual 625, [], none),
  (115, 1, .iastore, [], none), (116, 1, .aload_n 0, [], none), (117, 3, .getfield 182, [], none), (120, 2, .iload 4, [], none),
  (122, 1, .iload_n 3, [], none), (123, 1, .iastore, [], none), (124, 1, .aload_n 0, [], none), (125, 3, .getfield 185, [], none),
  (128, 2, .iload 4, [], none), (130, 1, .iconst (-1), [], none), (131, 1, .iastore, [], none), (132, 1, .aload_n 0, [], none),
  (133, 3, .getfield 194, [], none), (136, 2, .iload 4, [], none), (138, 1, .iconst 0, [], none), (139, 1, .iastore, [], none),
  (140, 1, .aload_n 0, [], none), (141, 3, .getfield 197, [], none), (144, 2, .iload 4, [], none), (146, 1, .iconst 0, [], none),
  (147, 1, .iastore, [], none), (148, 1, .aload_n 0, [], none), (149, 3, .getfield 200, [], none), (152, 2, .iload 4, [], none),
  (154, 1, .iconst 0, [], none), (155, 1, .iastore, [], none), (156, 1, .aload_n 0, [], none), (157, 3, .getfield 203, [], none),
  (160, 2, .iload 4, [], none), (162, 1, .iconst 0, [], none), (163, 1, .iastore, [], none), (164, 1, .aload_n 0, [], none),
  (165, 3, .getfield 188, [], none), (168, 2, .iload 4, [], none), (170, 1, .iconst 0, [], none), (171, 1, .iastore, [], none),
  (172, 1, .aload_n 0, [], none), (173, 3, .getfield 191, [], none), (176, 2, .iload 4, [], none), (178, 1, .lconst 0, [], none),
  (179, 1, .lastore, [], none), (180, 1, .aload_n 0, [], none), (181, 3, .getfield 64, [], none), (184, 1, .iload_n 2, [], none),
  (185, 1, .iaload, [], none), (186, 106, .tableswitch 363 0 22 #[106, 181, 202, 245, 363, 106, 106, 279, 363, 363, 363, 363, 363, 363, 363, 363, 363, 363, 363, 363, 363, 322, 322], [(0, 549), (0, 292), (1, 367), (2, 388), (3, 431), (5, 292), (6, 292), (7, 465), (21, 508), (22, 508)], none), (292, 1, .iconst 0, [], none), (293, 2, .istore 5, [], none),
  (295, 2, .iload 5, [], some [true, true, true, false, true, true]), (297, 1, .aload_n 0, [], none), (298, 3, .getfield 116, [], none), (301, 1, .iload_n 1, [], none),
  (302, 1, .iaload, [], none), (303, 3, .if_icmp .ge 61, [(0, 364)], none), (306, 1, .aload_n 0, [], none), (307, 1, .aload_n 0, [], none),
  (308, 3, .getfield 119, [], none), (311, 2, .bipush 12, [], none), (313, 1, .iload_n 1, [], none), (314, 1, .imul, [], none),
  (315, 2, .iload 5, [], none), (317, 1, .iadd, [], none), (318, 1, .iaload, [], none), (319, 1, .aload_n 0, [], none),
  (320, 3, .getfield 122, [], none), (323, 2, .bipush 12, [], none), (325, 1, .iload_n 1, [], none), (326, 1, .imul, [], none),
  (327, 2, .iload 5, [], none), (329, 1, .iadd, [], none), (330, 1, .iaload, [], none), (331, 1, .aload_n 0, [], none),
  (332, 3, .getfield 85, [], none), (335, 1, .iload_n 2, [], none), (336, 1, .iaload, [], none), (337, 1, .aload_n 0, [], none),
  (338, 3, .getfield 88, [], none), (341, 1, .iload_n 2, [], none), (342, 1, .iaload, [], none), (343, 3, .invokevirtual 491, [], none),
  (346, 3, .ifCond .eq 12, [(0, 358)], none), (349, 1, .aload_n 0, [], none), (350, 3, .getfield 185, [], none), (353, 2, .iload 4, [], none),
  (355, 2, .iload 5, [], none), (357, 1, .iastore, [], none), (358, 3, .iinc 5 1, [], some [true, true, true, false, true, true]), (361, 3, .goto (-66), [(0, 295)], none),
  (364, 3, .goto 185, [(0, 549)], none), (367, 1, .aload_n 0, [], none), (368, 2, .iload 4, [], none), (370, 1, .aload_n 0, [], none),
  (371, 3, .getfield 85, [], none), (374, 1, .iload_n 2, [], none), (375, 1, .iaload, [], none), (376, 1, .aload_n 0, [], none),
  (377, 3, .getfield 88, [], none), (380, 1, .iload_n 2, [], none), (381, 1, .iaload, [], none), (382, 3, .invokevirtual 628, [], none),
  (385, 3, .goto 164, [(0, 549)], none), (388, 1, .aload_n 0, [], none), (389, 3, .getfield 188, [], none), (392, 2, .iload 4, [], none),
  (394, 1, .iconst 4, [], none), (395, 1, .iastore, [], none), (396, 1, .aload_n 0, [], none), (397, 3, .getfield 191, [], none),
  (400, 2, .iload 4, [], none), (402, 1, .aload_n 0, [], none), (403, 1, .aload_n 0, [], none), (404, 3, .getfield 61, [], none),
  (407, 1, .aload_n 0, [], none), (408, 3, .getfield 85, [], none), (411, 1, .iload_n 2, [], none), (412, 1, .iaload, [], none),
  (413, 1, .iconst 1, [], none), (414, 1, .iadd, [], none), (415, 1, .aload_n 0, [], none), (416, 3, .getfield 88, [], none),
  (419, 1, .iload_n 2, [], none), (420, 1, .iaload, [], none), (421, 1, .iconst 1, [], none), (422, 1, .isub, [], none),
  (423, 3, .invokevirtual 383, [], none), (426, 1, .i2l, [], none), (427, 1, .lastore, [], none), (428, 3, .goto 121, [(0, 549)], none),
  (431, 1, .aload_n 0, [], none), (432, 3, .getfield 188, [], none), (435, 2, .iload 4, [], none), (437, 1, .iconst 1, [], none),
  (438, 1, .iastore, [], none), (439, 1, .aload_n 0, [], none), (440, 3, .getfield 191, [], none), (443, 2, .iload 4, [], none),
  (445, 1, .aload_n 0, [], none), (446, 3, .getfield 76, [], none), (449, 1, .iload_n 2, [], none), (450, 1, .iaload, [], none),
  (451, 2, .bipush 17, [], none), (453, 3, .if_icmp .ne 7, [(0, 460)], none), (456, 1, .lconst 1, [], none), (457, 3, .goto 4, [(0, 461)], none),
  (460, 1, .lconst 0, [], none), (461, 1, .lastore, [], some [false, false, false, false, false, false]), (462, 3, .goto 87, [(0, 549)], none), (465, 1, .aload_n 0, [], none),
  (466, 3, .getfield 188, [], none), (469, 2, .iload 4, [], none), (471, 1, .iconst 5, [], none), (472, 1, .iastore, [], none),
  (473, 1, .aload_n 0, [], none), (474, 3, .getfield 191, [], none), (477, 2, .iload 4, [], none), (479, 1, .aload_n 0, [], none),
  (480, 1, .aload_n 0, [], none), (481, 1, .aload_n 0, [], none), (482, 3, .getfield 61, [], none), (485, 1, .aload_n 0, [], none),
  (486, 3, .getfield 85, [], none), (489, 1, .iload_n 2, [], none), (490, 1, .iaload, [], none), (491, 1, .aload_n 0, [], none),
  (492, 3, .getfield 88, [], none), (495, 1, .iload_n 2, [], none), (496, 1, .iaload, [], none), (497, 3, .invokevirtual 383, [], none),
  (500, 3, .invokevirtual 589, [], none), (503, 1, .i2l, [], none), (504, 1, .lastore, [], none), (505, 3, .goto 44, [(0, 549)], none),
  (508, 1, .aload_n 0, [], none), (509, 3, .getfield 76, [], none), (512, 1, .iload_n 2, [], none), (513, 1, .iaload, [], none),
  (514, 1, .iconst (-1), [], none), (515, 3, .if_icmp .ne 34, [(0, 549)], none), (518, 1, .aload_n 0, [], none), (519, 3, .getfield 191, [], none),
  (522, 2, .iload 4, [], none), (524, 1, .aload_n 0, [], none), (525, 1, .aload_n 0, [], none), (526, 3, .getfield 61, [], none),
  (529, 1, .aload_n 0, [], none), (530, 3, .getfield 85, [], none), (533, 1, .iload_n 2, [], none), (534, 1, .iaload, [], none),
  (535, 1, .aload_n 0, [], none), (536, 3, .getfield 88, [], none), (539, 1, .iload_n 2, [], none), (540, 1, .iaload, [], none),
  (541, 3, .invokevirtual 383, [], none), (544, 1, .i2l, [], none), (545, 1, .lastore, [], none), (546, 3, .goto 3, [(0, 549)], none),
  (549, 1, .return_, [], none)]
def e_md_lay (m : Nat) : gE := (k_md_lay, f_md, c_md, [(625, 2, 20, 0, .inl (fn_md_numberOf m)), (491, 5, 20, 0, .inl (fn_md_isWord m)), (628, 4, 20, 5, .inl (fn_md_number_2 m)), (383, 4, 20, 0, .inl (fn_md_keep_2 m)), (589, 2, 20, 0, .inl (fn_md_functionOf m))], [], (m, 26815615859897960138654347083783675104958496176248578019824475979918354934920952590475142901543039168384873179870773644265308661212296450055610476292734976), 5)
theorem ok_md_lay : gchk cX10_lay 6 k_md_lay = true := by decide +kernel
def fn_md_lay (m : Nat) : gFn := gF (e_md_lay m) 6
theorem mo_md_lay (m : Nat) : gMo (.inl (fn_md_lay m)) := gF_mo (E := e_md_lay m) ⟨mo_md_numberOf m, ⟨mo_md_isWord m, ⟨mo_md_number_2 m, ⟨mo_md_keep_2 m, ⟨mo_md_functionOf m, trivial⟩⟩⟩⟩⟩
noncomputable def md_lay (σ : gM) (x1 x2 x3 : Int) : Option (gM × Int) := lim (fun n => fn_md_lay 227 n [(2, 119), (0, x1), (0, x2), (0, x3)] σ)
theorem md_lay_l (σ : gM) (x1 x2 x3 : Int) : Lm (fun n => fn_md_lay 227 n [(2, 119), (0, x1), (0, x2), (0, x3)] σ) (md_lay σ x1 x2 x3) := .of fun n => mo_md_lay 227 n [(2, 119), (0, x1), (0, x2), (0, x3)] σ
theorem mb_md_lay : gMos (e_md_lay 227).2.2.2.1 := ⟨mo_md_numberOf 227, ⟨mo_md_isWord 227, ⟨mo_md_number_2 227, ⟨mo_md_keep_2 227, ⟨mo_md_functionOf 227, trivial⟩⟩⟩⟩⟩
noncomputable def md_lay_b81 (σ : gM) (x1 x2 x3 x4 y0 y1 : Int) : Option (gM × Int) := lim (fun n => gB (e_md_lay 227) rF tF n 81 [(2, 119), (0, x1), (0, x2), (0, x3), (0, x4), (9, 0)] [(0, y0), (0, y1), (2, 171)] σ)
theorem md_lay_b81_l (σ : gM) (x1 x2 x3 x4 y0 y1 : Int) : Lm (fun n => gB (e_md_lay 227) rF tF n 81 [(2, 119), (0, x1), (0, x2), (0, x3), (0, x4), (9, 0)] [(0, y0), (0, y1), (2, 171)] σ) (md_lay_b81 σ x1 x2 x3 x4 y0 y1) := .of fun n => gB_le (gMos_spec (mb_md_lay)) n _ _ _ σ
noncomputable def md_lay_b295 (σ : gM) (x1 x2 x4 x5 : Int) : Option (gM × Int) := lim (fun n => gB (e_md_lay 227) rF tF n 295 [(2, 119), (0, x1), (0, x2), (9, 0), (0, x4), (0, x5)] [] σ)
theorem md_lay_b295_l (σ : gM) (x1 x2 x4 x5 : Int) : Lm (fun n => gB (e_md_lay 227) rF tF n 295 [(2, 119), (0, x1), (0, x2), (9, 0), (0, x4), (0, x5)] [] σ) (md_lay_b295 σ x1 x2 x4 x5) := .of fun n => gB_le (gMos_spec (mb_md_lay)) n _ _ _ σ
noncomputable def md_lay_b358 (σ : gM) (x1 x2 x4 x5 : Int) : Option (gM × Int) := lim (fun n => gB (e_md_lay 227) rF tF n 358 [(2, 119), (0, x1), (0, x2), (9, 0), (0, x4), (0, x5)] [] σ)
theorem md_lay_b358_l (σ : gM) (x1 x2 x4 x5 : Int) : Lm (fun n => gB (e_md_lay 227) rF tF n 358 [(2, 119), (0, x1), (0, x2), (9, 0), (0, x4), (0, x5)] [] σ) (md_lay_b358 σ x1 x2 x4 x5) := .of fun n => gB_le (gMos_spec (mb_md_lay)) n _ _ _ σ
noncomputable def md_lay_b461 (σ : gM) (y0 y1 : Int) : Option (gM × Int) := lim (fun n => gB (e_md_lay 227) rF tF n 461 [(9, 0), (9, 0), (9, 0), (9, 0), (9, 0), (9, 0)] [(1, y0), (0, y1), (2, 177)] σ)
theorem md_lay_b461_l (σ : gM) (y0 y1 : Int) : Lm (fun n => gB (e_md_lay 227) rF tF n 461 [(9, 0), (9, 0), (9, 0), (9, 0), (9, 0), (9, 0)] [(1, y0), (0, y1), (2, 177)] σ) (md_lay_b461 σ y0 y1) := .of fun n => gB_le (gMos_spec (mb_md_lay)) n _ _ _ σ
theorem md_lay_e (σ : gM) (x1 x2 x3 : Int) : md_lay σ x1 x2 x3 =
  (if 0 ≤ x2 ∧ x2 < 4004 then
  (if 0 ≤ x2 ∧ x2 < 4004 then
    (if 0 ≤ σ 144 x2 ∧ σ 144 x2 < 20000 then
      (if 0 ≤ x2 ∧ x2 < 4004 then
        (if 0 ≤ σ 144 x2 ∧ σ 144 x2 < 20000 then
          (if 0 ≤ x2 ∧ x2 < 4004 then
            ((md_numberOf (gW (gW σ 168 (σ 144 x2) (σ 135 x2)) 169 (σ 144 x2) (σ 136 x2)) (σ 138 x2)).bind fun p1 =>
              if 0 ≤ σ 144 x2 ∧ σ 144 x2 < 20000 then
              (if 0 ≤ x2 ∧ x2 < 4004 then
                (if p1.1 135 x2 = 3 then
                  (md_lay_b81 (gW p1.1 170 (σ 144 x2) p1.2) x1 x2 x3 (σ 144 x2) (-1) (σ 144 x2))
                  else
                  (if 0 ≤ x2 ∧ x2 < 4004 then
                    ((md_numberOf (gW p1.1 170 (σ 144 x2) p1.2) (p1.1 139 x2)).bind fun p2 =>
                      md_lay_b81 p2.1 x1 x2 x3 (σ 144 x2) p2.2 (σ 144 x2))
                    else none))
                else none)
              else none)
            else none)
          else none)
        else none)
      else none)
    else none)
  else none) := Lm.eqn (md_lay_l ..) (.ite (.ite (.ite (.ite (.ite (.ite (.bind (md_numberOf_l ..) fun p1 => (.ite (.ite (.ite (md_lay_b81_l ..) (.ite (.bind (md_numberOf_l ..) fun p2 => (md_lay_b81_l ..)) .cst)) .cst) .cst)) .cst) .cst) .cst) .cst) .cst) .cst) fun n => (rfl)
theorem md_lay_b81_e (σ : gM) (x1 x2 x3 x4 y0 y1 : Int) : md_lay_b81 σ x1 x2 x3 x4 y0 y1 =
  (if 0 ≤ y1 ∧ y1 < 20000 then
  (if 0 ≤ x2 ∧ x2 < 4004 then
    ((md_numberOf (gW σ 171 y1 y0) (σ 140 x2)).bind fun p1 =>
      if 0 ≤ x4 ∧ x4 < 20000 then
      (if 0 ≤ x2 ∧ x2 < 4004 then
        ((md_numberOf (gW p1.1 172 x4 p1.2) (p1.1 141 x2)).bind fun p2 =>
          if 0 ≤ x4 ∧ x4 < 20000 then
          (if 0 ≤ x4 ∧ x4 < 20000 then
            (if 0 ≤ x4 ∧ x4 < 20000 then
              (if 0 ≤ x4 ∧ x4 < 20000 then
                (if 0 ≤ x4 ∧ x4 < 20000 then
                  (if 0 ≤ x4 ∧ x4 < 20000 then
                    (if 0 ≤ x4 ∧ x4 < 20000 then
                      (if 0 ≤ x4 ∧ x4 < 20000 then
                        (if 0 ≤ x4 ∧ x4 < 20000 then
                          (if 0 ≤ x2 ∧ x2 < 4004 then
                            (if p2.1 135 x2 = 0 then
                              (md_lay_b295 (gW (gW (gW (gW (gW (gW (gW (gW (gW p2.1 173 x4 p2.2) 174 x4 x3) 175 x4 (-1)) 178 x4 0) 179 x4 0) 180 x4 0) 181 x4 0) 176 x4 0) 177 x4 0) x1 x2 x4 0)
                              else if p2.1 135 x2 = 1 then
                              (if 0 ≤ x2 ∧ x2 < 4004 then
                                (if 0 ≤ x2 ∧ x2 < 4004 then
                                  ((md_number_2 (gW (gW (gW (gW (gW (gW (gW (gW (gW p2.1 173 x4 p2.2) 174 x4 x3) 175 x4 (-1)) 178 x4 0) 179 x4 0) 180 x4 0) 181 x4 0) 176 x4 0) 177 x4 0) x4 (p2.1 142 x2) (p2.1 143 x2)).bind fun p3 =>
                                    some (p3.1, 0))
                                  else none)
                                else none)
                              else if p2.1 135 x2 = 2 then
                              (if 0 ≤ x4 ∧ x4 < 20000 then
                                (if 0 ≤ x2 ∧ x2 < 4004 then
                                  (if 0 ≤ x2 ∧ x2 < 4004 then
                                    ((md_keep_2 (gW (gW (gW (gW (gW (gW (gW (gW (gW (gW p2.1 173 x4 p2.2) 174 x4 x3) 175 x4 (-1)) 178 x4 0) 179 x4 0) 180 x4 0) 181 x4 0) 176 x4 0) 177 x4 0) 176 x4 4) 134 (w32 ((p2.1 142 x2) + 1)) (w32 ((p2.1 143 x2) - 1))).bind fun p4 =>
                                      if 0 ≤ x4 ∧ x4 < 20000 then
                                      (some (gW p4.1 177 x4 p4.2, 0))
                                      else none)
                                    else none)
                                  else none)
                                else none)
                              else if p2.1 135 x2 = 3 then
                              (if 0 ≤ x4 ∧ x4 < 20000 then
                                (if 0 ≤ x2 ∧ x2 < 4004 then
                                  (if p2.1 139 x2 = 17 then
                                    (md_lay_b461 (gW (gW (gW (gW (gW (gW (gW (gW (gW (gW p2.1 173 x4 p2.2) 174 x4 x3) 175 x4 (-1)) 178 x4 0) 179 x4 0) 180 x4 0) 181 x4 0) 176 x4 0) 177 x4 0) 176 x4 1) 1 x4)
                                    else
                                    (md_lay_b461 (gW (gW (gW (gW (gW (gW (gW (gW (gW (gW p2.1 173 x4 p2.2) 174 x4 x3) 175 x4 (-1)) 178 x4 0) 179 x4 0) 180 x4 0) 181 x4 0) 176 x4 0) 177 x4 0) 176 x4 1) 0 x4))
                                  else none)
                                else none)
                              else if p2.1 135 x2 = 5 then
                              (md_lay_b295 (gW (gW (gW (gW (gW (gW (gW (gW (gW p2.1 173 x4 p2.2) 174 x4 x3) 175 x4 (-1)) 178 x4 0) 179 x4 0) 180 x4 0) 181 x4 0) 176 x4 0) 177 x4 0) x1 x2 x4 0)
                              else if p2.1 135 x2 = 6 then
                              (md_lay_b295 (gW (gW (gW (gW (gW (gW (gW (gW (gW p2.1 173 x4 p2.2) 174 x4 x3) 175 x4 (-1)) 178 x4 0) 179 x4 0) 180 x4 0) 181 x4 0) 176 x4 0) 177 x4 0) x1 x2 x4 0)
                              else if p2.1 135 x2 = 7 then
                              (if 0 ≤ x4 ∧ x4 < 20000 then
                                (if 0 ≤ x2 ∧ x2 < 4004 then
                                  (if 0 ≤ x2 ∧ x2 < 4004 then
                                    ((md_keep_2 (gW (gW (gW (gW (gW (gW (gW (gW (gW (gW p2.1 173 x4 p2.2) 174 x4 x3) 175 x4 (-1)) 178 x4 0) 179 x4 0) 180 x4 0) 181 x4 0) 176 x4 0) 177 x4 0) 176 x4 5) 134 (p2.1 142 x2) (p2.1 143 x2)).bind fun p5 =>
                                      (md_functionOf p5.1 p5.2).bind fun p6 =>
                                      if 0 ≤ x4 ∧ x4 < 20000 then
                                      (some (gW p6.1 177 x4 p6.2, 0))
                                      else none)
                                    else none)
                                  else none)
                                else none)
                              else if p2.1 135 x2 = 21 then
                              (if 0 ≤ x2 ∧ x2 < 4004 then
                                (if p2.1 139 x2 = (-1) then
                                  (if 0 ≤ x2 ∧ x2 < 4004 then
                                    (if 0 ≤ x2 ∧ x2 < 4004 then
                                      ((md_keep_2 (gW (gW (gW (gW (gW (gW (gW (gW (gW p2.1 173 x4 p2.2) 174 x4 x3) 175 x4 (-1)) 178 x4 0) 179 x4 0) 180 x4 0) 181 x4 0) 176 x4 0) 177 x4 0) 134 (p2.1 142 x2) (p2.1 143 x2)).bind fun p7 =>
                                        if 0 ≤ x4 ∧ x4 < 20000 then
                                        (some (gW p7.1 177 x4 p7.2, 0))
                                        else none)
                                      else none)
                                    else none)
                                  else
                                  (some (gW (gW (gW (gW (gW (gW (gW (gW (gW p2.1 173 x4 p2.2) 174 x4 x3) 175 x4 (-1)) 178 x4 0) 179 x4 0) 180 x4 0) 181 x4 0) 176 x4 0) 177 x4 0, 0)))
                                else none)
                              else if p2.1 135 x2 = 22 then
                              (if 0 ≤ x2 ∧ x2 < 4004 then
                                (if p2.1 139 x2 = (-1) then
                                  (if 0 ≤ x2 ∧ x2 < 4004 then
                                    (if 0 ≤ x2 ∧ x2 < 4004 then
                                      ((md_keep_2 (gW (gW (gW (gW (gW (gW (gW (gW (gW p2.1 173 x4 p2.2) 174 x4 x3) 175 x4 (-1)) 178 x4 0) 179 x4 0) 180 x4 0) 181 x4 0) 176 x4 0) 177 x4 0) 134 (p2.1 142 x2) (p2.1 143 x2)).bind fun p8 =>
                                        if 0 ≤ x4 ∧ x4 < 20000 then
                                        (some (gW p8.1 177 x4 p8.2, 0))
                                        else none)
                                      else none)
                                    else none)
                                  else
                                  (some (gW (gW (gW (gW (gW (gW (gW (gW (gW p2.1 173 x4 p2.2) 174 x4 x3) 175 x4 (-1)) 178 x4 0) 179 x4 0) 180 x4 0) 181 x4 0) 176 x4 0) 177 x4 0, 0)))
                                else none)
                              else (some (gW (gW (gW (gW (gW (gW (gW (gW (gW p2.1 173 x4 p2.2) 174 x4 x3) 175 x4 (-1)) 178 x4 0) 179 x4 0) 180 x4 0) 181 x4 0) 176 x4 0) 177 x4 0, 0)))
                            else none)
                          else none)
                        else none)
                      else none)
                    else none)
                  else none)
                else none)
              else none)
            else none)
          else none)
        else none)
      else none)
    else none)
  else none) := Lm.eqn (md_lay_b81_l ..) (.ite (.ite (.bind (md_numberOf_l ..) fun p1 => (.ite (.ite (.bind (md_numberOf_l ..) fun p2 => (.ite (.ite (.ite (.ite (.ite (.ite (.ite (.ite (.ite (.ite (.ite (md_lay_b295_l ..) (.ite (.ite (.ite (.bind (md_number_2_l ..) fun p3 => .cst) .cst) .cst) (.ite (.ite (.ite (.ite (.bind (md_keep_2_l ..) fun p4 => (.ite .cst .cst)) .cst) .cst) .cst) (.ite (.ite (.ite (.ite (md_lay_b461_l ..) (md_lay_b461_l ..)) .cst) .cst) (.ite (md_lay_b295_l ..) (.ite (md_lay_b295_l ..) (.ite (.ite (.ite (.ite (.bind (md_keep_2_l ..) fun p5 => (.bind (md_functionOf_l ..) fun p6 => (.ite .cst .cst))) .cst) .cst) .cst) (.ite (.ite (.ite (.ite (.ite (.bind (md_keep_2_l ..) fun p7 => (.ite .cst .cst)) .cst) .cst) .cst) .cst) (.ite (.ite (.ite (.ite (.ite (.bind (md_keep_2_l ..) fun p8 => (.ite .cst .cst)) .cst) .cst) .cst) .cst) .cst))))))))) .cst) .cst) .cst) .cst) .cst) .cst) .cst) .cst) .cst) .cst)) .cst) .cst)) .cst) .cst) fun n => (rfl)
theorem md_lay_b295_e (σ : gM) (x1 x2 x4 x5 : Int) : md_lay_b295 σ x1 x2 x4 x5 =
  (if 0 ≤ x1 ∧ x1 < 51 then
  (if x5 < σ 152 x1 then
    (if 0 ≤ w32 ((w32 (12 * x1)) + x5) ∧ w32 ((w32 (12 * x1)) + x5) < 612 then
      (if 0 ≤ w32 ((w32 (12 * x1)) + x5) ∧ w32 ((w32 (12 * x1)) + x5) < 612 then
        (if 0 ≤ x2 ∧ x2 < 4004 then
          (if 0 ≤ x2 ∧ x2 < 4004 then
            ((md_isWord σ (σ 153 (w32 ((w32 (12 * x1)) + x5))) (σ 154 (w32 ((w32 (12 * x1)) + x5))) (σ 142 x2) (σ 143 x2)).bind fun p1 =>
              if p1.2 = 0 then
              (md_lay_b358 p1.1 x1 x2 x4 x5)
              else
              (if 0 ≤ x4 ∧ x4 < 20000 then
                (md_lay_b358 (gW p1.1 175 x4 x5) x1 x2 x4 x5)
                else none))
            else none)
          else none)
        else none)
      else none)
    else
    (some (σ, 0)))
  else none) := Lm.eqn (md_lay_b295_l ..) (.ite (.ite (.ite (.ite (.ite (.ite (.bind (md_isWord_l ..) fun p1 => (.ite (md_lay_b358_l ..) (.ite (md_lay_b358_l ..) .cst))) .cst) .cst) .cst) .cst) .cst) .cst) fun n => (rfl)
theorem md_lay_b358_e (σ : gM) (x1 x2 x4 x5 : Int) : md_lay_b358 σ x1 x2 x4 x5 =
  (md_lay_b295 σ x1 x2 x4 (w32 (x5 + 1))) := Lm.eqn (md_lay_b358_l ..) (md_lay_b295_l ..) fun n => (rfl)
theorem md_lay_b461_e (σ : gM) (y0 y1 : Int) : md_lay_b461 σ y0 y1 =
  (if 0 ≤ y1 ∧ y1 < 20000 then
  (some (gW σ 177 y1 y0, 0))
  else none) := Lm.eqn (md_lay_b461_l ..) (.ite .cst .cst) fun n => (rfl)
