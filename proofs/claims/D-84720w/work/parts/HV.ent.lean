/-! what stands at the law's entry (printed by mkent.py) -/
def txO : List (String × Nat × Nat) := [("GraftTrees", 115, 293), ("GraftTreesModel", 579, 336), ("GraftTreesModel", 581, 346), ("GraftTreesModel", 583, 354), ("GraftTreesModel", 584, 363), ("GraftTreesModel", 595, 374), ("GraftTreesModel", 597, 385), ("GraftTreesModel", 599, 395), ("GraftTreesModel", 601, 406), ("GraftTreesModel", 602, 417), ("GraftTreesModel", 603, 431), ("GraftTreesModel", 605, 442), ("GraftTreesModel", 611, 452), ("GraftTreesModel", 465, 463), ("GraftTreesModel", 463, 529), ("GraftTrees$Parser", 178, 213), ("GraftTrees$Parser", 183, 245), ("GraftTrees$Parser", 185, 253), ("GraftTrees$Parser", 187, 262), ("GraftTrees$Parser", 192, 272), ("GraftTrees$Parser", 194, 281), ("GraftTrees$Tokens", 75, 179), ("GraftTrees$Machine", 434, 330)]
def gStrE : List ((String × Nat × String × Nat) × Nat) := [(("GraftTrees", 115, "main", 0), 0), (("GraftTreesModel", 579, "print", 1), 0), (("GraftTreesModel", 581, "new", 2), 0), (("GraftTreesModel", 583, "kind", 3), 0), (("GraftTreesModel", 584, "define", 4), 0), (("GraftTreesModel", 595, "null", 5), 0), (("GraftTreesModel", 597, "truth", 6), 0), (("GraftTreesModel", 599, "number", 7), 0), (("GraftTreesModel", 601, "string", 8), 0), (("GraftTreesModel", 602, "function", 9), 0), (("GraftTreesModel", 603, "object", 10), 0), (("GraftTreesModel", 605, "true", 11), 0), (("GraftTreesModel", 611, "false", 12), 0), (("GraftTreesModel", 465, "function if else while return break continue true false null ", 13), 0), (("GraftTreesModel", 463, "(){}[],;.=!<>+-*/&|", 14), 0), (("GraftTreesModel", 936, "main", 0), 560), (("GraftTrees$Forest", 105, "number", 7), 405), (("GraftTrees$Forest", 107, "string", 8), 416), (("GraftTrees$Forest", 109, "truth", 6), 394), (("GraftTrees$Forest", 111, "null", 5), 382), (("GraftTrees$Forest", 113, "function", 9), 429), (("GraftTrees$Forest", 115, "object", 10), 441), (("GraftTrees$Forest", 151, "print", 1), 345), (("GraftTrees$Forest", 157, "new", 2), 353), (("GraftTrees$Forest", 159, "kind", 3), 362), (("GraftTrees$Forest", 160, "define", 4), 373), (("GraftTrees$Parser", 132, "function", 9), 430), (("GraftTrees$Parser", 178, "if", 15), 0), (("GraftTrees$Parser", 229, "true", 11), 450), (("GraftTrees$Parser", 231, "false", 12), 461), (("GraftTrees$Parser", 233, "null", 5), 383), (("GraftTrees$Parser", 183, "else", 16), 0), (("GraftTrees$Parser", 185, "while", 17), 0), (("GraftTrees$Parser", 187, "return", 18), 0), (("GraftTrees$Parser", 192, "break", 19), 0), (("GraftTrees$Parser", 194, "continue", 20), 0), (("GraftTrees$Tokens", 86, "function if else while return break continue true false null ", 13), 528), (("GraftTrees$Tokens", 75, "(){}[],;.=!<>+-*/", 21), 0), (("GraftTrees$Machine", 421, "true", 11), 451), (("GraftTrees$Machine", 423, "false", 12), 462), (("GraftTrees$Machine", 429, "null", 5), 384), (("GraftTrees$Machine", 434, "{}", 22), 0)]
theorem tx_words : ∀ q ∈ gStrC, Cond.stringRef q.1 q.2.1 q.2.2.1 ∈ lw_tbl := by
  unfold gStrC
  exact List.forall_mem_cons.mpr ⟨q1544, List.forall_mem_cons.mpr ⟨q2063, List.forall_mem_cons.mpr ⟨q2064, List.forall_mem_cons.mpr ⟨q2065, List.forall_mem_cons.mpr ⟨q2066, List.forall_mem_cons.mpr ⟨q2104, List.forall_mem_cons.mpr ⟨q2105, List.forall_mem_cons.mpr ⟨q2106, List.forall_mem_cons.mpr ⟨q2107, List.forall_mem_cons.mpr ⟨q2108, List.forall_mem_cons.mpr ⟨q2109, List.forall_mem_cons.mpr ⟨q2110, List.forall_mem_cons.mpr ⟨q2111, List.forall_mem_cons.mpr ⟨q2652, List.forall_mem_cons.mpr ⟨q2661, List.forall_mem_cons.mpr ⟨q2794, List.forall_mem_cons.mpr ⟨q364, List.forall_mem_cons.mpr ⟨q365, List.forall_mem_cons.mpr ⟨q366, List.forall_mem_cons.mpr ⟨q367, List.forall_mem_cons.mpr ⟨q368, List.forall_mem_cons.mpr ⟨q369, List.forall_mem_cons.mpr ⟨q382, List.forall_mem_cons.mpr ⟨q458, List.forall_mem_cons.mpr ⟨q459, List.forall_mem_cons.mpr ⟨q460, List.forall_mem_cons.mpr ⟨q1282, List.forall_mem_cons.mpr ⟨q1368, List.forall_mem_cons.mpr ⟨q1409, List.forall_mem_cons.mpr ⟨q1410, List.forall_mem_cons.mpr ⟨q1411, List.forall_mem_cons.mpr ⟨q1432, List.forall_mem_cons.mpr ⟨q1433, List.forall_mem_cons.mpr ⟨q1434, List.forall_mem_cons.mpr ⟨q1435, List.forall_mem_cons.mpr ⟨q1436, List.forall_mem_cons.mpr ⟨q1202, List.forall_mem_cons.mpr ⟨q1268, List.forall_mem_cons.mpr ⟨q1727, List.forall_mem_cons.mpr ⟨q1728, List.forall_mem_cons.mpr ⟨q1735, List.forall_mem_cons.mpr ⟨q1736, fun w h => by cases h⟩⟩⟩⟩⟩⟩⟩⟩⟩⟩⟩⟩⟩⟩⟩⟩⟩⟩⟩⟩⟩⟩⟩⟩⟩⟩⟩⟩⟩⟩⟩⟩⟩⟩⟩⟩⟩⟩⟩⟩⟩⟩
def txT (i : Nat) : Term := .string (txO.getD i ("", 0, 0)).1 (txO.getD i ("", 0, 0)).2.1
def txV (i : Nat) : Term := .field (txT i) "java/lang/String" "value" "[B"
def txP (i : Nat) : Nat := (txO.getD i ("", 0, 0)).2.2
/-- what the Statement gives of the start -/
def flT : List Jvm.Cond := flatC (Jvm.Cond.and given_1 narrow_1)
def fA (k : Nat) (w : Jvm.Cond) : Bool := decide (flT[k]? = some w)
theorem fA_mem {k : Nat} {w : Jvm.Cond} (h : fA k w = true) : w ∈ flT := List.mem_of_getElem? (of_decide_eq_true h)
def txC (i : Nat) : Bool := fA (txP i) (.exactly (txT i) "java/lang/String") && fA (txP i + 1) (.eq (.field (txT i) "java/lang/String" "coder" "B") (.int 0)) && fA (txP i + 2) (.arrayOf (txV i) .byte) && fA (txP i + 3) (.eq (.length (txV i)) (.int (Int32.ofNat (gStrLen.getD i 0)))) && (List.range (gStrLen.getD i 0)).all fun j => fA (txP i + 4 + j) (.eq (.elem (txV i) (.int (Int32.ofNat j))) (.int ((gStrByt.getD i []).getD j 0)))
set_option maxRecDepth 1000000 in
theorem tx_chk : (List.range 23).all txC = true := by decide +kernel
def txE (q : (String × Nat × String × Nat) × Nat) : Bool := decide (q.1.2.2.2 < 23) && (decide (Term.string q.1.1 q.1.2.1 = txT q.1.2.2.2) || fA q.2 (.eq (txT q.1.2.2.2) (.string q.1.1 q.1.2.1)) || fA q.2 (.eq (.string q.1.1 q.1.2.1) (txT q.1.2.2.2)))
set_option maxRecDepth 1000000 in
theorem te_chk : gStrE.all txE = true := by decide +kernel
theorem te_map : gStrE.map (fun q => q.1) = gStrC := rfl
def txD (i j : Nat) : Bool := i == j || Int32.ofNat (gStrLen.getD i 0) != Int32.ofNat (gStrLen.getD j 0) || (List.range (gStrLen.getD i 0)).any fun k => decide (k < gStrLen.getD j 0) && ((gStrByt.getD i []).getD k 0 != (gStrByt.getD j []).getD k 0)
set_option maxRecDepth 1000000 in
theorem td_chk : (List.range 23).all (fun i => (List.range 23).all fun j => txD i j) = true := by decide +kernel
set_option maxRecDepth 1000000 in
theorem tl_chk : ∀ i, i < 23 → gStrLen.getD i 0 < 1000 := by decide +kernel
section ENT
variable {args : Array Value} {s : State}
theorem eqR {t u : Term} {a : Nat} (h : (Cond.eq t u).before args s = true) (ht : t.eval args s none [] s = some (.ref a)) : u.eval args s none [] s = some (.ref a) := by
  cases hv : u.eval args s none [] s with
  | none => simp [Cond.before, Cond.holds, Cond.value, ht, hv] at h
  | some w =>
    simp only [Cond.before, Cond.holds, Cond.value, ht, hv] at h
    cases w <;> simp_all
theorem eqRr {t u : Term} {a : Nat} (h : (Cond.eq t u).before args s = true) (hu : u.eval args s none [] s = some (.ref a)) : t.eval args s none [] s = some (.ref a) := by
  cases hv : t.eval args s none [] s with
  | none => simp [Cond.before, Cond.holds, Cond.value, hu, hv] at h
  | some w =>
    simp only [Cond.before, Cond.holds, Cond.value, hu, hv] at h
    cases w <;> simp_all
/-- a constant text's letters tell it from the others -/
theorem txs_inj {A : Nat → Prop} {adK adV : Nat → Nat} (h : ∀ i : Nat, i < 23 → va_OF "java/lang/String" "value" "[B" (.ref (adV i)) (adK i) A s s.heap ∧ va_T .byte (adV i) (gStrLen.getD i 0) (fun j => .int ((gStrByt.getD i []).getD j 0)) A s s.heap) {i j : Nat} (hi : i < 23) (hj : j < 23) (e : adK i = adK j) : i = j := by
  obtain ⟨⟨cf, k, fi, f, cell, g1, g2, g3, g4, g5, -⟩, ⟨ce, t1, t2, t3, t4, t5, t6, -⟩⟩ := h i hi
  obtain ⟨⟨cf', k', fi', f', cell', g1', g2', g3', g4', g5', -⟩, ⟨ce', t1', t2', t3', t4', t5', t6', -⟩⟩ := h j hj
  rw [e] at g3
  cases g3.symm.trans g3'
  cases g1.symm.trans g1'
  have ev : adV i = adV j := by
    have := g5.symm.trans g5'
    exact Value.ref.inj (Option.some.inj this)
  rw [ev] at t1
  cases t1.symm.trans t1'
  have hd := List.all_eq_true.mp (List.all_eq_true.mp td_chk i (List.mem_range.mpr hi)) j (List.mem_range.mpr hj)
  unfold txD at hd
  simp only [Bool.or_eq_true] at hd
  rcases hd with (hd | hd) | hd
  · exact eq_of_beq hd
  · exact absurd (t5.symm.trans t5') (bne_iff_ne.mp hd)
  · obtain ⟨q, q1, q2⟩ := List.any_eq_true.mp hd
    simp only [Bool.and_eq_true, decide_eq_true_eq] at q2
    have a1 := t6 q (List.mem_range.mp q1)
    have a2 := t6' q q2.1
    have a3 := Value.int.inj (Option.some.inj (a1.symm.trans a2))
    exact absurd a3 (bne_iff_ne.mp q2.2)
/-- the constant texts -/
theorem tx_all {A : Nat → Prop} (hg : (Jvm.Cond.and given_1 narrow_1).before args s = true) (hA : ∀ a : Nat, a < s.heap.size → ¬ A a) : ∃ adK adV : Nat → Nat, vk_S 23 gStrLen gStrByt adK adV A s s.heap ∧ ∀ i : Nat, i < 23 → (txT i).eval args s none [] s = some (.ref (adK i)) := by
  have hf : ∀ w ∈ flT, w.before args s = true := flat_of_before _ hg
  have h0 : ∀ i : Nat, ∃ q : Nat × Nat, i < 23 → (txT i).eval args s none [] s = some (.ref q.1) ∧ va_O "java/lang/String" q.1 A s s.heap ∧ va_OF "java/lang/String" "coder" "B" (.int 0) q.1 A s s.heap ∧ va_OF "java/lang/String" "value" "[B" (.ref q.2) q.1 A s s.heap ∧ va_T .byte q.2 (gStrLen.getD i 0) (fun j => .int ((gStrByt.getD i []).getD j 0)) A s s.heap := by
    intro i
    by_cases hi : i < 23
    · have hc := List.all_eq_true.mp tx_chk i (List.mem_range.mpr hi)
      unfold txC at hc
      simp only [Bool.and_eq_true] at hc
      obtain ⟨⟨⟨⟨c1, c2⟩, c3⟩, c4⟩, c5⟩ := hc
      have hel : ∀ j : Nat, j < gStrLen.getD i 0 → (Cond.eq (.elem (txV i) (.int (Int32.ofNat j))) (.int ((gStrByt.getD i []).getD j 0))).before args s = true := fun j hj => hf _ (fA_mem (List.all_eq_true.mp c5 j (List.mem_range.mpr hj)))
      obtain ⟨a, c, cA, kA, q1, q2, q3, q4, q5, q6, -⟩ := Cond.exactly_spec (args := args) (first := s) (o := none) (s := s) (idx := []) (t := txT i) (cls := "java/lang/String") (hf _ (fA_mem c1))
      obtain ⟨t, ht, hT⟩ := va_Tof (f := fun j => .int ((gStrByt.getD i []).getD j 0)) (A := A) (Nat.lt_trans (tl_chk i hi) (by decide)) (hf _ (fA_mem c3)) (va_eqt (hf _ (fA_mem c4))) (fun j hj => va_eqt (hel j hj)) hA
      exact ⟨(a, t), fun _ => ⟨q1, ⟨cA, q3, q5, by rw [q6]; exact q2, hA a (Array.getElem?_eq_some_iff.mp q3).1⟩, vk_OFof q1 (va_eqt (hf _ (fA_mem c2))) hA, vk_OFof q1 ht hA, hT⟩⟩
    · exact ⟨(0, 0), fun h => absurd h hi⟩
  obtain ⟨ad, had⟩ := Classical.axiomOfChoice h0
  exact ⟨fun i => (ad i).1, fun i => (ad i).2, ⟨fun i hi => (had i hi).2, fun i j hi hj e => txs_inj (adK := fun i => (ad i).1) (adV := fun i => (ad i).2) (fun i hi => (had i hi).2.2.2) hi hj e⟩, fun i hi => (had i hi).1⟩
theorem tx_refs {adK : Nat → Nat} (hg : (Jvm.Cond.and given_1 narrow_1).before args s = true) (h : ∀ i : Nat, i < 23 → (txT i).eval args s none [] s = some (.ref (adK i))) : ∀ q ∈ gStrC, q.2.2.2 < 23 ∧ (Term.string q.1 q.2.1).eval args s none [] s = some (.ref (adK q.2.2.2)) := by
  have hf : ∀ w ∈ flT, w.before args s = true := flat_of_before _ hg
  intro q hq
  rw [← te_map] at hq
  obtain ⟨r, hr, rfl⟩ := List.mem_map.mp hq
  have hc := List.all_eq_true.mp te_chk r hr
  unfold txE at hc
  simp only [Bool.and_eq_true, Bool.or_eq_true, decide_eq_true_eq] at hc
  obtain ⟨c1, (c2 | c2) | c2⟩ := hc
  · have h9 := h _ c1
    rw [← c2] at h9
    exact ⟨c1, h9⟩
  · exact ⟨c1, eqR (hf _ (fA_mem c2)) (h _ c1)⟩
  · exact ⟨c1, eqRr (hf _ (fA_mem c2)) (h _ c1)⟩
/-- classes -/
theorem en_inst {ci : Nat} {C : String} {T : u_T} {nf : Nat} (h : gcl[ci]? = some (C, T, nf)) : ∃ n, Cond.instantiable C n ∈ lw_all := by
  unfold gcl at h
  match ci, h with
  | 0, h => cases h; exact ⟨_, q258⟩
  | 1, h => cases h; exact ⟨_, q332⟩
  | 2, h => cases h; exact ⟨_, q340⟩
  | 3, h => cases h; exact ⟨_, q650⟩
  | 4, h => cases h; exact ⟨_, q712⟩
  | 5, h => cases h; exact ⟨_, q798⟩
  | 6, h => cases h; exact ⟨_, q804⟩
  | 7, h => cases h; exact ⟨_, q934⟩
  | 8, h => cases h; exact ⟨_, q250⟩
  | 9, h => cases h; exact ⟨_, q1994⟩
  | 10, h => cases h; exact ⟨_, q1988⟩
  | n + 11, h => simp at h
theorem en_cls (hts : ∀ w ∈ lw_all, w.before args s = true) : ∃ D : va_G, ∀ (c : Nat) (q : vw_C), gcl[c]? = some q → u_Kn s q.1 q.2.1 q.2.2 (D.1 c) (D.2 c) := by
  have h0 : ∀ c : Nat, ∃ d : ClassId × (Nat → Nat), ∀ q : vw_C, gcl[c]? = some q → u_Kn s q.1 q.2.1 q.2.2 d.1 d.2 := by
    intro c
    cases hc : gcl[c]? with
    | none => exact ⟨(0, fun _ => 0), fun q hq => by cases hq⟩
    | some r =>
      obtain ⟨C, T, nf⟩ := r
      obtain ⟨n, hn⟩ := en_inst hc
      obtain ⟨cC, iS, h⟩ := u_known (n := n) hts (gcl_ok _ _ _ _ hc).1 (hts _ hn)
      exact ⟨(cC, iS), fun q hq => by cases hq; exact h⟩
  obtain ⟨d, hd⟩ := Classical.axiomOfChoice h0
  exact ⟨(fun c => (d c).1, fun c => (d c).2), fun c q hq => hd c q hq⟩
theorem en_arr {ty : FieldType} (hn : ∀ C, ty ≠ .object C) (h : (Cond.arrayClass ty).before args s = true) : ∃ c : ClassId, ArrOfT s c ty ∧ va_RA s c ty := by
  obtain ⟨c, k, comp, h1, h2, h3⟩ := Cond.arrayClass_spec h
  refine ⟨c, fun n z => ⟨fun k h => by cases h, k, h2, comp, h3⟩, ?_⟩
  cases ty with
  | object C => exact absurd rfl (hn C)
  | _ => exact h1
theorem en_str (h : (Cond.arrayOver (.object "java/lang/String")).before args s = true) : ∃ c : ClassId, ArrOfT s c (.object "java/lang/String") ∧ va_RA s c (.object "java/lang/String") := by
  obtain ⟨comp, c, k, h1, h2, h3, h4, h5⟩ := Cond.arrayOver_spec h
  exact ⟨c, fun n z => ⟨fun k h => by cases h, k, h3, comp, h4⟩, k, comp, h3, h4, h1, h5⟩
theorem en_nest (hts : ∀ w ∈ lw_tbl, w.before args s = true) : gNest s := by
  intro w hw hn
  unfold gnest at hn
  split at hn
  · exact va_Nw.of rfl (hts _ hw)
  · exact va_Nw.of rfl (hts _ hw)
  · cases hn
/-- a static that holds a reference or null -/
theorem en_lay {C n d : String} {A : Nat → Prop} (hl : (Cond.laysStatic C n d).before args s = true) (h : (Cond.isRef (.static C n d)).before args s = true) (hA : ∀ a : Nat, a < s.heap.size → ¬ A a) : ∃ u : RefV, gLs C n d u.v A s s.heap := by
  obtain ⟨c, k, i, f, a, cell, h1, h2, h3, h4, h5, h6, h7, h8, h9⟩ := Cond.laysStatic_spec hl
  obtain ⟨u, hu⟩ := Cond.staticRefV h2 h3 h4 h5 h6 h
  exact ⟨u, c, k, i, f, a, cell, h1, h2, h3, h4, h5, h6, h7, h8, h9, hu, hA a (Array.getElem?_eq_some_iff.mp h5).1⟩
theorem gLs.narrow {C n d : String} {v : Value} {A B : Nat → Prop} {U : State} {H : Heap} (h : gLs C n d v A U H) (hAB : ∀ q, B q → A q) : gLs C n d v B U H := by
  obtain ⟨c, k, i, f, a, cell, h1, h2, h3, h4, h5, h6, h7, h8, h9, h10, h11⟩ := h
  exact ⟨c, k, i, f, a, cell, h1, h2, h3, h4, h5, h6, h7, h8, h9, h10, fun z => h11 (hAB _ z)⟩
def etS (b fm : Nat) (adK adV : Nat → Nat) (k : Nat) : Nat := if k = 999 then b else if k < 999 then adK k else if k = 1000 + 23 then fm else adV (k - 1000)
def etC (c1 c2 c3 c4 c5 : ClassId) (k : Nat) : ClassId := if k = 1 then c1 else if k = 2 then c2 else if k = 3 then c3 else if k = 4 then c4 else c5
theorem en_K {b fm : Nat} {adK adV : Nat → Nat} : (∀ i, i < 23 → etS b fm adK adV i = adK i) ∧ ∀ i, i < 23 → etS b fm adK adV (1000 + i) = adV i := by
  refine ⟨fun i hi => ?_, fun i hi => ?_⟩
  · unfold etS
    rw [if_neg (by omega), if_pos (by omega)]
  · unfold etS
    rw [if_neg (by omega), if_neg (by omega), if_neg (by omega), Nat.add_sub_cancel_left]
/-- the world at the law's entry -/
theorem ent_Z {b : Nat} (hts : ∀ w ∈ lw_tbl, w.before args s = true) (hg : (Jvm.Cond.and given_1 narrow_1).before args s = true) : ∃ (D : va_G) (zs : Nat → Nat) (zc : Nat → ClassId) (zx : List Value), va_K D gcl (gtys (zMk D s.heap.size zs zc zx)) s ∧ gNest s ∧ gStrs (zMk D s.heap.size zs zc zx) s ∧ gThw (zMk D s.heap.size zs zc zx) s ∧ zs 999 = b := by
  have hta : ∀ w ∈ lw_all, w.before args s = true := fun w h => hts w (List.mem_filter.mp h).1
  have hf : ∀ w ∈ flT, w.before args s = true := flat_of_before _ hg
  have hA : ∀ a : Nat, a < s.heap.size → ¬ (fun q => s.heap.size ≤ q) a := fun a h1 h2 => Nat.not_lt.mpr h2 h1
  obtain ⟨D, hD⟩ := en_cls hta
  obtain ⟨c1, a1⟩ := en_arr (ty := .int) (fun C h => by cases h) (hta _ q329)
  obtain ⟨c2, a2⟩ := en_arr (ty := .byte) (fun C h => by cases h) (hta _ q328)
  obtain ⟨c3, a3⟩ := en_arr (ty := .boolean) (fun C h => by cases h) (hta _ q796)
  obtain ⟨c4, a4⟩ := en_arr (ty := .long) (fun C h => by cases h) (hta _ q330)
  obtain ⟨c5, a5⟩ := en_str (hts _ q363)
  obtain ⟨adK, adV, hS, hT⟩ := tx_all hg hA
  have hR := tx_refs hg hT
  have z1 : va_Z "java/lang/String" "COMPACT_STRINGS" "Z" (.int 1) (fun q => s.heap.size ≤ q) s s.heap := va_Zof (hts _ q400) (hta _ q231) (va_eqi (hf _ (fA_mem (k := 4) (by decide +kernel)))) hA
  have z2 : ∃ fm : Nat, va_Z "jdk/internal/util/Preconditions" "SIOOBE_FORMATTER" "Ljava/util/function/BiFunction;" (if fm = 0 then .null else .ref (fm - 1)) (fun q => s.heap.size ≤ q) s s.heap := by
    rcases va_Zqof (hts _ q416) (hta _ q233) (hf _ (fA_mem (k := 5) (by decide +kernel))) hA with h | ⟨t, h⟩
    · exact ⟨0, by rw [if_pos rfl]; exact h⟩
    · exact ⟨t + 1, by rw [if_neg (Nat.succ_ne_zero t)]; exact h⟩
  obtain ⟨fm, z2⟩ := z2
  obtain ⟨u0, y1⟩ := en_lay (hts _ q2020) (hf _ (fA_mem (k := 9) (by decide +kernel))) hA
  obtain ⟨sen, y2⟩ := en_lay (hts _ q2022) (hf _ (fA_mem (k := 10) (by decide +kernel))) hA
  refine ⟨D, etS b fm adK adV, etC c1 c2 c3 c4 c5, [.ref (s.heap.size + kO 120), u0.v, sen.v, .null, .null, .int 0], ?_, en_nest hts, ?_, ?_, rfl⟩
  · refine ⟨hD, fun k q hq => ?_⟩
    unfold gtys at hq
    match k, hq with
    | 0, hq => cases hq; exact a1
    | 1, hq => cases hq; exact a2
    | 2, hq => cases hq; exact a3
    | 3, hq => cases hq; exact a4
    | 4, hq => cases hq; exact a5
    | n + 5, hq => simp at hq
  · have hge : ∀ q, gA (zMk D s.heap.size (etS b fm adK adV) (etC c1 c2 c3 c4 c5) [.ref (s.heap.size + kO 120), u0.v, sen.v, .null, .null, .int 0]) q → s.heap.size ≤ q := fun q h => zMk_ge h
    refine ⟨fun q hq => ?_, ?_, z1.narrow hge, ?_⟩
    · obtain ⟨r1, r2⟩ := hR q hq
      refine vk_R.of (hts _ (tx_words q hq)) ?_
      show _ = some (.ref (etS b fm adK adV q.2.2.2))
      rw [en_K.1 _ r1]
      exact r2
    · have h1 := hS.narrow hge
      refine ⟨fun i hi => ?_, fun i j hi hj e => ?_⟩
      · have := h1.1 i hi
        show va_O "java/lang/String" (etS b fm adK adV i) _ _ _ ∧ va_OF "java/lang/String" "coder" "B" (.int 0) (etS b fm adK adV i) _ _ _ ∧ va_OF "java/lang/String" "value" "[B" (.ref (etS b fm adK adV (1000 + i))) (etS b fm adK adV i) _ _ _ ∧ va_T .byte (etS b fm adK adV (1000 + i)) _ _ _ _ _
        rw [en_K.1 i hi, en_K.2 i hi]
        exact this
      · have e : etS b fm adK adV i = etS b fm adK adV j := e
        rw [en_K.1 i hi, en_K.1 j hj] at e
        exact h1.2 i j hi hj e
    · have e1 : gnv (zMk D s.heap.size (etS b fm adK adV) (etC c1 c2 c3 c4 c5) [.ref (s.heap.size + kO 120), u0.v, sen.v, .null, .null, .int 0]) 23 = (if fm = 0 then .null else .ref (fm - 1)) := rfl
      rw [e1]
      exact z2.narrow hge
  · have hge : ∀ q, gA (zMk D s.heap.size (etS b fm adK adV) (etC c1 c2 c3 c4 c5) [.ref (s.heap.size + kO 120), u0.v, sen.v, .null, .null, .int 0]) q → s.heap.size ≤ q := fun q h => zMk_ge h
    refine ⟨⟨u0, sen, rfl, y1.narrow hge, y2.narrow hge⟩, va_AO.of (hts _ q363), fun x hx => ?_⟩
    unfold tDec at hx
    rcases List.mem_cons.mp hx with h | hx
    · rw [h]; exact va_Nw.of rfl (hts _ q2000)
    rcases List.mem_cons.mp hx with h | hx
    · rw [h]; exact va_Nw.of rfl (hts _ q1998)
    rcases List.mem_cons.mp hx with h | hx
    · rw [h]; exact va_Nw.of rfl (hts _ q1996)
    cases hx
end ENT
