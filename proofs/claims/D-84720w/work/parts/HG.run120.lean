/-! the model's Stop is made -/
theorem stop_atoms {args : Array Value} {s : State} {Z : gZ} (hts : ∀ w ∈ lw_all, w.before args s = true) (hth : gThw Z s) : (∀ x ∈ Bundle.throwableAtoms, x.before args s = true) ∧ ∀ x ∈ Bundle.chain0Atoms RX11 ["java/lang/RuntimeException", "java/lang/Exception"], x.before args s = true := by
  obtain ⟨⟨u0, sen, -, h2, h3⟩, -, h5⟩ := hth
  have dec : ∀ x ∈ tDec, (Cond.declares x).before args s = true := fun x hx => va_Nw.use rfl (h5 x hx)
  refine ⟨fun x hx => ?_, fun x hx => ?_⟩
  · simp only [Bundle.throwableAtoms, List.mem_cons, List.not_mem_nil, or_false] at hx
    rcases hx with h | h | h | h | h | h | h | h | h | h | h | h | h | h | h | h | h | h | h | h | h | h | h | h <;> rw [h]
    · exact hts _ q243
    · exact hts _ q2015
    · exact hts _ q2024
    · exact hts _ q2026
    · exact hts _ q2029
    · exact hts _ q2031
    · exact hts _ q2016
    · exact hts _ q2017
    · exact hts _ q255
    · exact hts _ q256
    · exact hts _ q2018
    · exact hts _ q2023
    · exact hts _ q2027
    · exact hts _ q2043
    · exact hts _ q2005
    · exact hts _ q2044
    · exact hts _ q2007
    · exact hts _ q2045
    · exact hts _ q2009
    · exact hts _ q2019
    · exact h2.word
    · exact hts _ q2021
    · exact h3.word
    · exact hts _ q2011
  · simp only [Bundle.chain0Atoms, Bundle.passAtoms, List.mem_append, List.mem_cons, List.not_mem_nil, or_false] at hx
    rcases hx with (h | h | h | h | h) | (h | h | h | h | h) | (h | h | h | h | h) <;> rw [h]
    · exact hts _ q2033
    · exact hts _ q2034
    · exact hts _ q2035
    · exact hts _ q2036
    · exact dec _ (by simp [tDec, Bundle.init0])
    · exact hts _ q2036
    · exact hts _ q2037
    · exact hts _ q2038
    · exact hts _ q2039
    · exact dec _ (by simp [tDec, Bundle.init0])
    · exact hts _ q2039
    · exact hts _ q2040
    · exact hts _ q2041
    · exact hts _ q2016
    · exact dec _ (by simp [tDec, Bundle.init0, Bundle.tN])
section KST
variable {p : Program} {l : Launch} {e : Env} {R : Room} {s : State} {m : MethodId} {args : Array Value} {below : List Frame} {meth : Method} {c : Code} {Q : State → Prop} {cc : ByteArray} {nL : Nat} {Z : gZ} {A : Nat → Prop} {σ : gM} {cs : List Nat} {n cells slots pc : Nat} {ls st : List gV}
set_option maxHeartbeats 1000000 in
theorem k_stop {idx ic : Nat} {host own : String} (C : kCx p s m args c cc nL own Z A) (hfl : l.flags = pinnedFlags ++ [noTraceFlag]) (ha : zA Z 120 = n) (w1 : Cond.classLink own idx RX11 ∈ lw_all) (w3 : Cond.methodLinkNest own ic (Bundle.init0 RX11) host ∈ lw_tbl)
    (hcells : cells + 1 ≤ R.cells) (hslots : slots + 6 ≤ R.slots) (hRf : 6 ≤ R.frames) (hRl : 100 ≤ R.locals) (hw : ((st.map (cv Z)).map fun v => v.category).sum ≤ 8)
    (d1 : decode cc pc = .ok (.new idx, 3)) (d2 : decode cc (pc + 3) = .ok (.dup, 1)) (d3 : decode cc (pc + 3 + 1) = .ok (.invokespecial ic, 3))
    (K : kAt p l e R s m args below meth c Q nL A Z σ (cs ++ [120]) (n + 1) (cells + 1) (slots + 6) (pc + 3 + 1 + 3) ls ((2, 120) :: st)) : kAt p l e R s m args below meth c Q nL A Z σ cs n cells slots pc ls st := by
  intro H locs la hP hn hS hL
  obtain ⟨⟨hx, hb, hml, hown, hts, hKK, hinj, hnest, hstr⟩, hth, hAZ, hA⟩ := C
  have hKn := hKK.1 9 (RX11, TX11, 6) rfl
  refine W.newcK (C := RX11) (n := 6) hx hb hown (hts _ w1) (hts _ q1994) (hts _ q246) rfl d1 hcells hslots hKn.2.1 hn fun H1 kX hkX e1 z1 o1 => ?_
  refine lv_dup hx hb d2 rfl ?_
  have hsz : s.heap.size ≤ n := by rw [← hn]; exact hS.1
  obtain ⟨cb, hb1, hb2, hb3, hb4⟩ := u_born tyX11 hts in_X11 hKn hkX e1 tyX11_ok
  have hcb : cb = blank ((zD Z).1 9) kX := Option.some.inj (hb1.symm.trans e1)
  have hap := va_apart (own := own) hts in_X11 tyX11 tyX11_ok nmX11 hKK (ci := 9) rfl
  have hS1 : va_S A s.heap H1 locs := ⟨by omega, fun q h1 h2 => (o1 q (by omega)).trans (hS.2.1 q h1 h2), hS.2.2⟩
  have hP1 : kP Z σ cs H1 := hP.kept fun b hb => o1 _ (by rw [← hn]; exact hP.lt hb)
  obtain ⟨hat1, hat2⟩ := stop_atoms (args := args) hts hth
  have hth0 := hth
  obtain ⟨⟨u0, sen, hzX, hU, hSe⟩, -, -⟩ := hth
  intro W hW X
  have htr : e.platform.stackTraces = false := Launch.traces_off hfl X.admits
  have howns : e.platform.frameOwnsMonitors = true := by rw [X.admits.platform]
  have hfin : e.platform.finalization = false := by rw [X.admits.platform]
  have hpl : e.platform.magicAccessors = ({} : Platform).magicAccessors := by rw [X.admits.platform]
  obtain ⟨T, Z0, L, LZ, Y⟩ := ThrowableC.of_atoms (args := args) howns hfin hpl hat1
  obtain ⟨P1, Ps, hlen, L1, hL2, hP1m, hlink1, hlink⟩ := Bundle.chain0 (args := args) hpl Y.init0 ["java/lang/RuntimeException", "java/lang/Exception"] RX11 (by decide +kernel) (by decide +kernel) hat2
  have hfound : s.vm.findClass RX11 = some P1.m.cls := findClass_of_methodNamed hP1m
  have hcX : P1.m.cls = (zD Z).1 9 := Option.some.inj (hfound.symm.trans hKn.2.1)
  obtain ⟨c1, kX', hc1, hk, hord, -, -, hn6⟩ := Cond.instantiable_spec (hts _ q1994)
  cases Option.some.inj (hc1.symm.trans hfound)
  rw [← hcX] at hkX e1
  cases Option.some.inj (hkX.symm.trans hk)
  have hsel0 : selectMethod e.platform s.vm P1.m.cls T.fill0 = .method T.fill0 := by
    obtain ⟨c2, r2, m2, q1, q2, q3, q4, -⟩ := Cond.selects_spec (hts _ q2002)
    cases Option.some.inj (q1.symm.trans hfound)
    cases Option.some.inj (q2.symm.trans (State.methodFound?_of_named Y.fill0 (by decide)))
    cases Option.some.inj (q3.symm.trans Y.fill0)
    rw [Launch.admits_selectMethod X.admits]; exact q4
  have hselF : selectMethod e.platform s.vm P1.m.cls T.fill = .method T.fill := by
    obtain ⟨c2, r2, m2, q1, q2, q3, q4, -⟩ := Cond.selects_spec (hts _ q2003)
    cases Option.some.inj (q1.symm.trans hfound)
    cases Option.some.inj (q2.symm.trans (State.methodFound?_of_named Y.fill (by decide)))
    cases Option.some.inj (q3.symm.trans Y.fill)
    rw [Launch.admits_selectMethod X.admits]; exact q4
  obtain ⟨cu, ku, iu, fu, au, cellU, -, hu2, -, hu4, hu5, hu6, -, -, -, hu10, hu11⟩ := hU
  cases Option.some.inj (Y.unassigned.symm.trans hu2)
  cases Option.some.inj (hu4.symm.trans L.statics)
  obtain ⟨cv2, kv2, iv2, fv2, av2, cellV, -, hv2, -, hv4, hv5, -, -, -, -, hv10, -⟩ := hSe
  cases Option.some.inj (Y.sentinel.symm.trans hv2)
  cases Option.some.inj (hv4.symm.trans L.statics)
  cases Option.some.inj (hu5.symm.trans hv5)
  have haS : T.aS < s.heap.size := (Array.getElem?_eq_some_iff.mp hu5).1
  have hcellS : W.heap[T.aS]? = some cellU := by rw [hW, hS1.2.1 T.aS haS fun z => hu11 (hAZ _ haS z)]; exact hu5
  have hknownS : cellU.vm ≠ .unknown := fun q => by rw [q] at hu6; cases hu6
  have hneS : T.aS ≠ n := Nat.ne_of_lt (Nat.lt_of_lt_of_le haS hsz)
  have hcell : W.heap[n]? = some (freshCell P1.m.cls kX) := by rw [hW]; exact e1
  obtain ⟨ci198, i198, fB, hk198, hg198, ha198, hsB, -, hnB, htB, hffB⟩ := Cond.ownField (t := .object "java/lang/Object") Y.found L.cls (by decide +kernel) (hts _ q2014) (hts _ q2013) e.platform hpl
  obtain ⟨tyC, dC, hdC, hdnC⟩ := Cond.laysAt hfound hk Y.cause (hts _ q2004)
  obtain ⟨tyS, dS, hdS, hdnS⟩ := Cond.laysAt hfound hk Y.stack (hts _ q2006)
  obtain ⟨tyP, dP, hdP, hdnP⟩ := Cond.laysAt hfound hk Y.supp (hts _ q2008)
  obtain ⟨tyB, dB, hdB, hdnB⟩ := Cond.laysAt hfound hk hffB (hts _ q2012)
  have bC := Cond.laysApart hdB hdC hdnB hdnC (by rw [hnB, Y.causeName]; decide)
  have bS := Cond.laysApart hdB hdS hdnB hdnS (by rw [hnB, Y.stackName]; decide)
  have bP := Cond.laysApart hdB hdP hdnB hdnP (by rw [hnB, Y.suppName]; decide)
  have hskip : SkipFacts T e.platform s (fun u => u) u0 ((preparedCellV T.toThrowableT (freshCell P1.m.cls kX) n u0 sen).withEntry W.cur) :=
    ⟨{ ci198 := ci198, i198 := i198, fBack := fB }, ⟨hk198, hg198, ha198, hsB⟩, by
      have := fresh_default (c := P1.m.cls) tyB
      rw [htB] at this
      simpa [preparedCellV, Cell.setSlot, Cell.withEntry, Array.getElem?_setIfInBounds, bC, bS, bP, bC.symm, bS.symm, bP.symm, defaultValue] using this, fun _ _ => rfl⟩
  have hdc : decode c.code (pc + 3 + 1) = .ok (.invokespecial ic, 3) := by rw [hb]; exact d3
  have hds : parseMethodDescriptor (Bundle.init0 RX11).desc = some ⟨[], none⟩ := by decide +kernel
  have hlen0 : ∀ sig, parseMethodDescriptor (Bundle.init0 RX11).desc = some sig → ([] : List Value).length = sig.parameters.length := fun sig h => by
    rw [← Option.some.inj (hds.symm.trans h)]
    rfl
  obtain ⟨mk, methM, cM, kPm, vm₁, hnamed, hmethM, hcodeM, -, hlocalsM, -, hkP, -, hW₁, hstep₁⟩ := Steps.initColdArgsNest (e := e) X.here hx X.warmed hpl hown (t := Bundle.init0 RX11) rfl (by decide +kernel) (va_Nw.use rfl (hnest _ w3 rfl)) (hts _ q2033) (hts _ q2034) (f := F0 m (pc + 3 + 1) la (.ref n :: .ref n :: st.map (cv Z))) rfl (argsL := []) (a := n) (rest := .ref n :: st.map (cv Z)) hlen0 rfl hdc
  cases Option.some.inj (hnamed.symm.trans hP1m)
  have X₁ := X.noted hW₁
  obtain ⟨vm₂, X₂, st2⟩ := X₁.ctorPlainOffV hx (g := F0 m (pc + 3 + 1) la (.ref n :: st.map (cv Z))) rfl (hL.1.trans hml.symm) T L Z0 LZ (P1 :: Ps)
    (fun P hP => by rcases List.mem_cons.mp hP with rfl | hP; exact L1; exact hL2 P hP) ⟨hlink1, hlink⟩ (u0 := u0) (sen := sen) (self := n) (cell := freshCell P1.m.cls kX) (cellS := cellU)
    hcell (fun _ => by simp) (by simp) rfl rfl hsel0 hselF hcellS hneS hknownS hu10 hv10
    (Takes.of_laid hk hord tyC (by rw [Y.causeType]; rfl)) (Takes.of_laid hk hord tyS (by rw [Y.stackType]; exact fits_refV_array _ u0)) (Takes.of_laid hk hord tyP (by rw [Y.suppType]; exact fits_refV_object _ sen)) Y.objLocals hskip htr [] hdc
    (by simp only [List.length_cons, hlen, List.length_nil]; omega) (by
      show 2 * 0 + ((Value.ref n :: st.map (cv Z)).map fun v => v.category).sum + (13 * (P1 :: Ps).length + 41) ≤ R.locals
      simp only [List.length_cons, hlen, List.length_nil, List.map_cons, List.sum_cons]
      have : (Value.ref n).category = 1 := rfl
      omega)
  have s0 : T.fCause.slot = (zD Z).2 9 0 := by
    obtain ⟨cf, kf, fi, fd, g1, g2⟩ := hKn.1 0 (by decide)
    cases Option.some.inj (Y.cause.symm.trans g1)
    exact g2
  have s1 : T.fStack.slot = (zD Z).2 9 1 := by
    obtain ⟨cf, kf, fi, fd, g1, g2⟩ := hKn.1 1 (by decide)
    cases Option.some.inj (Y.stack.symm.trans g1)
    exact g2
  have s2 : T.fSupp.slot = (zD Z).2 9 2 := by
    obtain ⟨cf, kf, fi, fd, g1, g2⟩ := hKn.1 2 (by decide)
    cases Option.some.inj (Y.supp.symm.trans g1)
    exact g2
  generalize hcE : (preparedCellV T.toThrowableT (freshCell P1.m.cls kX) n u0 sen).setSlot T.fStack.slot u0.v = cE at X₂ st2
  have hcE2 : cE = (((cb.setSlot ((zD Z).2 9 0) (.ref n)).setSlot ((zD Z).2 9 1) u0.v).setSlot ((zD Z).2 9 2) sen.v).setSlot ((zD Z).2 9 1) u0.v := by
    rw [← hcE, ← s0, ← s1, ← s2, hcb, ← hcX]
    rfl
  have h4 := t_set (t_set (t_set (t_set hb4 hap (show 0 < 6 by decide) (.ref n)) hap (show 1 < 6 by decide) u0.v) hap (show 2 < 6 by decide) sen.v) hap (show 1 < 6 by decide) u0.v
  rw [← hcE2] at h4
  have hltn : n < ((W.setVm vm₁).setVm vm₂).heap.size := (Array.getElem?_eq_some_iff.mp hcell).1
  have hE := heapAt_setCell_self (s := (W.setVm vm₁).setVm vm₂) cE hltn
  have hne : ∀ q, q ≠ n → (((W.setVm vm₁).setVm vm₂).setCell n cE).heap[q]? = H1[q]? := fun q hq => by
    rw [heapAt_setCell_ne _ (Ne.symm hq)]
    show W.heap[q]? = _
    rw [hW]
  have hzE : (((W.setVm vm₁).setVm vm₂).setCell n cE).heap.size = n + 1 := by
    rw [size_setCell]
    show W.heap.size = _
    rw [hW, z1]
  have hst : va_at (zD Z) gcl (zA Z 120, gpic Z σ 120) (((W.setVm vm₁).setVm vm₂).setCell n cE).heap := by
    have e19 : gpic Z σ 120 = .inr (9, zX Z) := by
      unfold gpic
      rw [if_neg (by decide +kernel), if_neg (by decide +kernel), if_neg (by decide +kernel), if_pos (by decide +kernel)]
    rw [e19, ha]
    refine ⟨(RX11, TX11, 6), rfl, cE, hE, ?_, ?_, fun k hk => ?_⟩
    · rw [hcE2, hcb]; rfl
    · rw [hcE2, hcb]; rfl
    · rw [h4 k hk, hzX, ha]
      have hk6 : k = 0 ∨ k = 1 ∨ k = 2 ∨ k = 3 ∨ k = 4 ∨ k = 5 := by
        have hk : k < 6 := hk
        omega
      rcases hk6 with h | h | h | h | h | h <;> subst h <;> rfl
  have go := K (((W.setVm vm₁).setVm vm₂).setCell n cE).heap _ la ((hP1.kept fun b hb => hne _ (by have := hP.lt hb; omega)).app fun b hb => by rw [List.mem_singleton.mp hb]; exact hst) hzE ⟨by rw [hzE]; omega, fun q h1 h2 => (hne q (by omega)).trans (hS1.2.1 q h1 h2), fun q hq => ?_⟩ hL _ rfl X₂
  · obtain ⟨t, a1, b1⟩ := go
    refine ⟨t, hstep₁ _ fun acts => ?_, b1⟩
    rw [doInvoke_state]
    refine st2 _ ?_
    have e2 : cv Z (2, 120) = .ref n := by rw [← ha]; rfl
    rw [List.map_cons, e2] at a1
    exact a1
  · rcases List.mem_append.mp hq with h | h
    · exact hS.2.2 q h
    · have hbq : q.base = n := by
        simp only [List.mem_cons, List.not_mem_nil, or_false] at h
        rcases h with rfl | rfl | rfl | rfl <;> rfl
      rw [hbq]
      exact hA n hsz
end KST
