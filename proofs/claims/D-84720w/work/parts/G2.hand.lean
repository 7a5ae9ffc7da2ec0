/-! methods that catch the one Stop -/
theorem MetX.ofWH {l : Launch} {y : MethodName} {ws ws' : List Cond} {rm : Room} {Pc : Array Value → State → Prop} {Qc : Array Value → State → Outcome → State → Prop} {free : Addr → Prop} {cc : ByteArray} {maxL : Nat} {ret : Option FieldType} {hh : List (Nat × Nat × Nat × Nat)}
    (hy : plainFor y = true) (hw : ws = Cond.codeWith y cc maxL ret hh :: ws')
    (body : ∀ p e s m args below meth c s₁, BodyLoose p l y (headSpec ws rm) cc maxL ret e s m args below meth c s₁ → c.maxLocals = maxL → Pc args s →
      W p l e (headSpec ws rm).room s m args below meth c s.heap [] 0 0 (MQX below Qc args s free) (entryFrame m args maxL)) : MetX l y ws rm Pc Qc free := by
  refine MetFree.of_bodySF (code := cc) (maxLocals := maxL) (ret := ret) hy ?_ ?_
  · intro args s m h hn
    obtain ⟨m', meth, c, h0, h1, h2, h3, h4, -, h5, h6, -⟩ := Cond.codeWith_spec (atoms_spec (ws := ws) h _ (by rw [hw]; exact List.mem_cons_self))
    cases h0.symm.trans hn
    exact ⟨meth, c, h1, h2, h3, h4, h5, h6⟩
  · intro p e s m args below meth c s₁ B hml hP _
    have hh0 : s₁.heap = s.heap := by rw [B.state]; rfl
    obtain ⟨t, a1, o, b1, b2, b3⟩ := body p e s m args below meth c s₁ B hml hP s₁ hh0 (Stand.of_body B)
    exact ⟨t, o, a1, b1, b2, ⟨b3.1, b3.2⟩⟩
/-- the search for a handler: the one entry covers the place, its class is that of the thing thrown (its link cold or warm) -/
theorem hn_find {e : Env} {s : State} {f : JFrame} {a : Addr} {meth : Method} {code : Code} (hm : s.vm.method? f.method = some meth) (hc : meth.code = some code) {x : ExceptionTableEntry} (hone : code.exceptionTable.toList = [x])
    (hx : covers x f.pc = true) (h0 : x.catchType ≠ 0) {c : ClassId} {cell : Cell} (hl : s.vm.ClassLinks e.platform f.method.cls x.catchType c) (hcell : s.heap[a]? = some cell) (hobj : ∀ k, cell.vm ≠ .statics k)
    (hk : ∃ k, s.vm.classes[cell.cls]? = some k) (hcl : ∃ k, s.vm.classes[c]? = some k) (hfit : s.vm.assignable cell.cls c = true) (Q : Handler → Pre) (E : CtlPost) (d : Bool) (acts : List Action) :
    Jvm.Sem.wp (findHandler f a) Q E e d acts s ↔ Q (.found x.handlerPc) d acts (s.setVm (s.vm.noted f.method.cls x.catchType (.cls c))) := by
  rw [W.findHandler_eq hm hc, hone]
  simp only [covers] at hx
  obtain ⟨ha, ht⟩ := (resolveClass_links e.toSetting hl).op (op := VmOp.resolveClass f.method.cls x.catchType) rfl
  have hal : s.vm.Alike (s.vm.noted f.method.cls x.catchType (.cls c)) := (Vm.Alike.refl s.vm).noted _ _ _
  obtain ⟨k1, hk1⟩ := hk
  obtain ⟨k2, hk2⟩ := hcl
  obtain ⟨k1', hk1', -⟩ := hal.2.2 _ _ hk1
  obtain ⟨k2', hk2', -⟩ := hal.2.2 _ _ hk2
  have hfit' : (s.vm.noted f.method.cls x.catchType (.cls c)).assignable cell.cls c = true := by rw [hal.assignable]; exact hfit
  simp [findHandler.go, hx, h0, ha, ht, hcell, hobj, hk1', hk2', hfit', VmOp.dirties, VmOp.acts]
theorem hn_steps {tb : Tables} {e : Env} {s target : State} {g : JFrame} {c : Code} {below : List Frame} {a : Addr} (h : At s g.method c below) {pc : Nat} {vm' : Vm}
    (hfind : ∀ (Q : Handler → Pre) (E : CtlPost) (d : Bool) (acts : List Action), Jvm.Sem.wp (findHandler g a) Q E e d acts ((s.setTop g).pushFrame (.throwing a)) ↔ Q (.found pc) d acts (((s.setTop g).pushFrame (.throwing a)).setVm vm'))
    (hrest : Steps tb e below ((s.setVm vm').setTop { g with pc := pc, stack := [.ref a] }) target) : Steps tb e below ((s.setTop g).pushFrame (.throwing a)) target := by
  obtain ⟨hgo, hw⟩ := h.throwing a
  refine Steps.head hgo hw ?_
  have hst : (stepThrowing e ((s.setTop g).pushFrame (.throwing a)) a (.java g :: (s.frames.tail))).Is ((((s.setTop g).pushFrame (.throwing a)).setVm vm').setFrames (.java { g with pc := pc, stack := [.ref a] } :: s.frames.tail)) [] := by
    simp only [stepThrowing, searchFrame, vmDo]
    generalize hr : Sem.go _ e false [] ((s.setTop g).pushFrame (.throwing a)) = res
    obtain ⟨as, rfl, ha⟩ := Sem.eq_ok_of hr (a := Handler.found pc) (s' := ((s.setTop g).pushFrame (.throwing a)).setVm vm') (acts' := []) (by simp [hfind _ _ _ _])
    exact ⟨rfl, ha⟩
  rw [stepThread_throwing (frames_entered h.top _), hst.1]
  obtain ⟨g₀, hg⟩ := Option.isSome_iff_exists.mp h.top
  obtain ⟨r, hr⟩ := State.topJava?_eq_some.mp hg
  have hr' : (s.setVm vm').frames = .java g₀ :: r := hr
  have two : ∀ (u : State) (F G : List Frame), ((u.setFrames F).setVm vm').setFrames G = (u.setVm vm').setFrames G := by
    intro u F G
    have h1 : (u.setFrames F).setVm vm' = (u.setVm vm').setFrames F := rfl
    rw [h1, State.setFrames_setFrames]
  rw [State.setTop_of_frames _ hr'] at hrest
  rw [hr, List.tail_cons, State.pushFrame, two, State.setTop_of_frames _ hr, two]
  exact hrest
section HN
variable {p : Program} {l : Launch} {e : Env} {R : Room} {s : State} {m : MethodId} {args : Array Value} {below : List Frame} {meth : Method} {c : Code} {Q : State → Prop} {cc : ByteArray} {nL : Nat} {Z : gZ}
theorem gK_stop : gK gStop = 19 := by decide +kernel
theorem hn_catch (C : gCx p s m args c cc nL "GraftTreesModel" Z) (hstop : gStop.toNat < zN Z) {a b t idx : Nat} (h0 : idx ≠ 0) (htab : c.exceptionTable.toList.map (fun h => (h.startPc, h.endPc, h.handlerPc, h.catchType)) = [(a, b, t, idx)])
    (hlink : Cond.classLink "GraftTreesModel" idx "GraftTreesModel$Stop" ∈ lw_all) :
    ∀ (σ : gM) (pc t' : Nat) (ls : List gV), gI (zN Z) σ → ghnd [(a, b, t)] pc = some t' → gAt p l e R s m args below meth c Q nL Z σ t' ls [(2, gStop)] → gThr p l e R s m args below meth c Q nL Z σ pc ls := by
  intro σ pc t' ls hI hg hat T locs la rest X hP hS hL
  obtain ⟨hx, hb, hml, hown, hts, hKK, hinj, hnest, hstr⟩ := C
  have hpc : a ≤ pc ∧ pc < b ∧ t' = t := by
    unfold ghnd at hg
    split at hg
    · rename_i hq
      cases hg
      simp only [Bool.and_eq_true, Nat.ble_eq, Nat.blt_eq] at hq
      exact ⟨hq.1, hq.2, rfl⟩
    · cases hg
  obtain ⟨h1, h2, rfl⟩ := hpc
  obtain ⟨x, hone, hxe⟩ : ∃ x, c.exceptionTable.toList = [x] ∧ (x.startPc, x.endPc, x.handlerPc, x.catchType) = (a, b, t', idx) := by
    cases hl : c.exceptionTable.toList with
    | nil => rw [hl] at htab; cases htab
    | cons x r =>
      rw [hl] at htab
      simp only [List.map_cons] at htab
      obtain ⟨q1, q2⟩ := List.cons.inj htab
      have : r = [] := List.map_eq_nil_iff.mp q2
      subst this
      exact ⟨x, rfl, q1⟩
  simp only [Prod.mk.injEq] at hxe
  obtain ⟨e1, e2, e3, e4⟩ := hxe
  have hcov : covers x pc = true := by simp [covers, e1, e2, h1, h2]
  obtain ⟨cell, hcell, hobj, hcls⟩ := va_recv hKK hP (ci := 9) (q0 := gStop.toNat) (a := zA Z gStop.toNat) (fs := zX Z) (by rfl) (by
    rw [gws_at hstop]
    unfold gpic
    have : gK (gStop.toNat : Int) = 19 := gK_stop
    simp only [this]
    rfl)
  have hpl : e.platform.magicAccessors = ({} : Platform).magicAccessors := by rw [X.admits.platform]
  obtain ⟨c', hc', hcl⟩ := Cond.classLink_spec hown (hts _ hlink) e.platform hpl
  have hce : c' = cell.cls := by
    have := hcls.symm.trans hc'
    cases this
    rfl
  subst hce
  obtain ⟨dk, _, _, kt, hd, _, _, _, _, hkt, _, hopen⟩ := hcl.here
  have hcl₀ := X.warmed.classLinks hcl
  have hW' : s.WarmedH (T.vm.noted m.cls idx (.cls cell.cls)) := X.warmed.noted hd hopen (State.rightAt_cls hcl)
  have hal := X.warmed.alike
  obtain ⟨kt', hkt', -⟩ := hal.2.2 _ _ hkt
  have X' := X.noted hW'
  obtain ⟨t, a1, a2⟩ := hat T.heap locs la hP hS hL (T.setVm (T.vm.noted m.cls idx (.cls cell.cls))) rfl X'
  refine ⟨t, ?_, a2⟩
  have hfind := fun (Q : Handler → Pre) (E : CtlPost) (d : Bool) (acts : List Action) => hn_find (e := e) (s := (T.setTop (F0 m pc la rest)).pushFrame (.throwing (zA Z gStop.toNat))) (f := F0 m pc la rest) (a := zA Z gStop.toNat) (meth := meth) (code := c) X.method' X.code hone hcov (by rw [e4]; exact h0) (c := cell.cls) (cell := cell) (by rw [e4]; exact hcl₀) hcell (VmData.ne_statics_of hobj)
    ⟨kt', hkt'⟩ ⟨kt', hkt'⟩ (va_asg _ _) Q E d acts
  rw [e4, e3] at hfind
  refine hn_steps (s := T) (g := F0 m pc la rest) X.here hfind ?_
  have e5 : cv Z (2, gStop) = .ref (zA Z gStop.toNat) := by simp [cv]
  simp only [List.map_cons, List.map_nil, e5] at a1
  exact a1
end HN
/-- a method's tables, with one handler -/
def gStatH (l : Launch) (Z : gZ) (y : MethodName) (cc : ByteArray) (L : Nat) (ret : Option FieldType) (rm : Room) (E : gE) (a b t idx : Nat) : Prop :=
  plainFor y = true ∧ gchk cc L E.1 = true ∧ E.2.2.2.2.2.1.1 ≤ zN Z ∧ gretok E.2.2.2.2.2.2 ret ∧ (E.2.2.2.2.1 = [(a, b, t)] ∧ idx ≠ 0 ∧ y.cls = "GraftTreesModel" ∧ Cond.classLink "GraftTreesModel" idx "GraftTreesModel$Stop" ∈ lw_all) ∧ (∀ idx c k t, gat E.2.1 idx = some (c, k, t) → gFld y.cls idx c k t) ∧ (∀ idx v, gat E.2.2.1 idx = some v → gCst y.cls idx v) ∧
  (∀ idx k rc rt f, gat E.2.2.2.1 idx = some (k, rc, rt, f) → gCal l Z y.cls rm idx k rc rt f ∨ gCalC Z y.cls rm idx k rc rt f)
section MTH
variable {l : Launch} {Z : gZ} {y : MethodName} {cc : ByteArray} {L : Nat} {ret : Option FieldType} {rm : Room} {E : gE} {a b t idx : Nat}
theorem gmetFH (hinj : gInj Z) (hstop : gStop.toNat < zN Z) (S : gStatH l Z y cc L ret rm E a b t idx) : gMet l Z y (wsW_ y cc L ret [(a, b, t, idx)]) rm (grt E.2.2.2.2.2.2) (.inl (gF E L)) := by
  obtain ⟨hy, hk, hlim, hok, ⟨hh, h0, hcls, hlink⟩, hF, hC, hL⟩ := S
  intro n as σ σ' x hf hI has
  simp only [gft, Option.map_eq_some_iff] at hf
  obtain ⟨q, hf, hq⟩ := hf
  cases hq
  obtain ⟨σ', x⟩ := q
  unfold gF at hf
  split at hf
  · cases hf
  · rename_i hli
    rw [gpadK_eq] at hf
    refine MetX.ofWH (cc := cc) (maxL := L) (ret := ret) (hh := [(a, b, t, idx)]) hy rfl ?_
    intro p e s m args below meth c s₁ B hml hv
    obtain ⟨rfl, hP, hK, hnest, hstr⟩ := hv
    have hts0 := atoms_spec (ws := wsW_ y cc L ret [(a, b, t, idx)]) B.pre
    have hts : ∀ w ∈ lw_all, w.before _ s = true := fun w h => hts0 w (List.mem_cons_of_mem _ h)
    have hown : s.vm.findClass y.cls = some m.cls := findClass_of_methodNamed B.named
    have C : gCx p s m ((as.map (cv Z)).toArray) c cc L y.cls Z := ⟨B.exec, B.bytes, hml, hown, hts, hK, hinj, hnest, hstr⟩
    have htab : c.exceptionTable.toList.map (fun h => (h.startPc, h.endPc, h.handlerPc, h.catchType)) = [(a, b, t, idx)] := by
      obtain ⟨m', meth', c', k0, k1, k2, -, -, k3, -, -, -⟩ := Cond.codeWith_spec (hts0 _ List.mem_cons_self)
      cases k0.symm.trans B.named
      cases k1.symm.trans B.method
      cases k2.symm.trans (Stand.of_body B).code
      exact k3
    rw [lg_entry_eq]
    refine gB_sound (r := (σ', x)) (own := y.cls) C ⟨hlim, hF, hC, fun idx k rc rt f hg => ?_⟩ ⟨?_, ?_, ?_, ?_⟩ hk n 0 (gpad L as) [] σ hI (gcans_pad has) (fun v hv => by cases hv) hf s.heap [] _ hP va_S.rf (gent hli)
    · rcases hL idx k rc rt f hg with h | h
      · exact h.w C
      · exact h.w C
    · exact gfin_ret B.exec B.bytes B.returns B.notSynchronized hok (fun σ v h => by cases h; exact ⟨rfl, rfl⟩)
    · intro σ x pc ls st _ h; cases h
    · intro σ pc ls _ h; cases h
    · rw [hh]
      rw [hcls] at C
      exact hn_catch C hstop h0 htab hlink
theorem gmetGH (hinj : gInj Z) (hstop : gStop.toNat < zN Z) (S : gStatH l Z y cc L ret rm E a b t idx) : gMet l Z y (wsW_ y cc L ret [(a, b, t, idx)]) rm (grt E.2.2.2.2.2.2) (.inr (gG E L)) := by
  obtain ⟨hy, hk, hlim, hok, ⟨hh, h0, hcls, hlink⟩, hF, hC, hL⟩ := S
  intro n as σ σ' x hf hI has
  simp only [gft] at hf
  unfold gG at hf
  split at hf
  · cases hf
  · rename_i hli
    rw [gpadK_eq] at hf
    refine MetX.ofWH (cc := cc) (maxL := L) (ret := ret) (hh := [(a, b, t, idx)]) hy rfl ?_
    intro p e s m args below meth c s₁ B hml hv
    obtain ⟨rfl, hP, hK, hnest, hstr⟩ := hv
    have hts0 := atoms_spec (ws := wsW_ y cc L ret [(a, b, t, idx)]) B.pre
    have hts : ∀ w ∈ lw_all, w.before _ s = true := fun w h => hts0 w (List.mem_cons_of_mem _ h)
    have htab : c.exceptionTable.toList.map (fun h => (h.startPc, h.endPc, h.handlerPc, h.catchType)) = [(a, b, t, idx)] := by
      obtain ⟨m', meth', c', k0, k1, k2, -, -, k3, -, -, -⟩ := Cond.codeWith_spec (hts0 _ List.mem_cons_self)
      cases k0.symm.trans B.named
      cases k1.symm.trans B.method
      cases k2.symm.trans (Stand.of_body B).code
      exact k3
    have hout : ∀ pc, ghnd [(a, b, t)] pc = none → ∀ x ∈ c.exceptionTable.toList, covers x pc = false := by
      intro pc hg x hx
      have hm : (x.startPc, x.endPc, x.handlerPc, x.catchType) ∈ [(a, b, t, idx)] := by rw [← htab]; exact List.mem_map_of_mem hx
      simp only [List.mem_singleton, Prod.mk.injEq] at hm
      unfold ghnd at hg
      split at hg
      · cases hg
      · rename_i hq
        simp only [covers, hm.1, hm.2.1]
        rw [Bool.and_eq_false_iff] at hq ⊢
        rcases hq with hq | hq
        · left
          rw [← Bool.not_eq_true, Nat.ble_eq] at hq
          simpa using hq
        · right
          rw [← Bool.not_eq_true, Nat.blt_eq] at hq
          simpa using hq
    have hown : s.vm.findClass y.cls = some m.cls := findClass_of_methodNamed B.named
    have C : gCx p s m ((as.map (cv Z)).toArray) c cc L y.cls Z := ⟨B.exec, B.bytes, hml, hown, hts, hK, hinj, hnest, hstr⟩
    have hlocks := B.notSynchronized
    rw [lg_entry_eq]
    have thrown : ∀ (σ : gM) (T : State) (locs : List Loc), gI (zN Z) σ → gthr σ gStop = some (σ', x) → Stand p l e (headSpec (wsW_ y cc L ret [(a, b, t, idx)]) rm).room s m ((as.map (cv Z)).toArray) below meth c T locs 0 0 → va_P (zD Z) gcl (gws Z σ) T.heap → va_S (gA Z) s.heap T.heap locs →
        ∀ t : State, t = T.setFrames (.throwing (zA Z gStop.toNat) :: below) → t.status = .running → Ended t below (.threw (zA Z gStop.toNat)) → s.WarmedH t.vm → s.sameButNew ({ t with vm := s.vm } : State) locs 0 0 → MQX below (gQc Z (grt E.2.2.2.2.2.2) x σ') ((as.map (cv Z)).toArray) s (gA Z) t := by
      intro σ T locs hI h X hP hS t ht h1 h2 h3 h4
      unfold gthr at h
      rw [if_pos rfl] at h
      cases h
      subst ht
      exact ⟨_, h1, h2, ⟨rfl, hI, hP, hS.F rfl⟩, locs, ⟨h3, h4⟩, hS.2.2⟩
    refine gB_sound (r := (σ', x)) (own := y.cls) C ⟨hlim, hF, hC, fun idx k rc rt f hg => ?_⟩ ⟨?_, ?_, ?_, ?_⟩ hk n 0 (gpad L as) [] σ hI (gcans_pad has) (fun v hv => by cases hv) hf s.heap [] _ hP va_S.rf (gent hli)
    · rcases hL idx k rc rt f hg with h | h
      · exact h.w C
      · exact h.w C
    · cases x with
      | none => intro σ v pc ls _ _ _ h; cases h
      | some xv => exact gfin_ret B.exec B.bytes B.returns B.notSynchronized hok (fun σ v h => by cases h; exact ⟨rfl, rfl⟩)
    · intro σ z pc ls st hI h hg hd H locs la hP hS hL T hT X
      rw [hh] at hg
      have hz : z = gStop := by
        unfold gthr at h
        split at h
        · assumption
        · cases h
      subst hz
      obtain ⟨a1, a2, a3, a4, a5⟩ := X.athrowLeaves B.exec (g := F0 m pc la ((((2, gStop) : gV) :: st).map (cv Z))) rfl rfl rfl (hout pc hg) (a := zA Z gStop.toNat) (rest := st.map (cv Z)) (by simp [cv]) (by rw [B.bytes]; exact hd) hlocks
      exact ⟨_, a1, thrown σ T locs hI h X (by rw [hT]; exact hP) (by rw [hT]; exact hS) _ rfl a2 a3 a4 a5⟩
    · intro σ pc ls hI h hg T locs la rest X hP hS hL
      rw [hh] at hg
      obtain ⟨a1, a2, a3, a4, a5⟩ := X.leaveThrown (zA Z gStop.toNat) (g := F0 m pc la rest) rfl rfl rfl (hout pc hg) hlocks
      exact ⟨_, a1, thrown σ T locs hI h X hP hS _ rfl a2 a3 a4 a5⟩
    · rw [hh]
      rw [hcls] at C
      exact hn_catch C hstop h0 htab hlink
end MTH
theorem gCee.viH {l : Launch} {Z : gZ} {y : MethodName} {F Lc maxL k rc rt : Nat} {f : gFn ⊕ gFt} {cc : ByteArray} {ret : Option FieldType} {hh : List (Nat × Nat × Nat × Nat)} (hrc : rc ≠ 0 ∧ (rc = 100 ∨ (10 ≤ rc ∧ rc ≠ 19 ∧ rc < 21))) (h : gMet l Z y (wsW_ y cc maxL ret hh) ⟨F, 0, 0, Lc⟩ rt f) (q : Cond.codeWith y cc maxL ret hh ∈ lw_all) (qi : Cond.initialized y.cls ∈ lw_all) (hy : y.cls ≠ "java/lang/invoke/MethodHandle" ∧ y.cls ≠ "java/lang/invoke/VarHandle")
    (hd : (parseMethodDescriptor y.desc).map (fun d => d.parameters.length) = some k) (qs : Cond.instanceMethod y ∈ lw_all) (ql : Cond.selects (gcn rc) y y ∈ lw_all) : gCee l Z y (wsW_ y cc maxL ret hh) F Lc maxL (k + 1) rc rt f :=
  ⟨h, Or.inr ⟨cc, ret, hh, rfl, q⟩, qi, hy, Or.inr ⟨hrc.1, hrc.2, by
    rw [Option.map_eq_some_iff] at hd ⊢
    obtain ⟨d, h1, h2⟩ := hd
    exact ⟨d, h1, by omega⟩, qs, ql⟩⟩
