/-! calls from a place where cells have been made -/
section BC
variable {p : Program} {l : Launch} {e : Env} {R : Room} {s : State} {m : MethodId} {args : Array Value} {below : List Frame} {meth : Method} {c : Code} {cells slots : Nat}
/-- a call comes back, or it throws -/
def BackC (l : Launch) (R : Room) (p : Program) (e : Env) (below : List Frame) (s : State) (sargs : Array Value) (y : MethodName) (Pc : Array Value → State → Prop) (Qc : Array Value → State → Outcome → State → Prop) (free : Addr → Prop) (w0 cells slots : Nat) : Prop :=
  ∀ (m : MethodId) (meth : Method) (c : Code) (U : State) (locs : List Loc) (g : JFrame) (ig : Instr) (mk : MethodId) (a : Array Value),
    Stand p l e R s m sargs below meth c U locs cells slots → g.method = m → g.locals.size = c.maxLocals → decode c.code g.pc = .ok (ig, 3) →
    2 * g.monitorRoom + (g.stack.map fun v => v.category).sum ≤ w0 → U.methodNamed? y = some mk → Pc a U →
    ∃ (o : Outcome) (st₀ t T' : State) (L : List Loc), st₀.heap = U.heap ∧ T'.heap.size = U.heap.size ∧ Stand p l e R s m sargs below meth c T' (locs ++ L) cells slots ∧ (∀ q ∈ L, free q.base) ∧ T'.heap = t.heap ∧ T'.vm = t.vm ∧ Qc a st₀ o t ∧
      ((∃ v, o = .returned v ∧ Steps p.tables e below (doInvoke e (U.setTop g) [] mk a).1 (T'.setTop { g with pc := g.pc + 3, stack := v.toList ++ g.stack })) ∨
       (∃ x, o = .threw x))
theorem backC {sargs : Array Value} {y : MethodName} {ws : List Cond} {rm : Room} {Pc : Array Value → State → Prop} {Qc : Array Value → State → Outcome → State → Prop} {free : Addr → Prop} {maxL w0 : Nat}
    (hM : MetX l y ws rm Pc Qc free) (hblind : FrameBlind Pc) (hrc : rm.cells = 0) (hrs : rm.slots = 0) (hcells : cells ≤ R.cells) (hslots : slots ≤ R.slots)
    (hframes : rm.frames + 1 ≤ R.frames) (hlocals : w0 + (maxL + 11) + rm.locals ≤ R.locals)
    (hws : ∀ w ∈ ws, ∀ (a' : Array Value) (U : State), s.WarmedH U.vm → w.before a' U = true)
    (hcode : ∀ (U : State) (mk : MethodId), s.WarmedH U.vm → U.methodNamed? y = some mk → ∃ methY cY, U.vm.method? mk = some methY ∧ methY.code = some cY ∧ cY.maxLocals = maxL)
    (hinit : ∀ (a' : Array Value) (U : State), s.WarmedH U.vm → (Cond.initialized y.cls).before a' U = true) : BackC l R p e below s sargs y Pc Qc free w0 cells slots := by
  intro m meth c U Ls g ig mk a X hg hsize hdg hW hn hp
  obtain ⟨methY, cY, hmY, hcY, hlY⟩ := hcode U mk X.warmed hn
  obtain ⟨kY, hkY, -⟩ := className_of_methodNamed hn
  have hinitY : kY.init = .initialized := Cond.initialized_spec (findClass_of_methodNamed hn) hkY (hinit a U X.warmed)
  have h : At U g.method c below := by rw [hg]; exact X.here
  have happ : (headSpec ws rm).appliesLoose y e.platform (U.calling g mk a) = true :=
    Spec.appliesLoose_calling (g := g) h hdg hn hkY hinitY
      (X.room_calling (g := g) (R' := (headSpec ws rm).room) hsize hmY hcY hframes (by show _ + (_ + 11) + rm.locals ≤ R.locals; rw [hlY]; omega) (by show cells + rm.cells ≤ R.cells; rw [hrc]; exact hcells) (by show slots + rm.slots ≤ R.slots; rw [hrs]; exact hslots)) (atoms_intro fun w hw => hws w hw _ _ X.warmed)
  obtain ⟨mid, hmid⟩ := h.above
  have hfr : (U.setTop g).frames = (.java g :: mid) ++ below := by rw [State.frames_setTop' g h.top, hmid]; rfl
  obtain ⟨o, s₂, hsteps, -, hend, hq⟩ := Steps.callFree hM p X.admits X.cas X.clock (acts := []) hfr happ (hblind _ _ _ _ hp) trivial
  have hq : Qc a (U.calling g mk a) o s₂ ∧ ∃ L, ((U.calling g mk a).WarmedH s₂.vm ∧ (U.calling g mk a).sameButNew ({ s₂ with vm := (U.calling g mk a).vm } : State) L 0 0) ∧ ∀ q ∈ L, free q.base := hq
  have hq' : Qc a (U.calling g mk a) o s₂ := hq.1
  rw [State.frames_setTop' g h.top] at hend
  obtain ⟨L, ⟨hW₂, e2, q2, q3, q4, q5, q6⟩, hL⟩ := hq.2
  have e3 : s₂ = ({ (U.calling g mk a).setFrames s₂.frames with heap := s₂.heap, slotsUsed := s₂.slotsUsed } : State).setVm s₂.vm := by
    have : s₂ = ({ s₂ with vm := (U.calling g mk a).vm } : State).setVm s₂.vm := rfl
    rw [e2] at this
    exact this
  have hW' : U.WarmedH s₂.vm := hW₂
  obtain ⟨g₀, hg0⟩ := Option.isSome_iff_exists.mp h.top
  obtain ⟨r, hr⟩ := State.topJava?_eq_some.mp hg0
  have hsame : U.sameButNew ({ U with heap := s₂.heap, slotsUsed := s₂.slotsUsed } : State) L 0 0 := by
    refine ⟨?_, q2, q3, q4, q5, q6⟩
    obtain ⟨t, ht, -⟩ := State.frames_cons hr
    show ({ U with heap := s₂.heap, slotsUsed := s₂.slotsUsed } : State) = { U.setFrames U.frames with heap := s₂.heap, slotsUsed := s₂.slotsUsed }
    rw [State.setFrames_self ht]
  have hr' : (({ U with heap := s₂.heap, slotsUsed := s₂.slotsUsed } : State).setVm s₂.vm).frames = .java g₀ :: r := hr
  have hst : Stand p l e R s m sargs below meth c (({ U with heap := s₂.heap, slotsUsed := s₂.slotsUsed } : State).setVm s₂.vm) (Ls ++ L) (cells + 0) (slots + 0) :=
    ⟨X.admits, X.cas, X.clock, X.frames, X.room, X.hears, X.method, X.code, (X.here.setHeapUsed s₂.heap s₂.slotsUsed).setVm hW'.alike, X.tail, State.WarmedH.trans X.warmed hW', X.limits, X.bytes, X.same.trans (hsame.setVm s.vm)⟩
  have hsz : s₂.heap.size = U.heap.size := by
    have b1 : U.heap.size ≤ s₂.heap.size := q2
    have b2 : s₂.heap.size ≤ U.heap.size + 0 := q3
    omega
  refine ⟨o, U.calling g mk a, s₂, ({ U with heap := s₂.heap, slotsUsed := s₂.slotsUsed } : State).setVm s₂.vm, L, rfl, hsz, hst, hL, rfl, rfl, hq', ?_⟩
  cases o with
  | returned v =>
    refine Or.inl ⟨v, rfl, ?_⟩
    obtain ⟨c₂, i₂, len₂, hc₂, hd₂, hf₂⟩ := hend
    have hcc : c₂ = c := by
      have h1 : s₂.code? g.method = U.code? g.method := by
        rw [State.code?_eq, State.code?_eq, hW'.alike.method?]
      exact Option.some.inj (hc₂.symm.trans (h1.trans h.code))
    subst hcc
    have hlen : len₂ = 3 := by rw [hdg] at hd₂; cases hd₂; rfl
    subst hlen
    have hs₂ : s₂ = (({ U with heap := s₂.heap, slotsUsed := s₂.slotsUsed } : State).setVm s₂.vm).setTop { g with pc := g.pc + 3, stack := v.toList ++ g.stack } := by
      refine e3.trans ?_
      rw [hf₂, State.calling_eq h.top, State.setFrames_setFrames, State.setTop_of_frames _ hr', hr]
      rfl
    rw [← hs₂]
    exact hsteps
  | threw x => exact Or.inr ⟨x, rfl⟩
end BC
/-- the first so many cells only -/
def zlim (Z : gZ) (N : Nat) : gZ := (Z.1, Z.2.1, Z.2.2.1, Z.2.2.2.1, N, Z.2.2.2.2.2)
section ZL
variable {Z : gZ} {N : Nat} {σ : gM}
theorem zlim_inj (hi : gInj Z) (h : N ≤ zN Z) : gInj (zlim Z N) := fun i j h1 h2 h3 => hi i j (Nat.lt_of_lt_of_le h1 h) (Nat.lt_of_lt_of_le h2 h) h3
theorem zlim_A (h : N ≤ zN Z) {q : Nat} (hq : gA (zlim Z N) q) : gA Z q := by
  obtain ⟨a, h1, h2⟩ := hq
  exact ⟨a, Nat.lt_of_lt_of_le h1 h, h2⟩
theorem gws_kws : gws (zlim Z N) σ = kws Z σ (List.range N) := rfl
theorem gStrs.lim {U : State} (h : N ≤ zN Z) (hs : gStrs Z U) : gStrs (zlim Z N) U := by
  obtain ⟨h1, h2, h3, h4⟩ := hs
  exact ⟨h1, h2.narrow fun q => zlim_A h, h3.narrow fun q => zlim_A h, h4.narrow fun q => zlim_A h⟩
end ZL
section KC
variable {p : Program} {l : Launch} {e : Env} {R : Room} {s : State} {m : MethodId} {args : Array Value} {below : List Frame} {meth : Method} {c : Code} {Q : State → Prop} {cc : ByteArray} {nL : Nat} {Z : gZ} {own : String} {A : Nat → Prop} {σ σ' : gM} {cs : List Nat} {n cells slots pc : Nat} {ls st : List gV}
/-- a method of the first N cells is called -/
theorem kx_call {y : MethodName} {ws : List Cond} {F Lc maxL k rc rt N nn idx w0 : Nat} {f : gFn ⊕ gFt} {as : List gV} {v : Int} {vi : Bool} (C : gCx p s m args c cc nL own Z) (hc : gCee l (zlim Z N) y ws F Lc maxL k rc rt f) (hl : Cond.methodLink own idx y ∈ lw_all ∨ ∃ host, rc ≠ 0 ∧ Cond.methodLinkNest own idx y host ∈ lw_tbl)
    (hF : F + 1 ≤ R.frames) (hLc : w0 + (maxL + 11) + Lc ≤ R.locals) (hcells : cells ≤ R.cells) (hslots : slots ≤ R.slots) (hN : N ≤ zN Z) (hcs : ∀ a, a < N → a ∈ cs) (ok : kOk Z A cs) (hAZ : ∀ a, a < s.heap.size → A a → gA Z a) (h100 : rc ≠ 100)
    (hf : gft f nn as σ = some (σ', some v)) (hI : gI N σ) (has : gcans as) (hst : gcans st) (hk : as.length = k) (hrec : gRecv (zlim Z N) rc as) (hw : ((st.map (cv Z)).map fun v => v.category).sum ≤ w0) (hfr : ∀ a ∈ cs, N ≤ a → ∀ j, σ' a j = σ a j)
    (hvi : vi = true ↔ rc ≠ 0) (hd : decode cc pc = .ok (if vi then .invokevirtual idx else .invokestatic idx, 3))
    (K : gI N σ' → (rt ≠ 5 → gcan (rt, v)) → kAt p l e R s m args below meth c Q nL A Z σ' cs n cells slots (pc + 3) ls (if rt = 5 then st else (rt, v) :: st)) : kAt p l e R s m args below meth c Q nL A Z σ cs n cells slots pc ls (as.reverse ++ st) := by
  obtain ⟨hM, hcode, hini, hy, hlink⟩ := hc
  obtain ⟨hx, hb, hml, hown, hts, hKK, hinj, hnest, hstr⟩ := C
  have hB : BackC l R p e below s args y (gPc (zlim Z N) as σ) (gQc (zlim Z N) rt (some v) σ') (gA (zlim Z N)) w0 cells slots := by
    refine backC (maxL := maxL) (hM nn as σ σ' _ hf hI has) gPc.blind rfl rfl hcells hslots hF hLc ?_ ?_ (fun a' U hW => lw_warm hts _ hini a' U hW)
    · intro w hw
      rcases hcode with ⟨bytes, ret, e1, e2⟩ | ⟨bytes, ret, hh, e1, e2⟩
      · rw [e1] at hw
        rcases List.mem_cons.mp hw with e3 | e3
        · rw [e3]; exact lw_warm hts _ e2
        · exact lw_warm hts _ e3
      · rw [e1] at hw
        rcases List.mem_cons.mp hw with e3 | e3
        · rw [e3]; exact lw_warm hts _ e2
        · exact lw_warm hts _ e3
    · intro U mk hW hn
      obtain ⟨mk', methM, cM, h1, h2, h3, h4, -⟩ := hcode.spec (args := args) (s := U) (fun w hw => lw_warm hts w hw _ _ hW)
      cases hn.symm.trans h1
      exact ⟨methM, cM, h2, h3, h4⟩
  obtain ⟨mk, methM, cM, hnamed, hmethM, hcM, hlM, hsig⟩ := hcode.spec hts
  obtain ⟨kP0, hkP, -⟩ := className_of_methodNamed hnamed
  have hinitP : kP0.init = .initialized := Cond.initialized_spec (findClass_of_methodNamed hnamed) hkP (hts _ hini)
  intro H locs la hP hn hS hL T hT X
  have hinv : ∃ (vm₁ : Vm) (mk : MethodId), Stand p l e R s m args below meth c (T.setVm vm₁) locs cells slots ∧ (T.setVm vm₁).methodNamed? y = some mk ∧
      ∀ target, (∀ acts, Steps p.tables e below (doInvoke e ((T.setVm vm₁).setTop { (F0 m pc la ((as.reverse ++ st).map (cv Z))) with stack := st.map (cv Z) }) acts mk (as.map (cv Z)).toArray).1 target) → Steps p.tables e below (T.setTop (F0 m pc la ((as.reverse ++ st).map (cv Z)))) target := by
    rcases hlink with ⟨h0, hnp, hs⟩ | ⟨h0, hrc, hnp, hi, hse⟩
    · have hv : vi = false := by
        cases vi with
        | false => rfl
        | true => exact absurd h0 (hvi.mp rfl)
      subst hv
      have hl : Cond.methodLink own idx y ∈ lw_all := by
        rcases hl with hl | ⟨host, hl, -⟩
        · exact hl
        · exact absurd h0 hl
      have hstatic : methM.isStatic = true := Cond.static_spec hnamed hmethM (hts _ hs)
      obtain ⟨vm₁, X₁, hstep₁⟩ := X.invokestatic hx hown (hts _ hl) hnamed hmethM hstatic hkP hinitP hy (g := F0 m pc la ((as.reverse ++ st).map (cv Z))) rfl (argsL := as.map (cv Z)) (rest := st.map (cv Z)) (by rw [hsig] at hnp; rw [List.length_map, hk]; exact (Option.some.inj hnp).symm) (by simp) (by rw [hb]; exact hd)
      exact ⟨vm₁, mk, X₁, X₁.named hnamed, hstep₁⟩
    · have hv : vi = true := hvi.mpr h0
      subst hv
      obtain ⟨mk2, methM2, hnamed2, hmethM2, hstM, habM⟩ := Cond.instanceMethod_spec (hts _ hi)
      cases hnamed.symm.trans hnamed2
      cases hmethM.symm.trans hmethM2
      obtain ⟨c2, r2', m2, q1, q2, q3, q4, kP2, hkP2, hkPi⟩ := Cond.selects_spec (hts _ hse)
      have hcls : ∃ (b : Addr) (vr : gV) (rs : List gV) (cellB : Cell), as = vr :: rs ∧ cv Z vr = .ref b ∧ T.heap[b]? = some cellB ∧ cellB.vm.isStatics = false ∧ s.vm.findClass (gcn rc) = some cellB.cls := by
        rcases hrec with h1 | ⟨h1, i, rs, rfl, hi⟩ | ⟨-, h1, a, rs, rfl, hKa, haN⟩
        · exact absurd h1 h0
        · exact absurd h1 h100
        · rcases hrc with h7 | ⟨h7, h8, h9⟩
          · exact absurd h7 h1
          · have hq : ∃ q, gcl[rc - 10]? = some q := by
              have : rc - 10 < gcl.length := by simp [gcl]; omega
              exact ⟨_, List.getElem?_eq_getElem this⟩
            obtain ⟨q, hq⟩ := hq
            obtain ⟨q0, hq0⟩ := List.getElem?_of_mem (hcs a haN)
            obtain ⟨cellB, g1, g2, g3⟩ := va_recv hKK hP.P hq (by rw [kws_at hq0, gpic_obj hKa h7 h8])
            refine ⟨zA Z a, _, rs, cellB, rfl, by simp [cv], by rw [hT]; exact g1, g2, ?_⟩
            unfold gcn
            rw [if_neg h1, hq]
            exact g3
      obtain ⟨b, vr, rs, cellB, rfl, e1, hcell, hobj, hcl⟩ := hcls
      cases hcl.symm.trans q1
      cases (State.methodFound?_of_named hnamed hy).symm.trans q2
      cases hnamed.symm.trans q3
      have hselP : selectMethod e.platform s.vm cellB.cls mk = .method mk := by rw [Launch.admits_selectMethod X.admits]; exact q4
      have hk2 : (rs.map (cv Z)).length = methM.sig.parameters.length := by
        rw [hsig] at hnp
        have hn2 : methM.sig.parameters.length + 1 = k := Option.some.inj hnp
        simp at hk
        rw [List.length_map]
        omega
      rcases hl with hl | ⟨host, -, hl⟩
      · obtain ⟨vm₁, X₁, hstep₁⟩ := X.invokevirtual hx hown (hts _ hl) hnamed hmethM hstM hkP2 hkPi hy (a := b) (cell := cellB) hcell
          (fun z h => by rw [h] at hobj; cases hobj) hselP hmethM habM hkP2 hkPi (g := F0 m pc la (((vr :: rs).reverse ++ st).map (cv Z))) rfl (argsL := rs.map (cv Z)) (rest := st.map (cv Z)) hk2 (by simp [e1]) (by rw [hb]; exact hd)
        refine ⟨vm₁, mk, X₁, X₁.named hnamed, ?_⟩
        simpa [e1] using hstep₁
      · obtain ⟨vm₁, X₁, hstep₁⟩ := X.invokevirtualNest hx hown (va_Nw.use rfl (hnest _ hl rfl)) hnamed hmethM hstM hkP2 hkPi hy (a := b) (cell := cellB) hcell
          (fun z h => by rw [h] at hobj; cases hobj) hselP hmethM habM hkP2 hkPi (g := F0 m pc la (((vr :: rs).reverse ++ st).map (cv Z))) rfl (argsL := rs.map (cv Z)) (rest := st.map (cv Z)) hk2 (by simp [e1]) (by rw [hb]; exact hd)
        refine ⟨vm₁, mk, X₁, X₁.named hnamed, ?_⟩
        simpa [e1] using hstep₁
  obtain ⟨vm₁, mk, X₁, hn1, hstep⟩ := hinv
  have hPc : gPc (zlim Z N) as σ (as.map (cv Z)).toArray (T.setVm vm₁) := by
    refine ⟨rfl, ?_, va_K.moved X₁.warmed.alike hKK, hnest.warm X₁.warmed, (hstr.warm X₁.warmed fun a h1 h2 => ?_).lim hN⟩
    · rw [gws_kws]
      show va_P (zD Z) gcl (kws Z σ (List.range N)) T.heap
      rw [hT]
      exact (hP.sub fun a ha => hcs a (List.mem_range.mp ha)).P
    · show T.heap[a]? = _
      rw [hT]
      exact hS.2.1 a h1 fun z => h2 (hAZ a h1 z)
  obtain ⟨o, st₀, t, T', L, h0, hz, X', hL', e1, e2, hq, hgo⟩ := hB m meth c (T.setVm vm₁) locs (F0 m pc la (st.map (cv Z))) _ mk (as.map (cv Z)).toArray X₁ rfl (hL.1.trans hml.symm) (by rw [hb]; exact hd) (by show 2 * 0 + ((st.map (cv Z)).map fun v => v.category).sum ≤ w0; omega) hn1 hPc
  obtain ⟨ho, hI', hP', hFr⟩ := hq
  have hsz : H.size = T.heap.size := by rw [hT]
  have h00 : st₀.heap = H := h0.trans hT
  have hS' : va_S A s.heap T'.heap (locs ++ L) := by
    refine ⟨?_, fun q h1 h2 => ?_, fun q hq => ?_⟩
    · rw [hz]
      show s.heap.size ≤ T.heap.size
      rw [hT]
      exact hS.1
    · rw [e1, hFr.2 q (by rw [h00]; exact Nat.lt_of_lt_of_le h1 hS.1) (fun z => h2 ?_), h00]
      · exact hS.2.1 q h1 h2
      · obtain ⟨a, a1, a2⟩ := z
        rw [a2]
        exact ok.2.2 a (hcs a a1)
    · rcases List.mem_append.mp hq with h | h
      · exact hS.2.2 q h
      · obtain ⟨a, a1, a2⟩ := hL' q h
        rw [a2]
        exact ok.2.2 a (hcs a a1)
  have hP1 : kP Z σ' cs T'.heap := by
    intro a ha
    rw [e1]
    by_cases haN : a < N
    · rw [gws_kws] at hP'
      exact kP.of hP' a (List.mem_range.mpr haN)
    · rw [gpic_mem (hfr a ha (by omega))]
      refine (hP a ha).kept ?_
      show t.heap[zA Z a]? = H[zA Z a]?
      rw [hFr.2 (zA Z a) (by rw [h00]; exact hP.lt ha) (fun z => ?_), h00]
      obtain ⟨b, b1, b2⟩ := z
      have b3 : b < N := b1
      have : a = b := hinj a b (ok.1 a ha) (Nat.lt_of_lt_of_le b3 hN) b2
      omega
  rcases hgo with ⟨v', rfl, hsteps⟩ | ⟨a, rfl⟩
  · obtain ⟨ho1, ho2⟩ := ho
    cases ho1
    obtain ⟨t2, a1, b1⟩ := K hI' ho2 T'.heap (locs ++ L) la hP1 (by rw [hz]; show T.heap.size = n; rw [hT]; exact hn) hS' hL T' rfl X'
    refine ⟨t2, hstep _ fun acts => ?_, b1⟩
    rw [doInvoke_state]
    refine hsteps.trans ?_
    by_cases h5 : rt = 5
    · rw [if_pos h5] at a1
      simpa [grv, h5] using a1
    · rw [if_neg h5] at a1
      have ec : cv (zlim Z N) (rt, v) = cv Z (rt, v) := rfl
      simpa [grv, h5, ec] using a1
  · cases ho.1
end KC
