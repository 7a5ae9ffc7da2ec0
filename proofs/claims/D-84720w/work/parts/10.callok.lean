/-! call entries -/
def gcn (rc : Nat) : String := if rc = 100 then "java/lang/String" else match gcl[rc - 10]? with
  | some q => q.1
  | none => ""
def gCode (y : MethodName) (ws : List Cond) (maxL : Nat) : Prop := (∃ bytes ret, ws = Cond.code y bytes maxL ret :: lw_all ∧ Cond.code y bytes maxL ret ∈ lw_all) ∨ ∃ bytes ret hh, ws = Cond.codeWith y bytes maxL ret hh :: lw_all ∧ Cond.codeWith y bytes maxL ret hh ∈ lw_all
def gCal (l : Launch) (Z : gZ) (own : String) (R : Room) (idx k rc rt : Nat) (f : gFn ⊕ gFt) : Prop :=
  ∃ (y : MethodName) (ws : List Cond) (rm : Room) (maxL : Nat), gMet l Z y ws rm rt f ∧ (rm.cells = 0 ∧ rm.slots = 0 ∧ rm.frames + 1 ≤ R.frames ∧ 8 + (maxL + 11) + rm.locals ≤ R.locals) ∧ gCode y ws maxL ∧ Cond.initialized y.cls ∈ lw_all ∧
    (y.cls ≠ "java/lang/invoke/MethodHandle" ∧ y.cls ≠ "java/lang/invoke/VarHandle") ∧
    ((rc = 0 ∧ (parseMethodDescriptor y.desc).map (fun d => d.parameters.length) = some k ∧ Cond.methodLink own idx y ∈ lw_all ∧ Cond.static y ∈ lw_all) ∨
     (rc ≠ 0 ∧ (rc = 100 ∨ (10 ≤ rc ∧ rc ≠ 19 ∧ rc < 21)) ∧ (parseMethodDescriptor y.desc).map (fun d => d.parameters.length + 1) = some k ∧ (Cond.methodLink own idx y ∈ lw_all ∨ ∃ host, Cond.methodLinkNest own idx y host ∈ lw_tbl) ∧ Cond.instanceMethod y ∈ lw_all ∧ Cond.selects (gcn rc) y y ∈ lw_all))
theorem gCode.spec {y : MethodName} {ws : List Cond} {maxL : Nat} (h : gCode y ws maxL) {args : Array Value} {s : State} (hts : ∀ w ∈ lw_all, w.before args s = true) :
    ∃ mk methM cM, s.methodNamed? y = some mk ∧ s.vm.method? mk = some methM ∧ methM.code = some cM ∧ cM.maxLocals = maxL ∧ parseMethodDescriptor y.desc = some methM.sig := by
  rcases h with ⟨bytes, ret, -, h⟩ | ⟨bytes, ret, hh, -, h⟩
  · obtain ⟨mk, hn⟩ := Cond.code_named (hts _ h)
    obtain ⟨methM, cM, h1, h2, -, h4, -, -, -, h8⟩ := Cond.code_spec hn (hts _ h)
    exact ⟨mk, methM, cM, hn, h1, h2, h4, h8⟩
  · obtain ⟨mk, methM, cM, hn, h1, h2, -, h4, -, -, -, h8⟩ := Cond.codeWith_spec (hts _ h)
    exact ⟨mk, methM, cM, hn, h1, h2, h4, h8⟩
theorem lw_warm {args : Array Value} {s : State} (hts : ∀ w ∈ lw_all, w.before args s = true) : ∀ w ∈ lw_all, ∀ (a' : Array Value) (U : State), s.WarmedH U.vm → w.before a' U = true := pay_in hts lw_self
section GC2
variable {p : Program} {l : Launch} {e : Env} {R : Room} {s : State} {m : MethodId} {args : Array Value} {below : List Frame} {meth : Method} {c : Code} {Q : State → Prop} {cc : ByteArray} {nL : Nat} {Z : gZ} {own : String} {σ : gM} {pc len : Nat} {ls st : List gV} {ρ : Type} {r : ρ}
  {nx : List gV → List gV → gM → Option ρ} {jp : Nat → List gV → List gV → gM → Option ρ} {thr : gM → Int → Option ρ} {E : gE}
/-- the receiver is what its kind says -/
def gRecv (Z : gZ) (rc : Nat) (as : List gV) : Prop := (rc = 0) ∨ (rc = 100 ∧ ∃ (i : Nat) (r : List gV), as = (3, (i : Int)) :: r ∧ i < 23) ∨ (rc ≠ 0 ∧ rc ≠ 100 ∧ ∃ (a : Nat) (r : List gV), as = (2, (a : Int)) :: r ∧ gK a = rc ∧ a < zN Z)
/-- a call entry, as the machine sees it -/
def gCW (p : Program) (l : Launch) (e : Env) (R : Room) (s : State) (m : MethodId) (args : Array Value) (below : List Frame) (meth : Method) (c : Code) (Q : State → Prop) (cc : ByteArray) (nL : Nat) (Z : gZ) (idx k rc rt : Nat) (f : gFn ⊕ gFt) : Prop :=
  ∀ (n : Nat) (as st2 ls : List gV) (σ σ' : gM) (x : Option Int) (pc : Nat) (vi : Bool), decode cc pc = .ok (if vi then .invokevirtual idx else .invokestatic idx, 3) → (vi = true ↔ rc ≠ 0) → gft f n as σ = some (σ', x) → gI (zN Z) σ → gcans as → gcans st2 → as.length = k → gRecv Z rc as →
    ((st2.map (cv Z)).map fun v => v.category).sum ≤ 8 →
    (∀ v, x = some v → gI (zN Z) σ' → (rt ≠ 5 → gcan (rt, v)) → gAt p l e R s m args below meth c Q nL Z σ' (pc + 3) ls (if rt = 5 then st2 else (rt, v) :: st2)) →
    (x = none → gI (zN Z) σ' → gThr p l e R s m args below meth c Q nL Z σ' pc ls) → gAt p l e R s m args below meth c Q nL Z σ pc ls (as.reverse ++ st2)
theorem gCal.w {idx k rc rt : Nat} {f : gFn ⊕ gFt} (C : gCx p s m args c cc nL own Z) (h : gCal l Z own R idx k rc rt f) : gCW p l e R s m args below meth c Q cc nL Z idx k rc rt f := by
  obtain ⟨y, ws, rm, maxL, hM, ⟨r1, r2, r3, r4⟩, hcode, hini, hy, hlink⟩ := h
  have C0 := C
  obtain ⟨hx, hb, hml, hown, hts, hKK, hinj, hnest, hstr⟩ := C
  intro n as st2 ls σ σ' x pc vi hd hvi hf hI has hst2 hk hrec hw kr kt
  have hB : BackX l R p e below s args y (gPc Z as σ) (gQc Z rt x σ') (gA Z) := by
    refine backX (maxL := maxL) (hM n as σ σ' x hf hI has) gPc.blind r1 r2 r3 r4 ?_ ?_ (fun a' U hW => lw_warm hts _ hini a' U hW)
    · intro w hw
      rcases hcode with ⟨bytes, ret, e1, e2⟩ | ⟨bytes, ret, hh, e1, e2⟩
      · rw [e1] at hw
        rcases List.mem_cons.mp hw with e3 | e3
        · rw [e3]; exact lw_warm hts _ e2
        · exact lw_warm hts _ e3
      · rw [e1] at hw
        rcases List.mem_cons.mp hw with e3 | e3
        · rw [e3]; exact lw_warm hts _ e2
        · exact lw_warm hts _ e3
    · intro U mk hW hn
      obtain ⟨mk', methM, cM, h1, h2, h3, h4, -⟩ := hcode.spec (args := args) (s := U) (fun w hw => lw_warm hts w hw _ _ hW)
      cases hn.symm.trans h1
      exact ⟨methM, cM, h2, h3, h4⟩
  obtain ⟨mk, methM, cM, hnamed, hmethM, hcM, hlM, hsig⟩ := hcode.spec hts
  have hlen : ∀ n, (parseMethodDescriptor y.desc).map (fun d => d.parameters.length) = some n → n = methM.sig.parameters.length := by
    intro n hn
    rw [hsig] at hn
    exact (Option.some.inj hn).symm
  obtain ⟨kP, hkP, -⟩ := className_of_methodNamed hnamed
  have hinitP : kP.init = .initialized := Cond.initialized_spec (findClass_of_methodNamed hnamed) hkP (hts _ hini)
  refine gx_callW C0 hst2 hB ?_ hd hw kr kt
  intro T locs la hP hS X
  rcases hlink with ⟨h0, hn, hl, hs⟩ | ⟨h0, hrc, hn, hl, hi, hse⟩
  · have hv : vi = false := by
      cases vi with
      | false => rfl
      | true => exact absurd h0 (hvi.mp rfl)
    subst hv
    have hstatic : methM.isStatic = true := Cond.static_spec hnamed hmethM (hts _ hs)
    obtain ⟨vm₁, X₁, hstep₁⟩ := X.invokestatic hx hown (hts _ hl) hnamed hmethM hstatic hkP hinitP hy (g := F0 m pc la ((as.reverse ++ st2).map (cv Z))) rfl (argsL := as.map (cv Z)) (rest := st2.map (cv Z)) (by rw [List.length_map, hk]; exact hlen k hn) (by simp) (by rw [hb]; exact hd)
    exact ⟨vm₁, mk, X₁, X₁.named hnamed, hstep₁⟩
  · have hv : vi = true := hvi.mpr h0
    subst hv
    obtain ⟨mk2, methM2, hnamed2, hmethM2, hstM, habM⟩ := Cond.instanceMethod_spec (hts _ hi)
    cases hnamed.symm.trans hnamed2
    cases hmethM.symm.trans hmethM2
    obtain ⟨c2, r2', m2, q1, q2, q3, q4, kP2, hkP2, hkPi⟩ := Cond.selects_spec (hts _ hse)
    have hcls : ∃ (b : Addr) (vr : gV) (rs : List gV) (cellB : Cell), as = vr :: rs ∧ cv Z vr = .ref b ∧ T.heap[b]? = some cellB ∧ cellB.vm.isStatics = false ∧ s.vm.findClass (gcn rc) = some cellB.cls := by
      rcases hrec with h1 | ⟨h1, i, rs, rfl, hi⟩ | ⟨-, h1, a, rs, rfl, hKa, haN⟩
      · exact absurd h1 h0
      · obtain ⟨-, hE, -, -⟩ := hstr
        obtain ⟨cellB, g1, g2, g3⟩ := vk_recv hE hi hS
        refine ⟨_, _, rs, cellB, rfl, by simp [cv], g1, g2, ?_⟩
        rw [h1]
        exact g3
      · rcases hrc with h7 | ⟨h7, h8, h9⟩
        · exact absurd h7 h1
        · have hq : ∃ q, gcl[rc - 10]? = some q := by
            have : rc - 10 < gcl.length := by simp [gcl]; omega
            exact ⟨_, List.getElem?_eq_getElem this⟩
          obtain ⟨q, hq⟩ := hq
          obtain ⟨cellB, g1, g2, g3⟩ := va_recv hKK hP hq (by rw [gws_at haN, gpic_obj hKa h7 h8])
          refine ⟨_, _, rs, cellB, rfl, by simp [cv], g1, g2, ?_⟩
          unfold gcn
          rw [if_neg h1, hq]
          exact g3
    obtain ⟨b, vr, rs, cellB, rfl, e1, hcell, hobj, hcl⟩ := hcls
    cases hcl.symm.trans q1
    cases (State.methodFound?_of_named hnamed hy).symm.trans q2
    cases hnamed.symm.trans q3
    have hselP : selectMethod e.platform s.vm cellB.cls mk = .method mk := by rw [Launch.admits_selectMethod X.admits]; exact q4
    have hk2 : (rs.map (cv Z)).length = methM.sig.parameters.length := by
      rw [hsig] at hn
      have hn2 : methM.sig.parameters.length + 1 = k := Option.some.inj hn
      simp at hk
      rw [List.length_map]
      omega
    rcases hl with hl | ⟨host, hl⟩
    · obtain ⟨vm₁, X₁, hstep₁⟩ := X.invokevirtual hx hown (hts _ hl) hnamed hmethM hstM hkP2 hkPi hy (a := b) (cell := cellB) hcell
        (fun z h => by rw [h] at hobj; cases hobj) hselP hmethM habM hkP2 hkPi (g := F0 m pc la (((vr :: rs).reverse ++ st2).map (cv Z))) rfl (argsL := rs.map (cv Z)) (rest := st2.map (cv Z)) hk2 (by simp [e1]) (by rw [hb]; exact hd)
      refine ⟨vm₁, mk, X₁, X₁.named hnamed, ?_⟩
      simpa [e1] using hstep₁
    · obtain ⟨vm₁, X₁, hstep₁⟩ := X.invokevirtualNest hx hown (va_Nw.use rfl (hnest _ hl rfl)) hnamed hmethM hstM hkP2 hkPi hy (a := b) (cell := cellB) hcell
        (fun z h => by rw [h] at hobj; cases hobj) hselP hmethM habM hkP2 hkPi (g := F0 m pc la (((vr :: rs).reverse ++ st2).map (cv Z))) rfl (argsL := rs.map (cv Z)) (rest := st2.map (cv Z)) hk2 (by simp [e1]) (by rw [hb]; exact hd)
      refine ⟨vm₁, mk, X₁, X₁.named hnamed, ?_⟩
      simpa [e1] using hstep₁
end GC2
