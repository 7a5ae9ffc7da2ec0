/-! contracts of the two systems' methods -/
def grv (Z : gZ) (rt : Nat) (v : Int) : Option Value := if rt = 5 then none else some (cv Z (rt, v))
def gOut (Z : gZ) (rt : Nat) (x : Option Int) (o : Outcome) : Prop := match x with
  | some v => o = .returned (grv Z rt v) ∧ (rt ≠ 5 → gcan (rt, v))
  | none => o = .threw (zA Z gStop.toNat)
def gPc (Z : gZ) (as : List gV) (σ : gM) : Array Value → State → Prop := fun v U => v = (as.map (cv Z)).toArray ∧ va_P (zD Z) gcl (gws Z σ) U.heap ∧ va_K (zD Z) gcl (gtys Z) U ∧ gNest U ∧ gStrs Z U
def gQc (Z : gZ) (rt : Nat) (x : Option Int) (σ : gM) : Array Value → State → Outcome → State → Prop := fun _ st o t => gOut Z rt x o ∧ gI (zN Z) σ ∧ va_P (zD Z) gcl (gws Z σ) t.heap ∧ va_F (gA Z) st t
def gft (f : gFn ⊕ gFt) : gFt := match f with
  | .inl f => fun n as σ => (f n as σ).map fun p => (p.1, some p.2)
  | .inr f => f
/-- the method y does what the function says -/
def gMet (l : Launch) (Z : gZ) (y : MethodName) (ws : List Cond) (rm : Room) (rt : Nat) (f : gFn ⊕ gFt) : Prop :=
  ∀ (n : Nat) (as : List gV) (σ σ' : gM) (x : Option Int), gft f n as σ = some (σ', x) → gI (zN Z) σ → gcans as → MetX l y ws rm (gPc Z as σ) (gQc Z rt x σ') (gA Z)
theorem gNest.warm {s U : State} (hW : s.WarmedH U.vm) (h : gNest s) : gNest U := by
  intro w hw hn
  have h1 := h w hw hn
  cases w <;> simp [gnest] at hn
  · exact va_Nw.warmM hW h1
  · exact va_Nw.warmF hW h1
theorem gNest.same {s U : State} (hv : s.vm = U.vm) (h : gNest s) : gNest U := by
  intro w hw hn
  have h1 := h w hw hn
  cases w <;> simp [gnest] at hn
  · exact va_Nw.same rfl hv h1
  · exact va_Nw.same rfl hv h1
theorem gStrs.warm {Z : gZ} {s U : State} (hW : s.WarmedH U.vm) (hq : ∀ a : Nat, a < s.heap.size → ¬ gA Z a → U.heap[a]? = s.heap[a]?) (h : gStrs Z s) : gStrs Z U := by
  obtain ⟨h1, h2, h3, h4⟩ := h
  exact ⟨fun q hq => (h1 q hq).warm hW, (h2.moved hW.alike).kept hq, (h3.moved hW.alike).kept hq, (h4.moved hW.alike).kept hq⟩
theorem gStrs.same {Z : gZ} {s U : State} (hv : s.vm = U.vm) (hh : U.heap = s.heap) (h : gStrs Z s) : gStrs Z U := by
  obtain ⟨h1, h2, h3, h4⟩ := h
  refine ⟨fun q hq => (h1 q hq).same hv.symm, ?_, ?_, ?_⟩
  · rw [hh]
    exact h2.moved (by rw [hv]; exact Vm.Alike.refl _)
  · rw [hh]
    exact h3.moved (by rw [hv]; exact Vm.Alike.refl _)
  · rw [hh]
    exact h4.moved (by rw [hv]; exact Vm.Alike.refl _)
theorem gPc.blind {Z : gZ} {as : List gV} {σ : gM} : FrameBlind (gPc Z as σ) := by
  intro a U g mk ⟨h0, h1, h2, h3, h4⟩
  exact ⟨h0, h1, va_K.moved (u := U) (U := U.calling g mk a) (Vm.Alike.refl U.vm) h2, gNest.same (s := U) (U := U.calling g mk a) rfl h3, gStrs.same (s := U) (U := U.calling g mk a) rfl rfl h4⟩
section GC
variable {p : Program} {l : Launch} {e : Env} {R : Room} {s : State} {m : MethodId} {args : Array Value} {below : List Frame} {meth : Method} {c : Code} {Q : State → Prop} {cc : ByteArray} {nL : Nat} {Z : gZ} {own : String} {σ : gM} {pc len : Nat} {ls st : List gV} {ρ : Type} {r : ρ}
  {nx : List gV → List gV → gM → Option ρ} {jp : Nat → List gV → List gV → gM → Option ρ} {thr : gM → Int → Option ρ} {E : gE}
/-- an invoking instruction comes to the callee y -/
def gInv (p : Program) (l : Launch) (e : Env) (R : Room) (s : State) (m : MethodId) (args : Array Value) (below : List Frame) (meth : Method) (c : Code) (T : State) (locs : List Loc) (g : JFrame) (y : MethodName) (a : Array Value) (rest : List Value) : Prop :=
  ∃ (vm₁ : Vm) (mk : MethodId), Stand p l e R s m args below meth c (T.setVm vm₁) locs 0 0 ∧ (T.setVm vm₁).methodNamed? y = some mk ∧
    ∀ target, (∀ acts, Steps p.tables e below (doInvoke e ((T.setVm vm₁).setTop { g with stack := rest }) acts mk a).1 target) → Steps p.tables e below (T.setTop g) target
/-- what is thrown to a place goes on -/
def gThr (p : Program) (l : Launch) (e : Env) (R : Room) (s : State) (m : MethodId) (args : Array Value) (below : List Frame) (meth : Method) (c : Code) (Q : State → Prop) (nL : Nat) (Z : gZ) (σ : gM) (pc : Nat) (ls : List gV) : Prop :=
  ∀ (T : State) (locs : List Loc) (la : Array Slot) (rest : List Value), Stand p l e R s m args below meth c T locs 0 0 → va_P (zD Z) gcl (gws Z σ) T.heap → va_S (gA Z) s.heap T.heap locs → gLoc Z nL la ls →
    ∃ t, Steps p.tables e below ((T.setTop (F0 m pc la rest)).pushFrame (.throwing (zA Z gStop.toNat))) t ∧ Q t
theorem gx_callW {y : MethodName} {as : List gV} {σ' : gM} {x : Option Int} {rt : Nat} {st2 : List gV} {ig : Instr} (C : gCx p s m args c cc nL own Z) (hst2 : gcans st2)
    (hB : BackX l R p e below s args y (gPc Z as σ) (gQc Z rt x σ') (gA Z))
    (hinv : ∀ (T : State) (locs : List Loc) (la : Array Slot), va_P (zD Z) gcl (gws Z σ) T.heap → va_S (gA Z) s.heap T.heap locs → Stand p l e R s m args below meth c T locs 0 0 → gInv p l e R s m args below meth c T locs (F0 m pc la ((as.reverse ++ st2).map (cv Z))) y (as.map (cv Z)).toArray (st2.map (cv Z)))
    (hd : decode cc pc = .ok (ig, 3)) (hw : ((st2.map (cv Z)).map fun v => v.category).sum ≤ 8)
    (kr : ∀ v, x = some v → gI (zN Z) σ' → (rt ≠ 5 → gcan (rt, v)) → gAt p l e R s m args below meth c Q nL Z σ' (pc + 3) ls (if rt = 5 then st2 else (rt, v) :: st2))
    (kt : x = none → gI (zN Z) σ' → gThr p l e R s m args below meth c Q nL Z σ' pc ls) : gAt p l e R s m args below meth c Q nL Z σ pc ls (as.reverse ++ st2) := by
  obtain ⟨hx, hb, hml, hown, hts, hKK, hinj, hnest, hstr⟩ := C
  intro H locs la hP hS hL T hT X
  obtain ⟨vm₁, mk, X₁, hn, hstep⟩ := hinv T locs la (by rw [hT]; exact hP) (by rw [hT]; exact hS) X
  have hPc : gPc Z as σ (as.map (cv Z)).toArray (T.setVm vm₁) := by
    refine ⟨rfl, ?_, va_K.moved X₁.warmed.alike hKK, hnest.warm X₁.warmed, hstr.warm X₁.warmed fun a h1 h2 => ?_⟩
    · show va_P (zD Z) gcl (gws Z σ) T.heap
      rw [hT]; exact hP
    · show T.heap[a]? = _
      rw [hT]
      exact hS.2.1 a h1 h2
  obtain ⟨o, st₀, t, T', L, h0, X', hL', e1, e2, hq, hgo⟩ := hB m meth c (T.setVm vm₁) locs (F0 m pc la (st2.map (cv Z))) ig mk (as.map (cv Z)).toArray X₁ rfl (hL.1.trans hml.symm) (by rw [hb]; exact hd) (lv_room hw) hn hPc
  obtain ⟨ho, hI', hP', hF⟩ := hq
  have hS' : va_S (gA Z) s.heap T'.heap (locs ++ L) := by
    have h00 : st₀.heap = H := h0.trans hT
    refine ⟨?_, fun q h1 h2 => ?_, fun q hq => ?_⟩
    · rw [e1]
      exact Nat.le_trans hS.1 (by rw [← h00]; exact hF.1)
    · rw [e1, hF.2 q (by rw [h00]; exact Nat.lt_of_lt_of_le h1 hS.1) h2, h00]
      exact hS.2.1 q h1 h2
    · rcases List.mem_append.mp hq with h | h
      · exact hS.2.2 q h
      · exact hL' q h
  have hP1 : va_P (zD Z) gcl (gws Z σ') T'.heap := by rw [e1]; exact hP'
  rcases hgo with ⟨v, rfl, hsteps⟩ | ⟨a, rfl, hsteps⟩
  · cases x with
    | none => cases ho
    | some xv =>
      obtain ⟨ho1, ho2⟩ := ho
      cases ho1
      obtain ⟨t2, a1, b1⟩ := kr xv rfl hI' ho2 T'.heap (locs ++ L) la hP1 hS' hL T' rfl X'
      refine ⟨t2, hstep _ fun acts => ?_, b1⟩
      rw [doInvoke_state]
      refine hsteps.trans ?_
      by_cases h5 : rt = 5
      · rw [if_pos h5] at a1
        simpa [grv, h5] using a1
      · rw [if_neg h5] at a1
        simpa [grv, h5] using a1
  · cases x with
    | some xv => cases ho.1
    | none =>
      cases ho
      obtain ⟨t2, a1, b1⟩ := kt rfl hI' T' (locs ++ L) la (st2.map (cv Z)) X' hP1 hS' hL
      refine ⟨t2, hstep _ fun acts => ?_, b1⟩
      rw [doInvoke_state]
      exact hsteps.trans a1
end GC
