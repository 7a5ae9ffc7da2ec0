/-! cell(script, 0) -/
theorem ce_desc : yX0_cell.cls ≠ "java/lang/invoke/MethodHandle" ∧ yX0_cell.cls ≠ "java/lang/invoke/VarHandle" ∧ (parseMethodDescriptor yX0_cell.desc).map (fun d => d.parameters.length) = some 2 := by decide +kernel
def ceA (L : Nat) (xs : Nat → Int32) : Int := if 0 < L then (xs 0).toInt else 0
theorem ceA_i (L : Nat) (xs : Nat → Int32) : i32 (ceA L xs) := by
  unfold ceA
  split
  · exact i32_toInt _
  · unfold i32; omega
def cePc (Z : gZ) (L : Nat) (xs : Nat → Int32) (n : Nat) : Array Value → State → Prop := fun v U => kPc Z [(3, 999), (0, 0)] k0 [] n v U ∧ va_X (zS Z 999) L xs U U.heap
def ceQc (Z : gZ) (L : Nat) (xs : Nat → Int32) (n : Nat) : Array Value → State → Outcome → State → Prop := va_Qi (fun r (_ : Unit) => r = Int32.ofInt (ceA L xs)) (fun _ t => t.heap.size = n) (kA Z [] n)
theorem cePc.blind {Z : gZ} {L : Nat} {xs : Nat → Int32} {n : Nat} : FrameBlind (cePc Z L xs n) := by
  intro a U g mk h
  exact ⟨kPc.blind a U g mk h.1, h.2⟩
theorem cell_m {l : Launch} {Z : gZ} {L n : Nat} {xs : Nat → Int32} (hi : gInj Z) (hL0 : L ≤ 385) : Met l yX0_cell (ws_ yX0_cell cX0_cell 2 (some .int)) ⟨0, 0, 0, 0⟩ (cePc Z L xs n) (ceQc Z L xs n) 0 0 (kA Z [] n) := by
  refine Met.ofW (cc := cX0_cell) (maxL := 2) (ret := some .int) (by decide +kernel) rfl ?_
  intro p e s m args below meth c s₁ B hml hv
  obtain ⟨⟨rfl, hP, hsz, hK, hnest, hstr, hth⟩, hX⟩ := hv
  have hts0 := atoms_spec (ws := ws_ yX0_cell cX0_cell 2 (some .int)) B.pre
  have hts : ∀ w ∈ lw_all, w.before _ s = true := fun w h => hts0 w (List.mem_cons_of_mem _ h)
  have hown : s.vm.findClass yX0_cell.cls = some m.cls := findClass_of_methodNamed B.named
  have C : gCx p s m ((([(3, 999), (0, 0)] : List gV).map (cv Z)).toArray) c cX0_cell 2 RX0 Z := ⟨B.exec, B.bytes, hml, hown, hts, hK, hi, hnest, hstr⟩
  have hbz : zS Z 999 < s.heap.size := by
    obtain ⟨scr, h1, -⟩ := hX
    exact (Array.getElem?_eq_some_iff.mp h1).1
  have hbA : ¬ kA Z [] n (zS Z 999) := by
    rintro (⟨a, ha, -⟩ | h)
    · cases ha
    · have h : n ≤ zS Z 999 := h
      omega
  have iL : i32 (L : Int) := by unfold i32; omega
  have fin : ∀ v : Int, v = ceA L xs → kAt p l e ⟨0, 0, 0, 0⟩ s m ((([(3, 999), (0, 0)] : List gV).map (cv Z)).toArray) below meth c (MQ below (ceQc Z L xs n) ((([(3, 999), (0, 0)] : List gV).map (cv Z)).toArray) s 0 0 (kA Z [] n)) 2 (kA Z [] n) Z k0 [] n 0 0 13 (gpad 2 [(3, 999), (0, 0)]) [(0, v)] := by
    intro v hv H locs la hP hn hS hL
    have e3 : ([(0, v)] : List gV).map (cv Z) = [.int (Int32.ofInt v)] := by simp [cv]
    rw [e3]
    exact W.iret C.1 C.2.1 B.returns (fun t ht hW => ⟨⟨_, (), rfl, congrArg Int32.ofInt hv, by show t.heap.size = n; rw [ht]; exact hn⟩, hS.F ht⟩) hS.2.2 (by decide +kernel) B.notSynchronized
  have body : kAt p l e ⟨0, 0, 0, 0⟩ s m ((([(3, 999), (0, 0)] : List gV).map (cv Z)).toArray) below meth c (MQ below (ceQc Z L xs n) ((([(3, 999), (0, 0)] : List gV).map (cv Z)).toArray) s 0 0 (kA Z [] n)) 2 (kA Z [] n) Z k0 [] n 0 0 0 (gpad 2 [(3, 999), (0, 0)]) [] := by
    refine k_iload (k := 1) C (x := 0) rfl (by decide +kernel) ?_
    refine k_aload (k := 0) C (t := 3) (x := 999) rfl (Or.inr rfl) (by decide +kernel) ?_
    refine k_slen C hX hbz hbA (by decide +kernel) ?_
    refine k_ge (tgt := 12) (off := 9) C i32_0 iL (by decide +kernel) (by decide) (fun h => ?_) (fun h => ?_)
    · refine k_const (v := 0) C (Or.inl ⟨rfl, rfl⟩) (by decide +kernel) ?_
      exact fin 0 (by unfold ceA; exact (if_neg (by omega)).symm)
    · refine k_aload (k := 0) C (t := 3) (x := 999) rfl (Or.inr rfl) (by decide +kernel) ?_
      refine k_iload (k := 1) C (x := 0) rfl (by decide +kernel) ?_
      refine k_sld (i := 0) C hX hbz hbA ⟨Int.le_refl 0, h⟩ hL0 (by decide +kernel) ?_
      refine k_goto (tgt := 13) (off := 4) C (by decide +kernel) (by decide) ?_
      exact fin _ (by unfold ceA; exact (if_pos (by omega)).symm)
  rw [lg_entry_eq]
  exact body s.heap [] _ hP hsz va_S.rf (gent rfl)
section KCE
variable {p : Program} {l : Launch} {e : Env} {R : Room} {s : State} {m : MethodId} {args : Array Value} {below : List Frame} {meth : Method} {c : Code} {Q : State → Prop} {cc : ByteArray} {nL : Nat} {Z : gZ} {A : Nat → Prop} {σ : gM} {cs : List Nat} {n cells slots pc : Nat} {ls st : List gV} {L : Nat} {xs : Nat → Int32}
/-- the law asks for the script's first int -/
theorem k_cell (C : kCx p s m args c cc nL RX0 Z A) (hX : va_X (zS Z 999) L xs s s.heap) (hbz : zS Z 999 < s.heap.size) (hbA : ¬ A (zS Z 999)) (hL0 : L ≤ 385) (hF : 1 ≤ R.frames) (hLc : 21 ≤ R.locals) (hc : cells ≤ R.cells) (hs : slots ≤ R.slots) (hw : ((st.map (cv Z)).map fun v => v.category).sum ≤ 8) (hd : decode cc pc = .ok (.invokestatic 9, 3))
    (K : kAt p l e R s m args below meth c Q nL A Z σ cs n cells slots (pc + 3) ls ((0, ceA L xs) :: st)) : kAt p l e R s m args below meth c Q nL A Z σ cs n cells slots pc ls ((0, 0) :: (3, 999) :: st) := by
  intro H locs la hP hn hS hL
  obtain ⟨⟨hx, hb, hml, hown, hts, hKK, hinj, hnest, hstr⟩, hth, hAZ, hs0⟩ := C
  have hle : s.heap.size ≤ n := by rw [← hn]; exact hS.1
  have keep : ∀ U : State, U.heap = H → ∀ a : Nat, a < s.heap.size → ¬ gA Z a → U.heap[a]? = s.heap[a]? := by
    intro U hU a h1 h2
    rw [hU]
    exact hS.2.1 a h1 fun z => h2 (hAZ a h1 z)
  have hpre : PreS s H (cePc Z L xs n) [.ref (zS Z 999), .int 0] := ⟨cePc.blind, fun U hU hW => ⟨⟨rfl, (fun a ha => by cases ha), by rw [hU]; exact hn, va_K.moved hW.alike hKK, hnest.warm hW, hstr.warm hW (keep U hU), hth.warm hW (keep U hU)⟩, by
    rw [hU]
    exact (va_X.moved hW.alike hX).kept (hS.2.1 _ hbz hbA)⟩⟩
  have hrun : va_Run p l e R s m args below meth c H locs cells slots 0 0 (F0 m pc la ([Value.ref (zS Z 999), Value.int 0].reverse ++ st.map (cv Z))) (st.map (cv Z)) (ceQc Z L xs n [Value.ref (zS Z 999), Value.int 0].toArray) (kA Z [] n) :=
    va_runS (As := [.ref (zS Z 999), .int 0]) (rest := st.map (cv Z)) ⟨hx, hb, hml, hown, hts⟩ (cell_m hinj hL0) ⟨callB_of 2 hts (lw_meth q1986) rfl rfl rfl (hts _ q226) (hts _ q1984) ce_desc ⟨by show 0 + 1 ≤ R.frames; omega, by show 8 + (2 + 11) + 0 ≤ R.locals; omega⟩, hts _ q1985⟩ hpre rfl rfl hL.1 rfl (lv_room hw) hd ⟨hc, hs⟩
  refine va_calli hrun hS (fun q h1 h2 => ?_) (fun q h2 => ?_) (fun r u t H1 locs1 ht hvm hpost hB hz1 hk1 hS1 => ?_)
  · rcases h2 with ⟨a, ha, -⟩ | h2
    · cases ha
    · have h2 : n ≤ q := h2
      omega
  · rcases h2 with ⟨a, ha, -⟩ | h2
    · cases ha
    · have h2 : n ≤ q := h2
      exact hs0 q (by omega)
  · have hpost : r = Int32.ofInt (ceA L xs) := hpost
    have hB : t.heap.size = n := hB
    have e3 : cv Z (0, ceA L xs) = .int r := by rw [hpost]; simp [cv]
    have go := K H1 locs1 la (hP.kept fun a ha => hk1 _ (hP.lt ha) fun z => by
      have := hP.lt ha
      rcases z with ⟨a, ha, -⟩ | z
      · cases ha
      · have z : n ≤ zA Z a := z
        omega) (by rw [← ht]; exact hB) hS1 hL
    rw [List.map_cons, e3] at go
    exact go
end KCE
