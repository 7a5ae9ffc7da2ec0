/-! the array of the kinds' names -/
theorem arrV_same {cI : ClassId} {N : Nat} {f g : Nat → Value} (h : ∀ j, j < N → f j = g j) : arrV cI N f = arrV cI N g := by
  unfold arrV
  congr 1
  apply Array.ext
  · simp
  · intro i h1 h2
    simp at h1
    simp [h i h1]
/-- as kAt, and the array of the kinds' names holds f so far -/
def kAtq (p : Program) (l : Launch) (e : Env) (R : Room) (s : State) (m : MethodId) (args : Array Value) (below : List Frame) (meth : Method) (c : Code) (Q : State → Prop) (nL : Nat) (A : Nat → Prop) (Z : gZ) (σ : gM) (cs : List Nat) (n cells slots : Nat) (f : Nat → Option Nat) (pc : Nat) (ls st : List gV) : Prop :=
  ∀ (H : Heap) (locs : List Loc) (la : Array Slot), kP Z σ cs H → H[zA Z 39]? = some (arrV (zC Z 5) 7 (fun j => va_rf (f j))) → H.size = n → va_S A s.heap H locs → gLoc Z nL la ls → W p l e R s m args below meth c H locs cells slots Q (F0 m pc la (st.map (cv Z)))
section KQ
variable {p : Program} {l : Launch} {e : Env} {R : Room} {s : State} {m : MethodId} {args : Array Value} {below : List Frame} {meth : Method} {c : Code} {Q : State → Prop} {cc : ByteArray} {nL : Nat} {Z : gZ} {own : String} {A : Nat → Prop} {σ : gM} {cs : List Nat} {n cells slots pc : Nat} {ls st : List gV} {f : Nat → Option Nat}
theorem kq_cls (C : kCx p s m args c cc nL own Z A) : ∃ (kA : Class) (comp : ClassId), s.vm.classes[zC Z 5]? = some kA ∧ kA.kind = .array comp (.object "java/lang/String") ∧ s.vm.findClass "java/lang/String" = some comp ∧ s.vm.findClass ("[" ++ (FieldType.object "java/lang/String").toString) = some (zC Z 5) := (C.1.2.2.2.2.2.1.2 4 (zC Z 5, .object "java/lang/String") rfl).2
theorem kq_new {idx : Nat} (C : kCx p s m args c cc nL own Z A) (ha : zA Z 39 = n) (w1 : Cond.classLink own idx "java/lang/String" ∈ lw_all) (hcells : cells + 1 ≤ R.cells) (hslots : slots + 7 ≤ R.slots) (hd : decode cc pc = .ok (.anewarray idx, 3))
    (K : kAtq p l e R s m args below meth c Q nL A Z σ cs (n + 1) (cells + 1) (slots + 7) (fun _ => none) (pc + 3) ls ((2, 39) :: st)) : kAt p l e R s m args below meth c Q nL A Z σ cs n cells slots pc ls ((0, 7) :: st) := by
  intro H locs la hP hn hS hL
  obtain ⟨kA0, comp0, g1, g2, g3, g4⟩ := kq_cls C
  obtain ⟨⟨hx, hb, hml, hown, hts, hKK, -⟩, hth, -, hA⟩ := C
  have e0 : cv Z (0, 7) = .int 7 := rfl
  rw [List.map_cons, e0]
  refine W.anew (n := 7) hx hb hown (hts _ w1) (va_AO.use hth.2.1) rfl hd rfl (by decide) (by decide) hcells hslots fun cA kA comp f1 f2 f3 f4 => ?_
  have hC : cA = zC Z 5 := Option.some.inj (f1.symm.trans g4)
  subst hC
  generalize hH1 : H.push ({ cls := zC Z 5, slots := Array.replicate (7 : Int32).toNatClampNeg .null, vm := .none } : Cell) = H1
  have z1 : H1.size = H.size + 1 := by rw [← hH1, Array.size_push]
  have e1 : H1[H.size]? = some (arrV (zC Z 5) 7 (fun _ => .null)) := by rw [← hH1, Array.getElem?_push_size, arrV_new]; rfl
  have o1 : ∀ q : Nat, q < H.size → H1[q]? = H[q]? := fun q hq => by rw [← hH1, Array.getElem?_push, if_neg (Nat.ne_of_lt hq)]
  have hsz : s.heap.size ≤ n := by rw [← hn]; exact hS.1
  have go := K H1 locs la (hP.kept fun b hb => o1 _ (hP.lt hb)) (by rw [ha, ← hn]; exact e1) (by rw [z1, hn]) ⟨by omega, fun q h1 h2 => (o1 q (by omega)).trans (hS.2.1 q h1 h2), hS.2.2⟩ hL
  have e2 : cv Z (2, 39) = .ref H.size := by
    rw [hn, ← ha]
    rfl
  rw [List.map_cons, e2] at go
  exact go
theorem kq_st {i k len idx : Nat} {ci : Instr} {tx : String} (C : kCx p s m args c cc nL own Z A) (hA39 : A (zA Z 39)) (h39 : ∀ a ∈ cs, zA Z a ≠ zA Z 39) (hi : i < 7) (hk : k < 23) (hw : (own, idx, tx, k) ∈ gStrC) (hc : (ci = .iconst i ∧ len = 1) ∨ (ci = .bipush i ∧ len = 2))
    (d1 : decode cc pc = .ok (.dup, 1)) (d2 : decode cc (pc + 1) = .ok (ci, len)) (d3 : decode cc (pc + 1 + len) = .ok (.ldc idx, 2)) (d4 : decode cc (pc + 1 + len + 2) = .ok (.aastore, 1))
    (K : kAtq p l e R s m args below meth c Q nL A Z σ cs n cells slots (va_up f i (some (zS Z k))) (pc + 1 + len + 2 + 1) ls ((2, 39) :: st)) : kAtq p l e R s m args below meth c Q nL A Z σ cs n cells slots f pc ls ((2, 39) :: st) := by
  intro H locs la hP hq hn hS hL
  obtain ⟨kA0, comp0, g1, g2, g3, g4⟩ := kq_cls C
  obtain ⟨⟨hx, hb, hml, hown, hts, hKK, hinj, hnest, hstr⟩, hth, hAZ, hA⟩ := C
  have e39 : cv Z (2, 39) = .ref (zA Z 39) := rfl
  have hi32 : i32 (i : Int) := by unfold i32; omega
  have hclamp : (Int32.ofInt (i : Int)).toNatClampNeg = i := by rw [n_cl hi32]; rfl
  rw [List.map_cons, e39]
  refine lv_dup hx hb d1 rfl ?_
  have step : W p l e R s m args below meth c H locs cells slots Q (F0 m (pc + 1 + len) la (.int (Int32.ofInt (i : Int)) :: .ref (zA Z 39) :: .ref (zA Z 39) :: st.map (cv Z))) := by
    refine va_ldcS hx hb hown (hstr.1 _ hw) d3 ?_
    obtain ⟨kE, hkE, -⟩ := Vm.findClass_spec g3
    have hSZ : va_S (gA Z) s.heap H [] := ⟨hS.1, fun q h1 h2 => hS.2.1 q h1 fun z => h2 (hAZ q h1 z), fun _ h => by cases h⟩
    obtain ⟨cellV, v1, v2, v3⟩ := vk_recv hstr.2.1 hk hSZ
    have hcc : cellV.cls = comp0 := Option.some.inj (v3.symm.trans g3)
    refine W.aast hx hb hq (fun q h => by cases h) (fun h => by cases h) g1 g2 rfl hkE ⟨fun q => ?_, by rw [arrV_size, hclamp]; exact hi⟩ v1 (fun q h => by rw [h] at v2; cases v2) (by rw [hcc]; exact hkE) (by rw [hcc]; exact va_asg _ _) rfl rfl d4 fun H1 e z oq => ?_
    · have := (n_lt hi32 i32_0).mp q
      omega
    · rw [hclamp] at e ⊢
      have go := K H1 (locs ++ [⟨zA Z 39, i⟩]) la (hP.kept fun b hb => oq _ (h39 b hb)) ?_ (by rw [z, hn]) (hS.put z oq hA39) hL
      · exact go
      · rw [e, arrV_store]
        congr 1
        apply arrV_same
        intro j hj
        by_cases hji : j = i
        · subst hji
          simp [updV, va_up, va_rf]
        · simp [updV, va_up, hji]
  rcases hc with ⟨rfl, rfl⟩ | ⟨rfl, rfl⟩
  · exact lv_iconst hx hb d2 rfl step
  · exact lv_bipush hx hb d2 (g_of8 ⟨by omega, by omega⟩) step
theorem kq_end (h : ∀ j : Nat, j < 7 → f j = some (zS Z (σ 39 j).toNat)) (K : kAt p l e R s m args below meth c Q nL A Z σ (cs ++ [39]) n cells slots pc ls st) : kAtq p l e R s m args below meth c Q nL A Z σ cs n cells slots f pc ls st := by
  intro H locs la hP hq hn hS hL
  refine K H locs la (hP.app fun b hb => ?_) hn hS hL
  rw [List.mem_singleton.mp hb, gpic_str (by decide +kernel)]
  show H[zA Z 39]? = some (vp_cell _ _)
  rw [vp_cell_q, hq]
  congr 1
  have e7 : (gN (39 : Nat)).toNat = 7 := by decide +kernel
  rw [e7]
  exact arrV_same fun j hj => by rw [h j hj]; rfl
end KQ
