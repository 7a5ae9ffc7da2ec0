/-! addresses of the cells -/
/-- in which order the cells are made -/
def kO (a : Nat) : Nat := if a = 117 then 0 else if a = 118 then 88 else if a < 87 then a + 1 else if a < 117 then a + 2 else a
theorem kO_inj {i j : Nat} (hi : i < 227) (hj : j < 227) (h : kO i = kO j) : i = j := by
  unfold kO at h
  repeat' split at h
  all_goals omega
def zMk (D : va_G) (B : Nat) (zs : Nat → Nat) (zc : Nat → ClassId) (zx : List Value) : gZ := (D, fun a => B + kO a, zs, zc, 227, zx)
section ZM
variable {D : va_G} {B : Nat} {zs : Nat → Nat} {zc : Nat → ClassId} {zx : List Value}
theorem zMk_inj : gInj (zMk D B zs zc zx) := fun i j hi hj h => kO_inj hi hj (Nat.add_left_cancel (show B + kO i = B + kO j from h))
theorem zMk_ge {q : Nat} (h : gA (zMk D B zs zc zx) q) : B ≤ q := by
  obtain ⟨a, -, rfl⟩ := h
  exact Nat.le_add_right ..
theorem zMk_1 : ∀ i, i < 87 → zA (zMk D B zs zc zx) (0 + i) = B + 1 + i := fun i hi => by
  show B + kO (0 + i) = _
  unfold kO
  rw [if_neg (by omega), if_neg (by omega), if_pos (by omega)]
  omega
theorem zMk_2 : zA (zMk D B zs zc zx) 118 = B + 1 + 87 := rfl
theorem zMk_3 : ∀ i, i < 30 → zA (zMk D B zs zc zx) (87 + i) = B + 1 + 88 + i := fun i hi => by
  show B + kO (87 + i) = _
  unfold kO
  rw [if_neg (by omega), if_neg (by omega), if_neg (by omega), if_pos (by omega)]
  omega
theorem zMk_4 : ∀ i, i < 107 → zA (zMk D B zs zc zx) (120 + i) = B + 120 + i := fun i hi => by
  show B + kO (120 + i) = _
  unfold kO
  rw [if_neg (by omega), if_neg (by omega), if_neg (by omega), if_neg (by omega)]
  omega
theorem zMk_117 : zA (zMk D B zs zc zx) 117 = B := rfl
theorem zMk_119 : zA (zMk D B zs zc zx) 119 = B + 119 := rfl
end ZM
/-! the script -/
section SCR
variable {p : Program} {l : Launch} {e : Env} {R : Room} {s : State} {m : MethodId} {args : Array Value} {below : List Frame} {meth : Method} {c : Code} {Q : State → Prop} {cc : ByteArray} {nL : Nat} {Z : gZ} {own : String} {A : Nat → Prop} {σ : gM} {cs : List Nat} {n cells slots pc : Nat} {ls st : List gV} {L : Nat} {xs : Nat → Int32}
/-- an int of the script is loaded: the script is the text 999 -/
theorem k_sld {i : Int} (C : gCx p s m args c cc nL own Z) (hX : va_X (zS Z 999) L xs s s.heap) (hb : zS Z 999 < s.heap.size) (hbA : ¬ A (zS Z 999)) (hi : 0 ≤ i ∧ i < L) (hL0 : L ≤ 385) (hd : decode cc pc = .ok (.iaload, 1))
    (K : kAt p l e R s m args below meth c Q nL A Z σ cs n cells slots (pc + 1) ls ((0, (xs i.toNat).toInt) :: st)) : kAt p l e R s m args below meth c Q nL A Z σ cs n cells slots pc ls ((0, i) :: (3, 999) :: st) := by
  intro H locs la hP hn hS hL
  have hi32 : i32 i := by unfold i32; omega
  have go := K H locs la hP hn hS hL
  have e1 : cv Z (3, 999) = .ref (zS Z 999) := rfl
  have e2 : cv Z (0, i) = .int (Int32.ofInt i) := by simp [cv]
  have e3 : cv Z (0, (xs i.toNat).toInt) = .int (xs i.toNat) := by simp [cv]
  rw [List.map_cons, List.map_cons, e1, e2]
  rw [List.map_cons, e3] at go
  refine va_sld C.1 C.2.1 hX hb hbA hS ?_ hd (by rw [n_cl hi32]; exact go)
  intro q
  rcases q with q | q
  · have := (n_lt hi32 i32_0).mp q
    omega
  · rw [n_cl hi32] at q
    omega
theorem k_slen (C : gCx p s m args c cc nL own Z) (hX : va_X (zS Z 999) L xs s s.heap) (hb : zS Z 999 < s.heap.size) (hbA : ¬ A (zS Z 999)) (hd : decode cc pc = .ok (.arraylength, 1))
    (K : kAt p l e R s m args below meth c Q nL A Z σ cs n cells slots (pc + 1) ls ((0, (L : Int)) :: st)) : kAt p l e R s m args below meth c Q nL A Z σ cs n cells slots pc ls ((3, 999) :: st) := by
  intro H locs la hP hn hS hL
  have go := K H locs la hP hn hS hL
  have e1 : cv Z (3, 999) = .ref (zS Z 999) := rfl
  have e3 : cv Z (0, (L : Int)) = .int (Int32.ofNat L) := by
    simp only [cv, if_pos rfl]
    rfl
  rw [List.map_cons, e1]
  rw [List.map_cons, e3] at go
  exact va_slen C.1 C.2.1 hX hb hbA hS hd go
end SCR
