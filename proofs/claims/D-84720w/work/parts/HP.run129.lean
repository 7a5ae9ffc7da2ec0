/-! the law's own instructions: locals, constants -/
section LJ
variable {p : Program} {l : Launch} {e : Env} {R : Room} {s : State} {m : MethodId} {args : Array Value} {below : List Frame} {meth : Method} {c : Code} {Q : State → Prop} {cc : ByteArray} {nL : Nat} {Z : gZ} {own : String} {A : Nat → Prop} {σ : gM} {cs : List Nat} {n cells slots pc : Nat} {ls st : List gV} {x y : Int}
theorem k_istore {k : Fin 4} (C : gCx p s m args c cc nL own Z) (hk : k.val < nL) (hd : decode cc pc = .ok (.istore_n k, 1)) (K : kAt p l e R s m args below meth c Q nL A Z σ cs n cells slots (pc + 1) (gset ls k.val (0, x)) st) : kAt p l e R s m args below meth c Q nL A Z σ cs n cells slots pc ls ((0, x) :: st) := by
  intro H locs la hP hn hS hL
  have e0 : cv Z (0, x) = .int (Int32.ofInt x) := by simp [cv]
  rw [List.map_cons, e0]
  refine lv_istore_n C.1 C.2.1 hd rfl hL.has hk rfl fun la' hl' => ?_
  rw [← e0] at hl'
  exact K H locs la' hP hn hS (gLoc.set (la := la) (show (0 : Nat) ≠ 1 by decide) hl')
theorem k_astore {k : Fin 4} (C : gCx p s m args c cc nL own Z) (hk : k.val < nL) (hd : decode cc pc = .ok (.astore_n k, 1)) (K : kAt p l e R s m args below meth c Q nL A Z σ cs n cells slots (pc + 1) (gset ls k.val (2, x)) st) : kAt p l e R s m args below meth c Q nL A Z σ cs n cells slots pc ls ((2, x) :: st) := by
  intro H locs la hP hn hS hL
  have e0 : cv Z (2, x) = .ref (zA Z x.toNat) := by simp [cv]
  rw [List.map_cons, e0]
  refine lv_astore_n C.1 C.2.1 hd rfl hL.has hk rfl fun la' hl' => ?_
  rw [← e0] at hl'
  exact K H locs la' hP hn hS (gLoc.set (la := la) (show (2 : Nat) ≠ 1 by decide) hl')
theorem k_ldc2 {idx : Nat} {v : Int} (C : gCx p s m args c cc nL own Z) (hw : Cond.constantLong own idx (Int64.ofInt v) ∈ lw_all) (hd : decode cc pc = .ok (.ldc2_w idx, 3)) (K : kAt p l e R s m args below meth c Q nL A Z σ cs n cells slots (pc + 3) ls ((1, v) :: st)) : kAt p l e R s m args below meth c Q nL A Z σ cs n cells slots pc ls st := by
  intro H locs la hP hn hS hL
  have go := K H locs la hP hn hS hL
  have e0 : cv Z (1, v) = .long (Int64.ofInt v) := by simp [cv]
  rw [List.map_cons, e0] at go
  exact lv_ldc2 C.1 C.2.1 C.2.2.2.1 (C.2.2.2.2.1 _ hw) hd go
theorem k_iinc {k : Nat} {d : Int} (C : gCx p s m args c cc nL own Z) (hv : ls[k]? = some (0, x)) (hk : k < nL) (hd : decode cc pc = .ok (.iinc k d, 3)) (K : kAt p l e R s m args below meth c Q nL A Z σ cs n cells slots (pc + 3) (gset ls k (0, w32 (x + d))) st) : kAt p l e R s m args below meth c Q nL A Z σ cs n cells slots pc ls st := by
  intro H locs la hP hn hS hL
  obtain ⟨j, hj⟩ := List.getElem?_of_mem (glv_mem.mpr ⟨(0, x), hv, by simp, rfl⟩ : (k, cv Z (0, x)) ∈ glv Z ls)
  have e0 : cv Z (0, x) = .int (Int32.ofInt x) := by simp [cv]
  rw [e0] at hj
  refine lv_iinc (v := Int32.ofInt (w32 (x + d))) C.1 C.2.1 hd hL.has hj (n_add x d).symm hk rfl fun la' hl' => ?_
  exact K H locs la' hP hn hS (gLoc.set (la := la) (v := (0, w32 (x + d))) (by simp) hl')
theorem k_tsw {d lo hi off : Int} {offs : Array Int} {len tgt : Nat} (C : gCx p s m args c cc nL own Z) (hx : i32 x) (hd : decode cc pc = .ok (.tableswitch d lo hi offs, len)) (h1 : lo ≤ x) (h2 : x ≤ hi) (ho : offs[(x - lo).toNat]? = some off) (ht : (pc : Int) + off = (tgt : Int))
    (K : kAt p l e R s m args below meth c Q nL A Z σ cs n cells slots tgt ls st) : kAt p l e R s m args below meth c Q nL A Z σ cs n cells slots pc ls ((0, x) :: st) := by
  intro H locs la hP hn hS hL
  have e0 : cv Z (0, x) = .int (Int32.ofInt x) := by simp [cv]
  rw [List.map_cons, e0]
  exact lv_tableIn C.1 C.2.1 hd (by rw [of32 hx]; omega) (by rw [of32 hx]; omega) (by rw [of32 hx]; exact ho) ht (K H locs la hP hn hS hL)
end LJ
