/-! the law's own instructions -/
section LI
variable {p : Program} {l : Launch} {e : Env} {R : Room} {s : State} {m : MethodId} {args : Array Value} {below : List Frame} {meth : Method} {c : Code} {Q : State → Prop} {cc : ByteArray} {nL : Nat} {Z : gZ} {own : String} {A : Nat → Prop} {σ : gM} {cs : List Nat} {n cells slots pc : Nat} {ls st : List gV} {x y : Int}
theorem k_iadd (C : gCx p s m args c cc nL own Z) (hd : decode cc pc = .ok (.iadd, 1)) (K : kAt p l e R s m args below meth c Q nL A Z σ cs n cells slots (pc + 1) ls ((0, w32 (x + y)) :: st)) : kAt p l e R s m args below meth c Q nL A Z σ cs n cells slots pc ls ((0, y) :: (0, x) :: st) := by
  intro H locs la hP hn hS hL
  have go := K H locs la hP hn hS hL
  have e1 : cv Z (0, w32 (x + y)) = .int (Int32.ofInt x + Int32.ofInt y) := by simp [cv, n_add]
  rw [List.map_cons, e1] at go
  exact lv_iadd C.1 C.2.1 hd go
theorem k_isub (C : gCx p s m args c cc nL own Z) (hd : decode cc pc = .ok (.isub, 1)) (K : kAt p l e R s m args below meth c Q nL A Z σ cs n cells slots (pc + 1) ls ((0, w32 (x - y)) :: st)) : kAt p l e R s m args below meth c Q nL A Z σ cs n cells slots pc ls ((0, y) :: (0, x) :: st) := by
  intro H locs la hP hn hS hL
  have go := K H locs la hP hn hS hL
  have e1 : cv Z (0, w32 (x - y)) = .int (Int32.ofInt x - Int32.ofInt y) := by simp [cv, n_sub]
  rw [List.map_cons, e1] at go
  exact lv_isub C.1 C.2.1 hd go
theorem k_iand (C : gCx p s m args c cc nL own Z) (hd : decode cc pc = .ok (.iand, 1)) (K : kAt p l e R s m args below meth c Q nL A Z σ cs n cells slots (pc + 1) ls ((0, i_and x y) :: st)) : kAt p l e R s m args below meth c Q nL A Z σ cs n cells slots pc ls ((0, y) :: (0, x) :: st) := by
  intro H locs la hP hn hS hL
  have go := K H locs la hP hn hS hL
  have e1 : cv Z (0, i_and x y) = .int (Int32.ofInt x &&& Int32.ofInt y) := by simp [cv, i_and]
  rw [List.map_cons, e1] at go
  exact lv_iand C.1 C.2.1 hd go
theorem k_land (C : gCx p s m args c cc nL own Z) (hd : decode cc pc = .ok (.land, 1)) (K : kAt p l e R s m args below meth c Q nL A Z σ cs n cells slots (pc + 1) ls ((1, l_and x y) :: st)) : kAt p l e R s m args below meth c Q nL A Z σ cs n cells slots pc ls ((1, y) :: (1, x) :: st) := by
  intro H locs la hP hn hS hL
  have go := K H locs la hP hn hS hL
  have e1 : cv Z (1, l_and x y) = .long (Int64.ofInt x &&& Int64.ofInt y) := by simp [cv, l_and]
  rw [List.map_cons, e1] at go
  exact lv_land C.1 C.2.1 hd go
theorem k_lor (C : gCx p s m args c cc nL own Z) (hd : decode cc pc = .ok (.lor, 1)) (K : kAt p l e R s m args below meth c Q nL A Z σ cs n cells slots (pc + 1) ls ((1, l_or x y) :: st)) : kAt p l e R s m args below meth c Q nL A Z σ cs n cells slots pc ls ((1, y) :: (1, x) :: st) := by
  intro H locs la hP hn hS hL
  have go := K H locs la hP hn hS hL
  have e1 : cv Z (1, l_or x y) = .long (Int64.ofInt x ||| Int64.ofInt y) := by simp [cv, l_or]
  rw [List.map_cons, e1] at go
  exact lv_lor C.1 C.2.1 hd go
theorem k_lshl (C : gCx p s m args c cc nL own Z) (hd : decode cc pc = .ok (.lshl, 1)) (K : kAt p l e R s m args below meth c Q nL A Z σ cs n cells slots (pc + 1) ls ((1, l_shl x y) :: st)) : kAt p l e R s m args below meth c Q nL A Z σ cs n cells slots pc ls ((0, y) :: (1, x) :: st) := by
  intro H locs la hP hn hS hL
  exact lv_lshl C.1 C.2.1 hd (Int64.ofInt_toInt _).symm (K H locs la hP hn hS hL)
theorem k_i2l (C : gCx p s m args c cc nL own Z) (hx : i32 x) (hd : decode cc pc = .ok (.i2l, 1)) (K : kAt p l e R s m args below meth c Q nL A Z σ cs n cells slots (pc + 1) ls ((1, x) :: st)) : kAt p l e R s m args below meth c Q nL A Z σ cs n cells slots pc ls ((0, x) :: st) := by
  intro H locs la hP hn hS hL
  exact lv_i2l C.1 C.2.1 hd (n_i2l hx).1 (K H locs la hP hn hS hL)
theorem k_gt {off : Int} {tgt : Nat} (C : gCx p s m args c cc nL own Z) (hx : i32 x) (hy : i32 y) (hd : decode cc pc = .ok (.if_icmp .gt off, 3)) (ht : (pc : Int) + off = (tgt : Int))
    (K1 : y < x → kAt p l e R s m args below meth c Q nL A Z σ cs n cells slots tgt ls st) (K2 : x ≤ y → kAt p l e R s m args below meth c Q nL A Z σ cs n cells slots (pc + 3) ls st) : kAt p l e R s m args below meth c Q nL A Z σ cs n cells slots pc ls ((0, y) :: (0, x) :: st) := by
  intro H locs la hP hn hS hL
  exact lv_icmp_gt C.1 C.2.1 hd ht (fun q => K1 ((n_lt hy hx).mp q) H locs la hP hn hS hL) (fun q => K2 (Int.not_lt.mp fun z => q ((n_lt hy hx).mpr z)) H locs la hP hn hS hL)
theorem k_eq {off : Int} {tgt : Nat} (C : gCx p s m args c cc nL own Z) (hd : decode cc pc = .ok (.if_icmp .eq off, 3)) (ht : (pc : Int) + off = (tgt : Int))
    (K1 : kAt p l e R s m args below meth c Q nL A Z σ cs n cells slots tgt ls st) : kAt p l e R s m args below meth c Q nL A Z σ cs n cells slots pc ls ((0, x) :: (0, x) :: st) := by
  intro H locs la hP hn hS hL
  exact lv_icmp_eq C.1 C.2.1 hd ht (fun _ => K1 H locs la hP hn hS hL) (fun q => absurd rfl q)
end LI
