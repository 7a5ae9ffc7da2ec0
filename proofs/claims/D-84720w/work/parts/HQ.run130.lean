/-! the law's loop: an argument out of the script -/
section LA
variable {p : Program} {l : Launch} {e : Env} {R : Room} {s : State} {m : MethodId} {args : Array Value} {below : List Frame} {meth : Method} {c : Code} {Q : State → Prop} {cc : ByteArray} {nL : Nat} {Z : gZ} {own : String} {A : Nat → Prop} {σ : gM} {cs : List Nat} {n cells slots pc : Nat} {st : List gV} {L : Nat} {xs : Nat → Int32} {i : Int}
/-- the law's locals -/
abbrev lwL (i : Int) : List gV := [(3, 999), (2, 117), (2, 119), (0, i)]
theorem k_arg {kk : Nat} (C : gCx p s m args c cc nL own Z) (hX : va_X (zS Z 999) L xs s s.heap) (hb : zS Z 999 < s.heap.size) (hbA : ¬ A (zS Z 999)) (hi : 0 ≤ i ∧ i + 6 ≤ L) (hL0 : L ≤ 385) (hkk : kk ≤ 5)
    (d1 : decode cc pc = .ok (.aload_n 0, 1)) (d2 : decode cc (pc + 1) = .ok (.iload_n 3, 1)) (d3 : decode cc (pc + 2) = .ok (.iconst kk, 1)) (d4 : decode cc (pc + 3) = .ok (.iadd, 1)) (d5 : decode cc (pc + 4) = .ok (.iaload, 1))
    (K : kAt p l e R s m args below meth c Q nL A Z σ cs n cells slots (pc + 5) (lwL i) ((0, (xs (i + kk).toNat).toInt) :: st)) : kAt p l e R s m args below meth c Q nL A Z σ cs n cells slots pc (lwL i) st := by
  refine k_aload (k := 0) C (t := 3) (x := 999) rfl (Or.inr rfl) d1 ?_
  refine k_iload (k := 3) C (x := i) rfl d2 ?_
  refine k_const (v := (kk : Int)) C (Or.inl ⟨rfl, rfl⟩) d3 ?_
  refine k_iadd C d4 ?_
  rw [w32_e (x := i + kk) (by omega) (by omega)]
  exact k_sld C hX hb hbA (by omega) hL0 d5 K
/-- an argument is an int -/
theorem xs_i (k : Nat) : i32 (xs k).toInt := i32_toInt _
end LA
