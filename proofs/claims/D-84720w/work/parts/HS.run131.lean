/-! the law's loop: start -/
section LST
variable {p : Program} {l : Launch} {e : Env} {R : Room} {s : State} {m : MethodId} {args : Array Value} {below : List Frame} {meth : Method} {c : Code} {Q : State → Prop} {Z : gZ} {A : Nat → Prop} {M σ : gM} {cs : List Nat} {n cells slots pc : Nat} {L : Nat} {xs : Nat → Int32} {i : Int} {st : List gV} {cc : ByteArray}
/-- two ints of the script, as a long -/
def lwJ (xs : Nat → Int32) (i : Int) (k1 k2 : Nat) : Int := l_or (l_shl (xs (i + k1).toNat).toInt 32) (l_and (xs (i + k2).toNat).toInt 4294967295)
theorem lwJ_i {k1 k2 : Nat} : i64 (lwJ xs i k1 k2) := i64_toInt _
theorem k_long {k1 k2 : Nat} (H : lawC p s m args c R Z A cs cells slots L xs) (hi : 0 ≤ i ∧ i + 6 ≤ L) (h1 : k1 ≤ 5) (h2 : k2 ≤ 5)
    (d1 : decode code pc = .ok (.aload_n 0, 1)) (d2 : decode code (pc + 1) = .ok (.iload_n 3, 1)) (d3 : decode code (pc + 2) = .ok (.iconst k1, 1)) (d4 : decode code (pc + 3) = .ok (.iadd, 1)) (d5 : decode code (pc + 4) = .ok (.iaload, 1)) (d6 : decode code (pc + 5) = .ok (.i2l, 1)) (d7 : decode code (pc + 6) = .ok (.bipush 32, 2)) (d8 : decode code (pc + 8) = .ok (.lshl, 1))
    (f1 : decode code (pc + 9) = .ok (.aload_n 0, 1)) (f2 : decode code (pc + 10) = .ok (.iload_n 3, 1)) (f3 : decode code (pc + 11) = .ok (.iconst k2, 1)) (f4 : decode code (pc + 12) = .ok (.iadd, 1)) (f5 : decode code (pc + 13) = .ok (.iaload, 1)) (f6 : decode code (pc + 14) = .ok (.i2l, 1)) (f7 : decode code (pc + 15) = .ok (.ldc2_w 35, 3)) (f8 : decode code (pc + 18) = .ok (.land, 1)) (f9 : decode code (pc + 19) = .ok (.lor, 1))
    (K : kAt p l e R s m args below meth c Q 4 A Z σ cs n cells slots (pc + 20) (lwL i) ((1, lwJ xs i k1 k2) :: st)) : kAt p l e R s m args below meth c Q 4 A Z σ cs n cells slots pc (lwL i) st := by
  obtain ⟨C, ⟨hX, hb, hbA, hL0⟩, -⟩ := H
  refine k_arg (kk := k1) C hX hb hbA hi hL0 h1 d1 d2 d3 d4 d5 ?_
  refine k_i2l C (i32_toInt _) d6 ?_
  refine k_const (v := 32) C (Or.inr (Or.inl ⟨rfl, rfl, by unfold i8; omega⟩)) d7 ?_
  refine k_lshl C d8 ?_
  refine k_arg (kk := k2) C hX hb hbA hi hL0 h2 f1 f2 f3 f4 f5 ?_
  refine k_i2l C (i32_toInt _) f6 ?_
  refine k_ldc2 (v := 4294967295) C q3105 f7 ?_
  refine k_land C f8 ?_
  exact k_lor C f9 K
theorem lc_start (H : lawC p s m args c R Z A cs cells slots L xs) (hi : 0 ≤ i ∧ i + 6 ≤ L) (hI : gI 227 M) (Rl : RL M) (K : ∀ M2, gI 227 M2 → RL M2 → kAt p l e R s m args below meth c Q 4 A Z M2 cs n cells slots 638 (lwL i) []) : kAt p l e R s m args below meth c Q 4 A Z M cs n cells slots 229 (lwL i) [] := by
  have H0 := H
  obtain ⟨C, ⟨hX, hb, hbA, hL0⟩, hN, ok, hcs, hlt, hAZ, r1, r2, r3, r4⟩ := H
  obtain ⟨M1, r, M2, e1, e2, R2⟩ := st_start (x1 := lwJ xs i 1 2) (x2 := lwJ xs i 3 4) Rl lwJ_i lwJ_i
  obtain ⟨n1, h1⟩ := ((gt_start_l M (lwJ xs i 1 2) (lwJ xs i 3 4)).2 _).mp e1
  obtain ⟨n2, h2⟩ := ((md_start_l M1 (lwJ xs i 1 2) (lwJ xs i 3 4)).2 _).mp e2
  have nil : gcans [] := fun v hv => by cases hv
  refine k_aload (k := 1) C (t := 2) (x := 117) rfl (Or.inl rfl) (by decide +kernel) ?_
  refine k_long (k1 := 1) (k2 := 2) H0 hi (by decide) (by decide) (by decide +kernel) (by decide +kernel) (by decide +kernel) (by decide +kernel) (by decide +kernel) (by decide +kernel) (by decide +kernel) (by decide +kernel) (by decide +kernel) (by decide +kernel) (by decide +kernel) (by decide +kernel) (by decide +kernel) (by decide +kernel) (by decide +kernel) (by decide +kernel) (by decide +kernel) ?_
  refine k_long (k1 := 3) (k2 := 4) H0 hi (by decide) (by decide) (by decide +kernel) (by decide +kernel) (by decide +kernel) (by decide +kernel) (by decide +kernel) (by decide +kernel) (by decide +kernel) (by decide +kernel) (by decide +kernel) (by decide +kernel) (by decide +kernel) (by decide +kernel) (by decide +kernel) (by decide +kernel) (by decide +kernel) (by decide +kernel) (by decide +kernel) ?_
  refine kx_call (N := 227) (vi := true) (w0 := 8) (as := [(2, 117), (1, lwJ xs i 1 2), (1, lwJ xs i 3 4)]) (st := []) (σ' := M1) (v := r) (nn := n1) C (gm_gt_start (m := 119) (zlim_inj C.2.2.2.2.2.2.1 (by rw [hN]; decide)) (show 119 ≤ 227 by decide)) (Or.inl q1540) (by omega) (by omega) r3 r4 (by rw [hN]; decide) hcs ok hAZ (by decide) (gft_inl h1) hI (gcans_cons.mpr ⟨gcan2, gcans_cons.mpr ⟨gcan1.mpr lwJ_i, gcans_cons.mpr ⟨gcan1.mpr lwJ_i, nil⟩⟩⟩) nil rfl (Or.inr (Or.inr ⟨by decide, by decide, 117, _, rfl, by decide +kernel, show 117 < 227 by decide⟩)) (show (0 : Nat) ≤ 8 by decide) (fun a ha h => absurd (hlt a ha) (by omega)) ⟨fun _ => by decide, fun _ => rfl⟩ (by decide +kernel) ?_
  intro I1 c1
  refine k_aload (k := 2) C (t := 2) (x := 119) rfl (Or.inl rfl) (by decide +kernel) ?_
  refine k_long (k1 := 1) (k2 := 2) H0 hi (by decide) (by decide) (by decide +kernel) (by decide +kernel) (by decide +kernel) (by decide +kernel) (by decide +kernel) (by decide +kernel) (by decide +kernel) (by decide +kernel) (by decide +kernel) (by decide +kernel) (by decide +kernel) (by decide +kernel) (by decide +kernel) (by decide +kernel) (by decide +kernel) (by decide +kernel) (by decide +kernel) ?_
  refine k_long (k1 := 3) (k2 := 4) H0 hi (by decide) (by decide) (by decide +kernel) (by decide +kernel) (by decide +kernel) (by decide +kernel) (by decide +kernel) (by decide +kernel) (by decide +kernel) (by decide +kernel) (by decide +kernel) (by decide +kernel) (by decide +kernel) (by decide +kernel) (by decide +kernel) (by decide +kernel) (by decide +kernel) (by decide +kernel) (by decide +kernel) ?_
  refine kx_call (N := 227) (vi := true) (w0 := 8) (as := [(2, 119), (1, lwJ xs i 1 2), (1, lwJ xs i 3 4)]) (st := [(0, r)]) (σ' := M2) (v := r) (nn := n2) C (gm_md_start (m := 227) (zlim_inj C.2.2.2.2.2.2.1 (by rw [hN]; decide)) (show 227 ≤ 227 by decide) (show gStop.toNat < 227 by decide)) (Or.inl q2790) (by omega) (by omega) r3 r4 (by rw [hN]; decide) hcs ok hAZ (by decide) (gft_inl h2) I1 (gcans_cons.mpr ⟨gcan2, gcans_cons.mpr ⟨gcan1.mpr lwJ_i, gcans_cons.mpr ⟨gcan1.mpr lwJ_i, nil⟩⟩⟩) (gcans_cons.mpr ⟨c1 (by decide), nil⟩) rfl (Or.inr (Or.inr ⟨by decide, by decide, 119, _, rfl, by decide +kernel, show 119 < 227 by decide⟩)) (by simp [cv, Value.category]) (fun a ha h => absurd (hlt a ha) (by omega)) ⟨fun _ => by decide, fun _ => rfl⟩ (by decide +kernel) ?_
  intro I2 _
  show kAt p l e R s m args below meth c Q 4 A Z M2 cs n cells slots _ (lwL i) [(0, r), (0, r)]
  refine k_eq (tgt := 638) (off := 321) C (by decide +kernel) (by decide) ?_
  exact K M2 I2 R2
end LST
