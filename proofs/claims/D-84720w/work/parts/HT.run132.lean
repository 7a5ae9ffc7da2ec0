/-! the law's loop -/
theorem i_and_15 (v : Int) : 0 ≤ i_and v 15 ∧ i_and v 15 ≤ 15 := by
  unfold i_and
  have e : (Int32.ofInt v &&& Int32.ofInt 15).toInt = ((Int32.ofInt v).toBitVec &&& 15#32).toInt := rfl
  have hn : ((Int32.ofInt v).toBitVec &&& 15#32).toNat ≤ 15 := by
    rw [BitVec.toNat_and]
    exact Nat.and_le_right
  rw [e, BitVec.toInt_eq_toNat_of_lt (by omega)]
  omega
section LLP
variable {p : Program} {l : Launch} {e : Env} {R : Room} {s : State} {m : MethodId} {args : Array Value} {below : List Frame} {meth : Method} {c : Code} {Q : State → Prop} {Z : gZ} {A : Nat → Prop} {cs : List Nat} {n cells slots : Nat} {L : Nat} {xs : Nat → Int32}
theorem lw_tsw : decode code 43 = .ok (.tableswitch 595 0 15 #[77, 140, 163, 186, 279, 302, 315, 338, 361, 384, 397, 430, 473, 506, 539, 572], 77) := by decide +kernel
theorem lc_loop (H : lawC p s m args c R Z A cs cells slots L xs) (E : ∀ (i : Int) (M : gM), kAt p l e R s m args below meth c Q 4 A Z M cs n cells slots 644 (lwL i) []) : ∀ (k : Nat) (i : Int) (M : gM), 0 ≤ i → i ≤ 400 → (L : Int) < i + 6 * k → gI 227 M → RL M → kAt p l e R s m args below meth c Q 4 A Z M cs n cells slots 28 (lwL i) []
  | k, i, M, i0, i4, hk, hI, Rl => by
    have H0 := H
    obtain ⟨C, ⟨hX, hb, hbA, hL0⟩, hN, ok, hcs, hlt, hAZ, r1, r2, r3, r4⟩ := H
    refine k_iload (k := 3) C (x := i) rfl (by decide +kernel) ?_
    refine k_aload (k := 0) C (t := 3) (x := 999) rfl (Or.inr rfl) (by decide +kernel) ?_
    refine k_slen C hX hb hbA (by decide +kernel) ?_
    refine k_const (v := 6) C (Or.inr (Or.inl ⟨rfl, rfl, by unfold i8; omega⟩)) (by decide +kernel) ?_
    refine k_isub C (by decide +kernel) ?_
    rw [w32_e (x := (L : Int) - 6) (by omega) (by omega)]
    refine k_gt (tgt := 644) (off := 610) C (by unfold i32; omega) (by unfold i32; omega) (by decide +kernel) (by decide) (fun _ => E i M) (fun h => ?_)
    have hi : 0 ≤ i ∧ i + 6 ≤ L := by omega
    refine k_aload (k := 0) C (t := 3) (x := 999) rfl (Or.inr rfl) (by decide +kernel) ?_
    refine k_iload (k := 3) C (x := i) rfl (by decide +kernel) ?_
    refine k_sld C hX hb hbA (by omega) hL0 (by decide +kernel) ?_
    refine k_const (v := 15) C (Or.inr (Or.inl ⟨rfl, rfl, by unfold i8; omega⟩)) (by decide +kernel) ?_
    refine k_iand C (by decide +kernel) ?_
    have hx := i_and_15 (xs i.toNat).toInt
    generalize i_and (xs i.toNat).toInt 15 = x at hx ⊢
    have K : ∀ M2, gI 227 M2 → RL M2 → kAt p l e R s m args below meth c Q 4 A Z M2 cs n cells slots 638 (lwL i) [] := by
      intro M2 I2 R2
      refine k_iinc (k := 3) (d := 6) C (x := i) rfl (by decide) (by decide +kernel) ?_
      rw [w32_e (x := i + 6) (by omega) (by omega)]
      refine k_goto (tgt := 28) (off := -613) C (by decide +kernel) (by decide) ?_
      match k, hk with
      | 0, hk => omega
      | k + 1, hk => exact lc_loop H0 E k (i + 6) M2 (by omega) (by omega) (by omega) I2 R2
    have hx32 : i32 x := by unfold i32; omega
    have hc : x = 0 ∨ x = 1 ∨ x = 2 ∨ x = 3 ∨ x = 4 ∨ x = 5 ∨ x = 6 ∨ x = 7 ∨ x = 8 ∨ x = 9 ∨ x = 10 ∨ x = 11 ∨ x = 12 ∨ x = 13 ∨ x = 14 ∨ x = 15 := by omega
    rcases hc with q | q | q | q | q | q | q | q | q | q | q | q | q | q | q | q <;> subst q
    · exact k_tsw (off := 77) (tgt := 120) C hx32 lw_tsw (by decide) (by decide) rfl (by decide) (lc_feed H0 hi hI Rl K)
    · exact k_tsw (off := 140) (tgt := 183) C hx32 lw_tsw (by decide) (by decide) rfl (by decide) (lc_load H0 hi hI Rl K)
    · exact k_tsw (off := 163) (tgt := 206) C hx32 lw_tsw (by decide) (by decide) rfl (by decide) (lc_fault H0 hi hI Rl K)
    · exact k_tsw (off := 186) (tgt := 229) C hx32 lw_tsw (by decide) (by decide) rfl (by decide) (lc_start H0 hi hI Rl K)
    · exact k_tsw (off := 279) (tgt := 322) C hx32 lw_tsw (by decide) (by decide) rfl (by decide) (lc_run H0 hi hI Rl K)
    · exact k_tsw (off := 302) (tgt := 345) C hx32 lw_tsw (by decide) (by decide) rfl (by decide) (lc_state H0 hi hI Rl K)
    · exact k_tsw (off := 315) (tgt := 358) C hx32 lw_tsw (by decide) (by decide) rfl (by decide) (lc_error H0 hi hI Rl K)
    · exact k_tsw (off := 338) (tgt := 381) C hx32 lw_tsw (by decide) (by decide) rfl (by decide) (lc_result H0 hi hI Rl K)
    · exact k_tsw (off := 361) (tgt := 404) C hx32 lw_tsw (by decide) (by decide) rfl (by decide) (lc_out H0 hi hI Rl K)
    · exact k_tsw (off := 384) (tgt := 427) C hx32 lw_tsw (by decide) (by decide) rfl (by decide) (lc_compile H0 hi hI Rl K)
    · exact k_tsw (off := 397) (tgt := 440) C hx32 lw_tsw (by decide) (by decide) rfl (by decide) (lc_root H0 hi hI Rl K)
    · exact k_tsw (off := 430) (tgt := 473) C hx32 lw_tsw (by decide) (by decide) rfl (by decide) (lc_node H0 hi hI Rl K)
    · exact k_tsw (off := 473) (tgt := 516) C hx32 lw_tsw (by decide) (by decide) rfl (by decide) (lc_shape H0 hi hI Rl K)
    · exact k_tsw (off := 506) (tgt := 549) C hx32 lw_tsw (by decide) (by decide) rfl (by decide) (lc_code H0 hi hI Rl K)
    · exact k_tsw (off := 539) (tgt := 582) C hx32 lw_tsw (by decide) (by decide) rfl (by decide) (lc_frame H0 hi hI Rl K)
    · exact k_tsw (off := 572) (tgt := 615) C hx32 lw_tsw (by decide) (by decide) rfl (by decide) (lc_total H0 hi hI Rl K)
end LLP
