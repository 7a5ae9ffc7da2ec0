/-! great numbers of the model: the whole quotient -/
theorem mm_set {σ : gM} {kk : Nat} {v : Int} (h : kk < 4) : mm (gW σ 131 ((kk : Int) + 1) v) 131 = mm σ 131 + (v - σ 131 ((kk : Int) + 1)) * 10 ^ (9 * kk) := by
  have : kk = 0 ∨ kk = 1 ∨ kk = 2 ∨ kk = 3 := by omega
  unfold mm
  rcases this with h | h | h | h <;> subst h
  · simp only [show ((0 : Nat) : Int) + 1 = 1 by rfl, gW_if]
    simp
    omega
  · simp only [show ((1 : Nat) : Int) + 1 = 2 by rfl, gW_if]
    rw [show (10 : Int) ^ (9 * 1) = 1000000000 by decide]
    simp
    omega
  · simp only [show ((2 : Nat) : Int) + 1 = 3 by rfl, gW_if]
    rw [show (10 : Int) ^ (9 * 2) = 1000000000000000000 by decide]
    simp
    omega
  · simp only [show ((3 : Nat) : Int) + 1 = 4 by rfl, gW_if]
    rw [show (10 : Int) ^ (9 * 3) = 1000000000000000000000000000 by decide]
    simp
    omega
theorem tenp {e : Nat} (h : e ≤ 8) : (1 : Int) ≤ 10 ^ e ∧ (10 : Int) ^ e ≤ 100000000 := by
  have : e = 0 ∨ e = 1 ∨ e = 2 ∨ e = 3 ∨ e = 4 ∨ e = 5 ∨ e = 6 ∨ e = 7 ∨ e = 8 := by omega
  rcases this with h | h | h | h | h | h | h | h | h <;> subst h <;> decide
theorem mdig {σ : gM} {kk e : Nat} (h : kk < 4) (he : e ≤ 8) (oa : mOk σ 129) : Int.tmod (w32 (Int.tdiv (σ 129 ((kk : Int) + 1)) (10 ^ e))) 10 = mm σ 129 / 10 ^ (9 * kk + e) % 10 := by
  have lk := oa.k (k := (kk : Int) + 1) (by omega) (by omega)
  have hp := tenp he
  have d0 : 0 ≤ σ 129 ((kk : Int) + 1) / 10 ^ e := Int.ediv_nonneg lk.1 (by omega)
  have d1 : σ 129 ((kk : Int) + 1) / 10 ^ e ≤ σ 129 ((kk : Int) + 1) := Int.ediv_le_self _ lk.1
  rw [tdv lk.1, w32_e (by omega) (by omega), tmd d0]
  obtain ⟨a0, a1, a2, a3⟩ := oa
  have d := dig36 (l3 := σ 129 4) a0 a1 a2 e (by omega)
  have : kk = 0 ∨ kk = 1 ∨ kk = 2 ∨ kk = 3 := by omega
  rcases this with h | h | h | h <;> subst h
  · rw [show 9 * 0 + e = e by omega]; exact d.1.symm
  · exact d.2.1.symm
  · exact d.2.2.1.symm
  · exact d.2.2.2.symm
/-- all digits of a part -/
theorem md_divides_part {σ0 : gM} {s : Int} {kk : Nat} (hkk : kk < 4) (oa : mOk σ0 129) (ob : mOk σ0 130) (hpos : 0 < mm σ0 130) : ∀ (e : Nat) (σ : gM), e ≤ 8 → mInv σ0 σ (9 * kk + e + 1) → 0 ≤ σ 131 ((kk : Int) + 1) → σ 131 ((kk : Int) + 1) + 10 ^ (e + 1) ≤ 1000000000 →
    ∃ σ', md_divides_b51 σ s ((kk : Int) + 1) (10 ^ e) = md_divides_b51 σ' s ((kk : Int) + 1) 0 ∧ mInv σ0 σ' (9 * kk) ∧ (0 ≤ σ' 131 ((kk : Int) + 1) ∧ σ' 131 ((kk : Int) + 1) < 1000000000) ∧ (∀ j, j ≠ (kk : Int) + 1 → σ' 131 j = σ 131 j)
  | e, σ, he, inv, hs0, hs1 => by
    have hp := tenp he
    have inv' := inv
    obtain ⟨or, er, es, fr⟩ := inv'
    have hdig := mdig (σ := σ0) hkk he oa
    rw [← fr 129 _ (by decide) (by decide)] at hdig
    obtain ⟨σ1, n, e1, hn, f1, o1, r1, q1⟩ := md_divides_digit (s := s) (k := (kk : Int) + 1) (p := 10 ^ e) (N := 9 * kk + e) (by omega) hp (by omega) oa ob hpos hdig inv
    have hnp : 0 ≤ n * 10 ^ e ∧ n * 10 ^ e ≤ 9 * 10 ^ e := ⟨Int.mul_nonneg hn.1 (by omega), Int.mul_le_mul_of_nonneg_right hn.2 (by omega)⟩
    rw [tps] at hs1
    rw [w32_e (x := n * 10 ^ e) (by omega) (by omega), w32_e (x := σ 131 ((kk : Int) + 1) + n * 10 ^ e) (by omega) (by omega), tdv (by omega), w32_e (by omega) (by omega)] at e1
    have inv2 : mInv σ0 (gW σ1 131 ((kk : Int) + 1) (σ 131 ((kk : Int) + 1) + n * 10 ^ e)) (9 * kk + e) := by
      refine ⟨?_, ?_, ?_, ?_⟩
      · exact (mOk_c (fun k => gW_c (by decide))).1.mpr o1
      · rw [(mOk_c (σ := σ1) (fun k => gW_c (by decide))).2]; exact r1
      · rw [mm_set hkk, (mOk_c (σ := σ) (σ' := σ1) (c := 131) (fun k => f1 _ _ (by decide))).2, f1 131 _ (by decide), es, q1]
        generalize mm σ0 129 / 10 ^ (9 * kk + e + 1) / mm σ0 130 = Q
        rw [show σ 131 ((kk : Int) + 1) + n * 10 ^ e - σ 131 ((kk : Int) + 1) = n * 10 ^ e by omega, Int.mul_assoc, ← Int.pow_add, show e + 9 * kk = 9 * kk + e by omega, Int.add_mul, tps, Int.mul_comm 10 Q, Int.mul_assoc, Int.add_comm]
      · intro b k h1 h2
        rw [gW_c h1, f1 b k h2, fr b k h1 h2]
    have nw : gW σ1 131 ((kk : Int) + 1) (σ 131 ((kk : Int) + 1) + n * 10 ^ e) 131 ((kk : Int) + 1) = σ 131 ((kk : Int) + 1) + n * 10 ^ e := gW_at _ _ _ _
    have nj : ∀ j, j ≠ (kk : Int) + 1 → gW σ1 131 ((kk : Int) + 1) (σ 131 ((kk : Int) + 1) + n * 10 ^ e) 131 j = σ 131 j := fun j hj => by rw [gW_i hj, f1 131 j (by decide)]
    generalize gW σ1 131 ((kk : Int) + 1) (σ 131 ((kk : Int) + 1) + n * 10 ^ e) = σ2 at e1 inv2 nw nj
    cases e with
    | zero =>
      refine ⟨σ2, ?_, inv2, ?_, nj⟩
      · rw [e1]; rfl
      · rw [nw]; simp only [Int.pow_zero] at *; omega
    | succ e =>
      have h10 : (10 : Int) ^ (e + 1) / 10 = 10 ^ e := by rw [tps]; omega
      rw [h10] at e1
      obtain ⟨σ', i1, i2, i3, i4⟩ := md_divides_part hkk oa ob hpos e σ2 (by omega) inv2 (by rw [nw]; omega) (by rw [nw]; omega)
      exact ⟨σ', by rw [e1, i1], i2, i3, fun j hj => (i4 j hj).trans (nj j hj)⟩
theorem md_divides_b16_s {σ : gM} {s k k' : Int} (h0 : 0 ≤ k) (h4 : k < 5) (hk : k + 1 = k') : md_divides_b16 σ s k = md_divides_b16 (gW (gW σ 131 k 0) 132 k 0) s k' := by
  rw [md_divides_b16_e, w32_e (by omega) (by omega), hk]
  simp only [h0, h4, and_self, if_true]
theorem md_divides_s {σ : gM} {x y : Int} (ha : mIs σ 129 x) (hb : mIs σ 130 y) (hy : y ≠ 0) : ∃ σ', md_divides σ = some (σ', 0) ∧ mIs σ' 131 (Int.tdiv x y) ∧ (∀ b k, b ≠ 131 → b ≠ 132 → σ' b k = σ b k) := by
  obtain ⟨oa, ha⟩ := ha
  obtain ⟨ob, hb⟩ := hb
  have ra := mm_rng oa
  have rb := mm_rng ob
  have hpos : 0 < mm σ 130 := by rcases hb with ⟨q1, q2⟩ | ⟨q1, q2⟩ <;> omega
  rw [md_divides_e]
  simp only [show (0 : Int) ≤ 0 ∧ (0 : Int) < 5 by decide, and_self, if_true]
  rw [md_divides_b16_s (k' := 1) (by omega) (by omega) rfl, md_divides_b16_s (k' := 2) (by omega) (by omega) rfl, md_divides_b16_s (k' := 3) (by omega) (by omega) rfl, md_divides_b16_s (k' := 4) (by omega) (by omega) rfl, md_divides_b16_s (k' := 5) (by omega) (by omega) rfl, md_divides_b16_e, if_neg (by decide)]
  generalize hS : gW (gW (gW (gW (gW (gW (gW (gW (gW (gW σ 131 0 0) 132 0 0) 131 1 0) 132 1 0) 131 2 0) 132 2 0) 131 3 0) 132 3 0) 131 4 0) 132 4 0 = S0
  have f0 : ∀ b k, b ≠ 131 → b ≠ 132 → S0 b k = σ b k := by intro b k h1 h2; rw [← hS]; simp only [gW_c h1, gW_c h2]
  have v1 : S0 131 0 = 0 ∧ S0 131 1 = 0 ∧ S0 131 2 = 0 ∧ S0 131 3 = 0 ∧ S0 131 4 = 0 := by rw [← hS]; simp [gW]
  have v2 : S0 132 1 = 0 ∧ S0 132 2 = 0 ∧ S0 132 3 = 0 ∧ S0 132 4 = 0 := by rw [← hS]; simp [gW]
  clear hS
  have z36 : mm σ 129 / 10 ^ 36 = 0 := Int.ediv_eq_zero_of_lt ra.1 (by rw [show (10 : Int) ^ 36 = 1000000000000000000000000000000000000 by decide]; exact ra.2)
  have inv0 : mInv σ S0 36 := by
    refine ⟨?_, ?_, ?_, f0⟩
    · unfold mOk; rw [v2.1, v2.2.1, v2.2.2.1, v2.2.2.2]; omega
    · rw [z36]; unfold mm; rw [v2.1, v2.2.1, v2.2.2.1, v2.2.2.2]; simp
    · rw [z36]; unfold mm; rw [v1.2.1, v1.2.2.1, v1.2.2.2.1, v1.2.2.2.2]; simp
  have nine : (10 : Int) ^ (8 + 1) = 1000000000 := by decide
  have step : ∀ (kk : Nat) (S : gM), kk < 4 → mInv σ S (9 * kk + 8 + 1) → S 131 ((kk : Int) + 1) = 0 → ∃ S', md_divides_b43 S (i_xor (σ 129 0) (σ 130 0)) ((kk : Int) + 1) = md_divides_b43 S' (i_xor (σ 129 0) (σ 130 0)) kk ∧ mInv σ S' (9 * kk) ∧ (0 ≤ S' 131 ((kk : Int) + 1) ∧ S' 131 ((kk : Int) + 1) < 1000000000) ∧ (∀ j, j ≠ (kk : Int) + 1 → S' 131 j = S 131 j) := by
    intro kk S hkk inv hz
    obtain ⟨S', i1, i2, i3, i4⟩ := md_divides_part (s := i_xor (σ 129 0) (σ 130 0)) hkk oa ob hpos 8 S (by omega) inv (by omega) (by rw [nine]; omega)
    refine ⟨S', ?_, i2, i3, i4⟩
    rw [md_divides_b43_e, if_pos (by omega), show (100000000 : Int) = 10 ^ 8 by decide, i1, md_divides_b51_e, if_neg (by decide), w32_e (by omega) (by omega), show (kk : Int) + 1 + -1 = kk by omega]
  obtain ⟨S1, e1, i1, b1, j1⟩ := step 3 S0 (by omega) inv0 v1.2.2.2.2
  obtain ⟨S2, e2, i2, b2, j2⟩ := step 2 S1 (by omega) i1 ((j1 3 (by decide)).trans v1.2.2.2.1)
  obtain ⟨S3, e3, i3, b3, j3⟩ := step 1 S2 (by omega) i2 ((j2 2 (by decide)).trans ((j1 2 (by decide)).trans v1.2.2.1))
  obtain ⟨S4, e4, i4, b4, j4⟩ := step 0 S3 (by omega) i3 ((j3 1 (by decide)).trans ((j2 1 (by decide)).trans ((j1 1 (by decide)).trans v1.2.1)))
  have e1 : md_divides_b43 S0 (i_xor (σ 129 0) (σ 130 0)) 4 = md_divides_b43 S1 (i_xor (σ 129 0) (σ 130 0)) 3 := e1
  have e2 : md_divides_b43 S1 (i_xor (σ 129 0) (σ 130 0)) 3 = md_divides_b43 S2 (i_xor (σ 129 0) (σ 130 0)) 2 := e2
  have e3 : md_divides_b43 S2 (i_xor (σ 129 0) (σ 130 0)) 2 = md_divides_b43 S3 (i_xor (σ 129 0) (σ 130 0)) 1 := e3
  have e4 : md_divides_b43 S3 (i_xor (σ 129 0) (σ 130 0)) 1 = md_divides_b43 S4 (i_xor (σ 129 0) (σ 130 0)) 0 := e4
  rw [e1, e2, e3, e4, md_divides_b43_e, if_neg (by decide)]
  simp only [show (0 : Int) ≤ 0 ∧ (0 : Int) < 5 by decide, and_self, if_true]
  have c4 : 0 ≤ S4 131 4 ∧ S4 131 4 < 1000000000 := by
    have := (j4 4 (by decide)).trans ((j3 4 (by decide)).trans (j2 4 (by decide)))
    rw [this]; exact b1
  have c3 : 0 ≤ S4 131 3 ∧ S4 131 3 < 1000000000 := by
    have := (j4 3 (by decide)).trans (j3 3 (by decide))
    rw [this]; exact b2
  have c2 : 0 ≤ S4 131 2 ∧ S4 131 2 < 1000000000 := by
    have := j4 2 (by decide)
    rw [this]; exact b3
  have c1 : 0 ≤ S4 131 1 ∧ S4 131 1 < 1000000000 := b4
  have val : mm S4 131 = mm σ 129 / mm σ 130 := by
    have := i4.2.2.1
    simpa using this
  refine ⟨_, rfl, mIs_of ⟨c1, c2, c3, c4⟩ ?_, fun b k h1 h2 => by rw [gW_c h1]; exact i4.2.2.2 b k h1 h2⟩
  rw [val]
  rcases ha with ⟨p1, p2⟩ | ⟨p1, p2⟩ <;> rcases hb with ⟨q1, q2⟩ | ⟨q1, q2⟩ <;> rw [p1, q1, p2, q2]
  · right
    refine ⟨rfl, ?_⟩
    rw [← Int.neg_tdiv_neg, tdv (by omega)]
  · left
    refine ⟨rfl, ?_⟩
    have := Int.neg_tdiv x y
    rw [← this, tdv (by omega)]
  · left
    refine ⟨rfl, ?_⟩
    have := Int.tdiv_neg x y
    rw [← this, tdv (by omega)]
  · right
    exact ⟨rfl, by rw [tdv (by omega)]⟩
