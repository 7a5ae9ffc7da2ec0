/-! plain law: memory and numbers -/
theorem gW_at (σ : gM) (a i v : Int) : gW σ a i v a i = v := by simp [gW]
theorem gW_c {σ : gM} {a i v b j : Int} (h : b ≠ a) : gW σ a i v b j = σ b j := by simp [gW, h]
theorem gW_i {σ : gM} {a i v j : Int} (h : j ≠ i) : gW σ a i v a j = σ a j := by simp [gW, h]
theorem gW_if (σ : gM) (a i v j : Int) : gW σ a i v a j = if j = i then v else σ a j := by simp [gW]
theorem gW_cell {σ : gM} {a i v b : Int} (h : b ≠ a) : gW σ a i v b = σ b := by funext j; simp [gW, h]
theorem w32_e {x : Int} (h : -2147483648 ≤ x) (h2 : x ≤ 2147483647) : w32 x = x := Int.bmod_eq_of_le (by omega) (by omega)
theorem w64_e {x : Int} (h : -9223372036854775808 ≤ x) (h2 : x ≤ 9223372036854775807) : w64 x = x := Int.bmod_eq_of_le (by omega) (by omega)
theorem w8_e {x : Int} (h : -128 ≤ x) (h2 : x ≤ 127) : w8 x = x := Int.bmod_eq_of_le (by omega) (by omega)
theorem w32_rng (x : Int) : -2147483648 ≤ w32 x ∧ w32 x ≤ 2147483647 := by
  unfold w32
  have h1 := @Int.le_bmod x 4294967296 (by decide)
  have h2 := @Int.bmod_lt x 4294967296 (by decide)
  omega
theorem w64_rng (x : Int) : -9223372036854775808 ≤ w64 x ∧ w64 x ≤ 9223372036854775807 := by
  unfold w64
  have h1 := @Int.le_bmod x 18446744073709551616 (by decide)
  have h2 := @Int.bmod_lt x 18446744073709551616 (by decide)
  omega
theorem g01_1 {ρ : Type} (x : Option ρ) : g01 1 x = x := rfl
theorem g01_0 {ρ : Type} (x : Option ρ) : g01 0 x = x := rfl
theorem g01_of {ρ : Type} {v : Int} (h : v = 0 ∨ v = 1) (x : Option ρ) : g01 v x = x := by rcases h with h | h <;> subst h <;> rfl
theorem l_cmp_0 {x y : Int} : l_cmp x y = 0 ↔ x = y := by
  unfold l_cmp
  by_cases h : x < y
  · simp only [if_pos h]; constructor
    · intro q; cases q
    · intro q; omega
  · by_cases h2 : x = y
    · simp [h2]
    · simp only [if_neg h, if_neg h2]; constructor
      · intro q; cases q
      · intro q; exact absurd q h2
theorem l_cmp_lt {x y : Int} : l_cmp x y < 0 ↔ x < y := by
  unfold l_cmp
  by_cases h : x < y
  · simp [h]
  · by_cases h2 : x = y
    · simp [h2]
    · simp [h, h2]
theorem l_cmp_gt {x y : Int} : 0 < l_cmp x y ↔ y < x := by
  unfold l_cmp
  by_cases h : x < y
  · simp [h]; omega
  · by_cases h2 : x = y
    · simp [h2]
    · simp [h, h2]; omega
/-- a bit of a small number -/
theorem i_and_bit {s : Int} (h : 0 ≤ s) (h2 : s < 16) : i_and s 1 = s % 2 ∧ i_and s 2 = s / 2 % 2 * 2 ∧ i_and s 4 = s / 4 % 2 * 4 ∧ i_and s 8 = s / 8 % 2 * 8 := by
  have : ∀ k : Fin 16, i_and k.val 1 = (k.val : Int) % 2 ∧ i_and k.val 2 = (k.val : Int) / 2 % 2 * 2 ∧ i_and k.val 4 = (k.val : Int) / 4 % 2 * 4 ∧ i_and k.val 8 = (k.val : Int) / 8 % 2 * 8 := by decide +kernel
  have hk := this ⟨s.toNat, by omega⟩
  have e : ((s.toNat : Nat) : Int) = s := by omega
  simp only [e] at hk
  exact hk
/-! bits of longs -/
theorem bv64 {x : Int} (h : i64 x) : (BitVec.ofInt 64 x).toInt = x := by
  unfold i64 at h
  exact BitVec.toInt_ofInt_eq_self (by decide) (by omega) (by omega)
theorem l_shr_32 {x : Int} (h : i64 x) : l_shr x 32 = x / 4294967296 := by
  have e : l_shr x 32 = ((BitVec.ofInt 64 x).sshiftRight' (32 : BitVec 64)).toInt := rfl
  rw [e, BitVec.toInt_sshiftRight', bv64 h, Int.shiftRight_eq_div_pow]
  rfl
theorem l_shr_63 {x : Int} (h : i64 x) : l_shr x 63 = if x < 0 then -1 else 0 := by
  have e : l_shr x 63 = ((BitVec.ofInt 64 x).sshiftRight' (63 : BitVec 64)).toInt := rfl
  rw [e, BitVec.toInt_sshiftRight', bv64 h, Int.shiftRight_eq_div_pow]
  show x / 9223372036854775808 = _
  unfold i64 at h
  split <;> omega
theorem l_neg {x y : Int} (hx : i64 x) (hy : i64 y) : (l_and x y < 0 ↔ x < 0 ∧ y < 0) ∧ (l_xor x y < 0 ↔ ¬ (x < 0 ↔ y < 0)) := by
  have e1 : l_and x y = (BitVec.ofInt 64 x &&& BitVec.ofInt 64 y).toInt := rfl
  have e2 : l_xor x y = (BitVec.ofInt 64 x ^^^ BitVec.ofInt 64 y).toInt := rfl
  have a1 := @BitVec.msb_eq_toInt 64 (BitVec.ofInt 64 x &&& BitVec.ofInt 64 y)
  have a2 := @BitVec.msb_eq_toInt 64 (BitVec.ofInt 64 x ^^^ BitVec.ofInt 64 y)
  have b1 := @BitVec.msb_eq_toInt 64 (BitVec.ofInt 64 x)
  have b2 := @BitVec.msb_eq_toInt 64 (BitVec.ofInt 64 y)
  rw [bv64 hx] at b1
  rw [bv64 hy] at b2
  rw [BitVec.msb_and, b1, b2] at a1
  rw [BitVec.msb_xor, b1, b2] at a2
  rw [e1, e2]
  constructor
  · rw [← Bool.decide_and, decide_eq_decide] at a1
    exact a1.symm
  · constructor
    · intro q
      rw [decide_eq_true q] at a2
      intro r
      by_cases k : x < 0
      · rw [decide_eq_true k, decide_eq_true (r.mp k)] at a2; cases a2
      · rw [decide_eq_false k, decide_eq_false (fun z => k (r.mpr z))] at a2; cases a2
    · intro q
      by_cases k : x < 0 <;> by_cases k2 : y < 0
      · exact absurd (iff_of_true k k2) q
      · rw [decide_eq_true k, decide_eq_false k2] at a2
        exact of_decide_eq_true a2.symm
      · rw [decide_eq_false k, decide_eq_true k2] at a2
        exact of_decide_eq_true a2.symm
      · exact absurd (iff_of_false k k2) q
theorem l_rng (x : Int64) : i64 x.toInt := by
  have h1 := x.le_toInt
  have h2 := x.toInt_lt
  unfold i64
  omega
theorem l_and_i (x y : Int) : i64 (l_and x y) := l_rng _
theorem l_xor_i (x y : Int) : i64 (l_xor x y) := l_rng _
theorem l_or_i (x y : Int) : i64 (l_or x y) := l_rng _
theorem l_or_0 {x y : Int} (hx : i64 x) (hy : i64 y) : l_or x y = 0 ↔ x = 0 ∧ y = 0 := by
  have e1 : l_or x y = (BitVec.ofInt 64 x ||| BitVec.ofInt 64 y).toInt := rfl
  have z : ∀ b : BitVec 64, b.toInt = 0 ↔ b = 0#64 := fun b => by
    constructor
    · intro h; exact BitVec.eq_of_toInt_eq (by rw [h]; rfl)
    · intro h; rw [h]; rfl
  rw [e1, z, BitVec.or_eq_zero_iff, ← z, ← z, bv64 hx, bv64 hy]
theorem l_and_lo {x : Int} (h : i64 x) : l_and x 4294967295 = x % 4294967296 := by
  have e1 : l_and x 4294967295 = (BitVec.ofInt 64 x &&& 4294967295#64).toInt := rfl
  have e2 : (BitVec.ofInt 64 x &&& 4294967295#64).toNat = (x % 18446744073709551616).toNat % 4294967296 := by
    rw [BitVec.toNat_and, BitVec.toNat_ofInt]
    show _ &&& (2 ^ 32 - 1) = _
    rw [Nat.and_two_pow_sub_one_eq_mod]
    rfl
  rw [e1, BitVec.toInt_eq_toNat_bmod, e2]
  have h0 : 0 ≤ x % 18446744073709551616 := Int.emod_nonneg _ (by decide)
  have h1 : (((x % 18446744073709551616).toNat % 4294967296 : Nat) : Int) = x % 4294967296 := by
    rw [Int.natCast_emod, Int.toNat_of_nonneg h0]
    omega
  rw [h1]
  exact Int.bmod_eq_of_le (by omega) (by omega)
theorem l_ushr_32 {x : Int} (h0 : 0 ≤ x) (h1 : x < 18446744073709551616) : l_ushr (w64 x) 32 = x / 4294967296 := by
  have e1 : l_ushr (w64 x) 32 = ((BitVec.ofInt 64 (w64 x)) >>> (32 : BitVec 64)).toInt := rfl
  have e2 : ((BitVec.ofInt 64 (w64 x)) >>> (32 : BitVec 64)).toNat = x.toNat / 4294967296 := by
    show ((BitVec.ofInt 64 (w64 x)) >>> (32 : BitVec 64).toNat).toNat = _
    rw [BitVec.toNat_ushiftRight, BitVec.toNat_ofInt, Nat.shiftRight_eq_div_pow]
    have : (w64 x) % 18446744073709551616 = x := by
      unfold w64
      have := @Int.bmod_emod x 18446744073709551616
      omega
    show ((w64 x) % 18446744073709551616).toNat / _ = _
    rw [this]
    rfl
  rw [e1, BitVec.toInt_eq_toNat_bmod, e2]
  have h2 : ((x.toNat / 4294967296 : Nat) : Int) = x / 4294967296 := by
    rw [Int.natCast_ediv, Int.toNat_of_nonneg h0]
    rfl
  rw [h2]
  exact Int.bmod_eq_of_le (by omega) (by omega)
theorem l_ushr_63 {x : Int} (h : i64 x) : l_ushr x 63 = if x < 0 then 1 else 0 := by
  have e1 : l_ushr x 63 = ((BitVec.ofInt 64 x) >>> (63 : BitVec 64)).toInt := rfl
  have e2 : ((BitVec.ofInt 64 x) >>> (63 : BitVec 64)).toNat = (x % 18446744073709551616).toNat / 9223372036854775808 := by
    show ((BitVec.ofInt 64 x) >>> (63 : BitVec 64).toNat).toNat = _
    rw [BitVec.toNat_ushiftRight, BitVec.toNat_ofInt, Nat.shiftRight_eq_div_pow]
    rfl
  rw [e1, BitVec.toInt_eq_toNat_bmod, e2]
  unfold i64 at h
  by_cases k : x < 0
  · have : (x % 18446744073709551616).toNat / 9223372036854775808 = 1 := by omega
    rw [this, if_pos k]; rfl
  · have : (x % 18446744073709551616).toNat / 9223372036854775808 = 0 := by omega
    rw [this, if_neg k]; rfl
theorem jl_signum_s {σ : gM} {x : Int} (h : i64 x) : jl_signum σ x = some (σ, if x < 0 then -1 else if x = 0 then 0 else 1) := by
  rw [jl_signum_e, l_shr_63 h, l_ushr_63 (by exact w64_rng _)]
  unfold i64 at h
  by_cases k : x < 0
  · rw [if_pos k, if_pos k]
    have e : ∀ z : Int, (z = 0 ∨ z = 1) → w32 (l_or (-1) z) = -1 := by
      intro z hz
      rcases hz with hz | hz <;> subst hz <;> rfl
    rw [e _ (by split <;> simp)]
  · rw [if_neg k, if_neg k]
    by_cases k2 : x = 0
    · subst k2; rfl
    · have : w64 (-x) = -x := w64_e (by omega) (by omega)
      rw [this, if_pos (by omega), if_neg k2]
      rfl
theorem jm_abs_s {σ : gM} {x : Int} (h : i64 x) (h2 : x ≠ -9223372036854775808) : jm_abs σ x = some (σ, if x < 0 then -x else x) := by
  unfold i64 at h
  rw [jm_abs_e]
  by_cases k : x < 0
  · rw [if_pos (l_cmp_lt.mpr k), if_pos k, w64_e (by omega) (by omega)]
  · rw [if_neg (fun q => k (l_cmp_lt.mp q)), if_neg k]
/-- the upper half of a product -/
theorem jm_multiplyHigh_s {σ : gM} {x y : Int} (hx : i64 x) (hy : i64 y) : jm_multiplyHigh σ x y = some (σ, x * y / 18446744073709551616) := by
  rw [jm_multiplyHigh_e, l_shr_32 hx, l_shr_32 hy, l_and_lo hx, l_and_lo hy]
  unfold i64 at hx hy
  generalize ex1 : x / 4294967296 = x1
  generalize ex2 : x % 4294967296 = x2
  generalize ey1 : y / 4294967296 = y1
  generalize ey2 : y % 4294967296 = y2
  have bx1 : -2147483648 ≤ x1 ∧ x1 ≤ 2147483647 := by omega
  have bx2 : 0 ≤ x2 ∧ x2 ≤ 4294967295 := by omega
  have by1 : -2147483648 ≤ y1 ∧ y1 ≤ 2147483647 := by omega
  have by2 : 0 ≤ y2 ∧ y2 ≤ 4294967295 := by omega
  have xe : x = 4294967296 * x1 + x2 := by omega
  have ye : y = 4294967296 * y1 + y2 := by omega
  have prod : x * y = 18446744073709551616 * (x1 * y1) + 4294967296 * (x1 * y2) + 4294967296 * (x2 * y1) + x2 * y2 := by
    rw [xe, ye]
    simp only [Int.add_mul, Int.mul_add]
    have q1 : (4294967296 * x1) * (4294967296 * y1) = 18446744073709551616 * (x1 * y1) := by
      rw [Int.mul_assoc, Int.mul_left_comm x1, ← Int.mul_assoc]; rfl
    have q2 : (4294967296 * x1) * y2 = 4294967296 * (x1 * y2) := Int.mul_assoc _ _ _
    have q3 : x2 * (4294967296 * y1) = 4294967296 * (x2 * y1) := Int.mul_left_comm _ _ _
    rw [q1, q2, q3]
    omega
  have mb : ∀ {p q lo hi b : Int}, lo ≤ p → p ≤ hi → 0 ≤ q → q ≤ b → lo ≤ 0 → 0 ≤ hi → lo * b ≤ p * q ∧ p * q ≤ hi * b := by
    intro p q lo hi b h1 h2 h3 h4 h5 h6
    have c1 : p * q ≤ hi * q := Int.mul_le_mul_of_nonneg_right h2 h3
    have c2 : hi * q ≤ hi * b := Int.mul_le_mul_of_nonneg_left h4 h6
    have c3 : lo * q ≤ p * q := Int.mul_le_mul_of_nonneg_right h1 h3
    have c4 : lo * b ≤ lo * q := Int.mul_le_mul_of_nonpos_left h5 h4
    omega
  have p12 := mb (p := x1) (q := y2) (lo := -2147483648) (hi := 2147483647) (b := 4294967295) (by omega) (by omega) by2.1 by2.2 (by decide) (by decide)
  have p21 := mb (p := y1) (q := x2) (lo := -2147483648) (hi := 2147483647) (b := 4294967295) (by omega) (by omega) bx2.1 bx2.2 (by decide) (by decide)
  rw [Int.mul_comm y1 x2] at p21
  have p22 := mb (p := x2) (q := y2) (lo := 0) (hi := 4294967295) (b := 4294967295) (by omega) (by omega) by2.1 by2.2 (by decide) (by decide)
  have p22' : 0 ≤ x2 * y2 := Int.mul_nonneg bx2.1 by2.1
  have p11 : -4611686018427387904 ≤ x1 * y1 ∧ x1 * y1 ≤ 4611686018427387904 := by
    by_cases k : 0 ≤ y1
    · have := mb (p := x1) (q := y1) (lo := -2147483648) (hi := 2147483647) (b := 2147483648) (by omega) (by omega) k (by omega) (by decide) (by decide)
      omega
    · have := mb (p := x1) (q := -y1) (lo := -2147483648) (hi := 2147483647) (b := 2147483648) (by omega) (by omega) (by omega) (by omega) (by decide) (by decide)
      rw [Int.mul_neg] at this
      omega
  rw [prod]
  generalize x1 * y1 = a at *
  generalize x1 * y2 = b at *
  generalize x2 * y1 = c at *
  generalize x2 * y2 = d at *
  rw [l_ushr_32 p22' (by omega), w64_e (x := a) (by omega) (by omega), w64_e (x := b) (by omega) (by omega), w64_e (x := c) (by omega) (by omega), w64_e (x := b + d / 4294967296) (by omega) (by omega)]
  rw [l_shr_32 (x := b + d / 4294967296) (by unfold i64; omega), l_and_lo (x := b + d / 4294967296) (by unfold i64; omega)]
  rw [w64_e (x := (b + d / 4294967296) % 4294967296 + c) (by omega) (by omega), l_shr_32 (x := (b + d / 4294967296) % 4294967296 + c) (by unfold i64; omega)]
  rw [w64_e (x := a + (b + d / 4294967296) / 4294967296) (by omega) (by omega), w64_e (by omega) (by omega)]
  congr 2
  omega
theorem bv32 {x : Int} (h : i32 x) : (BitVec.ofInt 32 x).toInt = x := by
  unfold i32 at h
  exact BitVec.toInt_ofInt_eq_self (by decide) (by omega) (by omega)
theorem i_rng (x : Int32) : i32 x.toInt := by
  have h1 := x.le_toInt
  have h2 := x.toInt_lt
  unfold i32
  omega
theorem i_or_i (x y : Int) : i32 (i_or x y) := i_rng _
theorem i_xor_i (x y : Int) : i32 (i_xor x y) := i_rng _
theorem i_or_0 {x y : Int} (hx : i32 x) (hy : i32 y) : i_or x y = 0 ↔ x = 0 ∧ y = 0 := by
  have e1 : i_or x y = (BitVec.ofInt 32 x ||| BitVec.ofInt 32 y).toInt := rfl
  have z : ∀ b : BitVec 32, b.toInt = 0 ↔ b = 0#32 := fun b => by
    constructor
    · intro h; exact BitVec.eq_of_toInt_eq (by rw [h]; rfl)
    · intro h; rw [h]; rfl
  rw [e1, z, BitVec.or_eq_zero_iff, ← z, ← z, bv32 hx, bv32 hy]
/-- the lower bits -/
theorem i_and_lo (x : Int) (n : Nat) (hn : n < 31) : i_and x (2 ^ n - 1) = x % 2 ^ n := by
  have e1 : i_and x (2 ^ n - 1) = (BitVec.ofInt 32 x &&& BitVec.ofInt 32 (2 ^ n - 1)).toInt := rfl
  have hp : (2 : Int) ^ n ≤ 2 ^ 30 := by
    have := Nat.pow_le_pow_right (show 0 < 2 by decide) (show n ≤ 30 by omega)
    exact_mod_cast this
  have hp0 : (0 : Int) < 2 ^ n := Int.pow_pos (by decide)
  have h30 : (2 : Int) ^ 30 = 1073741824 := by decide
  have e3 : (((2 : Int) ^ n - 1) % 4294967296).toNat = 2 ^ n - 1 := by
    have : ((2 ^ n : Nat) : Int) = (2 : Int) ^ n := by simp
    omega
  have e2 : (BitVec.ofInt 32 x &&& BitVec.ofInt 32 (2 ^ n - 1)).toNat = (x % 4294967296).toNat % 2 ^ n := by
    rw [BitVec.toNat_and, BitVec.toNat_ofInt, BitVec.toNat_ofInt]
    show (x % 4294967296).toNat &&& (((2 : Int) ^ n - 1) % 4294967296).toNat = _
    rw [e3, Nat.and_two_pow_sub_one_eq_mod]
  rw [e1, BitVec.toInt_eq_toNat_bmod, e2]
  have h0 : 0 ≤ x % 4294967296 := Int.emod_nonneg _ (by decide)
  have hdv : ((2 : Int) ^ n) ∣ 4294967296 := by
    refine ⟨2 ^ (32 - n), ?_⟩
    rw [← Int.pow_add, show n + (32 - n) = 32 by omega]
    decide
  have h1 : (((x % 4294967296).toNat % 2 ^ n : Nat) : Int) = x % 2 ^ n := by
    rw [Int.natCast_emod, Int.toNat_of_nonneg h0]
    simp only [Int.natCast_pow]
    exact Int.emod_emod_of_dvd x hdv
  rw [h1]
  have a1 := Int.emod_nonneg x (show (2 : Int) ^ n ≠ 0 by omega)
  have a2 := Int.emod_lt_of_pos x hp0
  exact Int.bmod_eq_of_le (by omega) (by omega)
