/-! whole numbers of the component: digits, quotients, longs -/
theorem tp (n : Nat) : (0 : Int) < 10 ^ n := Int.pow_pos (by decide)
theorem tps (n : Nat) : (10 : Int) ^ (n + 1) = 10 * 10 ^ n := by rw [Int.pow_succ, Int.mul_comm]
theorem dvt (x : Int) (n : Nat) : x / 10 ^ (n + 1) = x / 10 ^ n / 10 := by
  rw [Int.pow_succ, ← Int.ediv_ediv_of_nonneg (Int.le_of_lt (tp n))]
theorem dvt' (x : Int) (n : Nat) : x / 10 ^ (n + 1) = x / 10 / 10 ^ n := by
  rw [tps, ← Int.ediv_ediv_of_nonneg (by decide)]
theorem w64_ex (x : Int) : ∃ q, w64 x = x - 18446744073709551616 * q := by
  refine ⟨(x - w64 x) / 18446744073709551616, ?_⟩
  have h : (x - w64 x) % 18446744073709551616 = 0 := by
    unfold w64
    have := @Int.bmod_emod x 18446744073709551616
    omega
  omega
section WD
variable {σ : gM} {a : Int}
theorem wl_digit_b16_s : ∀ (n : Nat) (v : Int), 0 ≤ v → v < 1000000000 → n < 9 → wl_digit_b16 σ v n = some (σ, v / 10 ^ n % 10)
  | 0, v, h0, h1, _ => by
    rw [wl_digit_b16_e]
    simp only [show ¬ ((0 : Int) < ((0 : Nat) : Int)) by decide, if_false, show ¬ ((10 : Int) = 0) by decide]
    rw [tmd h0, w32_e (by omega) (by omega)]
    simp
  | n + 1, v, h0, h1, h2 => by
    rw [wl_digit_b16_e]
    simp only [show ((0 : Int) < ((n + 1 : Nat) : Int)) by omega, if_true, show ¬ ((10 : Int) = 0) by decide, if_false]
    rw [tdv h0, w64_e (by omega) (by omega), w32_e (by omega) (by omega), show ((n + 1 : Nat) : Int) + -1 = (n : Int) by omega, wl_digit_b16_s n (v / 10) (by omega) (by omega) (by omega), dvt']
theorem dig9 {l U : Int} {r : Nat} (hr : r < 9) : (l + 1000000000 * U) / 10 ^ r % 10 = l / 10 ^ r % 10 := by
  have : r = 0 ∨ r = 1 ∨ r = 2 ∨ r = 3 ∨ r = 4 ∨ r = 5 ∨ r = 6 ∨ r = 7 ∨ r = 8 := by omega
  rcases this with h | h | h | h | h | h | h | h | h <;> subst h
  · show (l + 1000000000 * U) / 1 % 10 = l / 1 % 10; omega
  · show (l + 1000000000 * U) / 10 % 10 = l / 10 % 10; omega
  · show (l + 1000000000 * U) / 100 % 10 = l / 100 % 10; omega
  · show (l + 1000000000 * U) / 1000 % 10 = l / 1000 % 10; omega
  · show (l + 1000000000 * U) / 10000 % 10 = l / 10000 % 10; omega
  · show (l + 1000000000 * U) / 100000 % 10 = l / 100000 % 10; omega
  · show (l + 1000000000 * U) / 1000000 % 10 = l / 1000000 % 10; omega
  · show (l + 1000000000 * U) / 10000000 % 10 = l / 10000000 % 10; omega
  · show (l + 1000000000 * U) / 100000000 % 10 = l / 100000000 % 10; omega
/-- a digit of a number in four limbs -/
theorem dig36 {l0 l1 l2 l3 : Int} (h0 : 0 ≤ l0 ∧ l0 < 1000000000) (h1 : 0 ≤ l1 ∧ l1 < 1000000000) (h2 : 0 ≤ l2 ∧ l2 < 1000000000) (r : Nat) (hr : r < 9) :
    (l0 + 1000000000 * l1 + 1000000000000000000 * l2 + 1000000000000000000000000000 * l3) / 10 ^ r % 10 = l0 / 10 ^ r % 10 ∧
    (l0 + 1000000000 * l1 + 1000000000000000000 * l2 + 1000000000000000000000000000 * l3) / 10 ^ (9 + r) % 10 = l1 / 10 ^ r % 10 ∧
    (l0 + 1000000000 * l1 + 1000000000000000000 * l2 + 1000000000000000000000000000 * l3) / 10 ^ (18 + r) % 10 = l2 / 10 ^ r % 10 ∧
    (l0 + 1000000000 * l1 + 1000000000000000000 * l2 + 1000000000000000000000000000 * l3) / 10 ^ (27 + r) % 10 = l3 / 10 ^ r % 10 := by
  refine ⟨?_, ?_, ?_, ?_⟩
  · rw [show l0 + 1000000000 * l1 + 1000000000000000000 * l2 + 1000000000000000000000000000 * l3 = l0 + 1000000000 * (l1 + 1000000000 * l2 + 1000000000000000000 * l3) by omega, dig9 hr]
  · rw [Int.pow_add, ← Int.ediv_ediv_of_nonneg (by decide), show (10 : Int) ^ 9 = 1000000000 by decide, show (l0 + 1000000000 * l1 + 1000000000000000000 * l2 + 1000000000000000000000000000 * l3) / 1000000000 = l1 + 1000000000 * (l2 + 1000000000 * l3) by omega, dig9 hr]
  · rw [Int.pow_add, ← Int.ediv_ediv_of_nonneg (by decide), show (10 : Int) ^ 18 = 1000000000000000000 by decide, show (l0 + 1000000000 * l1 + 1000000000000000000 * l2 + 1000000000000000000000000000 * l3) / 1000000000000000000 = l2 + 1000000000 * l3 by omega, dig9 hr]
  · rw [Int.pow_add, ← Int.ediv_ediv_of_nonneg (by decide), show (10 : Int) ^ 27 = 1000000000000000000000000000 by decide, show (l0 + 1000000000 * l1 + 1000000000000000000 * l2 + 1000000000000000000000000000 * l3) / 1000000000000000000000000000 = l3 by omega]
theorem wl_digit_s (ha : gWc a) (oa : wOk σ a) {k : Nat} (hk : k < 36) : wl_digit σ a k = some (σ, wm σ a / 10 ^ k % 10) := by
  rw [wl_digit_e]
  have e1 : Int.tdiv (k : Int) 9 = ((k / 9 : Nat) : Int) := by rw [tdv (by omega)]; omega
  have e2 : Int.tmod (k : Int) 9 = ((k % 9 : Nat) : Int) := by rw [tmd (by omega)]; omega
  rw [e1, e2, w32_e (by omega) (by omega)]
  have hq : 0 ≤ ((k / 9 : Nat) : Int) ∧ ((k / 9 : Nat) : Int) < 4 := by omega
  simp only [gWc_R1 ha, gWc_is _ ha, gWc_is1 _ ha, gWc_N1 ha, hq, and_self, if_true, show ¬ ((9 : Int) = 0) by decide, if_false]
  have lk := oa.k hq.1 hq.2
  rw [wl_digit_b16_s _ _ lk.1 lk.2 (by omega)]
  obtain ⟨h0, h1, h2, h3⟩ := oa
  have d := dig36 (l3 := σ (a + 1) 3) h0 h1 h2 (k % 9) (by omega)
  have : k / 9 = 0 ∨ k / 9 = 1 ∨ k / 9 = 2 ∨ k / 9 = 3 := by omega
  rcases this with h | h | h | h
  · rw [h, show (10 : Int) ^ k = 10 ^ (k % 9) by rw [show k = k % 9 by omega]; simp]
    exact congrArg some (congrArg _ d.1.symm)
  · rw [h, show (10 : Int) ^ k = 10 ^ (9 + k % 9) by rw [show 9 + k % 9 = k by omega]]
    exact congrArg some (congrArg _ d.2.1.symm)
  · rw [h, show (10 : Int) ^ k = 10 ^ (18 + k % 9) by rw [show 18 + k % 9 = k by omega]]
    exact congrArg some (congrArg _ d.2.2.1.symm)
  · rw [h, show (10 : Int) ^ k = 10 ^ (27 + k % 9) by rw [show 27 + k % 9 = k by omega]]
    exact congrArg some (congrArg _ d.2.2.2.symm)
theorem wm_rng {σ : gM} {a : Int} (oa : wOk σ a) : 0 ≤ wm σ a ∧ wm σ a < 10 ^ 36 := by
  rw [show (10 : Int) ^ 36 = 1000000000000000000000000000000000000 by decide]
  unfold wm
  obtain ⟨h0, h1, h2, h3⟩ := oa
  omega
/-- how many digits -/
def nDig (m : Int) (n : Nat) : Prop := 1 ≤ n ∧ m < 10 ^ n ∧ (n = 1 ∨ 10 ^ (n - 1) ≤ m)
theorem wl_digits_b3_s (ha : gWc a) (oa : wOk σ a) : ∀ (n : Nat), 1 ≤ n → n ≤ 36 → wm σ a < 10 ^ n → ∃ k : Nat, wl_digits_b3 σ a n = some (σ, (k : Int)) ∧ k ≤ 36 ∧ nDig (wm σ a) k
  | 0, h, _, _ => by omega
  | n + 1, _, h36, hlt => by
    rw [wl_digits_b3_e]
    by_cases h1 : 1 < ((n + 1 : Nat) : Int)
    · rw [if_pos h1, gWc_is _ ha, w32_e (by omega) (by omega), show ((n + 1 : Nat) : Int) - 1 = (n : Int) by omega, wl_digit_s ha oa (by omega)]
      simp only [Option.bind_some]
      have hr := wm_rng oa
      have hd : wm σ a / 10 ^ n < 10 := by
        rw [Int.ediv_lt_iff_lt_mul (tp n), ← tps]; exact hlt
      have hd0 : 0 ≤ wm σ a / 10 ^ n := Int.ediv_nonneg hr.1 (Int.le_of_lt (tp n))
      rw [show wm σ a / 10 ^ n % 10 = wm σ a / 10 ^ n by omega]
      by_cases h0 : wm σ a / 10 ^ n = 0
      · rw [if_pos h0, w32_e (by omega) (by omega), show ((n + 1 : Nat) : Int) + -1 = (n : Int) by omega]
        refine wl_digits_b3_s ha oa n (by omega) (by omega) ?_
        have : wm σ a / 10 ^ n < 1 := by omega
        rw [Int.ediv_lt_iff_lt_mul (tp n)] at this
        omega
      · rw [if_neg h0]
        refine ⟨n + 1, rfl, h36, by omega, hlt, Or.inr ?_⟩
        have : 1 ≤ wm σ a / 10 ^ n := by omega
        rw [Int.le_ediv_iff_mul_le (tp n)] at this
        rw [Nat.add_sub_cancel]
        omega
    · rw [if_neg h1]
      exact ⟨n + 1, rfl, h36, by omega, hlt, Or.inl (by omega)⟩
theorem wl_digits_s (ha : gWc a) (oa : wOk σ a) : ∃ k : Nat, wl_digits σ a = some (σ, (k : Int)) ∧ k ≤ 36 ∧ nDig (wm σ a) k := by
  rw [wl_digits_e]
  exact wl_digits_b3_s ha oa 36 (by omega) (by omega) (wm_rng oa).2
end WD
section WQ
variable {σ : gM} {w a b r : Int}
/-- two other wholes are as they were -/
theorem wIs_fr {σ σ' : gM} {w a : Int} (hw : gWc w) (ha : gWc a) (h : w ≠ a) (hf : wFr σ σ' w) : (∀ k, σ' (a + 1) k = σ (a + 1) k) ∧ σ' a 0 = σ a 0 ∧ (wOk σ' a ↔ wOk σ a) ∧ wm σ' a = wm σ a := by
  have n := wcn hw ha h
  have e : ∀ k, σ' (a + 1) k = σ (a + 1) k := fun k => hf _ _ n.2.1 n.2.2.2.1 n.2.2.2.2.2
  refine ⟨e, hf _ _ n.1 n.2.2.1 n.2.2.2.2.1, ?_, ?_⟩
  · unfold wOk; simp only [e]
  · unfold wm; simp only [e]
theorem w4_fr {σ : gM} {w n0 n1 n2 n3 : Int} : wFr σ (w4 σ (w + 1) n0 n1 n2 n3) w := by
  intro c k h1 h2 h3
  rw [w4_c h2]
theorem gW_fr {σ : gM} {w s : Int} : wFr σ (gW σ w 0 s) w := by
  intro c k h1 h2 h3
  rw [gW_c h1]
/-- the rest is lessened while it may be -/
theorem wl_quotient_b33_s (hb : gWc b) (hr : gWc r) (hrb : r ≠ b) {k : Int} : ∀ (n : Nat) (σ : gM) (q : Int), wOk σ r → wOk σ b → 0 < wm σ b → wm σ r / wm σ b = n → 0 ≤ q → q + n ≤ 100 →
    ∃ σ', wl_quotient_b33 σ w a b r k q = wl_quotient_b33 σ' w a b r k (q + n) ∧ wFr σ σ' r ∧ wOk σ' r ∧ wm σ' r = wm σ r % wm σ b ∧ σ' r 0 = σ r 0
  | 0, σ, q, hor, hob, hpos, hn, _, _ => by
    refine ⟨σ, by simp, fun _ _ _ _ _ => rfl, hor, ?_, rfl⟩
    have := Int.emod_add_mul_ediv (wm σ r) (wm σ b)
    rw [hn] at this
    simp at this
    exact this.symm
  | n + 1, σ, q, hor, hob, hpos, hn, h0, h1 => by
    have hrr := wm_rng hor
    have hge : wm σ b ≤ wm σ r := by
      have : 1 ≤ wm σ r / wm σ b := by omega
      rw [Int.le_ediv_iff_mul_le hpos] at this
      omega
    have e1 : wl_quotient_b33 σ w a b r k q = (wl_less σ r r b).bind fun p4 => wl_quotient_b33 p4.1 w a b r k (w32 (q + 1)) := by
      rw [wl_quotient_b33_e, wl_size_s hr hb hor hob, if_neg (by omega)]
      have : ¬ ((if wm σ r = wm σ b then (0 : Int) else 1) < 0) := by split <;> decide
      simp only [Option.bind_some, if_neg this, gWc_is _ hr]
    obtain ⟨n0, n1, n2, n3, e, bn, tot⟩ := wl_less_s hr hr hb hor hob hge
    have w5 := w4_ok (σ := σ) (w := r) bn.1 bn.2.1 bn.2.2.1 bn.2.2.2
    have fb := wIs_fr hr hb hrb (w4_fr (σ := σ) (w := r) (n0 := n0) (n1 := n1) (n2 := n2) (n3 := n3))
    have hr2 : wm (w4 σ (r + 1) n0 n1 n2 n3) r = wm σ r - wm σ b := by rw [w5.2, tot]
    have hn2 : wm (w4 σ (r + 1) n0 n1 n2 n3) r / wm (w4 σ (r + 1) n0 n1 n2 n3) b = n := by
      rw [hr2, fb.2.2.2]
      have := Int.add_mul_ediv_right (wm σ r) (-1) (show wm σ b ≠ 0 by omega)
      rw [show wm σ r + -1 * wm σ b = wm σ r - wm σ b by omega] at this
      omega
    obtain ⟨σ', i1, i2, i3, i4, i5⟩ := wl_quotient_b33_s hb hr hrb n (w4 σ (r + 1) n0 n1 n2 n3) (q + 1) w5.1 (fb.2.2.1.mpr hob) (by rw [fb.2.2.2]; exact hpos) hn2 (by omega) (by omega)
    refine ⟨σ', ?_, w4_fr.tr i2, i3, ?_, ?_⟩
    · rw [e1, e]
      simp only [Option.bind_some]
      rw [w32_e (by omega) (by omega), i1, show q + 1 + (n : Int) = q + ((n + 1 : Nat) : Int) by omega]
    · rw [i4, hr2, fb.2.2.2]
      have := Int.emod_eq_emod_iff_emod_sub_eq_zero (m := wm σ r - wm σ b) (n := wm σ b) (k := wm σ r)
      rw [Int.sub_emod_right]
    · rw [i5, w4_c (wn1 r)]
theorem wl_quotient_b14_s (hw : gWc w) (ha : gWc a) (hb : gWc b) (hr : gWc r) (hwa : w ≠ a) (hwb : w ≠ b) (hwr : w ≠ r) (hra : r ≠ a) (hrb : r ≠ b) : ∀ (n : Nat) (σ : gM), n ≤ 36 → wOk σ a → wOk σ b → 0 < wm σ b → wOk σ r → wOk σ w → wm σ r = wm σ a / 10 ^ n % wm σ b → wm σ w = wm σ a / 10 ^ n / wm σ b → wm σ a / 10 ^ n ≤ wm σ a →
    ∃ σ', wl_quotient_b14 σ w a b r ((n : Int) - 1) = some (gW σ' w 0 (if wm σ' w = 0 then 0 else w32 (σ a 0 * σ b 0)), 0) ∧ wOk σ' w ∧ wm σ' w = wm σ a / wm σ b ∧ (∀ c k, c ≠ w → c ≠ w + 1 → c ≠ w + 2 → c ≠ r → c ≠ r + 1 → c ≠ r + 2 → σ' c k = σ c k)
  | 0, σ, _, oa, ob, hpos, or, ow, e1, e2, _ => by
    rw [wl_quotient_b14_e, if_pos (by decide), wl_settle_s hw ow]
    simp only [gWc_is _ ha, gWc_is _ hb, gWc_is _ hw, Option.bind_some]
    refine ⟨σ, rfl, ow, ?_, fun _ _ _ _ _ _ _ _ => rfl⟩
    rw [e2]; simp
  | n + 1, σ, hn, oa, ob, hpos, or, ow, e1, e2, e3 => by
    have ra := wm_rng oa
    rw [wl_quotient_b14_e, if_neg (by omega), show ((n + 1 : Nat) : Int) - 1 = (n : Int) by omega, wl_digit_s ha oa (by omega)]
    simp only [gWc_is _ ha, gWc_is _ hr, Option.bind_some]
    have hd : 0 ≤ wm σ a / 10 ^ n % 10 ∧ wm σ a / 10 ^ n % 10 ≤ 9 := by omega
    obtain ⟨σ1, m1, m2, m3, m4, m5⟩ := wl_more_s hr or hd
    rw [m1]
    simp only [Option.bind_some]
    have pre : 0 ≤ wm σ a / 10 ^ n := Int.ediv_nonneg ra.1 (Int.le_of_lt (tp n))
    have pren : wm σ a / 10 ^ n ≤ wm σ a := Int.ediv_le_self _ ra.1
    have hdv := dvt (wm σ a) n
    -- prefix and its rest
    have hq0 : 0 ≤ wm σ a / 10 ^ (n + 1) := by omega
    have hmod := Int.emod_add_mul_ediv (wm σ a / 10 ^ (n + 1)) (wm σ b)
    have hml := Int.emod_lt_of_pos (wm σ a / 10 ^ (n + 1)) hpos
    have hmn := Int.emod_nonneg (wm σ a / 10 ^ (n + 1)) (show wm σ b ≠ 0 by omega)
    have hdn : 0 ≤ wm σ a / 10 ^ (n + 1) / wm σ b := Int.ediv_nonneg hq0 (by omega)
    have hmle : wm σ a / 10 ^ (n + 1) % wm σ b ≤ wm σ a / 10 ^ (n + 1) := by
      have : 0 ≤ wm σ b * (wm σ a / 10 ^ (n + 1) / wm σ b) := Int.mul_nonneg (by omega) hdn
      omega
    have fit : wm σ r * 10 + wm σ a / 10 ^ n % 10 < 1000000000000000000000000000000000000 := by
      rw [show (10 : Int) ^ 36 = 1000000000000000000000000000000000000 by decide] at ra
      rw [e1]
      omega
    have m3' : wm σ1 r = wm σ r * 10 + wm σ a / 10 ^ n % 10 := by
      rw [m3]
      have := (wm_rng or).1
      exact Int.emod_eq_of_lt (by omega) fit
    have fb := wIs_fr hr hb hrb m5
    have fa := wIs_fr hr ha hra m5
    have fw := wIs_fr hr hw (Ne.symm hwr) m5
    -- the digit of the quotient
    have hlt10 : wm σ1 r / wm σ1 b < 10 := by
      rw [fb.2.2.2, Int.ediv_lt_iff_lt_mul hpos, m3', e1]
      omega
    have hge0 : 0 ≤ wm σ1 r / wm σ1 b := Int.ediv_nonneg (by rw [m3']; have := (wm_rng or).1; omega) (by rw [fb.2.2.2]; omega)
    obtain ⟨σ2, i1, i2, i3, i4, i5⟩ := wl_quotient_b33_s (w := w) (a := a) (k := (n : Int)) hb hr hrb (wm σ1 r / wm σ1 b).toNat σ1 0 m2 (fb.2.2.1.mpr ob) (by rw [fb.2.2.2]; exact hpos) (by omega) (by omega) (by omega)
    rw [i1]
    have gb := wIs_fr hr hb hrb i2
    have ga := wIs_fr hr ha hra i2
    have gw := wIs_fr hr hw (Ne.symm hwr) i2
    have ob2 : wOk σ2 b := gb.2.2.1.mpr (fb.2.2.1.mpr ob)
    have hlt2 : wm σ2 r < wm σ2 b := by
      rw [i4, gb.2.2.2]
      exact Int.emod_lt_of_pos _ (by rw [fb.2.2.2]; exact hpos)
    rw [wl_quotient_b33_e, wl_size_s hr hb i3 ob2, if_pos hlt2]
    simp only [Option.bind_some, show ((-1 : Int) < 0) by decide, if_true, gWc_is _ hr, gWc_is _ hw]
    rw [wl_settle_s hr i3]
    simp only [Option.bind_some]
    have jw := wIs_fr hr hw (Ne.symm hwr) (gW_fr (σ := σ2) (w := r) (s := if wm σ2 r = 0 then 0 else 1))
    have ja := wIs_fr hr ha hra (gW_fr (σ := σ2) (w := r) (s := if wm σ2 r = 0 then 0 else 1))
    have jb := wIs_fr hr hb hrb (gW_fr (σ := σ2) (w := r) (s := if wm σ2 r = 0 then 0 else 1))
    have jr := wOk_s (σ := σ2) (w := r) (s := if wm σ2 r = 0 then 0 else 1)
    have jf : wFr σ2 (gW σ2 r 0 (if wm σ2 r = 0 then 0 else 1)) r := gW_fr
    generalize gW σ2 r 0 (if wm σ2 r = 0 then 0 else 1) = σ3 at jw ja jb jr jf ⊢
    -- values so far
    have vb : wm σ3 b = wm σ b := by rw [jb.2.2.2, gb.2.2.2, fb.2.2.2]
    have va : wm σ3 a = wm σ a := by rw [ja.2.2.2, ga.2.2.2, fa.2.2.2]
    have vw : wm σ3 w = wm σ w := by rw [jw.2.2.2, gw.2.2.2, fw.2.2.2]
    have kb : wOk σ3 b := jb.2.2.1.mpr ob2
    have ka : wOk σ3 a := ja.2.2.1.mpr (ga.2.2.1.mpr (fa.2.2.1.mpr oa))
    have kw : wOk σ3 w := jw.2.2.1.mpr (gw.2.2.1.mpr (fw.2.2.1.mpr ow))
    have kr : wOk σ3 r := jr.1.mpr i3
    -- P' = 10 P + d, in parts of D
    have hP : wm σ a / 10 ^ n = 10 * (wm σ a / 10 ^ (n + 1)) + wm σ a / 10 ^ n % 10 := by omega
    have vr1 : wm σ1 r = 10 * (wm σ a / 10 ^ (n + 1) % wm σ b) + wm σ a / 10 ^ n % 10 := by rw [m3', e1]; omega
    have split : wm σ a / 10 ^ n = wm σ1 r + wm σ b * (10 * (wm σ a / 10 ^ (n + 1) / wm σ b)) := by
      rw [vr1, Int.mul_left_comm]
      omega
    have hdiv : wm σ a / 10 ^ n / wm σ b = wm σ1 r / wm σ b + 10 * (wm σ a / 10 ^ (n + 1) / wm σ b) := by
      rw [split, Int.add_mul_ediv_left _ _ (by omega)]
    have hmd : wm σ a / 10 ^ n % wm σ b = wm σ1 r % wm σ b := by
      rw [split, Int.add_mul_emod_self_left]
    rw [fb.2.2.2] at hlt10 hge0 i4
    have nn : (0 : Int) + ((wm σ1 r / wm σ1 b).toNat : Int) = wm σ1 r / wm σ b := by rw [fb.2.2.2]; omega
    rw [nn]
    obtain ⟨σ4, o1, o2, o3, o4, o5⟩ := wl_more_s hw kw (d := wm σ1 r / wm σ b) (by omega)
    rw [o1]
    simp only [Option.bind_some]
    rw [w32_e (by omega) (by omega), show (n : Int) + -1 = (n : Int) - 1 by omega]
    have fb4 := wIs_fr hw hb hwb o5
    have fa4 := wIs_fr hw ha hwa o5
    have fr4 := wIs_fr hw hr hwr o5
    have hPD : wm σ a / 10 ^ n / wm σ b ≤ wm σ a := by
      have := Int.ediv_le_self (wm σ b) pre
      omega
    have hPD0 : 0 ≤ wm σ a / 10 ^ n / wm σ b := Int.ediv_nonneg pre (by omega)
    have o3' : wm σ4 w = wm σ a / 10 ^ n / wm σ b := by
      rw [o3, vw, e2, hdiv]
      have ra' := ra
      rw [show (10 : Int) ^ 36 = 1000000000000000000000000000000000000 by decide] at ra'
      rw [show wm σ a / 10 ^ (n + 1) / wm σ b * 10 + wm σ1 r / wm σ b = wm σ1 r / wm σ b + 10 * (wm σ a / 10 ^ (n + 1) / wm σ b) by omega, ← hdiv]
      exact Int.emod_eq_of_lt hPD0 (by omega)
    obtain ⟨σ', z1, z2, z3, z4⟩ := wl_quotient_b14_s hw ha hb hr hwa hwb hwr hra hrb n σ4 (by omega) (fa4.2.2.1.mpr ka) (fb4.2.2.1.mpr kb) (by rw [fb4.2.2.2, vb]; exact hpos) (fr4.2.2.1.mpr kr) o2
      (by rw [fr4.2.2.2, fa4.2.2.2, fb4.2.2.2, va, vb, jr.2, i4, hmd]) (by rw [fa4.2.2.2, fb4.2.2.2, va, vb, o3']) (by rw [fa4.2.2.2, va]; exact pren)
    have sa : σ4 a 0 = σ a 0 := by rw [fa4.2.1, ja.2.1, ga.2.1, fa.2.1]
    have sb : σ4 b 0 = σ b 0 := by rw [fb4.2.1, jb.2.1, gb.2.1, fb.2.1]
    refine ⟨σ', by rw [z1, sa, sb], z2, by rw [z3, fa4.2.2.2, fb4.2.2.2, va, vb], ?_⟩
    intro c k c1 c2 c3 c4 c5 c6
    rw [z4 c k c1 c2 c3 c4 c5 c6, o5 c k c1 c2 c3, jf c k c4 c5 c6, i2 c k c4 c5 c6, m5 c k c4 c5 c6]
theorem wl_quotient_s (hw : gWc w) (ha : gWc a) (hb : gWc b) (hr : gWc r) (hwa : w ≠ a) (hwb : w ≠ b) (hwr : w ≠ r) (hra : r ≠ a) (hrb : r ≠ b) {x y : Int} (ka : wIs σ a x) (kb : wIs σ b y) (hy : y ≠ 0) :
    ∃ σ', wl_quotient σ w a b r = some (σ', 0) ∧ wIs σ' w (Int.tdiv x y) ∧ (∀ c k, c ≠ w → c ≠ w + 1 → c ≠ w + 2 → c ≠ r → c ≠ r + 1 → c ≠ r + 2 → σ' c k = σ c k) := by
  obtain ⟨σ1, e1, k1, f1⟩ := wl_of_s (σ := σ) hr (v := 0) (by unfold i64; omega)
  obtain ⟨σ2, e2, k2, f2⟩ := wl_of_s (σ := σ1) hw (v := 0) (by unfold i64; omega)
  have a1 := wIs_fr hr ha hra f1
  have b1 := wIs_fr hr hb hrb f1
  have a2 := wIs_fr hw ha hwa f2
  have b2 := wIs_fr hw hb hwb f2
  have r2 := wIs_fr hw hr hwr f2
  have oa : wOk σ2 a := a2.2.2.1.mpr (a1.2.2.1.mpr ka.1)
  have ob : wOk σ2 b := b2.2.2.1.mpr (b1.2.2.1.mpr kb.1)
  have va : wm σ2 a = wm σ a := by rw [a2.2.2.2, a1.2.2.2]
  have vb : wm σ2 b = wm σ b := by rw [b2.2.2.2, b1.2.2.2]
  have pb : 0 < wm σ b := by
    rcases kb.2 with ⟨q1, q2, q3⟩ | ⟨q1, q2, q3⟩ | ⟨q1, q2, q3⟩ <;> omega
  have zr : wm σ2 r = 0 := by
    rw [r2.2.2.2]
    rcases k1.2 with ⟨q1, q2, q3⟩ | ⟨q1, q2, q3⟩ | ⟨q1, q2, q3⟩ <;> omega
  have zw : wm σ2 w = 0 := by
    rcases k2.2 with ⟨q1, q2, q3⟩ | ⟨q1, q2, q3⟩ | ⟨q1, q2, q3⟩ <;> omega
  have ra := wm_rng oa
  have z36 : wm σ2 a / 10 ^ 36 = 0 := Int.ediv_eq_zero_of_lt ra.1 ra.2
  obtain ⟨σ', i1, i2, i3, i4⟩ := wl_quotient_b14_s hw ha hb hr hwa hwb hwr hra hrb 36 σ2 (by omega) oa ob (by rw [vb]; exact pb) (r2.2.2.1.mpr k1.1) k2.1 (by rw [z36, zr]; simp) (by rw [z36, zw]; simp) (by rw [z36]; exact ra.1)
  rw [wl_quotient_e, e1]
  simp only [gWc_is _ hr, gWc_is _ hw, Option.bind_some, e2]
  rw [show (35 : Int) = ((36 : Nat) : Int) - 1 by decide, i1]
  refine ⟨_, rfl, ?_, ?_⟩
  · have sa : σ2 a 0 = σ a 0 := by rw [a2.2.1, a1.2.1]
    have sb : σ2 b 0 = σ b 0 := by rw [b2.2.1, b1.2.1]
    rw [sa, sb]
    rw [va, vb] at i3
    have j := wOk_s (σ := σ') (w := w) (s := if wm σ' w = 0 then 0 else w32 (σ a 0 * σ b 0))
    refine ⟨j.1.mpr i2, ?_⟩
    rw [j.2, gW_at, i3]
    have ra0 := (wm_rng ka.1).1
    have hq0 : 0 ≤ wm σ a / wm σ b := Int.ediv_nonneg ra0 (by omega)
    obtain ⟨-, ka⟩ := ka
    obtain ⟨-, kb⟩ := kb
    rcases ka with ⟨p1, p2, p3⟩ | ⟨p1, p2, p3⟩ | ⟨p1, p2, p3⟩ <;> rcases kb with ⟨q1, q2, q3⟩ | ⟨q1, q2, q3⟩ | ⟨q1, q2, q3⟩ <;> rw [p2, q2] <;> rw [p3, q3] at hq0 ⊢
    · have : Int.tdiv x y = (-x) / (-y) := by rw [← Int.neg_tdiv_neg, tdv (by omega)]
      rw [this]
      by_cases z : (-x) / (-y) = 0
      · rw [if_pos z]; omega
      · rw [if_neg z]; right; right; exact ⟨by omega, rfl, rfl⟩
    · omega
    · have : Int.tdiv x y = -((-x) / y) := td_neg p1
      rw [this]
      by_cases z : (-x) / y = 0
      · rw [if_pos z]; omega
      · rw [if_neg z]; left; exact ⟨by omega, rfl, by omega⟩
    · subst p1; simp at hq0 ⊢
    · omega
    · subst p1; simp at hq0 ⊢
    · have : Int.tdiv x y = -(x / (-y)) := by
        have := Int.tdiv_neg x (-y)
        rw [Int.neg_neg] at this
        rw [this, tdv (by omega)]
      rw [this]
      by_cases z : x / (-y) = 0
      · rw [if_pos z]; omega
      · rw [if_neg z]; left; exact ⟨by omega, rfl, by omega⟩
    · omega
    · have : Int.tdiv x y = x / y := tdv (by omega)
      rw [this]
      by_cases z : x / y = 0
      · rw [if_pos z]; omega
      · rw [if_neg z]; right; right; exact ⟨by omega, rfl, rfl⟩
  · intro c k c1 c2 c3 c4 c5 c6
    rw [gW_c c1, i4 c k c1 c2 c3 c4 c5 c6, f2 c k c1 c2 c3, f1 c k c4 c5 c6]
end WQ
section WL
variable {a : Int}
/-- one digit more -/
theorem wl_isLong_b37_s (ha : gWc a) {σ : gM} {k d T : Int} (hT : σ a 3 = T) (iT : i64 T) (hd : -9 ≤ d ∧ d ≤ 9) (hk : 0 ≤ k ∧ k < 36) :
    (i64 (T * 10 + d) → (0 ≤ T ∧ 0 ≤ d ∨ T ≤ 0 ∧ d ≤ 0) → wl_isLong_b37 σ a k d = wl_isLong_b12 (gW σ a 3 (T * 10 + d)) a (k - 1)) ∧
    (¬ i64 (T * 10 + d) → (0 ≤ T ∧ 0 ≤ d ∨ T ≤ 0 ∧ d ≤ 0) → wl_isLong_b37 σ a k d = some (σ, 0)) := by
  have iT' := iT
  unfold i64 at iT'
  obtain ⟨q, hq⟩ := w64_ex (T * 10)
  have hqr := w64_rng (T * 10)
  have base : wl_isLong_b37 σ a k d = if T * 10 / 18446744073709551616 = (if w64 (T * 10) < 0 then -1 else 0) then (if (¬ (w64 (T * 10) < 0 ↔ w64 (w64 (T * 10) + d) < 0) ∧ ¬ (d < 0 ↔ w64 (w64 (T * 10) + d) < 0)) then some (σ, 0) else wl_isLong_b12 (gW σ a 3 (w64 (w64 (T * 10) + d))) a (k - 1)) else some (σ, 0) := by
    rw [wl_isLong_b37_e, hT, jm_multiplyHigh_s iT (by unfold i64; omega)]
    simp only [gWc_is _ ha, Option.bind_some, hT, l_cmp_0, l_cmp_lt, gWc_wil _ ha]
    rw [l_shr_63 (w64_rng _), w32_e (by omega) (by omega), show k + -1 = k - 1 by omega]
    simp only [(l_neg (l_xor_i (w64 (T * 10)) (w64 (w64 (T * 10) + d))) (l_xor_i d (w64 (w64 (T * 10) + d)))).1, (l_neg (w64_rng (T * 10)) (w64_rng (w64 (T * 10) + d))).2, (l_neg (x := d) (by unfold i64; omega) (w64_rng (w64 (T * 10) + d))).2]
  rw [base]
  obtain ⟨q2, hq2⟩ := w64_ex (w64 (T * 10) + d)
  have hqr2 := w64_rng (w64 (T * 10) + d)
  constructor
  · intro hi hs
    unfold i64 at hi
    have e1 : w64 (T * 10) = T * 10 := w64_e (by omega) (by omega)
    have e2 : w64 (w64 (T * 10) + d) = T * 10 + d := by rw [e1]; exact w64_e (by omega) (by omega)
    rw [e2, e1]
    rw [if_pos (by split <;> omega), if_neg (by omega)]
  · intro hi hs
    unfold i64 at hi
    by_cases h : T * 10 / 18446744073709551616 = (if w64 (T * 10) < 0 then -1 else 0)
    · have q0 : q = 0 := by split at h <;> omega
      have h2 : q2 = 1 ∨ q2 = -1 := by
        rw [q0] at hq
        clear h
        omega
      rw [if_pos h, if_pos ?_]
      clear h
      rw [q0] at hq
      rcases h2 with h2 | h2 <;> subst h2 <;> omega
    · rw [if_neg h]
theorem gW_id {σ : gM} {c k : Int} : gW σ c k (σ c k) = σ := by
  funext b j
  unfold gW
  split
  · rename_i h; rw [h.1, h.2]
  · rfl
theorem gW_2 {σ : gM} {c k u v : Int} : gW (gW σ c k u) c k v = gW σ c k v := by
  funext b j
  unfold gW
  split <;> rfl
theorem wl_isLong_b12_s (ha : gWc a) {M s : Int} : ∀ (n : Nat) (σ : gM), n ≤ 36 → wOk σ a → wm σ a = M → (s = σ a 0) → i64 (if s < 0 then -(M / 10 ^ n) else M / 10 ^ n) → σ a 3 = (if s < 0 then -(M / 10 ^ n) else M / 10 ^ n) →
    ∃ t r, wl_isLong_b12 σ a ((n : Int) - 1) = some (gW σ a 3 t, r) ∧ (i64 (if s < 0 then -M else M) → r = 1 ∧ t = if s < 0 then -M else M) ∧ (¬ i64 (if s < 0 then -M else M) → r = 0)
  | 0, σ, _, oa, hM, hs, hi, ht => by
    rw [wl_isLong_b12_e, if_pos (by decide)]
    simp only [Int.pow_zero, Int.ediv_one] at ht hi
    exact ⟨σ a 3, 1, by rw [gW_id], fun _ => ⟨rfl, ht⟩, fun h => absurd hi h⟩
  | n + 1, σ, hn, oa, hM, hs, hi, ht => by
    have hr := wm_rng oa
    rw [hM] at hr
    have hdv := dvt M n
    have pre : 0 ≤ M / 10 ^ n := Int.ediv_nonneg hr.1 (Int.le_of_lt (tp n))
    have pren : M / 10 ^ n ≤ M := Int.ediv_le_self _ hr.1
    have e : wl_isLong_b12 σ a (((n + 1 : Nat) : Int) - 1) = wl_isLong_b37 σ a n (if s < 0 then -(M / 10 ^ n % 10) else M / 10 ^ n % 10) := by
      rw [wl_isLong_b12_e, if_neg (by omega), show ((n + 1 : Nat) : Int) - 1 = (n : Int) by omega, wl_digit_s ha oa (by omega), hM]
      simp only [gWc_is _ ha, Option.bind_some, ← hs]
      rw [w32_e (by omega) (by omega)]
      split <;> rfl
    rw [e]
    have st := wl_isLong_b37_s ha (σ := σ) (k := (n : Int)) (d := if s < 0 then -(M / 10 ^ n % 10) else M / 10 ^ n % 10) ht hi (by split <;> omega) (by omega)
    have eT : (if s < 0 then -(M / 10 ^ (n + 1)) else M / 10 ^ (n + 1)) * 10 + (if s < 0 then -(M / 10 ^ n % 10) else M / 10 ^ n % 10) = if s < 0 then -(M / 10 ^ n) else M / 10 ^ n := by split <;> omega
    rw [eT] at st
    have sg : (0 ≤ (if s < 0 then -(M / 10 ^ (n + 1)) else M / 10 ^ (n + 1)) ∧ 0 ≤ (if s < 0 then -(M / 10 ^ n % 10) else M / 10 ^ n % 10)) ∨ ((if s < 0 then -(M / 10 ^ (n + 1)) else M / 10 ^ (n + 1)) ≤ 0 ∧ (if s < 0 then -(M / 10 ^ n % 10) else M / 10 ^ n % 10) ≤ 0) := by split <;> omega
    by_cases hi2 : i64 (if s < 0 then -(M / 10 ^ n) else M / 10 ^ n)
    · rw [st.1 hi2 sg]
      have ok2 : wOk (gW σ a 3 (if s < 0 then -(M / 10 ^ n) else M / 10 ^ n)) a ∧ wm (gW σ a 3 (if s < 0 then -(M / 10 ^ n) else M / 10 ^ n)) a = M := by
        unfold wOk wm
        simp only [gW_c (w1n a)]
        exact ⟨oa, hM⟩
      obtain ⟨t, r, z1, z2, z3⟩ := wl_isLong_b12_s ha n (gW σ a 3 (if s < 0 then -(M / 10 ^ n) else M / 10 ^ n)) (by omega) ok2.1 ok2.2 (by rw [gW_i (by decide)]; exact hs) hi2 (gW_at _ _ _ _)
      exact ⟨t, r, by rw [z1, gW_2], z2, z3⟩
    · rw [st.2 hi2 sg]
      refine ⟨σ a 3, 0, by rw [gW_id], fun h => absurd ?_ hi2, fun _ => rfl⟩
      unfold i64 at h ⊢
      split at h
      · rename_i k; rw [if_pos k]; omega
      · rename_i k; rw [if_neg k]; omega
theorem wl_isLong_s (ha : gWc a) {σ : gM} {x : Int} (ka : wIs σ a x) : ∃ t r, wl_isLong σ a = some (gW σ a 3 t, r) ∧ (i64 x → r = 1 ∧ t = x) ∧ (¬ i64 x → r = 0) := by
  obtain ⟨oa, ka⟩ := ka
  have ok2 : wOk (gW σ a 3 0) a ∧ wm (gW σ a 3 0) a = wm σ a := by
    unfold wOk wm
    simp only [gW_c (w1n a)]
    exact ⟨oa, trivial⟩
  obtain ⟨k, k1, k2, k3⟩ := wl_digits_s ha ok2.1
  rw [wl_isLong_e]
  simp only [gWc_is _ ha, gWc_wil _ ha, k1, Option.bind_some]
  rw [w32_e (by omega) (by omega)]
  rw [ok2.2] at k3
  have z : wm σ a / 10 ^ k = 0 := Int.ediv_eq_zero_of_lt (wm_rng oa).1 k3.2.1
  obtain ⟨t, r, z1, z2, z3⟩ := wl_isLong_b12_s ha (M := wm σ a) (s := σ a 0) k (gW σ a 3 0) k2 ok2.1 ok2.2 (by rw [gW_i (by decide)]) (by rw [z]; unfold i64; split <;> omega) (by rw [z, gW_at]; split <;> rfl)
  have ex : (if σ a 0 < 0 then -wm σ a else wm σ a) = x := by
    rcases ka with ⟨p1, p2, p3⟩ | ⟨p1, p2, p3⟩ | ⟨p1, p2, p3⟩ <;> rw [p2, p3] <;> simp [p1]
  rw [ex] at z2 z3
  exact ⟨t, r, by rw [z1, gW_2], z2, z3⟩
end WL
