/-! great numbers of the model: quotients -/
section MQ
variable {σ : gM}
theorem md_divides_b71_s {x1 x2 x3 c k k' : Int} (h0 : 1 ≤ k) (h4 : k < 5) (hk : k + 1 = k') (la : 0 ≤ σ 132 k ∧ σ 132 k < 1000000000) (hc : 0 ≤ c ∧ c < 1000000000) :
    md_divides_b71 σ x1 x2 x3 c k = md_divides_b71 (gW σ 132 k ((10 * σ 132 k + c) % 1000000000)) x1 x2 x3 ((10 * σ 132 k + c) / 1000000000) k' := by
  rw [md_divides_b71_e]
  have hb : 0 ≤ k ∧ k < 5 := by omega
  simp only [hb, h4, and_self, if_true, show ¬ ((1000000000 : Int) = 0) by decide, if_false]
  rw [w64_e (x := 10 * σ 132 k) (by omega) (by omega), w64_e (x := 10 * σ 132 k + c) (by omega) (by omega), tmd (by omega), tdv (by omega), w64_e (by omega) (by omega), w32_e (x := (10 * σ 132 k + c) % 1000000000) (by omega) (by omega), w32_e (x := (10 * σ 132 k + c) / 1000000000) (by omega) (by omega), w32_e (by omega) (by omega), hk]
/-- a digit more for the rest -/
theorem md_divides_more {x1 x2 x3 d : Int} (hd : 0 ≤ d ∧ d ≤ 9) (ok : mOk σ 132) (fit : mm σ 132 * 10 + d < 1000000000000000000000000000000000000) : ∃ n1 n2 n3 n4, md_divides_b71 σ x1 x2 x3 d 1 = md_divides_b127 (m4 σ 132 n1 n2 n3 n4) x1 x2 x3 0 0 ∧ mOk (m4 σ 132 n1 n2 n3 n4) 132 ∧ mm (m4 σ 132 n1 n2 n3 n4) 132 = mm σ 132 * 10 + d := by
  obtain ⟨h0, h1, h2, h3⟩ := ok
  rw [md_divides_b71_s (k' := 2) (by omega) (by omega) rfl h0 (by omega), md_divides_b71_s (k' := 3) (by omega) (by omega) rfl (by rw [gj21]; exact h1) (by omega),
    md_divides_b71_s (k' := 4) (by omega) (by omega) rfl (by rw [gj32, gj31]; exact h2) (by rw [gj21]; omega), md_divides_b71_s (k' := 5) (by omega) (by omega) rfl (by rw [gj43, gj42, gj41]; exact h3) (by rw [gj32, gj31, gj21]; omega), md_divides_b71_e, if_neg (by decide)]
  simp only [gj21, gj31, gj32, gj41, gj42, gj43]
  rw [show mm σ 132 = σ 132 1 + 1000000000 * σ 132 2 + 1000000000000000000 * σ 132 3 + 1000000000000000000000000000 * σ 132 4 from rfl] at fit ⊢
  generalize σ 132 1 = l0 at *
  generalize σ 132 2 = l1 at *
  generalize σ 132 3 = l2 at *
  generalize σ 132 4 = l3 at *
  obtain ⟨q0, r0, b0, e0, e0'⟩ : ∃ q r : Int, (0 ≤ r ∧ r < 1000000000) ∧ (10 * l0 + d) / 1000000000 = q ∧ (10 * l0 + d) % 1000000000 = r := ⟨_, _, by omega, rfl, rfl⟩
  rw [e0, e0']
  obtain ⟨q1, r1, b1, e1, e1'⟩ : ∃ q r : Int, (0 ≤ r ∧ r < 1000000000) ∧ (10 * l1 + q0) / 1000000000 = q ∧ (10 * l1 + q0) % 1000000000 = r := ⟨_, _, by omega, rfl, rfl⟩
  rw [e1, e1']
  obtain ⟨q2, r2, b2, e2, e2'⟩ : ∃ q r : Int, (0 ≤ r ∧ r < 1000000000) ∧ (10 * l2 + q1) / 1000000000 = q ∧ (10 * l2 + q1) % 1000000000 = r := ⟨_, _, by omega, rfl, rfl⟩
  rw [e2, e2']
  obtain ⟨q3, r3, b3, e3, e3'⟩ : ∃ q r : Int, (0 ≤ r ∧ r < 1000000000) ∧ (10 * l3 + q2) / 1000000000 = q ∧ (10 * l3 + q2) % 1000000000 = r := ⟨_, _, by omega, rfl, rfl⟩
  rw [e3, e3']
  have q0' : 10 * l0 + d = 1000000000 * q0 + r0 := by omega
  have q1' : 10 * l1 + q0 = 1000000000 * q1 + r1 := by omega
  have q2' : 10 * l2 + q1 = 1000000000 * q2 + r2 := by omega
  have q3' : 10 * l3 + q2 = 1000000000 * q3 + r3 := by omega
  have hq3 : 0 ≤ q3 := by omega
  have tot : (l0 + 1000000000 * l1 + 1000000000000000000 * l2 + 1000000000000000000000000000 * l3) * 10 + d = 1000000000000000000000000000000000000 * q3 + (r0 + 1000000000 * r1 + 1000000000000000000 * r2 + 1000000000000000000000000000 * r3) := by omega
  clear e0 e0' e1 e1' e2 e2' e3 e3' q0' q1' q2' q3'
  have z : q3 = 0 := by omega
  have w5 := m4_ok (σ := σ) (c := 132) b0 b1 b2 b3
  refine ⟨r0, r1, r2, r3, by rw [z]; rfl, w5.1, ?_⟩
  rw [w5.2]
  omega
/-- the rest is lessened while it may be -/
theorem md_divides_b127_s {x1 x2 x3 : Int} : ∀ (n : Nat) (σ : gM) (q : Int), mOk σ 132 → mOk σ 130 → 0 < mm σ 130 → mm σ 132 / mm σ 130 = n → 0 ≤ q → q + n ≤ 99 →
    ∃ σ', md_divides_b127 σ x1 x2 x3 0 q = md_divides_b127 σ' x1 x2 x3 0 (q + n) ∧ (∀ b k, b ≠ 132 → σ' b k = σ b k) ∧ mOk σ' 132 ∧ mm σ' 132 = mm σ 132 % mm σ 130
  | 0, σ, q, or, ob, hpos, hn, _, _ => by
    refine ⟨σ, by simp, fun _ _ _ => rfl, or, ?_⟩
    have := Int.emod_add_mul_ediv (mm σ 132) (mm σ 130)
    rw [hn] at this
    simp at this
    exact this.symm
  | n + 1, σ, q, or, ob, hpos, hn, h0, h1 => by
    have hge : mm σ 130 ≤ mm σ 132 := by
      have : 1 ≤ mm σ 132 / mm σ 130 := by omega
      rw [Int.le_ediv_iff_mul_le hpos] at this
      omega
    have e1 : md_divides_b127 σ x1 x2 x3 0 q = md_divides_b152 σ x1 x2 x3 0 q 0 1 := by
      rw [md_divides_b127_e, if_neg (by decide), md_compareSizes_s k132 k130 or ob, if_neg (by omega)]
      have : ¬ ((if mm σ 132 = mm σ 130 then (0 : Int) else 1) < 0) := by split <;> decide
      simp only [Option.bind_some, if_neg this, md_divides_b146_e]
    obtain ⟨n1, n2, n3, n4, e, ok, tot⟩ := md_divides_less (x1 := x1) (x2 := x2) (x3 := x3) (x5 := q) (by omega) or ob hge
    have fb := mOk_c (σ := σ) (σ' := m4 σ 132 n1 n2 n3 n4) (c := 130) (fun k => m4_c (by decide))
    have hn2 : mm (m4 σ 132 n1 n2 n3 n4) 132 / mm (m4 σ 132 n1 n2 n3 n4) 130 = n := by
      rw [tot, fb.2]
      have := Int.add_mul_ediv_right (mm σ 132) (-1) (show mm σ 130 ≠ 0 by omega)
      rw [show mm σ 132 + -1 * mm σ 130 = mm σ 132 - mm σ 130 by omega] at this
      omega
    obtain ⟨σ', i1, i2, i3, i4⟩ := md_divides_b127_s (x1 := x1) (x2 := x2) (x3 := x3) n (m4 σ 132 n1 n2 n3 n4) (q + 1) ok (fb.1.mpr ob) (by rw [fb.2]; exact hpos) hn2 (by omega) (by omega)
    refine ⟨σ', ?_, fun b k hb => (i2 b k hb).trans (m4_c hb), i3, ?_⟩
    · rw [e1, e, i1, show q + 1 + (n : Int) = q + ((n + 1 : Nat) : Int) by omega]
    · rw [i4, tot, fb.2, Int.sub_emod_right]
/-- what stands when all digits from N on are done -/
def mInv (σ0 σ : gM) (N : Nat) : Prop := mOk σ 132 ∧ mm σ 132 = mm σ0 129 / 10 ^ N % mm σ0 130 ∧ mm σ 131 = mm σ0 129 / 10 ^ N / mm σ0 130 * 10 ^ N ∧ (∀ b k, b ≠ 131 → b ≠ 132 → σ b k = σ0 b k)
/-- one digit of the quotient -/
theorem md_divides_digit {σ0 σ : gM} {s : Int} {N : Nat} {k p : Int} (h1 : 1 ≤ k ∧ k < 5) (hp : 1 ≤ p ∧ p ≤ 100000000) (hN : N < 36) (oa : mOk σ0 129) (ob : mOk σ0 130) (hpos : 0 < mm σ0 130) (hdig : Int.tmod (w32 (Int.tdiv (σ 129 k) p)) 10 = mm σ0 129 / 10 ^ N % 10)
    (inv : mInv σ0 σ (N + 1)) : ∃ σ' n, md_divides_b51 σ s k p = md_divides_b51 (gW σ' 131 k (w32 (σ 131 k + w32 (n * p)))) s k (w32 (Int.tdiv p 10)) ∧ (0 ≤ n ∧ n ≤ 9) ∧ (∀ b j, b ≠ 132 → σ' b j = σ b j) ∧ mOk σ' 132 ∧ mm σ' 132 = mm σ0 129 / 10 ^ N % mm σ0 130 ∧
      mm σ0 129 / 10 ^ N / mm σ0 130 = n + 10 * (mm σ0 129 / 10 ^ (N + 1) / mm σ0 130) := by
  obtain ⟨or, er, es, fr⟩ := inv
  have ra := mm_rng oa
  have f130 := mOk_c (σ := σ0) (σ' := σ) (c := 130) (fun k => fr _ _ (by decide) (by decide))
  have hb : 0 ≤ k ∧ k < 5 := by omega
  rw [md_divides_b51_e, if_pos (by omega)]
  simp only [hb, and_self, if_true, show ¬ (p = 0) by omega, show ¬ ((10 : Int) = 0) by decide, if_false]
  rw [hdig]
  have hd : 0 ≤ mm σ0 129 / 10 ^ N % 10 ∧ mm σ0 129 / 10 ^ N % 10 ≤ 9 := by omega
  have pre : 0 ≤ mm σ0 129 / 10 ^ N := Int.ediv_nonneg ra.1 (Int.le_of_lt (tp N))
  have pren : mm σ0 129 / 10 ^ N ≤ mm σ0 129 := Int.ediv_le_self _ ra.1
  have hdv := dvt (mm σ0 129) N
  have hq0 : 0 ≤ mm σ0 129 / 10 ^ (N + 1) := by omega
  have hmod := Int.emod_add_mul_ediv (mm σ0 129 / 10 ^ (N + 1)) (mm σ0 130)
  have hml := Int.emod_lt_of_pos (mm σ0 129 / 10 ^ (N + 1)) hpos
  have hmn := Int.emod_nonneg (mm σ0 129 / 10 ^ (N + 1)) (show mm σ0 130 ≠ 0 by omega)
  have hdn : 0 ≤ mm σ0 129 / 10 ^ (N + 1) / mm σ0 130 := Int.ediv_nonneg hq0 (by omega)
  have hmle : mm σ0 129 / 10 ^ (N + 1) % mm σ0 130 ≤ mm σ0 129 / 10 ^ (N + 1) := by
    have : 0 ≤ mm σ0 130 * (mm σ0 129 / 10 ^ (N + 1) / mm σ0 130) := Int.mul_nonneg (by omega) hdn
    omega
  obtain ⟨n1, n2, n3, n4, e, ok, tot⟩ := md_divides_more (x1 := s) (x2 := k) (x3 := p) hd or (by rw [er]; omega)
  rw [e]
  have g130 := mOk_c (σ := σ) (σ' := m4 σ 132 n1 n2 n3 n4) (c := 130) (fun k => m4_c (by decide))
  have vb : mm (m4 σ 132 n1 n2 n3 n4) 130 = mm σ0 130 := by rw [g130.2, f130.2]
  have kb : mOk (m4 σ 132 n1 n2 n3 n4) 130 := g130.1.mpr (f130.1.mpr ob)
  rw [er] at tot
  have hlt10 : mm (m4 σ 132 n1 n2 n3 n4) 132 / mm σ0 130 < 10 := by
    rw [Int.ediv_lt_iff_lt_mul hpos, tot]
    omega
  have hge0 : 0 ≤ mm (m4 σ 132 n1 n2 n3 n4) 132 / mm σ0 130 := Int.ediv_nonneg (by rw [tot]; omega) (by omega)
  obtain ⟨σ2, i1, i2, i3, i4⟩ := md_divides_b127_s (x1 := s) (x2 := k) (x3 := p) (mm (m4 σ 132 n1 n2 n3 n4) 132 / mm σ0 130).toNat (m4 σ 132 n1 n2 n3 n4) 0 ok kb (by rw [vb]; exact hpos) (by rw [vb]; omega) (by omega) (by omega)
  rw [i1]
  have nn : (0 : Int) + ((mm (m4 σ 132 n1 n2 n3 n4) 132 / mm σ0 130).toNat : Int) = mm (m4 σ 132 n1 n2 n3 n4) 132 / mm σ0 130 := by omega
  rw [nn]
  have h130 := mOk_c (σ := m4 σ 132 n1 n2 n3 n4) (σ' := σ2) (c := 130) (fun k => i2 _ _ (by decide))
  rw [md_divides_b127_e, if_neg (by decide), md_compareSizes_s k132 k130 i3 (h130.1.mpr kb), if_pos (by rw [i4, h130.2, vb]; exact Int.emod_lt_of_pos _ hpos)]
  simp only [Option.bind_some, show ((-1 : Int) < 0) by decide, if_true, hb, and_self, show ¬ ((10 : Int) = 0) by decide, if_false]
  have split : mm σ0 129 / 10 ^ N = mm (m4 σ 132 n1 n2 n3 n4) 132 + mm σ0 130 * (10 * (mm σ0 129 / 10 ^ (N + 1) / mm σ0 130)) := by
    rw [tot, Int.mul_left_comm]
    omega
  refine ⟨σ2, mm (m4 σ 132 n1 n2 n3 n4) 132 / mm σ0 130, ?_, by omega, fun b j hb => (i2 b j hb).trans (m4_c hb), i3, ?_, ?_⟩
  · rw [i2 131 k (by decide), m4_c (by decide)]
  · rw [i4, vb]
    conv => rhs; rw [split]
    rw [Int.add_mul_emod_self_left]
  · conv => lhs; rw [split]
    rw [Int.add_mul_ediv_left _ _ (by omega)]
end MQ
