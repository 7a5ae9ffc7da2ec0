/-! great numbers of the model: products, longs -/
section MP
variable {σ : gM}
theorem md_multiplies_b30_s {i j j' k k1 i1 : Int} (h0 : 0 ≤ j) (h4 : j < 4) (hj : j + 1 = j') (i0 : 0 ≤ i) (i4 : i < 4) (hk : i + j = k) (hk1 : k + 1 = k1) (hi1 : i + 1 = i1) (la : 0 ≤ σ 129 i1 ∧ σ 129 i1 < 1000000000) (lb : 0 ≤ σ 130 j' ∧ σ 130 j' < 1000000000) (lw : 0 ≤ σ 133 k ∧ σ 133 k ≤ 3000000000) (lw1 : 0 ≤ σ 133 k1 ∧ σ 133 k1 ≤ 1000000002) :
    md_multiplies_b30 σ i j = md_multiplies_b30 (gW (gW σ 133 k ((σ 133 k + σ 129 i1 * σ 130 j') % 1000000000)) 133 k1 (σ 133 k1 + (σ 133 k + σ 129 i1 * σ 130 j') / 1000000000)) i j' := by
  have mb := mulB la lb
  rw [md_multiplies_b30_e, if_pos h4, w32_e (x := i + j) (by omega) (by omega), w32_e (x := i + 1) (by omega) (by omega), w32_e (x := j + 1) (by omega) (by omega), hk, hj, hi1, w32_e (x := k + 1) (by omega) (by omega), hk1]
  have b1 : 0 ≤ k ∧ k < 9 := by omega
  have b2 : 0 ≤ i1 ∧ i1 < 5 := by omega
  have b3 : 0 ≤ j' ∧ j' < 5 := by omega
  have b4 : 0 ≤ k1 ∧ k1 < 9 := by omega
  simp only [b1, b2, b3, b4, and_self, if_true, show ¬ ((1000000000 : Int) = 0) by decide, if_false]
  rw [w64_e (x := σ 129 i1 * σ 130 j') (by omega) (by omega), w64_e (x := σ 133 k + σ 129 i1 * σ 130 j') (by omega) (by omega)]
  generalize hv : σ 133 k + σ 129 i1 * σ 130 j' = v
  have hne : k1 ≠ k := by omega
  have hne' : k ≠ k1 := by omega
  simp only [gW_at, gW_i hne, gW_i hne']
  rw [tdv (by omega), tmd (by omega), w64_e (x := v / 1000000000) (by omega) (by omega), w64_e (x := σ 133 k1 + v / 1000000000) (by omega) (by omega)]
  congr 1
  funext c q
  unfold gW
  by_cases hc : c = 133
  · by_cases hq : q = k
    · simp [hc, hq, hne']
    · by_cases hq1 : q = k1
      · simp [hc, hq1, hne]
      · simp [hc, hq, hq1]
  · simp [hc]
theorem md_multiplies_row {i i1 i2 i3 i4 : Int} (h0 : 0 ≤ i) (h4 : i < 4) (e1 : i + 1 = i1) (e2 : i + 2 = i2) (e3 : i + 3 = i3) (e4 : i + 4 = i4) (la : 0 ≤ σ 129 i1 ∧ σ 129 i1 < 1000000000) (ob : mOk σ 130)
    (l0 : 0 ≤ σ 133 i ∧ σ 133 i < 1000000000) (l1 : 0 ≤ σ 133 i1 ∧ σ 133 i1 < 1000000000) (l2 : 0 ≤ σ 133 i2 ∧ σ 133 i2 < 1000000000) (l3 : 0 ≤ σ 133 i3 ∧ σ 133 i3 ≤ 1000000002) (l4 : σ 133 i4 = 0) :
    ∃ n0 n1 n2 n3 n4 S, md_multiplies_b30 σ i 0 = md_multiplies_b23 S i1 ∧ (∀ c k, c ≠ 133 → S c k = σ c k) ∧ (∀ k, k ≠ i → k ≠ i1 → k ≠ i2 → k ≠ i3 → k ≠ i4 → S 133 k = σ 133 k) ∧ (S 133 i = n0 ∧ S 133 i1 = n1 ∧ S 133 i2 = n2 ∧ S 133 i3 = n3 ∧ S 133 i4 = n4) ∧
      ((0 ≤ n0 ∧ n0 < 1000000000) ∧ (0 ≤ n1 ∧ n1 < 1000000000) ∧ (0 ≤ n2 ∧ n2 < 1000000000) ∧ (0 ≤ n3 ∧ n3 < 1000000000) ∧ (0 ≤ n4 ∧ n4 ≤ 1000000002)) ∧
      n0 + 1000000000 * n1 + 1000000000000000000 * n2 + 1000000000000000000000000000 * n3 + 1000000000000000000000000000000000000 * n4 = σ 133 i + 1000000000 * σ 133 i1 + 1000000000000000000 * σ 133 i2 + 1000000000000000000000000000 * σ 133 i3 + σ 129 i1 * mm σ 130 := by
  obtain ⟨b0, b1, b2, b3⟩ := ob
  have m0 := mulB la b0
  have m1 := mulB la b1
  have m2 := mulB la b2
  have m3 := mulB la b3
  have hma : σ 129 i1 * mm σ 130 = σ 129 i1 * σ 130 1 + 1000000000 * (σ 129 i1 * σ 130 2) + 1000000000000000000 * (σ 129 i1 * σ 130 3) + 1000000000000000000000000000 * (σ 129 i1 * σ 130 4) := by
    unfold mm
    simp only [Int.mul_add, Int.mul_left_comm]
  rw [hma]
  have n129 : (129 : Int) ≠ 133 := by decide
  have n130 : (130 : Int) ≠ 133 := by decide
  -- first
  rw [md_multiplies_b30_s (j' := 1) (k := i) (k1 := i1) (i1 := i1) (by omega) (by omega) rfl h0 h4 (by omega) e1 e1 la b0 (by omega) (by omega)]
  generalize hS : gW (gW σ 133 i ((σ 133 i + σ 129 i1 * σ 130 1) % 1000000000)) 133 i1 (σ 133 i1 + (σ 133 i + σ 129 i1 * σ 130 1) / 1000000000) = S1
  have f1 : ∀ c k, c ≠ 133 → S1 c k = σ c k := by intro c k h; rw [← hS, gW_c h, gW_c h]
  have g1 : ∀ k, k ≠ i → k ≠ i1 → S1 133 k = σ 133 k := by intro k h h2; rw [← hS, gW_i h2, gW_i h]
  have v1 : S1 133 i = (σ 133 i + σ 129 i1 * σ 130 1) % 1000000000 ∧ S1 133 i1 = σ 133 i1 + (σ 133 i + σ 129 i1 * σ 130 1) / 1000000000 := by
    rw [← hS]; exact ⟨by rw [gW_i (by omega), gW_at], by rw [gW_at]⟩
  clear hS
  rw [md_multiplies_b30_s (σ := S1) (j' := 2) (k := i1) (k1 := i2) (i1 := i1) (by omega) (by omega) rfl h0 h4 (by omega) (by omega) e1 (by rw [f1 _ _ n129]; exact la) (by rw [f1 _ _ n130]; exact b1) (by rw [v1.2]; omega) (by rw [g1 _ (by omega) (by omega)]; omega)]
  rw [f1 _ _ n129, f1 _ _ n130, g1 i2 (by omega) (by omega), v1.2]
  generalize hS : gW (gW S1 133 i1 ((σ 133 i1 + (σ 133 i + σ 129 i1 * σ 130 1) / 1000000000 + σ 129 i1 * σ 130 2) % 1000000000)) 133 i2 (σ 133 i2 + (σ 133 i1 + (σ 133 i + σ 129 i1 * σ 130 1) / 1000000000 + σ 129 i1 * σ 130 2) / 1000000000) = S2
  have f2 : ∀ c k, c ≠ 133 → S2 c k = σ c k := by intro c k h; rw [← hS, gW_c h, gW_c h]; exact f1 c k h
  have g2 : ∀ k, k ≠ i1 → k ≠ i2 → S2 133 k = S1 133 k := by intro k h h2; rw [← hS, gW_i h2, gW_i h]
  have v2 : S2 133 i1 = (σ 133 i1 + (σ 133 i + σ 129 i1 * σ 130 1) / 1000000000 + σ 129 i1 * σ 130 2) % 1000000000 ∧ S2 133 i2 = σ 133 i2 + (σ 133 i1 + (σ 133 i + σ 129 i1 * σ 130 1) / 1000000000 + σ 129 i1 * σ 130 2) / 1000000000 := by
    rw [← hS]; exact ⟨by rw [gW_i (by omega), gW_at], by rw [gW_at]⟩
  clear hS
  rw [md_multiplies_b30_s (σ := S2) (j' := 3) (k := i2) (k1 := i3) (i1 := i1) (by omega) (by omega) rfl h0 h4 (by omega) (by omega) e1 (by rw [f2 _ _ n129]; exact la) (by rw [f2 _ _ n130]; exact b2) (by rw [v2.2]; omega) (by rw [g2 _ (by omega) (by omega), g1 _ (by omega) (by omega)]; omega)]
  rw [f2 _ _ n129, f2 _ _ n130, g2 i3 (by omega) (by omega), g1 i3 (by omega) (by omega), v2.2]
  generalize hq2 : σ 133 i2 + (σ 133 i1 + (σ 133 i + σ 129 i1 * σ 130 1) / 1000000000 + σ 129 i1 * σ 130 2) / 1000000000 = t2 at v2 ⊢
  generalize hS : gW (gW S2 133 i2 ((t2 + σ 129 i1 * σ 130 3) % 1000000000)) 133 i3 (σ 133 i3 + (t2 + σ 129 i1 * σ 130 3) / 1000000000) = S3
  have f3 : ∀ c k, c ≠ 133 → S3 c k = σ c k := by intro c k h; rw [← hS, gW_c h, gW_c h]; exact f2 c k h
  have g3 : ∀ k, k ≠ i2 → k ≠ i3 → S3 133 k = S2 133 k := by intro k h h2; rw [← hS, gW_i h2, gW_i h]
  have v3 : S3 133 i2 = (t2 + σ 129 i1 * σ 130 3) % 1000000000 ∧ S3 133 i3 = σ 133 i3 + (t2 + σ 129 i1 * σ 130 3) / 1000000000 := by
    rw [← hS]; exact ⟨by rw [gW_i (by omega), gW_at], by rw [gW_at]⟩
  clear hS
  have t2b : 0 ≤ t2 ∧ t2 ≤ 3000000000 := by omega
  rw [md_multiplies_b30_s (σ := S3) (j' := 4) (k := i3) (k1 := i4) (i1 := i1) (by omega) (by omega) rfl h0 h4 (by omega) (by omega) e1 (by rw [f3 _ _ n129]; exact la) (by rw [f3 _ _ n130]; exact b3) (by rw [v3.2]; omega) (by rw [g3 _ (by omega) (by omega), g2 _ (by omega) (by omega), g1 _ (by omega) (by omega)]; omega)]
  rw [f3 _ _ n129, f3 _ _ n130, g3 i4 (by omega) (by omega), g2 i4 (by omega) (by omega), g1 i4 (by omega) (by omega), v3.2, l4]
  generalize hq3 : σ 133 i3 + (t2 + σ 129 i1 * σ 130 3) / 1000000000 = t3 at v3 ⊢
  generalize hS : gW (gW S3 133 i3 ((t3 + σ 129 i1 * σ 130 4) % 1000000000)) 133 i4 (0 + (t3 + σ 129 i1 * σ 130 4) / 1000000000) = S4
  have f4 : ∀ c k, c ≠ 133 → S4 c k = σ c k := by intro c k h; rw [← hS, gW_c h, gW_c h]; exact f3 c k h
  have g4 : ∀ k, k ≠ i3 → k ≠ i4 → S4 133 k = S3 133 k := by intro k h h2; rw [← hS, gW_i h2, gW_i h]
  have v4 : S4 133 i3 = (t3 + σ 129 i1 * σ 130 4) % 1000000000 ∧ S4 133 i4 = 0 + (t3 + σ 129 i1 * σ 130 4) / 1000000000 := by
    rw [← hS]; exact ⟨by rw [gW_i (by omega), gW_at], by rw [gW_at]⟩
  clear hS
  rw [md_multiplies_b30_e, if_neg (by decide), w32_e (by omega) (by omega), e1]
  refine ⟨_, _, _, _, _, S4, rfl, f4, ?_, ⟨rfl, rfl, rfl, rfl, rfl⟩, ?_, ?_⟩
  · intro k a b c d e
    rw [g4 k d e, g3 k c d, g2 k b c, g1 k a b]
  · rw [g4 i (by omega) (by omega), g3 i (by omega) (by omega), g2 i (by omega) (by omega), g4 i1 (by omega) (by omega), g3 i1 (by omega) (by omega), g4 i2 (by omega) (by omega), v1.1, v2.1, v3.1, v4.1, v4.2]
    refine ⟨?_, ?_, ?_, ?_, ?_⟩ <;> omega
  · rw [g4 i (by omega) (by omega), g3 i (by omega) (by omega), g2 i (by omega) (by omega), g4 i1 (by omega) (by omega), g3 i1 (by omega) (by omega), g4 i2 (by omega) (by omega), v1.1, v2.1, v3.1, v4.1, v4.2]
    omega
theorem md_multiplies_b2_s {k k' : Int} (h0 : 0 ≤ k) (h4 : k < 9) (hk : k + 1 = k') : md_multiplies_b2 σ k = md_multiplies_b2 (gW σ 133 k 0) k' := by
  rw [md_multiplies_b2_e, w32_e (by omega) (by omega), hk]
  simp only [h0, h4, and_self, if_true]
theorem md_multiplies_b118_s {k k' : Int} (h0 : 0 ≤ k) (h4 : k < 8) (hk : k + 1 = k') (l0 : 0 ≤ σ 133 k ∧ σ 133 k ≤ 3000000000) (l1 : 0 ≤ σ 133 k' ∧ σ 133 k' ≤ 2000000000) : md_multiplies_b118 σ k = md_multiplies_b118 (gW (gW σ 133 k' (σ 133 k' + σ 133 k / 1000000000)) 133 k (σ 133 k % 1000000000)) k' := by
  rw [md_multiplies_b118_e, if_pos h4, w32_e (x := k + 1) (by omega) (by omega), hk]
  have b1 : 0 ≤ k ∧ k < 9 := by omega
  have b2 : 0 ≤ k' ∧ k' < 9 := by omega
  simp only [b1, b2, and_self, if_true, show ¬ ((1000000000 : Int) = 0) by decide, if_false]
  rw [tdv (by omega), w64_e (x := σ 133 k / 1000000000) (by omega) (by omega), w64_e (by omega) (by omega), gW_i (by omega), tmd (by omega)]
theorem md_multiplies_b118_t {k k' : Int} (h0 : 0 ≤ k) (h4 : k < 8) (hk : k + 1 = k') (l0 : 0 ≤ σ 133 k ∧ σ 133 k < 1000000000) (l1 : 0 ≤ σ 133 k' ∧ σ 133 k' ≤ 2000000000) : md_multiplies_b118 σ k = md_multiplies_b118 σ k' := by
  rw [md_multiplies_b118_s h0 h4 hk (by omega) l1, show σ 133 k / 1000000000 = 0 by omega, show σ 133 k % 1000000000 = σ 133 k by omega, Int.add_zero, gW_id, gW_id]
theorem md_multiplies_b165_s {k k' : Int} (h0 : 0 ≤ k) (h4 : k < 4) (hk : k + 1 = k') (l0 : 0 ≤ σ 133 k ∧ σ 133 k < 1000000000) : md_multiplies_b165 σ k = md_multiplies_b165 (gW σ 131 k' (σ 133 k)) k' := by
  rw [md_multiplies_b165_e, if_pos h4, w32_e (x := k + 1) (by omega) (by omega), hk]
  have b1 : 0 ≤ k ∧ k < 9 := by omega
  have b2 : 0 ≤ k' ∧ k' < 5 := by omega
  simp only [b1, b2, and_self, if_true]
  rw [w32_e (by omega) (by omega)]
theorem md_multiplies_s {x y : Int} (ha : mIs σ 129 x) (hb : mIs σ 130 y) : ∃ σ' r, md_multiplies σ = some (σ', r) ∧ (∀ b k, b ≠ 131 → b ≠ 133 → σ' b k = σ b k) ∧
    (-1000000000000000000000000000000000000 < x * y → x * y < 1000000000000000000000000000000000000 → r = 1 ∧ mIs σ' 131 (x * y)) ∧ (x * y ≤ -1000000000000000000000000000000000000 ∨ 1000000000000000000000000000000000000 ≤ x * y → r = 0) := by
  obtain ⟨oa, ha⟩ := ha
  obtain ⟨ob, hb⟩ := hb
  have ra := mm_rng oa
  have rb := mm_rng ob
  obtain ⟨a0, a1, a2, a3⟩ := oa
  have n129 : (129 : Int) ≠ 133 := by decide
  have n130 : (130 : Int) ≠ 133 := by decide
  rw [md_multiplies_e, md_multiplies_b2_s (k' := 1) (by omega) (by omega) rfl, md_multiplies_b2_s (k' := 2) (by omega) (by omega) rfl, md_multiplies_b2_s (k' := 3) (by omega) (by omega) rfl, md_multiplies_b2_s (k' := 4) (by omega) (by omega) rfl,
    md_multiplies_b2_s (k' := 5) (by omega) (by omega) rfl, md_multiplies_b2_s (k' := 6) (by omega) (by omega) rfl, md_multiplies_b2_s (k' := 7) (by omega) (by omega) rfl, md_multiplies_b2_s (k' := 8) (by omega) (by omega) rfl, md_multiplies_b2_s (k' := 9) (by omega) (by omega) rfl, md_multiplies_b2_e, if_neg (by decide)]
  generalize hS : gW (gW (gW (gW (gW (gW (gW (gW (gW σ 133 0 0) 133 1 0) 133 2 0) 133 3 0) 133 4 0) 133 5 0) 133 6 0) 133 7 0) 133 8 0 = S0
  have f0 : ∀ c k, c ≠ 133 → S0 c k = σ c k := by intro c k hc; rw [← hS]; simp only [gW_c hc]
  have v0 : S0 133 0 = 0 ∧ S0 133 1 = 0 ∧ S0 133 2 = 0 ∧ S0 133 3 = 0 ∧ S0 133 4 = 0 ∧ S0 133 5 = 0 ∧ S0 133 6 = 0 ∧ S0 133 7 = 0 ∧ S0 133 8 = 0 := by
    rw [← hS]; simp [gW_if]
  clear hS
  have okb : ∀ S : gM, (∀ c k, c ≠ 133 → S c k = σ c k) → mOk S 130 ∧ mm S 130 = mm σ 130 := by
    intro S h
    have j := mOk_c (σ := σ) (σ' := S) (c := 130) (fun k => h _ _ n130)
    exact ⟨j.1.mpr ob, j.2⟩
  rw [md_multiplies_b23_e, if_pos (by decide)]
  obtain ⟨n0, n1, n2, n3, n4, S1, e, p1, q1, v1, bn, t0⟩ := md_multiplies_row (σ := S0) (i := 0) (i1 := 1) (i2 := 2) (i3 := 3) (i4 := 4) (by omega) (by omega) rfl rfl rfl rfl (by rw [f0 _ _ n129]; exact a0) (okb S0 f0).1 (by omega) (by omega) (by omega) (by omega) (by omega)
  rw [e]
  rw [(okb S0 f0).2, f0 _ _ n129] at t0
  clear e
  have f1 : ∀ c k, c ≠ 133 → S1 c k = σ c k := fun c k h => (p1 c k h).trans (f0 c k h)
  have w1 : S1 133 5 = 0 ∧ S1 133 6 = 0 ∧ S1 133 7 = 0 ∧ S1 133 8 = 0 := ⟨(q1 5 (by decide) (by decide) (by decide) (by decide) (by decide)).trans v0.2.2.2.2.2.1, (q1 6 (by decide) (by decide) (by decide) (by decide) (by decide)).trans v0.2.2.2.2.2.2.1, (q1 7 (by decide) (by decide) (by decide) (by decide) (by decide)).trans v0.2.2.2.2.2.2.2.1, (q1 8 (by decide) (by decide) (by decide) (by decide) (by decide)).trans v0.2.2.2.2.2.2.2.2⟩
  rw [md_multiplies_b23_e, if_pos (by decide)]
  obtain ⟨m1, m2, m3, m4', m5, S2, e, p2, q2, v2, bm, t1⟩ := md_multiplies_row (σ := S1) (i := 1) (i1 := 2) (i2 := 3) (i3 := 4) (i4 := 5) (by omega) (by omega) rfl rfl rfl rfl (by rw [f1 _ _ n129]; exact a1) (okb S1 f1).1 (by omega) (by omega) (by omega) (by omega) (by omega)
  rw [e]
  rw [(okb S1 f1).2, f1 _ _ n129] at t1
  clear e
  have f2 : ∀ c k, c ≠ 133 → S2 c k = σ c k := fun c k h => (p2 c k h).trans (f1 c k h)
  have w2 : S2 133 0 = n0 ∧ S2 133 6 = 0 ∧ S2 133 7 = 0 ∧ S2 133 8 = 0 := ⟨(q2 0 (by decide) (by decide) (by decide) (by decide) (by decide)).trans v1.1, (q2 6 (by decide) (by decide) (by decide) (by decide) (by decide)).trans w1.2.1, (q2 7 (by decide) (by decide) (by decide) (by decide) (by decide)).trans w1.2.2.1, (q2 8 (by decide) (by decide) (by decide) (by decide) (by decide)).trans w1.2.2.2⟩
  rw [md_multiplies_b23_e, if_pos (by decide)]
  obtain ⟨r2, r3, r4, r5, r6, S3, e, p3, q3, v3, br, t2⟩ := md_multiplies_row (σ := S2) (i := 2) (i1 := 3) (i2 := 4) (i3 := 5) (i4 := 6) (by omega) (by omega) rfl rfl rfl rfl (by rw [f2 _ _ n129]; exact a2) (okb S2 f2).1 (by omega) (by omega) (by omega) (by omega) (by omega)
  rw [e]
  rw [(okb S2 f2).2, f2 _ _ n129] at t2
  clear e
  have f3 : ∀ c k, c ≠ 133 → S3 c k = σ c k := fun c k h => (p3 c k h).trans (f2 c k h)
  have w3 : S3 133 0 = n0 ∧ S3 133 1 = m1 ∧ S3 133 7 = 0 ∧ S3 133 8 = 0 := ⟨(q3 0 (by decide) (by decide) (by decide) (by decide) (by decide)).trans w2.1, (q3 1 (by decide) (by decide) (by decide) (by decide) (by decide)).trans v2.1, (q3 7 (by decide) (by decide) (by decide) (by decide) (by decide)).trans w2.2.2.1, (q3 8 (by decide) (by decide) (by decide) (by decide) (by decide)).trans w2.2.2.2⟩
  rw [md_multiplies_b23_e, if_pos (by decide)]
  obtain ⟨s3, s4, s5, s6, s7, S4, e, p4, q4, v4, bs, t3⟩ := md_multiplies_row (σ := S3) (i := 3) (i1 := 4) (i2 := 5) (i3 := 6) (i4 := 7) (by omega) (by omega) rfl rfl rfl rfl (by rw [f3 _ _ n129]; exact a3) (okb S3 f3).1 (by omega) (by omega) (by omega) (by omega) (by omega)
  rw [e]
  rw [(okb S3 f3).2, f3 _ _ n129] at t3
  clear e
  have f4 : ∀ c k, c ≠ 133 → S4 c k = σ c k := fun c k h => (p4 c k h).trans (f3 c k h)
  have w4' : S4 133 0 = n0 ∧ S4 133 1 = m1 ∧ S4 133 2 = r2 ∧ S4 133 8 = 0 := ⟨(q4 0 (by decide) (by decide) (by decide) (by decide) (by decide)).trans w3.1, (q4 1 (by decide) (by decide) (by decide) (by decide) (by decide)).trans w3.2.1, (q4 2 (by decide) (by decide) (by decide) (by decide) (by decide)).trans v3.1, (q4 8 (by decide) (by decide) (by decide) (by decide) (by decide)).trans w3.2.2.2⟩
  rw [v0.1, v0.2.1, v0.2.2.1, v0.2.2.2.1] at t0
  rw [v1.2.1, v1.2.2.1, v1.2.2.2.1, v1.2.2.2.2] at t1
  rw [v2.2.1, v2.2.2.1, v2.2.2.2.1, v2.2.2.2.2] at t2
  rw [v3.2.1, v3.2.2.1, v3.2.2.2.1, v3.2.2.2.2] at t3
  have tot : n0 + 1000000000 * m1 + 1000000000000000000 * r2 + 1000000000000000000000000000 * s3 + 1000000000000000000000000000000000000 * (s4 + 1000000000 * s5 + 1000000000000000000 * s6 + 1000000000000000000000000000 * s7) = mm σ 129 * mm σ 130 := by
    have : mm σ 129 * mm σ 130 = σ 129 1 * mm σ 130 + 1000000000 * (σ 129 2 * mm σ 130) + 1000000000000000000 * (σ 129 3 * mm σ 130) + 1000000000000000000000000000 * (σ 129 4 * mm σ 130) := by
      conv => lhs; lhs; unfold mm
      simp only [Int.add_mul, Int.mul_assoc]
    rw [this]
    generalize σ 129 1 * mm σ 130 = A0 at *
    generalize σ 129 2 * mm σ 130 = A1 at *
    generalize σ 129 3 * mm σ 130 = A2 at *
    generalize σ 129 4 * mm σ 130 = A3 at *
    clear v0 v1 v2 v3 v4 w1 w2 w3 w4' bn bm br bs a0 a1 a2 a3 ha hb ra rb
    omega
  clear t0 t1 t2 t3 v0 v1 v2 v3 w1 w2 w3 p1 p2 p3 p4 q1 q2 q3 q4 f0 f1 f2 f3
  rw [md_multiplies_b23_e, if_neg (by decide)]
  -- the carries of the last pass: only the place 7 may be great
  rw [md_multiplies_b118_t (σ := S4) (k' := 1) (by omega) (by omega) rfl (by omega) (by omega), md_multiplies_b118_t (σ := S4) (k' := 2) (by omega) (by omega) rfl (by omega) (by omega), md_multiplies_b118_t (σ := S4) (k' := 3) (by omega) (by omega) rfl (by omega) (by omega), md_multiplies_b118_t (σ := S4) (k' := 4) (by omega) (by omega) rfl (by omega) (by omega),
    md_multiplies_b118_t (σ := S4) (k' := 5) (by omega) (by omega) rfl (by omega) (by omega), md_multiplies_b118_t (σ := S4) (k' := 6) (by omega) (by omega) rfl (by omega) (by omega), md_multiplies_b118_t (σ := S4) (k' := 7) (by omega) (by omega) rfl (by omega) (by omega), md_multiplies_b118_s (σ := S4) (k' := 8) (by omega) (by omega) rfl (by omega) (by omega), md_multiplies_b118_e, if_neg (by decide)]
  generalize hS : gW (gW S4 133 8 (S4 133 8 + S4 133 7 / 1000000000)) 133 7 (S4 133 7 % 1000000000) = S5
  have f5 : ∀ c k, c ≠ 133 → S5 c k = σ c k := by intro c k h; rw [← hS, gW_c h, gW_c h]; exact f4 c k h
  have g5 : ∀ k, k ≠ 8 → k ≠ 7 → S5 133 k = S4 133 k := by intro k h h2; rw [← hS, gW_i h2, gW_i h]
  have v5 : S5 133 7 = s7 % 1000000000 ∧ S5 133 8 = s7 / 1000000000 := by
    rw [← hS]; exact ⟨by rw [gW_at, v4.2.2.2.2], by rw [gW_i (by decide), gW_at, w4'.2.2.2, v4.2.2.2.2]; omega⟩
  have u5 : S5 133 0 = n0 ∧ S5 133 1 = m1 ∧ S5 133 2 = r2 ∧ S5 133 3 = s3 ∧ S5 133 4 = s4 ∧ S5 133 5 = s5 ∧ S5 133 6 = s6 := by
    rw [g5 0 (by decide) (by decide), g5 1 (by decide) (by decide), g5 2 (by decide) (by decide), g5 3 (by decide) (by decide), g5 4 (by decide) (by decide), g5 5 (by decide) (by decide), g5 6 (by decide) (by decide)]
    exact ⟨w4'.1, w4'.2.1, w4'.2.2.1, v4.1, v4.2.1, v4.2.2.1, v4.2.2.2.1⟩
  clear hS g5 w4' v4
  have n131 : (133 : Int) ≠ 131 := by decide
  rw [md_multiplies_b165_s (σ := S5) (k' := 1) (by omega) (by omega) rfl (by omega), md_multiplies_b165_s (k' := 2) (by omega) (by omega) rfl (by rw [gW_c n131]; omega), md_multiplies_b165_s (k' := 3) (by omega) (by omega) rfl (by rw [gW_c n131, gW_c n131]; omega), md_multiplies_b165_s (k' := 4) (by omega) (by omega) rfl (by rw [gW_c n131, gW_c n131, gW_c n131]; omega)]
  simp only [gW_c n131]
  rw [u5.1, u5.2.1, u5.2.2.1, u5.2.2.2.1, md_multiplies_b165_e, if_neg (by decide)]
  rw [show gW (gW (gW (gW S5 131 1 n0) 131 2 m1) 131 3 r2) 131 4 s3 = m4 S5 131 n0 m1 r2 s3 from rfl]
  simp only [m4_c n131, m4_c (show (129 : Int) ≠ 131 by decide), m4_c (show (130 : Int) ≠ 131 by decide), f5 _ _ n129, f5 _ _ n130, u5, v5, show (0 : Int) ≤ 0 ∧ (0 : Int) < 5 by decide, show (0 : Int) ≤ 4 ∧ (4 : Int) < 9 by decide, show (0 : Int) ≤ 5 ∧ (5 : Int) < 9 by decide, show (0 : Int) ≤ 6 ∧ (6 : Int) < 9 by decide, show (0 : Int) ≤ 7 ∧ (7 : Int) < 9 by decide, show (0 : Int) ≤ 8 ∧ (8 : Int) < 9 by decide, and_self, if_true, l_cmp_0]
  have z : l_or (l_or (l_or (l_or s4 s5) s6) (s7 % 1000000000)) (s7 / 1000000000) = 0 ↔ (s4 = 0 ∧ s5 = 0 ∧ s6 = 0 ∧ s7 = 0) := by
    rw [l_or_0 (l_or_i _ _) (by unfold i64; omega), l_or_0 (l_or_i _ _) (by unfold i64; omega), l_or_0 (l_or_i _ _) (by unfold i64; omega), l_or_0 (by unfold i64; omega) (by unfold i64; omega)]
    omega
  have w5 := m4_ok (σ := S5) (c := 131) bn.1 (n2 := m1) (n3 := r2) (n4 := s3) (by omega) (by omega) (by omega)
  have frf : ∀ s, ∀ b k, b ≠ 131 → b ≠ 133 → gW (m4 S5 131 n0 m1 r2 s3) 131 0 s b k = σ b k := by
    intro s b k h1 h2
    rw [gW_c h1, m4_c h1]
    exact f5 b k h2
  obtain ⟨s, hs, hxy⟩ : ∃ s, i_xor (σ 129 0) (σ 130 0) = s ∧ ((s = 1 ∧ mm σ 129 * mm σ 130 = -(x * y)) ∨ (s = 0 ∧ mm σ 129 * mm σ 130 = x * y)) := by
    refine ⟨_, rfl, ?_⟩
    rcases ha with ⟨k1, k2⟩ | ⟨k1, k2⟩ <;> rcases hb with ⟨l1, l2⟩ | ⟨l1, l2⟩ <;> rw [k1, l1, k2, l2]
    · right; exact ⟨rfl, by rw [Int.neg_mul_neg]⟩
    · left; exact ⟨rfl, by rw [Int.neg_mul]⟩
    · left; exact ⟨rfl, by rw [Int.mul_neg]⟩
    · right; exact ⟨rfl, rfl⟩
  have pos : 0 ≤ mm σ 129 * mm σ 130 := Int.mul_nonneg ra.1 rb.1
  rw [hs]
  have j := mOk_s (σ := m4 S5 131 n0 m1 r2 s3) (c := 131) (s := s)
  generalize mm σ 129 * mm σ 130 = P at *
  generalize x * y = X at *
  clear ha hb hs
  by_cases hz : s4 = 0 ∧ s5 = 0 ∧ s6 = 0 ∧ s7 = 0
  · rw [if_pos (z.mpr hz)]
    refine ⟨_, _, rfl, frf _, fun _ _ => ⟨rfl, j.1.mpr w5.1, ?_⟩, fun h => ?_⟩
    · rw [j.2, w5.2, gW_at]
      omega
    · omega
  · rw [if_neg (fun q => hz (z.mp q))]
    refine ⟨_, _, rfl, frf _, fun _ _ => ?_, fun h => rfl⟩
    omega
end MP
section ML
variable {σ : gM}
theorem md_fitsLong_s {x : Int} (hx : mIs σ 131 x) : ∃ r, md_fitsLong σ = some (σ, r) ∧ (i64 x → r = 1) ∧ (¬ i64 x → r = 0) := by
  obtain ⟨⟨a0, a1, a2, a3⟩, hx⟩ := hx
  rw [md_fitsLong_e]
  simp only [show (0 : Int) ≤ 0 ∧ (0 : Int) < 5 by decide, show (0 : Int) ≤ 1 ∧ (1 : Int) < 5 by decide, show (0 : Int) ≤ 2 ∧ (2 : Int) < 5 by decide, show (0 : Int) ≤ 3 ∧ (3 : Int) < 5 by decide, show (0 : Int) ≤ 4 ∧ (4 : Int) < 5 by decide, and_self, if_true, md_fitsLong_b81_e, l_cmp_0, l_cmp_lt]
  rw [w64_e (x := σ 131 2 * 1000000000) (by omega) (by omega), w64_e (x := σ 131 2 * 1000000000 + σ 131 1) (by omega) (by omega)]
  unfold mm at hx
  unfold i64
  by_cases h4 : 0 < σ 131 4
  · rw [if_pos h4]
    exact ⟨_, rfl, fun h => by omega, fun _ => rfl⟩
  · rw [if_neg h4]
    by_cases h3 : 9 < σ 131 3
    · rw [if_pos h3]
      exact ⟨_, rfl, fun h => by omega, fun _ => rfl⟩
    · rw [if_neg h3]
      by_cases h9 : σ 131 3 < 9
      · rw [if_pos h9]
        exact ⟨_, rfl, fun _ => rfl, fun h => by omega⟩
      · rw [if_neg h9]
        by_cases hl : σ 131 2 * 1000000000 + σ 131 1 < 223372036854775808
        · rw [if_pos hl]
          exact ⟨_, rfl, fun _ => rfl, fun h => by omega⟩
        · rw [if_neg hl]
          by_cases he : σ 131 2 * 1000000000 + σ 131 1 = 223372036854775808
          · rw [if_pos he]
            by_cases hs : σ 131 0 = 1
            · rw [if_pos hs]
              exact ⟨_, rfl, fun _ => rfl, fun h => by omega⟩
            · rw [if_neg hs]
              exact ⟨_, rfl, fun h => by omega, fun _ => rfl⟩
          · rw [if_neg he]
            exact ⟨_, rfl, fun h => by omega, fun _ => rfl⟩
theorem md_asLong_s {x : Int} (hx : mIs σ 131 x) (hi : i64 x) : md_asLong σ = some (σ, x) := by
  obtain ⟨⟨a0, a1, a2, a3⟩, hx⟩ := hx
  rw [md_asLong_e]
  unfold mm at hx
  unfold i64 at hi
  simp only [show (0 : Int) ≤ 0 ∧ (0 : Int) < 5 by decide, show (0 : Int) ≤ 1 ∧ (1 : Int) < 5 by decide, show (0 : Int) ≤ 2 ∧ (2 : Int) < 5 by decide, show (0 : Int) ≤ 3 ∧ (3 : Int) < 5 by decide, and_self, if_true]
  rw [w64_e (x := σ 131 2 * 1000000000) (by omega) (by omega), w64_e (x := σ 131 2 * 1000000000 + σ 131 1) (by omega) (by omega), w64_e (x := -(σ 131 2 * 1000000000 + σ 131 1)) (by omega) (by omega), w64_e (x := σ 131 3 * 1000000000000000000) (by omega) (by omega), w64_e (x := -(σ 131 2 * 1000000000 + σ 131 1) - σ 131 3 * 1000000000000000000) (by omega) (by omega)]
  rcases hx with ⟨p1, p2⟩ | ⟨p1, p2⟩
  · rw [if_pos p1]
    congr 2
    omega
  · rw [if_neg (by omega), w64_e (by omega) (by omega)]
    congr 2
    omega
end ML
section MD
variable {σ : gM}
theorem md_divides_b152_s {x1 x2 x3 x4 x5 c k k' : Int} (h0 : 1 ≤ k) (h4 : k < 5) (hk : k + 1 = k') (la : 0 ≤ σ 132 k ∧ σ 132 k < 1000000000) (lb : 0 ≤ σ 130 k ∧ σ 130 k < 1000000000) (hc : 0 ≤ c ∧ c ≤ 1) :
    md_divides_b152 σ x1 x2 x3 x4 x5 c k = md_divides_b152 (gW σ 132 k ((σ 132 k - σ 130 k - c) % 1000000000)) x1 x2 x3 x4 x5 (if σ 132 k - σ 130 k - c < 0 then 1 else 0) k' := by
  rw [md_divides_b152_e, w32_e (x := σ 132 k - σ 130 k) (by omega) (by omega), w32_e (x := σ 132 k - σ 130 k - c) (by omega) (by omega)]
  have hb : 0 ≤ k ∧ k < 5 := by omega
  simp only [md_divides_b188_e, hb, h4, and_self, if_true]
  rw [w32_e (x := k + 1) (by omega) (by omega), hk]
  by_cases h : σ 132 k - σ 130 k - c < 0
  · rw [if_pos h, if_pos h, w32_e (x := 1 * 1000000000) (by decide) (by decide), w32_e (by omega) (by omega), show σ 132 k - σ 130 k - c + 1 * 1000000000 = (σ 132 k - σ 130 k - c) % 1000000000 by omega]
  · rw [if_neg h, if_neg h, w32_e (x := 0 * 1000000000) (by decide) (by decide), w32_e (by omega) (by omega), show σ 132 k - σ 130 k - c + 0 * 1000000000 = (σ 132 k - σ 130 k - c) % 1000000000 by omega]
/-- the rest less the divisor, once (a rest that passes 36 digits is never met) -/
theorem md_divides_less {x1 x2 x3 x5 : Int} (h5 : 0 ≤ x5 ∧ x5 < 100) (oa : mOk σ 132) (ob : mOk σ 130) (hle : mm σ 130 ≤ mm σ 132) : ∃ n1 n2 n3 n4, md_divides_b152 σ x1 x2 x3 0 x5 0 1 = md_divides_b127 (m4 σ 132 n1 n2 n3 n4) x1 x2 x3 0 (x5 + 1) ∧ mOk (m4 σ 132 n1 n2 n3 n4) 132 ∧ mm (m4 σ 132 n1 n2 n3 n4) 132 = mm σ 132 - mm σ 130 := by
  obtain ⟨a0, a1, a2, a3⟩ := oa
  obtain ⟨b0, b1, b2, b3⟩ := ob
  rw [md_divides_b152_s (k' := 2) (by omega) (by omega) rfl a0 b0 (by omega), md_divides_b152_s (k' := 3) (by omega) (by omega) rfl (by rw [gj21]; exact a1) (by rw [gj21]; exact b1) (by split <;> omega),
    md_divides_b152_s (k' := 4) (by omega) (by omega) rfl (by rw [gj32, gj31]; exact a2) (by rw [gj32, gj31]; exact b2) (by split <;> omega),
    md_divides_b152_s (k' := 5) (by omega) (by omega) rfl (by rw [gj43, gj42, gj41]; exact a3) (by rw [gj43, gj42, gj41]; exact b3) (by split <;> omega), md_divides_b152_e, if_neg (by decide)]
  simp only [gj21, gj31, gj32, gj41, gj42, gj43]
  have key : ∃ n1 n2 n3 n4 c1 c2 c3, (σ 132 1 - σ 130 1 - 0) % 1000000000 = n1 ∧ (if σ 132 1 - σ 130 1 - 0 < 0 then (1 : Int) else 0) = c1 ∧ (σ 132 2 - σ 130 2 - c1) % 1000000000 = n2 ∧ (if σ 132 2 - σ 130 2 - c1 < 0 then (1 : Int) else 0) = c2 ∧ (σ 132 3 - σ 130 3 - c2) % 1000000000 = n3 ∧ (if σ 132 3 - σ 130 3 - c2 < 0 then (1 : Int) else 0) = c3 ∧ (σ 132 4 - σ 130 4 - c3) % 1000000000 = n4 ∧ (if σ 132 4 - σ 130 4 - c3 < 0 then (1 : Int) else 0) = 0 ∧
      ((0 ≤ n1 ∧ n1 < 1000000000) ∧ (0 ≤ n2 ∧ n2 < 1000000000) ∧ (0 ≤ n3 ∧ n3 < 1000000000) ∧ (0 ≤ n4 ∧ n4 < 1000000000)) ∧ n1 + 1000000000 * n2 + 1000000000000000000 * n3 + 1000000000000000000000000000 * n4 = mm σ 132 - mm σ 130 := by
    unfold mm at hle ⊢
    generalize σ 132 1 = x0 at *
    generalize σ 132 2 = x1 at *
    generalize σ 132 3 = x2 at *
    generalize σ 132 4 = x3 at *
    generalize σ 130 1 = y0 at *
    generalize σ 130 2 = y1 at *
    generalize σ 130 3 = y2 at *
    generalize σ 130 4 = y3 at *
    refine ⟨_, _, _, _, _, _, _, rfl, rfl, rfl, rfl, rfl, rfl, rfl, ?_, ⟨⟨Int.emod_nonneg _ (by decide), Int.emod_lt_of_pos _ (by decide)⟩, ⟨Int.emod_nonneg _ (by decide), Int.emod_lt_of_pos _ (by decide)⟩, ⟨Int.emod_nonneg _ (by decide), Int.emod_lt_of_pos _ (by decide)⟩, ⟨Int.emod_nonneg _ (by decide), Int.emod_lt_of_pos _ (by decide)⟩⟩, ?_⟩
    · generalize e0 : (if x0 - y0 - 0 < 0 then (1 : Int) else 0) = c0
      have d0 : 0 ≤ c0 ∧ c0 ≤ 1 ∧ 0 ≤ x0 - y0 + 1000000000 * c0 ∧ x0 - y0 + 1000000000 * c0 < 1000000000 := by split at e0 <;> omega
      generalize e1 : (if x1 - y1 - c0 < 0 then (1 : Int) else 0) = c1
      have d1 : 0 ≤ c1 ∧ c1 ≤ 1 ∧ 0 ≤ x1 - y1 - c0 + 1000000000 * c1 ∧ x1 - y1 - c0 + 1000000000 * c1 < 1000000000 := by split at e1 <;> omega
      generalize e2 : (if x2 - y2 - c1 < 0 then (1 : Int) else 0) = c2
      have d2 : 0 ≤ c2 ∧ c2 ≤ 1 ∧ 0 ≤ x2 - y2 - c1 + 1000000000 * c2 ∧ x2 - y2 - c1 + 1000000000 * c2 < 1000000000 := by split at e2 <;> omega
      clear e0 e1 e2
      rw [if_neg (by omega)]
    · generalize e0 : (if x0 - y0 - 0 < 0 then (1 : Int) else 0) = c0
      have d0 : (x0 - y0 - 0) % 1000000000 = x0 - y0 + 1000000000 * c0 ∧ 0 ≤ c0 ∧ c0 ≤ 1 := by split at e0 <;> omega
      generalize e1 : (if x1 - y1 - c0 < 0 then (1 : Int) else 0) = c1
      have d1 : (x1 - y1 - c0) % 1000000000 = x1 - y1 - c0 + 1000000000 * c1 ∧ 0 ≤ c1 ∧ c1 ≤ 1 := by split at e1 <;> omega
      generalize e2 : (if x2 - y2 - c1 < 0 then (1 : Int) else 0) = c2
      have d2 : (x2 - y2 - c1) % 1000000000 = x2 - y2 - c1 + 1000000000 * c2 ∧ 0 ≤ c2 ∧ c2 ≤ 1 := by split at e2 <;> omega
      have d3 : ∃ c3, (x3 - y3 - c2) % 1000000000 = x3 - y3 - c2 + 1000000000 * c3 ∧ 0 ≤ c3 ∧ c3 ≤ 1 := by
        by_cases h : x3 - y3 - c2 < 0
        · exact ⟨1, by omega⟩
        · exact ⟨0, by omega⟩
      obtain ⟨c3, d3⟩ := d3
      have r3 := Int.emod_lt_of_pos (x3 - y3 - c2) (show (0 : Int) < 1000000000 by decide)
      have r2 := Int.emod_lt_of_pos (x2 - y2 - c1) (show (0 : Int) < 1000000000 by decide)
      have r1 := Int.emod_lt_of_pos (x1 - y1 - c0) (show (0 : Int) < 1000000000 by decide)
      have r0 := Int.emod_lt_of_pos (x0 - y0 - 0) (show (0 : Int) < 1000000000 by decide)
      have s3 := Int.emod_nonneg (x3 - y3 - c2) (show (1000000000 : Int) ≠ 0 by decide)
      have s2 := Int.emod_nonneg (x2 - y2 - c1) (show (1000000000 : Int) ≠ 0 by decide)
      have s1 := Int.emod_nonneg (x1 - y1 - c0) (show (1000000000 : Int) ≠ 0 by decide)
      have s0 := Int.emod_nonneg (x0 - y0 - 0) (show (1000000000 : Int) ≠ 0 by decide)
      rw [d0.1] at r0 s0
      rw [d1.1] at r1 s1
      rw [d2.1] at r2 s2
      rw [d3.1] at r3 s3
      rw [d0.1, d1.1, d2.1, d3.1]
      clear e0 e1 e2
      omega
  obtain ⟨n1, n2, n3, n4, c1, c2, c3, e1, f1, e2, f2, e3, f3, e4, f4, bn, tot⟩ := key
  rw [f1, f2, f3, e1, e2, e3, e4, f4]
  have w5 := m4_ok (σ := σ) (c := 132) bn.1 bn.2.1 bn.2.2.1 bn.2.2.2
  refine ⟨n1, n2, n3, n4, ?_, w5.1, by rw [w5.2, tot]⟩
  rw [w32_e (x := 0 - 0) (by decide) (by decide), w32_e (x := x5 + 1) (by omega) (by omega)]
  rfl
end MD
