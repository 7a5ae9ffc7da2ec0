/-! whole numbers of the component: products, digits, quotients -/
section WP
variable {σ : gM} {w a b : Int}
theorem mulB {x y : Int} (hx : 0 ≤ x ∧ x < 1000000000) (hy : 0 ≤ y ∧ y < 1000000000) : 0 ≤ x * y ∧ x * y ≤ 999999998000000001 := by
  have h1 : x * y ≤ 999999999 * y := Int.mul_le_mul_of_nonneg_right (by omega) hy.1
  have h2 : 0 ≤ x * y := Int.mul_nonneg hx.1 hy.1
  omega
theorem wl_product_b34_s (hw : gWc w) (ha : gWc a) (hb : gWc b) {i c j j' k : Int} (h0 : 0 ≤ j) (h4 : j < 4) (hj : j + 1 = j') (i0 : 0 ≤ i) (i4 : i < 4) (hk : i + j = k) (la : 0 ≤ σ (a + 1) i ∧ σ (a + 1) i < 1000000000) (lb : 0 ≤ σ (b + 1) j ∧ σ (b + 1) j < 1000000000) (lw : 0 ≤ σ (w + 2) k ∧ σ (w + 2) k < 1000000000) (hc : 0 ≤ c ∧ c < 1000000000) :
    wl_product_b34 σ w a b i c j = wl_product_b34 (gW σ (w + 2) k ((σ (w + 2) k + σ (a + 1) i * σ (b + 1) j + c) % 1000000000)) w a b i ((σ (w + 2) k + σ (a + 1) i * σ (b + 1) j + c) / 1000000000) j' := by
  have mb := mulB la lb
  rw [wl_product_b34_e, w32_e (x := i + j) (by omega) (by omega), hk]
  have k8 : 0 ≤ k ∧ k < 8 := by omega
  simp only [gWc_R1 ha, gWc_R1 hb, gWc_R2 hw, gWc_is _ ha, gWc_is _ hb, gWc_is1 _ ha, gWc_is1 _ hb, gWc_N1 ha, gWc_N1 hb, gWc_is _ hw, gWc_is2 _ hw, gWc_N2 hw, gWc_wpr2 _ hw, h0, h4, i0, i4, k8, and_self, if_true, show ¬ ((1000000000 : Int) = 0) by decide, if_false]
  rw [w64_e (x := σ (a + 1) i * σ (b + 1) j) (by omega) (by omega), w64_e (x := σ (w + 2) k + σ (a + 1) i * σ (b + 1) j) (by omega) (by omega), w64_e (x := σ (w + 2) k + σ (a + 1) i * σ (b + 1) j + c) (by omega) (by omega), tmd (by omega), tdv (by omega), w64_e (by omega) (by omega), w32_e (by omega) (by omega), hj]
/-- a row of the product -/
theorem wl_product_row (hw : gWc w) (ha : gWc a) (hb : gWc b) (na : a + 1 ≠ w + 2) (nb : b + 1 ≠ w + 2) {i i1 i2 i3 i4 : Int} (h0 : 0 ≤ i) (h4 : i < 4) (e1 : i + 1 = i1) (e2 : i + 2 = i2) (e3 : i + 3 = i3) (e4 : i + 4 = i4) (la : 0 ≤ σ (a + 1) i ∧ σ (a + 1) i < 1000000000) (ob : wOk σ b)
    (l0 : 0 ≤ σ (w + 2) i ∧ σ (w + 2) i < 1000000000) (l1 : 0 ≤ σ (w + 2) i1 ∧ σ (w + 2) i1 < 1000000000) (l2 : 0 ≤ σ (w + 2) i2 ∧ σ (w + 2) i2 < 1000000000) (l3 : 0 ≤ σ (w + 2) i3 ∧ σ (w + 2) i3 < 1000000000) :
    ∃ n0 n1 n2 n3 n4, wl_product_b34 σ w a b i 0 0 = wl_product_b23 (gW (gW (gW (gW (gW σ (w + 2) i n0) (w + 2) i1 n1) (w + 2) i2 n2) (w + 2) i3 n3) (w + 2) i4 n4) w a b i1 ∧
      ((0 ≤ n0 ∧ n0 < 1000000000) ∧ (0 ≤ n1 ∧ n1 < 1000000000) ∧ (0 ≤ n2 ∧ n2 < 1000000000) ∧ (0 ≤ n3 ∧ n3 < 1000000000) ∧ (0 ≤ n4 ∧ n4 < 1000000000)) ∧
      n0 + 1000000000 * n1 + 1000000000000000000 * n2 + 1000000000000000000000000000 * n3 + 1000000000000000000000000000000000000 * n4 = σ (w + 2) i + 1000000000 * σ (w + 2) i1 + 1000000000000000000 * σ (w + 2) i2 + 1000000000000000000000000000 * σ (w + 2) i3 + σ (a + 1) i * wm σ b := by
  obtain ⟨b0, b1, b2, b3⟩ := ob
  have m0 := mulB la b0
  have m1 := mulB la b1
  have m2 := mulB la b2
  have m3 := mulB la b3
  have hma : σ (a + 1) i * wm σ b = σ (a + 1) i * σ (b + 1) 0 + 1000000000 * (σ (a + 1) i * σ (b + 1) 1) + 1000000000000000000 * (σ (a + 1) i * σ (b + 1) 2) + 1000000000000000000000000000 * (σ (a + 1) i * σ (b + 1) 3) := by
    unfold wm
    simp only [Int.mul_add, Int.mul_left_comm]
  rw [hma]
  rw [wl_product_b34_s hw ha hb (j' := 1) (k := i) (by omega) (by omega) rfl h0 h4 (by omega) la b0 l0 (by omega)]
  rw [wl_product_b34_s hw ha hb (j' := 2) (k := i1) (by omega) (by omega) rfl h0 h4 (by omega) (by rw [gW_c na]; exact la) (by rw [gW_c nb]; exact b1) (by rw [gW_j (by omega)]; exact l1) (by omega)]
  rw [wl_product_b34_s hw ha hb (j' := 3) (k := i2) (by omega) (by omega) rfl h0 h4 (by omega) (by rw [gW_c na, gW_c na]; exact la) (by rw [gW_c nb, gW_c nb]; exact b2) (by rw [gW_j (by omega), gW_j (by omega)]; exact l2) (by rw [gW_c na, gW_c nb, gW_j (by omega)]; omega)]
  rw [wl_product_b34_s hw ha hb (j' := 4) (k := i3) (by omega) (by omega) rfl h0 h4 (by omega) (by rw [gW_c na, gW_c na, gW_c na]; exact la) (by rw [gW_c nb, gW_c nb, gW_c nb]; exact b3) (by rw [gW_j (by omega), gW_j (by omega), gW_j (by omega)]; exact l3) (by simp only [gW_c na, gW_c nb]; rw [gW_j (by omega), gW_j (by omega), gW_j (by omega)]; omega)]
  simp only [gW_c na, gW_c nb, gW_j (show i1 ≠ i by omega), gW_j (show i2 ≠ i by omega), gW_j (show i2 ≠ i1 by omega), gW_j (show i3 ≠ i by omega), gW_j (show i3 ≠ i1 by omega), gW_j (show i3 ≠ i2 by omega)]
  rw [wl_product_b34_e, if_neg (by decide), w32_e (x := i + 4) (by omega) (by omega), w32_e (x := i + 1) (by omega) (by omega), e1, e4]
  have k8 : 0 ≤ i4 ∧ i4 < 8 := by omega
  simp only [gWc_R2 hw, gWc_is _ hw, gWc_is2 _ hw, gWc_N2 hw, gWc_wpr2 _ hw, k8, and_self, if_true]
  generalize σ (a + 1) i * σ (b + 1) 0 = p0 at *
  generalize σ (a + 1) i * σ (b + 1) 1 = p1 at *
  generalize σ (a + 1) i * σ (b + 1) 2 = p2 at *
  generalize σ (a + 1) i * σ (b + 1) 3 = p3 at *
  generalize σ (w + 2) i = t0 at *
  generalize σ (w + 2) i1 = t1 at *
  generalize σ (w + 2) i2 = t2 at *
  generalize σ (w + 2) i3 = t3 at *
  refine ⟨_, _, _, _, _, rfl, ⟨⟨Int.emod_nonneg _ (by decide), Int.emod_lt_of_pos _ (by decide)⟩, ⟨Int.emod_nonneg _ (by decide), Int.emod_lt_of_pos _ (by decide)⟩, ⟨Int.emod_nonneg _ (by decide), Int.emod_lt_of_pos _ (by decide)⟩, ⟨Int.emod_nonneg _ (by decide), Int.emod_lt_of_pos _ (by decide)⟩, ?_⟩, ?_⟩
  · omega
  · omega
theorem wl_product_b2_s (hw : gWc w) {k k' : Int} (h0 : 0 ≤ k) (h4 : k < 8) (hk : k + 1 = k') : wl_product_b2 σ w a b k = wl_product_b2 (gW σ (w + 2) k 0) w a b k' := by
  rw [wl_product_b2_e]
  simp only [gWc_R2 hw, gWc_is _ hw, gWc_is2 _ hw, gWc_N2 hw, gWc_wpr2 _ hw, h0, h4, and_self, if_true]
  rw [w32_e (by omega) (by omega), hk]
theorem wl_product_b127_s (hw : gWc w) {s k k' : Int} (h0 : 0 ≤ k) (h4 : k < 4) (hk : k + 1 = k') : wl_product_b127 σ w s k = wl_product_b127 (gW σ (w + 1) k (σ (w + 2) k)) w s k' := by
  rw [wl_product_b127_e]
  have k8 : k < 8 := by omega
  simp only [gWc_R2 hw, gWc_R1 hw, gWc_is _ hw, gWc_is2 _ hw, gWc_is1 _ hw, gWc_N1 hw, gWc_N2 hw, gWc_wpr1 _ hw, h0, h4, k8, and_self, if_true]
  rw [w32_e (by omega) (by omega), hk]
theorem wl_product_s (hw : gWc w) (ha : gWc a) (hb : gWc b) {x y : Int} (hwa : w ≠ a) (hwb : w ≠ b) (ka : wIs σ a x) (kb : wIs σ b y) :
    ∃ σ' r, wl_product σ w a b = some (σ', r) ∧ wFr σ σ' w ∧ (-1000000000000000000000000000000000000 < x * y → x * y < 1000000000000000000000000000000000000 → r = 1 ∧ wIs σ' w (x * y)) ∧
      (x * y ≤ -1000000000000000000000000000000000000 ∨ 1000000000000000000000000000000000000 ≤ x * y → r = 0) := by
  have na := wcn hw ha hwa
  have nb := wcn hw hb hwb
  obtain ⟨oa, ka⟩ := ka
  obtain ⟨ob, kb⟩ := kb
  have la := oa
  obtain ⟨a0, a1, a2, a3⟩ := oa
  rw [wl_product_e, wl_product_b2_s hw (k' := 1) (by omega) (by omega) rfl, wl_product_b2_s hw (k' := 2) (by omega) (by omega) rfl, wl_product_b2_s hw (k' := 3) (by omega) (by omega) rfl, wl_product_b2_s hw (k' := 4) (by omega) (by omega) rfl,
    wl_product_b2_s hw (k' := 5) (by omega) (by omega) rfl, wl_product_b2_s hw (k' := 6) (by omega) (by omega) rfl, wl_product_b2_s hw (k' := 7) (by omega) (by omega) rfl, wl_product_b2_s hw (k' := 8) (by omega) (by omega) rfl, wl_product_b2_e, if_neg (by decide)]
  generalize hS : gW (gW (gW (gW (gW (gW (gW (gW σ (w + 2) 0 0) (w + 2) 1 0) (w + 2) 2 0) (w + 2) 3 0) (w + 2) 4 0) (w + 2) 5 0) (w + 2) 6 0) (w + 2) 7 0 = S0
  have fr0 : ∀ c k, c ≠ w + 2 → S0 c k = σ c k := by
    intro c k hc
    rw [← hS]
    simp only [gW_c hc]
  have v0 : S0 (w + 2) 0 = 0 ∧ S0 (w + 2) 1 = 0 ∧ S0 (w + 2) 2 = 0 ∧ S0 (w + 2) 3 = 0 ∧ S0 (w + 2) 4 = 0 ∧ S0 (w + 2) 5 = 0 ∧ S0 (w + 2) 6 = 0 ∧ S0 (w + 2) 7 = 0 := by
    rw [← hS]
    simp [gW_if]
  clear hS
  have okb : ∀ S : gM, (∀ c k, c ≠ w + 2 → S c k = σ c k) → wOk S b ∧ wm S b = wm σ b := by
    intro S h
    unfold wOk wm
    simp only [h (b + 1) _ nb.2.2.2.2.2]
    exact ⟨ob, trivial⟩
  -- the rows
  rw [wl_product_b23_e, if_pos (by decide)]
  obtain ⟨n0, n1, n2, n3, n4, e, bn, t0⟩ := wl_product_row (σ := S0) hw ha hb na.2.2.2.2.2 nb.2.2.2.2.2 (i := 0) (i1 := 1) (i2 := 2) (i3 := 3) (i4 := 4) (by omega) (by omega) rfl rfl rfl rfl (by rw [fr0 _ _ na.2.2.2.2.2]; exact a0) (okb S0 fr0).1 (by omega) (by omega) (by omega) (by omega)
  rw [e, (okb S0 fr0).2, fr0 _ _ na.2.2.2.2.2] at *
  clear e
  generalize hS : gW (gW (gW (gW (gW S0 (w + 2) 0 n0) (w + 2) 1 n1) (w + 2) 2 n2) (w + 2) 3 n3) (w + 2) 4 n4 = S1
  have fr1 : ∀ c k, c ≠ w + 2 → S1 c k = σ c k := by
    intro c k hc
    rw [← hS]
    simp only [gW_c hc]
    exact fr0 c k hc
  have v1 : S1 (w + 2) 0 = n0 ∧ S1 (w + 2) 1 = n1 ∧ S1 (w + 2) 2 = n2 ∧ S1 (w + 2) 3 = n3 ∧ S1 (w + 2) 4 = n4 ∧ S1 (w + 2) 5 = 0 ∧ S1 (w + 2) 6 = 0 ∧ S1 (w + 2) 7 = 0 := by
    rw [← hS]
    simp [gW_if, v0]
  clear hS
  rw [wl_product_b23_e, if_pos (by decide)]
  obtain ⟨m1, m2, m3, m4, m5, e, bm, t1⟩ := wl_product_row (σ := S1) hw ha hb na.2.2.2.2.2 nb.2.2.2.2.2 (i := 1) (i1 := 2) (i2 := 3) (i3 := 4) (i4 := 5) (by omega) (by omega) rfl rfl rfl rfl (by rw [fr1 _ _ na.2.2.2.2.2]; exact a1) (okb S1 fr1).1 (by omega) (by omega) (by omega) (by omega)
  rw [e]
  rw [(okb S1 fr1).2, fr1 _ _ na.2.2.2.2.2] at t1
  clear e
  generalize hS : gW (gW (gW (gW (gW S1 (w + 2) 1 m1) (w + 2) 2 m2) (w + 2) 3 m3) (w + 2) 4 m4) (w + 2) 5 m5 = S2
  have fr2 : ∀ c k, c ≠ w + 2 → S2 c k = σ c k := by
    intro c k hc
    rw [← hS]
    simp only [gW_c hc]
    exact fr1 c k hc
  have v2 : S2 (w + 2) 0 = n0 ∧ S2 (w + 2) 1 = m1 ∧ S2 (w + 2) 2 = m2 ∧ S2 (w + 2) 3 = m3 ∧ S2 (w + 2) 4 = m4 ∧ S2 (w + 2) 5 = m5 ∧ S2 (w + 2) 6 = 0 ∧ S2 (w + 2) 7 = 0 := by
    rw [← hS]
    simp [gW_if, v1]
  clear hS
  rw [wl_product_b23_e, if_pos (by decide)]
  obtain ⟨p2, p3, p4, p5, p6, e, bp, t2⟩ := wl_product_row (σ := S2) hw ha hb na.2.2.2.2.2 nb.2.2.2.2.2 (i := 2) (i1 := 3) (i2 := 4) (i3 := 5) (i4 := 6) (by omega) (by omega) rfl rfl rfl rfl (by rw [fr2 _ _ na.2.2.2.2.2]; exact a2) (okb S2 fr2).1 (by omega) (by omega) (by omega) (by omega)
  rw [e]
  rw [(okb S2 fr2).2, fr2 _ _ na.2.2.2.2.2] at t2
  clear e
  generalize hS : gW (gW (gW (gW (gW S2 (w + 2) 2 p2) (w + 2) 3 p3) (w + 2) 4 p4) (w + 2) 5 p5) (w + 2) 6 p6 = S3
  have fr3 : ∀ c k, c ≠ w + 2 → S3 c k = σ c k := by
    intro c k hc
    rw [← hS]
    simp only [gW_c hc]
    exact fr2 c k hc
  have v3 : S3 (w + 2) 0 = n0 ∧ S3 (w + 2) 1 = m1 ∧ S3 (w + 2) 2 = p2 ∧ S3 (w + 2) 3 = p3 ∧ S3 (w + 2) 4 = p4 ∧ S3 (w + 2) 5 = p5 ∧ S3 (w + 2) 6 = p6 ∧ S3 (w + 2) 7 = 0 := by
    rw [← hS]
    simp [gW_if, v2]
  clear hS
  rw [wl_product_b23_e, if_pos (by decide)]
  obtain ⟨q3, q4, q5, q6, q7, e, bq, t3⟩ := wl_product_row (σ := S3) hw ha hb na.2.2.2.2.2 nb.2.2.2.2.2 (i := 3) (i1 := 4) (i2 := 5) (i3 := 6) (i4 := 7) (by omega) (by omega) rfl rfl rfl rfl (by rw [fr3 _ _ na.2.2.2.2.2]; exact a3) (okb S3 fr3).1 (by omega) (by omega) (by omega) (by omega)
  rw [e]
  rw [(okb S3 fr3).2, fr3 _ _ na.2.2.2.2.2] at t3
  clear e
  generalize hS : gW (gW (gW (gW (gW S3 (w + 2) 3 q3) (w + 2) 4 q4) (w + 2) 5 q5) (w + 2) 6 q6) (w + 2) 7 q7 = S4
  have fr4 : ∀ c k, c ≠ w + 2 → S4 c k = σ c k := by
    intro c k hc
    rw [← hS]
    simp only [gW_c hc]
    exact fr3 c k hc
  have v4 : S4 (w + 2) 0 = n0 ∧ S4 (w + 2) 1 = m1 ∧ S4 (w + 2) 2 = p2 ∧ S4 (w + 2) 3 = q3 ∧ S4 (w + 2) 4 = q4 ∧ S4 (w + 2) 5 = q5 ∧ S4 (w + 2) 6 = q6 ∧ S4 (w + 2) 7 = q7 := by
    rw [← hS]
    simp [gW_if, v3]
  clear hS
  rw [v0.1, v0.2.1, v0.2.2.1, v0.2.2.2.1] at t0
  rw [v1.2.1, v1.2.2.1, v1.2.2.2.1, v1.2.2.2.2.1] at t1
  rw [v2.2.2.1, v2.2.2.2.1, v2.2.2.2.2.1, v2.2.2.2.2.2.1] at t2
  rw [v3.2.2.2.1, v3.2.2.2.2.1, v3.2.2.2.2.2.1, v3.2.2.2.2.2.2.1] at t3
  have tot : n0 + 1000000000 * m1 + 1000000000000000000 * p2 + 1000000000000000000000000000 * q3 + 1000000000000000000000000000000000000 * (q4 + 1000000000 * q5 + 1000000000000000000 * q6 + 1000000000000000000000000000 * q7) = wm σ a * wm σ b := by
    have : wm σ a * wm σ b = σ (a + 1) 0 * wm σ b + 1000000000 * (σ (a + 1) 1 * wm σ b) + 1000000000000000000 * (σ (a + 1) 2 * wm σ b) + 1000000000000000000000000000 * (σ (a + 1) 3 * wm σ b) := by
      conv => lhs; lhs; unfold wm
      simp only [Int.add_mul, Int.mul_assoc]
    rw [this]
    generalize σ (a + 1) 0 * wm σ b = A0 at *
    generalize σ (a + 1) 1 * wm σ b = A1 at *
    generalize σ (a + 1) 2 * wm σ b = A2 at *
    generalize σ (a + 1) 3 * wm σ b = A3 at *
    clear v0 v1 v2 v3 v4 bn bm bp bq a0 a1 a2 a3 ka kb
    omega
  rw [wl_product_b23_e, if_neg (by decide)]
  have sa : S4 a 0 = σ a 0 := fr4 a 0 na.2.2.2.2.1
  have sb : S4 b 0 = σ b 0 := fr4 b 0 nb.2.2.2.2.1
  simp only [gWc_is _ ha, gWc_is _ hb, sa, sb]
  rw [wl_product_b127_s hw (k' := 1) (by omega) (by omega) rfl, wl_product_b127_s hw (k' := 2) (by omega) (by omega) rfl, wl_product_b127_s hw (k' := 3) (by omega) (by omega) rfl, wl_product_b127_s hw (k' := 4) (by omega) (by omega) rfl]
  simp only [gj10, gj20, gj21, gj30, gj31, gj32]
  rw [v4.1, v4.2.1, v4.2.2.1, v4.2.2.2.1]
  have w5 := w4_ok (σ := S4) (w := w) bn.1 bm.1 bp.1 bq.1
  rw [show gW (gW (gW (gW S4 (w + 1) 0 n0) (w + 1) 1 m1) (w + 1) 2 p2) (w + 1) 3 q3 = w4 S4 (w + 1) n0 m1 p2 q3 from rfl, wl_product_b127_e, if_neg (by decide), wl_settle_s hw w5.1, w5.2]
  have r2 : ∀ k, gW (w4 S4 (w + 1) n0 m1 p2 q3) w 0 (if n0 + 1000000000 * m1 + 1000000000000000000 * p2 + 1000000000000000000000000000 * q3 = 0 then 0 else w32 (σ a 0 * σ b 0)) (w + 2) k = S4 (w + 2) k := by
    intro k
    rw [gW_c (by omega), w4_c (by omega)]
  simp only [Option.bind_some, gWc_is _ hw, gWc_R2 hw, gWc_is2 _ hw, gWc_N2 hw, r2, v4]
  simp only [show (0 : Int) ≤ 4 ∧ (4 : Int) < 8 by decide, show (0 : Int) ≤ 5 ∧ (5 : Int) < 8 by decide, show (0 : Int) ≤ 6 ∧ (6 : Int) < 8 by decide, show (0 : Int) ≤ 7 ∧ (7 : Int) < 8 by decide, and_self, if_true, l_cmp_0]
  have z : l_or (l_or (l_or q4 q5) q6) q7 = 0 ↔ (q4 = 0 ∧ q5 = 0 ∧ q6 = 0 ∧ q7 = 0) := by
    rw [l_or_0 (l_or_i _ _) (by unfold i64; omega), l_or_0 (l_or_i _ _) (by unfold i64; omega), l_or_0 (by unfold i64; omega) (by unfold i64; omega)]
    constructor
    · intro h; exact ⟨h.1.1.1, h.1.1.2, h.1.2, h.2⟩
    · intro h; exact ⟨⟨⟨h.1, h.2.1⟩, h.2.2.1⟩, h.2.2.2⟩
  have frf : ∀ s, wFr σ (gW (w4 S4 (w + 1) n0 m1 p2 q3) w 0 s) w := by
    intro s c k h1 h2 h3
    rw [gW_c h1, w4_c h2]
    exact fr4 c k h3
  have pos : 0 ≤ wm σ a ∧ 0 ≤ wm σ b := by
    constructor
    · unfold wm; omega
    · unfold wm; obtain ⟨h0, h1, h2, h3⟩ := ob; omega
  -- the sign
  obtain ⟨s, hs, hxy⟩ : ∃ s, w32 (σ a 0 * σ b 0) = s ∧ ((x * y < 0 ∧ s = -1 ∧ wm σ a * wm σ b = -(x * y)) ∨ (x * y = 0 ∧ wm σ a * wm σ b = 0) ∨ (0 < x * y ∧ s = 1 ∧ wm σ a * wm σ b = x * y)) := by
    refine ⟨_, rfl, ?_⟩
    rcases ka with ⟨k1, k2, k3⟩ | ⟨k1, k2, k3⟩ | ⟨k1, k2, k3⟩ <;> rcases kb with ⟨l1, l2, l3⟩ | ⟨l1, l2, l3⟩ | ⟨l1, l2, l3⟩ <;> rw [k2, l2, k3, l3]
    · right; right
      exact ⟨Int.mul_pos_of_neg_of_neg k1 l1, rfl, by rw [Int.neg_mul_neg]⟩
    · right; left; subst l1; simp
    · left
      exact ⟨Int.mul_neg_of_neg_of_pos k1 l1, rfl, by rw [Int.neg_mul]⟩
    · right; left; subst k1; simp
    · right; left; subst k1; simp
    · right; left; subst k1; simp
    · left
      exact ⟨Int.mul_neg_of_pos_of_neg k1 l1, rfl, by rw [Int.mul_neg]⟩
    · right; left; subst l1; simp
    · right; right
      exact ⟨Int.mul_pos k1 l1, rfl, rfl⟩
  rw [hs]
  generalize wm σ a * wm σ b = P at *
  generalize x * y = X at *
  clear t0 t1 t2 t3 v0 v1 v2 v3 v4 ka kb
  by_cases hz : q4 = 0 ∧ q5 = 0 ∧ q6 = 0 ∧ q7 = 0
  · rw [if_pos (z.mpr hz)]
    refine ⟨_, _, rfl, frf _, fun _ _ => ⟨rfl, ?_⟩, fun h => ?_⟩
    · refine (wfin bn.1 bm.1 bp.1 bq.1 ?_).1
      by_cases k0 : n0 + 1000000000 * m1 + 1000000000000000000 * p2 + 1000000000000000000000000000 * q3 = 0
      · rw [if_pos k0]; omega
      · rw [if_neg k0]; omega
    · omega
  · rw [if_neg (fun q => hz (z.mp q))]
    refine ⟨_, _, rfl, frf _, fun _ _ => ?_, fun h => rfl⟩
    omega
end WP
