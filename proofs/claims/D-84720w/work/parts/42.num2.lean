/-! whole numbers of the component: sizes, sums -/
section WZ
variable {σ : gM} {a b : Int}
theorem wl_size_b2_s (ha : gWc a) (hb : gWc b) {k k' : Int} (h0 : 0 ≤ k) (h4 : k < 4) (hk : k - 1 = k') : wl_size_b2 σ a b k = if σ (a + 1) k = σ (b + 1) k then wl_size_b2 σ a b k' else some (σ, if σ (a + 1) k < σ (b + 1) k then -1 else 1) := by
  rw [wl_size_b2_e]
  simp only [gWc_R1 ha, gWc_R1 hb, gWc_is _ ha, gWc_is _ hb, gWc_is1 _ ha, gWc_is1 _ hb, gWc_N1 ha, gWc_N1 hb, h0, h4, and_self, if_true, show ¬ k < 0 by omega, if_false, l_cmp_0, l_cmp_lt]
  rw [w32_e (by omega) (by omega), show k + -1 = k' by omega]
  by_cases h : σ (a + 1) k = σ (b + 1) k
  · simp only [if_pos h]
  · simp only [if_neg h]
    split <;> rfl
theorem wl_size_b2_x : wl_size_b2 σ a b (-1) = some (σ, 0) := by rw [wl_size_b2_e]; rfl
theorem wl_size_s (ha : gWc a) (hb : gWc b) (ka : wOk σ a) (kb : wOk σ b) : wl_size σ a b = some (σ, if wm σ a < wm σ b then -1 else if wm σ a = wm σ b then 0 else 1) := by
  rw [wl_size_e, wl_size_b2_s ha hb (k' := 2) (by omega) (by omega) rfl, wl_size_b2_s ha hb (k' := 1) (by omega) (by omega) rfl, wl_size_b2_s ha hb (k' := 0) (by omega) (by omega) rfl, wl_size_b2_s ha hb (k' := -1) (by omega) (by omega) rfl, wl_size_b2_x]
  obtain ⟨a0, a1, a2, a3⟩ := ka
  obtain ⟨b0, b1, b2, b3⟩ := kb
  unfold wm
  generalize σ (a + 1) 0 = x0 at *
  generalize σ (a + 1) 1 = x1 at *
  generalize σ (a + 1) 2 = x2 at *
  generalize σ (a + 1) 3 = x3 at *
  generalize σ (b + 1) 0 = y0 at *
  generalize σ (b + 1) 1 = y1 at *
  generalize σ (b + 1) 2 = y2 at *
  generalize σ (b + 1) 3 = y3 at *
  by_cases k3 : x3 = y3
  · rw [if_pos k3]
    by_cases k2 : x2 = y2
    · rw [if_pos k2]
      by_cases k1 : x1 = y1
      · rw [if_pos k1]
        by_cases k0 : x0 = y0
        · rw [if_pos k0, if_neg (by omega), if_pos (by omega)]
        · rw [if_neg k0]
          by_cases q : x0 < y0
          · rw [if_pos q, if_pos (by omega)]
          · rw [if_neg q, if_neg (by omega), if_neg (by omega)]
      · rw [if_neg k1]
        by_cases q : x1 < y1
        · rw [if_pos q, if_pos (by omega)]
        · rw [if_neg q, if_neg (by omega), if_neg (by omega)]
    · rw [if_neg k2]
      by_cases q : x2 < y2
      · rw [if_pos q, if_pos (by omega)]
      · rw [if_neg q, if_neg (by omega), if_neg (by omega)]
  · rw [if_neg k3]
    by_cases q : x3 < y3
    · rw [if_pos q, if_pos (by omega)]
    · rw [if_neg q, if_neg (by omega), if_neg (by omega)]
theorem wl_compare_s (ha : gWc a) (hb : gWc b) {x y : Int} (ka : wIs σ a x) (kb : wIs σ b y) : wl_compare σ a b = some (σ, if x < y then -1 else if x = y then 0 else 1) := by
  obtain ⟨oa, ka⟩ := ka
  obtain ⟨ob, kb⟩ := kb
  rw [wl_compare_e]
  simp only [gWc_is _ ha, gWc_is _ hb, wl_size_s ha hb oa ob, wl_size_s hb ha ob oa, Option.bind_some]
  rcases ka with ⟨p1, p2, p3⟩ | ⟨p1, p2, p3⟩ | ⟨p1, p2, p3⟩ <;> rcases kb with ⟨q1, q2, q3⟩ | ⟨q1, q2, q3⟩ | ⟨q1, q2, q3⟩ <;> rw [p2, q2, p3, q3] <;> simp only [show ¬ ((-1 : Int) = 0) by decide, show ¬ ((-1 : Int) = 1) by decide, show ¬ ((0 : Int) = -1) by decide, show ¬ ((0 : Int) = 1) by decide, show ¬ ((1 : Int) = -1) by decide, show ¬ ((1 : Int) = 0) by decide, if_true, if_false, show ((-1 : Int) < 0) by decide, show ((-1 : Int) < 1) by decide, show ((0 : Int) < 1) by decide, show ¬ ((0 : Int) < 0) by decide, show ¬ ((1 : Int) < 0) by decide, show ¬ ((0 : Int) < -1) by decide, show ¬ ((1 : Int) < -1) by decide]
  · by_cases k : x < y
    · rw [if_pos k, if_pos (by omega)]
    · rw [if_neg k]
      by_cases k2 : x = y
      · rw [if_pos k2, if_neg (by omega), if_pos (by omega)]
      · rw [if_neg k2, if_neg (by omega), if_neg (by omega)]
  · rw [if_pos (by omega)]
  · rw [if_pos (by omega)]
  · rw [if_neg (by omega), if_neg (by omega)]
  · rw [if_neg (by omega), if_pos (by omega)]
  · rw [if_pos (by omega)]
  · rw [if_neg (by omega), if_neg (by omega)]
  · rw [if_neg (by omega), if_neg (by omega)]
end WZ
section WF
variable {σ : gM} {w a b : Int}
theorem wl_of_2_b10_s (hw : gWc w) (ha : gWc a) {k k' : Int} (h0 : 0 ≤ k) (h4 : k < 4) (hk : k + 1 = k') : wl_of_2_b10 σ w a k = wl_of_2_b10 (gW σ (w + 1) k (σ (a + 1) k)) w a k' := by
  rw [wl_of_2_b10_e]
  simp only [gWc_R1 hw, gWc_R1 ha, gWc_is _ hw, gWc_is _ ha, gWc_is1 _ hw, gWc_is1 _ ha, gWc_N1 hw, gWc_N1 ha, gWc_wof1 _ hw, h0, h4, and_self, if_true]
  rw [w32_e (by omega) (by omega), hk]
theorem wl_of_2_s (hw : gWc w) (ha : gWc a) (hwa : w ≠ a) : wl_of_2 σ w a = some (w4 (gW σ w 0 (σ a 0)) (w + 1) (σ (a + 1) 0) (σ (a + 1) 1) (σ (a + 1) 2) (σ (a + 1) 3), 0) := by
  have h1 : a + 1 ≠ w := by
    rcases hw with h | h | h | h | h <;> rcases ha with h' | h' | h' | h' | h' <;> omega
  rw [wl_of_2_e]
  simp only [gWc_is _ hw, gWc_is _ ha, gWc_wof _ hw]
  rw [wl_of_2_b10_s hw ha (k' := 1) (by omega) (by omega) rfl, wl_of_2_b10_s hw ha (k' := 2) (by omega) (by omega) rfl, wl_of_2_b10_s hw ha (k' := 3) (by omega) (by omega) rfl, wl_of_2_b10_s hw ha (k' := 4) (by omega) (by omega) rfl, wl_of_2_b10_e, if_neg (by decide)]
  simp only [gj10, gj20, gj21, gj30, gj31, gj32, gW_c h1]
  rfl
/-- a difference: borrow and limb -/
theorem wl_less_b5_s (hw : gWc w) (ha : gWc a) (hb : gWc b) {c k k' : Int} (h0 : 0 ≤ k) (h4 : k < 4) (hk : k + 1 = k') (la : 0 ≤ σ (a + 1) k ∧ σ (a + 1) k < 1000000000) (lb : 0 ≤ σ (b + 1) k ∧ σ (b + 1) k < 1000000000) (hc : 0 ≤ c ∧ c ≤ 1) :
    wl_less_b5 σ w a b c k = wl_less_b5 (gW σ (w + 1) k ((σ (a + 1) k - σ (b + 1) k - c) % 1000000000)) w a b (if σ (a + 1) k - σ (b + 1) k - c < 0 then 1 else 0) k' := by
  rw [wl_less_b5_e]
  simp only [gWc_R1 ha, gWc_R1 hb, gWc_is _ ha, gWc_is _ hb, gWc_is1 _ ha, gWc_is1 _ hb, gWc_N1 ha, gWc_N1 hb, h0, h4, and_self, if_true, wl_less_b42_e, wl_less_b67_e, gWc_R1 hw, gWc_is _ hw, gWc_is1 _ hw, gWc_N1 hw, gWc_wless _ hw, l_cmp_lt]
  rw [w64_e (x := σ (a + 1) k - σ (b + 1) k) (by omega) (by omega), w64_e (x := σ (a + 1) k - σ (b + 1) k - c) (by omega) (by omega), w64_e (x := σ (a + 1) k - σ (b + 1) k - c + 1000000000) (by omega) (by omega), w32_e (by omega) (by omega), hk]
  by_cases h : σ (a + 1) k - σ (b + 1) k - c < 0
  · simp only [if_pos h]
    rw [show (σ (a + 1) k - σ (b + 1) k - c) % 1000000000 = σ (a + 1) k - σ (b + 1) k - c + 1000000000 by omega]
  · simp only [if_neg h]
    rw [show (σ (a + 1) k - σ (b + 1) k - c) % 1000000000 = σ (a + 1) k - σ (b + 1) k - c by omega]
theorem wl_less_s (hw : gWc w) (ha : gWc a) (hb : gWc b) (oa : wOk σ a) (ob : wOk σ b) (hle : wm σ b ≤ wm σ a) : ∃ n0 n1 n2 n3, wl_less σ w a b = some (w4 σ (w + 1) n0 n1 n2 n3, 0) ∧ ((0 ≤ n0 ∧ n0 < 1000000000) ∧ (0 ≤ n1 ∧ n1 < 1000000000) ∧ (0 ≤ n2 ∧ n2 < 1000000000) ∧ (0 ≤ n3 ∧ n3 < 1000000000)) ∧ n0 + 1000000000 * n1 + 1000000000000000000 * n2 + 1000000000000000000000000000 * n3 = wm σ a - wm σ b := by
  obtain ⟨a0, a1, a2, a3⟩ := oa
  obtain ⟨b0, b1, b2, b3⟩ := ob
  rw [wl_less_e, wl_less_b5_s hw ha hb (k' := 1) (by omega) (by omega) rfl a0 b0 (by omega), wl_less_b5_s hw ha hb (k' := 2) (by omega) (by omega) rfl (by rw [gj10]; exact a1) (by rw [gj10]; exact b1) (by split <;> omega),
    wl_less_b5_s hw ha hb (k' := 3) (by omega) (by omega) rfl (by rw [gj21, gj20]; exact a2) (by rw [gj21, gj20]; exact b2) (by split <;> omega),
    wl_less_b5_s hw ha hb (k' := 4) (by omega) (by omega) rfl (by rw [gj32, gj31, gj30]; exact a3) (by rw [gj32, gj31, gj30]; exact b3) (by split <;> omega), wl_less_b5_e, if_neg (by decide)]
  simp only [gj10, gj20, gj21, gj30, gj31, gj32]
  refine ⟨_, _, _, _, rfl, ?_, ?_⟩
  · refine ⟨?_, ?_, ?_, ?_⟩ <;> exact ⟨Int.emod_nonneg _ (by decide), Int.emod_lt_of_pos _ (by decide)⟩
  · unfold wm at hle ⊢
    generalize σ (a + 1) 0 = x0 at *
    generalize σ (a + 1) 1 = x1 at *
    generalize σ (a + 1) 2 = x2 at *
    generalize σ (a + 1) 3 = x3 at *
    generalize σ (b + 1) 0 = y0 at *
    generalize σ (b + 1) 1 = y1 at *
    generalize σ (b + 1) 2 = y2 at *
    generalize σ (b + 1) 3 = y3 at *
    generalize e0 : (if x0 - y0 - 0 < 0 then (1 : Int) else 0) = c0
    have d0 : (x0 - y0 - 0) % 1000000000 = x0 - y0 + 1000000000 * c0 ∧ 0 ≤ c0 ∧ c0 ≤ 1 := by split at e0 <;> omega
    generalize e1 : (if x1 - y1 - c0 < 0 then (1 : Int) else 0) = c1
    have d1 : (x1 - y1 - c0) % 1000000000 = x1 - y1 - c0 + 1000000000 * c1 ∧ 0 ≤ c1 ∧ c1 ≤ 1 := by split at e1 <;> omega
    generalize e2 : (if x2 - y2 - c1 < 0 then (1 : Int) else 0) = c2
    have d2 : (x2 - y2 - c1) % 1000000000 = x2 - y2 - c1 + 1000000000 * c2 ∧ 0 ≤ c2 ∧ c2 ≤ 1 := by split at e2 <;> omega
    have d3 : ∃ c3, (x3 - y3 - c2) % 1000000000 = x3 - y3 - c2 + 1000000000 * c3 ∧ 0 ≤ c3 ∧ c3 ≤ 1 := by
      by_cases h : x3 - y3 - c2 < 0
      · exact ⟨1, by omega⟩
      · exact ⟨0, by omega⟩
    obtain ⟨c3, d3⟩ := d3
    have r3 := Int.emod_lt_of_pos (x3 - y3 - c2) (show (0 : Int) < 1000000000 by decide)
    have r2 := Int.emod_lt_of_pos (x2 - y2 - c1) (show (0 : Int) < 1000000000 by decide)
    have r1 := Int.emod_lt_of_pos (x1 - y1 - c0) (show (0 : Int) < 1000000000 by decide)
    have r0 := Int.emod_lt_of_pos (x0 - y0 - 0) (show (0 : Int) < 1000000000 by decide)
    have s3 := Int.emod_nonneg (x3 - y3 - c2) (show (1000000000 : Int) ≠ 0 by decide)
    have s2 := Int.emod_nonneg (x2 - y2 - c1) (show (1000000000 : Int) ≠ 0 by decide)
    have s1 := Int.emod_nonneg (x1 - y1 - c0) (show (1000000000 : Int) ≠ 0 by decide)
    have s0 := Int.emod_nonneg (x0 - y0 - 0) (show (1000000000 : Int) ≠ 0 by decide)
    rw [d0.1] at r0 s0
    rw [d1.1] at r1 s1
    rw [d2.1] at r2 s2
    rw [d3.1] at r3 s3
    rw [d0.1, d1.1, d2.1, d3.1]
    clear e0 e1 e2
    omega
/-- a sum: carry and limb -/
theorem wl_sum_b65_s (hw : gWc w) (ha : gWc a) (hb : gWc b) {c k k' : Int} (h0 : 0 ≤ k) (h4 : k < 4) (hk : k + 1 = k') (la : 0 ≤ σ (a + 1) k ∧ σ (a + 1) k < 1000000000) (lb : 0 ≤ σ (b + 1) k ∧ σ (b + 1) k < 1000000000) (hc : 0 ≤ c ∧ c ≤ 1) :
    wl_sum_b65 σ w a b c k = wl_sum_b65 (gW σ (w + 1) k ((σ (a + 1) k + σ (b + 1) k + c) % 1000000000)) w a b ((σ (a + 1) k + σ (b + 1) k + c) / 1000000000) k' := by
  rw [wl_sum_b65_e]
  simp only [gWc_R1 ha, gWc_R1 hb, gWc_is _ ha, gWc_is _ hb, gWc_is1 _ ha, gWc_is1 _ hb, gWc_N1 ha, gWc_N1 hb, h0, h4, and_self, if_true, gWc_R1 hw, gWc_is _ hw, gWc_is1 _ hw, gWc_N1 hw, gWc_wof1 _ hw, show ¬ ((1000000000 : Int) = 0) by decide, if_false]
  rw [w64_e (x := σ (a + 1) k + σ (b + 1) k) (by omega) (by omega), w64_e (x := σ (a + 1) k + σ (b + 1) k + c) (by omega) (by omega), tmd (by omega), tdv (by omega), w64_e (by omega) (by omega), w32_e (by omega) (by omega), hk]
end WF
section WFS
variable {σ : gM} {w a b : Int}
theorem wcn (hw : gWc w) (ha : gWc a) (h : w ≠ a) : a ≠ w ∧ a + 1 ≠ w ∧ a ≠ w + 1 ∧ a + 1 ≠ w + 1 ∧ a ≠ w + 2 ∧ a + 1 ≠ w + 2 := by
  rcases hw with h1 | h1 | h1 | h1 | h1 <;> rcases ha with h2 | h2 | h2 | h2 | h2 <;> subst h1 <;> subst h2 <;> first | exact absurd rfl h | decide
theorem wl_sum_add (hw : gWc w) (ha : gWc a) (hb : gWc b) (oa : wOk σ a) (ob : wOk σ b) : ∃ n0 n1 n2 n3 c, wl_sum_b65 σ w a b 0 0 = wl_sum_b65 (w4 σ (w + 1) n0 n1 n2 n3) w a b c 4 ∧ ((0 ≤ n0 ∧ n0 < 1000000000) ∧ (0 ≤ n1 ∧ n1 < 1000000000) ∧ (0 ≤ n2 ∧ n2 < 1000000000) ∧ (0 ≤ n3 ∧ n3 < 1000000000)) ∧ (0 ≤ c ∧ c ≤ 1) ∧
    n0 + 1000000000 * n1 + 1000000000000000000 * n2 + 1000000000000000000000000000 * n3 + 1000000000000000000000000000000000000 * c = wm σ a + wm σ b := by
  obtain ⟨a0, a1, a2, a3⟩ := oa
  obtain ⟨b0, b1, b2, b3⟩ := ob
  rw [wl_sum_b65_s hw ha hb (k' := 1) (by omega) (by omega) rfl a0 b0 (by omega), wl_sum_b65_s hw ha hb (k' := 2) (by omega) (by omega) rfl (by rw [gj10]; exact a1) (by rw [gj10]; exact b1) (by omega),
    wl_sum_b65_s hw ha hb (k' := 3) (by omega) (by omega) rfl (by rw [gj21, gj20]; exact a2) (by rw [gj21, gj20]; exact b2) (by simp only [gj10]; omega),
    wl_sum_b65_s hw ha hb (k' := 4) (by omega) (by omega) rfl (by rw [gj32, gj31, gj30]; exact a3) (by rw [gj32, gj31, gj30]; exact b3) (by simp only [gj10, gj20, gj21]; omega)]
  simp only [gj10, gj20, gj21, gj30, gj31, gj32]
  refine ⟨_, _, _, _, _, rfl, ?_, ?_, ?_⟩
  · refine ⟨?_, ?_, ?_, ?_⟩ <;> exact ⟨Int.emod_nonneg _ (by decide), Int.emod_lt_of_pos _ (by decide)⟩
  · omega
  · unfold wm
    generalize σ (a + 1) 0 = x0 at *
    generalize σ (a + 1) 1 = x1 at *
    generalize σ (a + 1) 2 = x2 at *
    generalize σ (a + 1) 3 = x3 at *
    generalize σ (b + 1) 0 = y0 at *
    generalize σ (b + 1) 1 = y1 at *
    generalize σ (b + 1) 2 = y2 at *
    generalize σ (b + 1) 3 = y3 at *
    omega
theorem wl_sum_s (hw : gWc w) (ha : gWc a) (hb : gWc b) {x y m : Int} (hwa : w ≠ a) (hwb : w ≠ b) (ka : wIs σ a x) (kb : wIs σ b y) (hm : m = 0 ∨ m = 1) :
    ∃ σ' r, wl_sum σ w a b m = some (σ', r) ∧ wFr σ σ' w ∧ (-1000000000000000000000000000000000000 < (if m = 0 then x + y else x - y) → (if m = 0 then x + y else x - y) < 1000000000000000000000000000000000000 → r = 1 ∧ wIs σ' w (if m = 0 then x + y else x - y)) ∧
      ((if m = 0 then x + y else x - y) ≤ -1000000000000000000000000000000000000 ∨ 1000000000000000000000000000000000000 ≤ (if m = 0 then x + y else x - y) → r = 0) := by
  have na := wcn hw ha hwa
  have nb := wcn hw hb hwb
  obtain ⟨oa, ka⟩ := ka
  obtain ⟨ob, kb⟩ := kb
  have la : 0 ≤ wm σ a ∧ wm σ a < 1000000000000000000000000000000000000 := by unfold wm; obtain ⟨h0, h1, h2, h3⟩ := oa; omega
  have lb : 0 ≤ wm σ b ∧ wm σ b < 1000000000000000000000000000000000000 := by unfold wm; obtain ⟨h0, h1, h2, h3⟩ := ob; omega
  -- the other sign, the other number
  obtain ⟨o, y', ho, hy'⟩ : ∃ o y', (if m = 0 then x + y else x - y) = x + y' ∧ (wl_sum σ w a b m = wl_sum_b16 σ w a b o ∧ ((y' < 0 ∧ o = -1 ∧ wm σ b = -y') ∨ (y' = 0 ∧ o = 0 ∧ wm σ b = 0) ∨ (0 < y' ∧ o = 1 ∧ wm σ b = y'))) := by
    rw [wl_sum_e]
    simp only [gWc_is _ hb]
    rcases hm with hm | hm <;> subst hm
    · exact ⟨_, y, by simp, by simp, kb⟩
    · refine ⟨_, -y, by simp [Int.sub_eq_add_neg], by simp; rfl, ?_⟩
      rcases kb with ⟨p1, p2, p3⟩ | ⟨p1, p2, p3⟩ | ⟨p1, p2, p3⟩ <;> rw [p2]
      · right; right; exact ⟨by omega, rfl, by omega⟩
      · right; left; exact ⟨by omega, rfl, by omega⟩
      · left; exact ⟨by omega, rfl, by omega⟩
  rw [ho, hy'.1]
  have ky := hy'.2
  clear ho hy' kb hm
  rw [wl_sum_b16_e]
  simp only [gWc_is _ hw, gWc_is _ ha, gWc_wof _ hw, wl_of_2_s hw ha hwa, wl_of_2_s hw hb hwb, Option.bind_some]
  by_cases o0 : o = 0
  · rw [if_pos o0]
    have hy0 : y' = 0 := by omega
    refine ⟨_, _, rfl, wFr4.2, fun _ _ => ⟨rfl, ?_⟩, fun h => ?_⟩
    · rw [hy0, Int.add_zero]
      refine (wfin oa.1 oa.2.1 oa.2.2.1 oa.2.2.2 ?_).2
      unfold wm at ka
      exact ka
    · omega
  · rw [if_neg o0]
    by_cases s0 : σ a 0 = 0
    · rw [if_pos s0]
      have hx0 : x = 0 := by omega
      refine ⟨_, _, rfl, ?_, fun _ _ => ⟨rfl, ?_⟩, fun h => ?_⟩
      · intro c k h1 h2 h3
        simp only [gW_c h1, w4_c h2]
      · rw [hx0, Int.zero_add]
        unfold wIs wOk wm
        simp only [gW_c (w1n w), w4_0, w4_1, w4_2, w4_3, gW_at]
        unfold wm at ky
        exact ⟨ob, ky⟩
      · omega
    · rw [if_neg s0]
      by_cases sa : σ a 0 = o
      · rw [if_pos sa]
        obtain ⟨n0, n1, n2, n3, c, e, bn, bc, tot⟩ := wl_sum_add hw ha hb oa ob
        have w5 := w4_ok (σ := σ) (w := w) bn.1 bn.2.1 bn.2.2.1 bn.2.2.2
        have sg : w4 σ (w + 1) n0 n1 n2 n3 a 0 = o := by rw [w4_c na.2.2.1, sa]
        rw [e, wl_sum_b65_e, if_neg (by decide), sg, wl_settle_s hw w5.1, w5.2]
        simp only [gWc_is _ hw, gWc_is _ ha, Option.bind_some, l_cmp_0]
        by_cases c0 : c = 0
        · rw [if_pos c0]
          refine ⟨_, _, rfl, wFr4.1, fun _ _ => ⟨rfl, ?_⟩, fun h => ?_⟩
          · refine (wfin bn.1 bn.2.1 bn.2.2.1 bn.2.2.2 ?_).1
            rw [if_neg (by omega)]
            omega
          · omega
        · rw [if_neg c0]
          refine ⟨_, _, rfl, wFr4.1, fun _ _ => ?_, fun h => rfl⟩
          omega
      · rw [if_neg sa, wl_size_s ha hb oa ob]
        simp only [Option.bind_some, wl_sum_b152_e, wl_sum_b165_e, wl_sum_b175_e, wl_sum_b193_e, gWc_is _ hw]
        by_cases lt : wm σ a < wm σ b
        · simp only [if_pos lt, show ((-1 : Int) < 0) by decide, if_true, show ¬ ((1 : Int) = 0) by decide, if_false]
          obtain ⟨n0, n1, n2, n3, e, bn, tot⟩ := wl_less_s hw hb ha ob oa (by omega)
          have w5 := w4_ok (σ := σ) (w := w) bn.1 bn.2.1 bn.2.2.1 bn.2.2.2
          rw [e]
          simp only [Option.bind_some, wl_settle_s hw w5.1, w5.2]
          refine ⟨_, _, rfl, wFr4.1, fun _ _ => ⟨rfl, ?_⟩, fun h => ?_⟩
          · refine (wfin bn.1 bn.2.1 bn.2.2.1 bn.2.2.2 ?_).1
            rw [if_neg (by omega)]
            omega
          · omega
        · simp only [if_neg lt]
          have z : ¬ ((if wm σ a = wm σ b then (0 : Int) else 1) < 0) := by split <;> decide
          simp only [if_neg z, if_true, gWc_is _ ha]
          obtain ⟨n0, n1, n2, n3, e, bn, tot⟩ := wl_less_s hw ha hb oa ob (by omega)
          have w5 := w4_ok (σ := σ) (w := w) bn.1 bn.2.1 bn.2.2.1 bn.2.2.2
          rw [e]
          simp only [Option.bind_some, w4_c na.2.2.1, wl_settle_s hw w5.1, w5.2]
          refine ⟨_, _, rfl, wFr4.1, fun _ _ => ⟨rfl, ?_⟩, fun h => ?_⟩
          · refine (wfin bn.1 bn.2.1 bn.2.2.1 bn.2.2.2 ?_).1
            by_cases k0 : n0 + 1000000000 * n1 + 1000000000000000000 * n2 + 1000000000000000000000000000 * n3 = 0
            · rw [if_pos k0]; omega
            · rw [if_neg k0]; omega
          · omega
end WFS
