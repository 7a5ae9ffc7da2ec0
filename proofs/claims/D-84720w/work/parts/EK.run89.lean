/-! what may be asked between calls: roots -/
section OBS4
variable {σ τ S T Z X : gM} {x y z n : Int}
theorem w32_s (a b : Int) : w32 (w32 a + b) = w32 (a + b) := by
  obtain ⟨k, e⟩ := w32_k a
  rw [e, show a + 4294967296 * k + b = a + b + 4294967296 * k by omega, w32_c]
theorem sumR_s (x60 : 0 ≤ x ∧ x < 60) (h26 : 0 ≤ σ 26 x ∧ σ 26 x + σ 27 x ≤ 16000) : ∀ (d k : Nat), (k : Int) + d = σ 27 x → gt_root_b246 σ x (w32 (chN σ (σ 26 x) k)) k = some (σ, w32 (chN σ (σ 26 x) (σ 27 x).toNat))
  | 0, k, h => by
    rw [gt_root_b246_e, if_pos x60, if_neg (by omega), show (σ 27 x).toNat = k by omega]
  | d + 1, k, h => by
    rw [gt_root_b246_e, if_pos x60, if_pos (by omega), if_pos x60, w32_e (x := σ 26 x + k) (by omega) (by omega), if_pos (by omega), w32_s, w32_e (x := (k : Int) + 1) (by omega) (by omega)]
    exact sumR_s x60 h26 d (k + 1) (by omega)
theorem place_s (h : rQu σ τ) (hr : rRt σ τ) : ∀ (d : Nat) (k : Int), 0 ≤ k → k + d = σ 52 19 → ∃ r, cd_place_b2 σ x k = some (σ, r) ∧ md_root_b169 τ x k = some (τ, r)
  | 0, k, k0, hk => by
    rw [cd_place_b2_e, md_root_b169_e, h.1.2, if_neg (by omega), if_neg (by omega)]
    exact ⟨_, rfl, rfl⟩
  | d + 1, k, k0, hk => by
    have l := h.le hr
    have r60 := hr.1
    have q := (h.2.1 k k0 (by omega)).1
    have kb : 0 ≤ k ∧ k < 60 := by omega
    rw [cd_place_b2_e, md_root_b169_e, h.1.2, if_pos (show k < σ 52 19 by omega), if_pos (show k < σ 52 19 by omega), if_pos kb, if_pos kb, q]
    by_cases z : σ 67 k = x
    · rw [if_pos z, if_pos z]; exact ⟨_, rfl, rfl⟩
    · rw [if_neg z, if_neg z, w32_e (x := k + 1) (by omega) (by omega)]
      exact place_s h hr d (k + 1) (by omega) (by omega)
theorem obs_root (R : RW σ τ) (G : gvR σ τ) (hy : i32 y) : ∃ r, gt_root σ x y = some (σ, r) ∧ md_root τ x y = some (τ, r) := by
  have P1 := R.b.1.1.1
  have hb := P1.2.2.2.2.2.2.2.1.1
  have hN := P1.2.2.2.2.2.2.2.2.1
  have hQ := P1.2.2.2.2.2.2.2.2.2.2.2.2.1
  have hR := P1.2.2.2.2.2.2.2.2.2.2.2.2.2.1
  have hS := P1.2.2.2.2.2.2.2.2.2.2.2.2.2.2.2.1
  have hC := P1.2.2.2.2.2.2.2.2.2.2.2.2.2.2.2.2
  have hi := P1.1.1
  have hm := P1.1.2.1
  unfold i32 at hy
  have r60 := hb.1
  rw [gt_root_e, md_root_e, r60.2.2]
  by_cases x0 : x < 0
  · rw [if_pos x0, if_pos x0]; exact ⟨_, rfl, rfl⟩
  rw [if_neg x0, if_neg x0]
  by_cases x1 : x < σ 8 31
  · have x60 : 0 ≤ x ∧ x < 60 := by omega
    obtain ⟨q32, q34, q33, q25, q157, -⟩ := hb.2 x (by omega) x1
    obtain ⟨f1, f2, f3⟩ := P1.2.2.1 x (by omega) x1
    have e27 : τ 159 x = σ 27 x := by
      by_cases x4 : x < 4
      · rw [(G.1 x (by omega) x4).1, (G.1 x (by omega) x4).2.1]
      · exact (hN.2.1 x (by omega) x1).2.1
    have e31 : τ 161 x = σ 31 x ∧ 0 ≤ σ 31 x ∧ σ 31 x ≤ 12 := by
      by_cases x4 : x < 4
      · rw [(G.1 x (by omega) x4).2.2.1, (G.1 x (by omega) x4).2.2.2.1]
        decide
      · have w := (hR x (by omega) x1).1
        exact ⟨w.2.1, by omega, by omega⟩
    have e7 : gt_root_b246 σ x 0 0 = some (σ, τ 166 x) := by
      by_cases x4 : x < 4
      · rw [gt_root_b246_e, if_pos x60, (G.1 x (by omega) x4).1, if_neg (by decide), (G.1 x (by omega) x4).2.2.2.2]
      · have w := hN.2.1 x (by omega) x1
        have n12 := hN.1
        have s := sumR_s (σ := σ) x60 (by omega) (σ 27 x).toNat 0 (by omega)
        rw [hC x (by omega) x1]
        exact s
    rw [if_pos x1, if_pos x1, if_pos x60, if_pos q25]
    have b115 : y < 0 ∨ 7 < y → gt_root_b115 σ x y = some (σ, -1) := fun q => by
      rw [gt_root_b115_e, if_neg (by omega), if_neg (by omega), if_neg (by omega), if_neg (by omega), if_neg (by omega), if_neg (by omega), if_neg (by omega), if_neg (by omega)]
    by_cases y9 : 9 < y
    · rw [if_neg (show ¬ y < 10 by omega), if_pos x60, if_pos y9, w32_e (x := 10 + σ 31 x) (by omega) (by omega)]
      by_cases yl : y < 10 + σ 31 x
      · have s := (hS x (y - 10) (by omega) x1 (by omega) (by omega)).1
        rw [if_pos yl, if_pos (show y < 22 by omega), if_pos x60, w32_e (x := y - 10) (by omega) (by omega), e31.1, if_pos (show y - 10 < σ 31 x by omega), fr_sort_e, w32_e (x := 12 * x) (by omega) (by omega), w32_e (x := 12 * x + (y - 10)) (by omega) (by omega), w32_e (x := 12 * x + y) (by omega) (by omega), w32_e (x := 12 * x + y - 10) (by omega) (by omega), if_pos (show 0 ≤ 12 * x + (y - 10) ∧ 12 * x + (y - 10) < 720 by omega), if_pos (show 0 ≤ 12 * x + y - 10 ∧ 12 * x + y - 10 < 720 by omega), show 12 * x + y - 10 = 12 * x + (y - 10) by omega, s]
        exact ⟨_, rfl, rfl⟩
      · rw [if_neg yl, gt_root_b70_e]
        by_cases y30 : y < 30
        · rw [if_pos y30, b115 (by omega)]
          by_cases y22 : y < 22
          · rw [if_pos y22, if_pos x60, w32_e (x := y - 10) (by omega) (by omega), e31.1, if_neg (by omega)]
            exact ⟨_, rfl, rfl⟩
          · rw [if_neg y22, md_root_b58_e, if_neg (by omega), if_neg (by omega), if_neg (by omega), if_neg (by omega), if_neg (by omega), if_neg (by omega), if_neg (by omega), if_neg (by omega), if_neg (by omega)]
            exact ⟨_, rfl, rfl⟩
        · have vs := hi.v (Or.inl (P1.2.1.1.2.1 (σ 25 x) f1.1 f1.2).1)
          have vm := (P1.2.1.2.1.2.1 (τ 157 x) f2.1 f2.2).1
          have mv := hm.v (Or.inl vm)
          have sz : τ 123 (τ 155 (τ 157 x)) = σ 3 (σ 23 (σ 25 x)) := lt_sz f3 vs.2.2.2.1 mv.2.2.2.1
          rw [if_neg y30, if_pos (show 0 ≤ σ 23 (σ 25 x) ∧ σ 23 (σ 25 x) < 108000 by omega), if_neg (show ¬ y < 22 by omega), md_root_b58_e, if_pos (show 29 < y by omega), if_pos x60, if_pos q157, w32_e (x := y - 30) (by omega) (by omega), md_letter_s hm (Or.inl vm) (by unfold i32; omega), sz]
          simp only [Option.bind_some]
          by_cases yn : y - 30 < σ 3 (σ 23 (σ 25 x))
          · rw [if_pos yn, if_pos (show 0 ≤ σ 23 (σ 25 x) ∧ σ 23 (σ 25 x) < 108000 by omega), w32_e (x := σ 2 (σ 23 (σ 25 x)) + y) (by omega) (by omega), w32_e (x := σ 2 (σ 23 (σ 25 x)) + y - 30) (by omega) (by omega), if_pos (show 0 ≤ σ 2 (σ 23 (σ 25 x)) + y - 30 ∧ σ 2 (σ 23 (σ 25 x)) + y - 30 < 124600 by omega), if_pos (show 0 ≤ y - 30 ∧ y - 30 < σ 3 (σ 23 (σ 25 x)) by omega), show σ 2 (σ 23 (σ 25 x)) + y - 30 = σ 2 (σ 23 (σ 25 x)) + (y - 30) by omega]
            have := lt_same f3 (i := y - 30) (by omega) (by omega)
            rw [this]
            exact ⟨_, rfl, rfl⟩
          · rw [if_neg yn, if_neg (by omega), b115 (by omega)]
            exact ⟨_, rfl, rfl⟩
    · rw [if_pos (show y < 10 by omega), if_neg y9, gt_root_b70_e, if_pos (show y < 30 by omega), md_root_b58_e, if_neg (show ¬ 29 < y by omega)]
      by_cases yo : y < 0 ∨ 7 < y
      · rw [b115 yo, if_neg (by omega), if_neg (by omega), if_neg (by omega), if_neg (by omega), if_neg (by omega), if_neg (by omega), if_neg (by omega), if_neg (by omega)]
        exact ⟨_, rfl, rfl⟩
      rw [gt_root_b115_e, e27, e31.1, q32.1, q34.1, q33.1, e7]
      simp only [x60, and_self, if_true]
      by_cases h0 : y = 0
      · rw [if_pos h0, if_pos h0]; exact ⟨_, rfl, rfl⟩
      rw [if_neg h0, if_neg h0]
      by_cases h1 : y = 1
      · rw [if_pos h1, if_pos h1]; exact ⟨_, rfl, rfl⟩
      rw [if_neg h1, if_neg h1]
      by_cases h2 : y = 2
      · rw [if_pos h2, if_pos h2]; exact ⟨_, rfl, rfl⟩
      rw [if_neg h2, if_neg h2]
      by_cases h3 : y = 3
      · rw [if_pos h3, if_pos h3]; exact ⟨_, rfl, rfl⟩
      rw [if_neg h3, if_neg h3]
      by_cases h4 : y = 4
      · rw [if_pos h4, if_pos h4]; exact ⟨_, rfl, rfl⟩
      rw [if_neg h4, if_neg h4]
      by_cases h5 : y = 5
      · obtain ⟨r, p1, p2⟩ := place_s (x := x) hQ hb (σ 52 19).toNat 0 (Int.le_refl _) (by have := hQ.1; omega)
        rw [if_pos h5, if_pos h5, cd_place_e, p1, p2]
        exact ⟨_, rfl, rfl⟩
      rw [if_neg h5, if_neg h5]
      by_cases h6 : y = 6
      · obtain ⟨p1, p2⟩ := fr_isNewest_s hb (r := x) (by omega) x1
        rw [if_pos h6, if_pos h6, p1, p2]
        simp only [Option.bind_some]
        by_cases w : σ 24 (σ 25 x) = x
        · rw [if_pos w, if_neg (by decide), if_neg (by decide)]; exact ⟨_, rfl, rfl⟩
        · rw [if_neg w, if_pos rfl, if_pos rfl]; exact ⟨_, rfl, rfl⟩
      rw [if_neg h6, if_neg h6, if_pos (show y = 7 by omega), if_pos (show y = 7 by omega)]
      exact ⟨_, rfl, rfl⟩
  · rw [if_neg x1, if_neg x1]; exact ⟨_, rfl, rfl⟩
end OBS4
