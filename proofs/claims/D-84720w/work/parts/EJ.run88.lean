/-! what may be asked between calls: nodes -/
section OBS3
variable {σ τ S T Z X : gM} {x y z n : Int}
theorem node_z {v : Int} (h : rN1 σ τ n) (hn : 0 ≤ n ∧ n < 16000) (hv : v = if σ 9 n = 21 ∨ σ 9 n = 22 ∨ σ 9 n = 23 then 1 else 0) (hz : i32 z) : ∃ r, gt_node_b85 σ z n (σ 9 n) v = some (σ, r) ∧ md_node_b79 τ z n v = some (τ, r) := by
  obtain ⟨k9, k10, k11, k12, k13, k18, en⟩ := h
  have n2 : 0 ≤ n ∧ n < 20000 := by omega
  unfold i32 at hz
  have v01 : v = 0 ∨ v = 1 := by rw [hv]; split <;> simp
  have v22 : σ 9 n = 22 → v = 1 := fun q => by rw [hv, if_pos (Or.inr (Or.inl q))]
  -- which entry is meant
  have b108 : ∀ w, gt_node_b108 σ z n (σ 9 n) v w = gt_node_b140 σ z n (σ 9 n) v w (if v = 1 ∧ 0 ≤ w ∧ w < σ 18 n then 1 else 0) := fun w => by
    rw [gt_node_b108_e, gt_node_b139_e]
    by_cases v0 : v = 0
    · rw [if_pos v0, if_neg (by omega)]
    · rw [if_neg v0]
      by_cases w0 : w < 0
      · rw [if_pos w0, if_neg (by omega)]
      · rw [if_neg w0, if_pos hn]
        by_cases w1 : w < σ 18 n
        · rw [if_pos w1, if_pos (by omega)]
        · rw [if_neg w1, if_neg (by omega)]
  by_cases z5 : 5 ≤ z ∧ z ≤ 7
  · rw [gt_node_b85_e, if_neg (by omega), if_neg (by omega), w32_e (x := z - 5) (by omega) (by omega), b108, md_node_b79_e, if_pos (show 4 < z by omega), if_pos (show z < 8 by omega), w32_e (x := z - 5) (by omega) (by omega), k18.1, gt_node_b140_e, w32_e (x := 9 * n) (by omega) (by omega), w32_e (x := 3 * (z - 5)) (by omega) (by omega), w32_e (x := 9 * n + 3 * (z - 5)) (by omega) (by omega), w32_e (x := 3 * n) (by omega) (by omega), w32_e (x := 3 * n + z) (by omega) (by omega), w32_e (x := 3 * n + z - 5) (by omega) (by omega)]
    have b1 : 0 ≤ 9 * n + 3 * (z - 5) ∧ 9 * n + 3 * (z - 5) < 144000 := by omega
    have b2 : 0 ≤ 3 * n + z - 5 ∧ 3 * n + z - 5 < 60000 := by omega
    by_cases c : v = 1 ∧ 0 ≤ z - 5 ∧ z - 5 < σ 18 n
    · have e := (en (z - 5) c.2.1 c.2.2).1
      rw [show 3 * n + (z - 5) = 3 * n + z - 5 by omega] at e
      simp only [if_pos c, b1, b2, and_self, if_true]
      rw [if_neg (show ¬ v = 0 by omega), if_pos n2, if_pos c.2.2, e, if_neg (show ¬ z = 0 by omega), if_neg (show ¬ z = 1 by omega), if_neg (show ¬ z = 2 by omega), if_neg (show ¬ z = 3 by omega), if_neg (show ¬ z = 4 by omega)]
      by_cases q5 : z = 5
      · rw [if_pos q5, if_neg (by decide), if_neg (show ¬ v = 0 by omega)]; exact ⟨_, rfl, rfl⟩
      rw [if_neg q5]
      by_cases q6 : z = 6
      · rw [if_pos q6, if_neg (by decide), if_neg (show ¬ v = 0 by omega)]; exact ⟨_, rfl, rfl⟩
      rw [if_neg q6, if_pos (show z = 7 by omega), if_neg (by decide), if_neg (show ¬ v = 0 by omega)]
      exact ⟨_, rfl, rfl⟩
    · have mr : (if v = 0 then some (τ, -1) else if 0 ≤ n ∧ n < 20000 then if z - 5 < σ 18 n then if 0 ≤ 3 * n + z - 5 ∧ 3 * n + z - 5 < 60000 then some (τ, τ 182 (3 * n + z - 5)) else none else some (τ, -1) else none) = some (τ, (-1 : Int)) := by
        by_cases v0 : v = 0
        · rw [if_pos v0]
        · rw [if_neg v0, if_pos n2, if_neg (by omega)]
      rw [mr]
      simp only [if_neg c, if_true]
      rw [if_neg (show ¬ z = 0 by omega), if_neg (show ¬ z = 1 by omega), if_neg (show ¬ z = 2 by omega), if_neg (show ¬ z = 3 by omega), if_neg (show ¬ z = 4 by omega)]
      by_cases q5 : z = 5
      · rw [if_pos q5]; exact ⟨_, rfl, rfl⟩
      rw [if_neg q5]
      by_cases q6 : z = 6
      · rw [if_pos q6]; exact ⟨_, rfl, rfl⟩
      rw [if_neg q6, if_pos (by omega)]
      exact ⟨_, rfl, rfl⟩
  · by_cases z8 : 8 ≤ z ∧ z ≤ 10
    · rw [gt_node_b85_e, if_neg (by omega), if_pos (by omega), gt_node_b104_e, w32_e (x := z - 8) (by omega) (by omega), b108, md_node_b79_e, if_pos (show 4 < z by omega), if_neg (show ¬ z < 8 by omega), md_node_b128_e, if_pos (show 7 < z by omega), if_pos (show z < 11 by omega), if_pos n2, k9, if_pos n2, w32_e (x := z - 8) (by omega) (by omega), k18.1, gt_node_b140_e, w32_e (x := 9 * n) (by omega) (by omega), w32_e (x := 3 * (z - 8)) (by omega) (by omega), w32_e (x := 9 * n + 3 * (z - 8)) (by omega) (by omega), w32_e (x := 9 * n + 3 * (z - 8) + 2) (by omega) (by omega), w32_e (x := 3 * n) (by omega) (by omega), w32_e (x := 3 * n + z) (by omega) (by omega), w32_e (x := 3 * n + z - 8) (by omega) (by omega)]
      have b1 : 0 ≤ 9 * n + 3 * (z - 8) + 2 ∧ 9 * n + 3 * (z - 8) + 2 < 144000 := by omega
      have b2 : 0 ≤ 3 * n + z - 8 ∧ 3 * n + z - 8 < 60000 := by omega
      simp only [b1, b2, and_self, if_true]
      rw [if_neg (show ¬ z = 0 by omega), if_neg (show ¬ z = 1 by omega), if_neg (show ¬ z = 2 by omega), if_neg (show ¬ z = 3 by omega), if_neg (show ¬ z = 4 by omega), if_neg (show ¬ z = 5 by omega), if_neg (show ¬ z = 6 by omega), if_neg (show ¬ z = 7 by omega)]
      have res : ∃ r, (if (if v = 1 ∧ 0 ≤ z - 8 ∧ z - 8 < σ 18 n then (1 : Int) else 0) = 0 then some (σ, -1) else if σ 9 n = 22 then some (σ, σ 19 (9 * n + 3 * (z - 8) + 2)) else some (σ, -1)) = some (σ, r) ∧ (if σ 9 n = 22 then if z - 8 < σ 18 n then some (τ, τ 184 (3 * n + z - 8)) else some (τ, -1) else some (τ, -1)) = some (τ, r) := by
        by_cases c : v = 1 ∧ 0 ≤ z - 8 ∧ z - 8 < σ 18 n
        · rw [if_pos c, if_neg (by decide)]
          by_cases q : σ 9 n = 22
          · have e : τ 184 (3 * n + (z - 8)) = σ 19 (9 * n + 3 * (z - 8) + 2) := by
              rcases (en (z - 8) c.2.1 c.2.2).2 with w | w | w
              · omega
              · omega
              · exact w.2.2.2.2.2.1
            rw [show 3 * n + (z - 8) = 3 * n + z - 8 by omega] at e
            rw [if_pos q, if_pos q, if_pos c.2.2, e]
            exact ⟨_, rfl, rfl⟩
          · rw [if_neg q, if_neg q]; exact ⟨_, rfl, rfl⟩
        · rw [if_neg c, if_pos rfl]
          by_cases q : σ 9 n = 22
          · have := v22 q
            rw [if_pos q, if_neg (by omega)]; exact ⟨_, rfl, rfl⟩
          · rw [if_neg q]; exact ⟨_, rfl, rfl⟩
      by_cases q8 : z = 8
      · rw [if_pos q8]; exact res
      rw [if_neg q8]
      by_cases q9 : z = 9
      · rw [if_pos q9]; exact res
      rw [if_neg q9, if_pos (show z = 10 by omega)]
      exact res
    · obtain ⟨w, f, e⟩ : ∃ w f, gt_node_b85 σ z n (σ 9 n) v = gt_node_b140 σ z n (σ 9 n) v w f := by
        rw [gt_node_b85_e, gt_node_b104_e]
        by_cases q : z < 5
        · rw [if_pos q, b108]; exact ⟨_, _, rfl⟩
        · rw [if_neg q, if_pos (by omega), b108]; exact ⟨_, _, rfl⟩
      have eM : md_node_b79 τ z n v = md_node_b185 τ z n v := by
        rw [md_node_b79_e, md_node_b128_e]
        by_cases q : 4 < z
        · rw [if_pos q, if_neg (by omega), if_pos (by omega), if_neg (by omega)]
        · rw [if_neg q, if_neg (by omega)]
      rw [e, eM, gt_node_b140_e, md_node_b185_e, if_pos n2, if_pos n2, if_pos n2, if_pos n2, if_pos n2, if_pos n2, k9, k10, k11.1, k12, k13, k18.1]
      simp only [hn, and_self, if_true]
      by_cases h0 : z = 0
      · rw [if_pos h0, if_pos h0]; exact ⟨_, rfl, rfl⟩
      rw [if_neg h0, if_neg h0]
      by_cases h1 : z = 1
      · rw [if_pos h1, if_pos h1]; exact ⟨_, rfl, rfl⟩
      rw [if_neg h1, if_neg h1]
      by_cases h2 : z = 2
      · rw [if_pos h2, if_pos h2]; exact ⟨_, rfl, rfl⟩
      rw [if_neg h2, if_neg h2]
      by_cases h3 : z = 3
      · rw [if_pos h3, if_pos h3]; exact ⟨_, rfl, rfl⟩
      rw [if_neg h3, if_neg h3]
      by_cases h4 : z = 4
      · rw [if_pos h4, if_pos h4]
        by_cases v0 : v = 0
        · rw [if_pos v0, if_pos v0]; exact ⟨_, rfl, rfl⟩
        · rw [if_neg v0, if_neg v0]; exact ⟨_, rfl, rfl⟩
      rw [if_neg h4, if_neg h4, if_neg (show ¬ z = 5 by omega), if_neg (show ¬ z = 6 by omega), if_neg (show ¬ z = 7 by omega), if_neg (show ¬ z = 8 by omega), if_neg (show ¬ z = 9 by omega), if_neg (show ¬ z = 10 by omega)]
      by_cases h11 : z = 11
      · rw [if_pos h11, if_pos h11]; exact ⟨_, rfl, rfl⟩
      rw [if_neg h11, if_neg h11]
      exact ⟨_, rfl, rfl⟩
theorem obs_node (R : RW σ τ) (G : gvR σ τ) (hz : i32 z) : ∃ r, gt_node σ x y z = some (σ, r) ∧ md_node τ x y z = some (τ, r) := by
  have P1 := R.b.1.1.1
  have hb := P1.2.2.2.2.2.2.2.1.1.1
  have hN := P1.2.2.2.2.2.2.2.2.1
  rw [gt_node_e, md_node_e, hb.2.2]
  by_cases x0 : x < 0
  · rw [if_pos x0, if_pos x0]; exact ⟨_, rfl, rfl⟩
  rw [if_neg x0, if_neg x0]
  by_cases x1 : x < σ 8 31
  · have x60 : 0 ≤ x ∧ x < 60 := by omega
    rw [if_pos x1, if_pos x1]
    by_cases y0 : y < 0
    · rw [if_pos y0, if_pos y0]; exact ⟨_, rfl, rfl⟩
    rw [if_neg y0, if_neg y0, if_pos x60, if_pos x60]
    by_cases x4 : x < 4
    · have g := G.1 x (by omega) x4
      rw [g.1, g.2.1, if_neg y0, if_neg y0, if_pos x60]
      exact ⟨_, rfl, rfl⟩
    · obtain ⟨r1, r2, r3, r4, r5, r6⟩ := hN.2.1 x (by omega) x1
      have n12 := hN.1
      rw [r1, r2]
      by_cases y1 : y < σ 27 x
      · have b1 : 0 ≤ σ 26 x + y ∧ σ 26 x + y < 16000 := by omega
        have b2 : 0 ≤ σ 26 x + y ∧ σ 26 x + y < 20000 := by omega
        have hn := hN.2.2 (σ 26 x + y) (by omega) (by omega)
        have k9 := hn.1
        rw [if_pos y1, if_pos y1, if_pos x60, if_pos x60, w32_e (x := σ 26 x + y) (by omega) (by omega), if_pos b1]
        generalize σ 26 x + y = n at *
        simp only [b2, and_self, if_true]
        rw [k9]
        simp only [gt_node_b80_e, md_node_b74_e]
        obtain ⟨r, q1, q2⟩ := node_z (z := z) hn b1 rfl hz
        refine ⟨r, ?_, ?_⟩
        · rw [← q1]
          by_cases g1 : σ 9 n = 21
          · rw [if_pos g1, if_pos (Or.inl g1)]
          rw [if_neg g1]
          by_cases g2 : σ 9 n = 22
          · rw [if_pos g2, if_pos (Or.inr (Or.inl g2))]
          rw [if_neg g2]
          by_cases g3 : σ 9 n = 23
          · rw [if_pos g3, if_pos (Or.inr (Or.inr g3))]
          rw [if_neg g3, if_neg (by omega)]
        · rw [← q2]
          by_cases g1 : σ 9 n = 21
          · rw [if_pos g1, if_pos (Or.inl g1)]
          rw [if_neg g1]
          by_cases g2 : σ 9 n = 22
          · rw [if_pos g2, if_pos (Or.inr (Or.inl g2))]
          rw [if_neg g2]
          by_cases g3 : σ 9 n = 23
          · rw [if_pos g3, if_pos (Or.inr (Or.inr g3))]
          rw [if_neg g3, if_neg (by omega)]
      · rw [if_neg y1, if_neg y1, if_pos x60]; exact ⟨_, rfl, rfl⟩
  · rw [if_neg x1, if_neg x1]; exact ⟨_, rfl, rfl⟩
end OBS3
