/-! feeding; what a run has come to: both sides -/
section FEED2
variable {σ τ S T Z X : gM} {x y z : Int}
theorem obs_result (R : RW σ τ) : ∃ T r, gt_result σ x = some (σ, r) ∧ md_result τ x = some (T, r) ∧ RW σ T := by
  have st := R.st
  rw [gt_result_e, md_result_e, st.1]
  by_cases s2 : σ 87 23 = 2
  · rw [if_pos s2, if_pos s2]
    obtain ⟨L, w2, w3, w4, w5⟩ : rRs σ τ := by
      obtain ⟨-, -, R⟩ := R
      rcases R with ⟨-, -, w, -⟩ | ⟨-, -, ⟨w, -⟩ | ⟨-, w⟩⟩ | ⟨pT, hT, m, br, co, θ, w⟩
      · omega
      · omega
      · exact w
      · have := w.1.2.2.2.2.1.1.1
        omega
    obtain ⟨τ2, e1, e2⟩ := w2 (gW τ 119 151 0) (fun a q => gW_cell (by omega)) (fun i q => gW_i (by omega)) (gW_at ..)
    rw [e1]
    simp only [Option.bind_some]
    have e151 : τ2 119 151 = 0 := by rw [e2 119 151 (by decide), gW_at]
    have l151 : put2 τ2 L 119 151 = L.length := by rw [put2_151, e151]; omega
    have cT : ∀ a i, a ≠ 129 → a ≠ 225 → ¬ (a = 119 ∧ i = 151) → put2 τ2 L a i = τ a i := fun a i q1 q2 q3 => by
      rw [put2_c q2 q3, e2 a i q1]
      by_cases z : a = 119
      · rw [z, gW_i (fun y => q3 ⟨z, y⟩)]
      · rw [gW_c z]
    have RT : RW σ (put2 τ2 L) := by
      refine R.lw (R.1.mv (fun _ _ _ => rfl) rfl (fun i q1 q2 => cT 119 i (by decide) (by decide) (by omega)) (funext fun i => cT 226 i (by decide) (by decide) (by omega))) R.2.1 ⟨fun _ _ => rfl, fun _ _ _ => rfl, fun _ _ _ => rfl, fun _ _ _ => rfl, fun _ _ _ => rfl, fun _ _ _ => rfl⟩ ⟨fun a q => funext fun i => cT a i (by omega) (by omega) (by omega), fun i q => cT 119 i (by decide) (by decide) (by omega), fun i => ?_⟩
      rw [cT 134 i (by decide) (by decide) (by omega)]
      exact R.b.1.2.2.2.2 i
    refine ⟨put2 τ2 L, ?_⟩
    rw [l151, w3]
    by_cases x0 : x < 0
    · rw [if_pos x0, if_pos x0]; exact ⟨_, rfl, rfl, RT⟩
    · rw [if_neg x0, if_neg x0]
      by_cases x1 : x < L.length
      · rw [if_pos x1, if_pos x1, if_pos (by omega), if_pos (by omega)]
        have a1 := w5 x.toNat (by omega)
        have a2 := put2_at (τ := τ2) (L := L) (k := x.toNat) (by omega)
        rw [e151, show (0 : Int) + (x.toNat : Nat) = x by omega] at a2
        rw [show ((x.toNat : Nat) : Int) = x by omega] at a1
        rw [a1, a2]
        exact ⟨_, rfl, rfl, RT⟩
      · rw [if_neg x1, if_neg x1]; exact ⟨_, rfl, rfl, RT⟩
  · rw [if_neg s2, if_neg s2]
    exact ⟨τ, _, rfl, rfl, R⟩
/-- one word more is fed on the model's side -/
theorem word_s {x1 x2 x3 x4 x5 k p : Int} (h : τ 119 153 = p) (k0 : 0 ≤ k ∧ k < 5) (p0 : 0 ≤ p ∧ p + 20 ≤ 4000) : ∃ T, md_feed_b66 τ x1 x2 x3 x4 x5 k x = md_feed_b18 T x1 x2 x3 x4 x5 (k + 1) ∧ (∀ i, T 226 i = if p + 4 * k ≤ i ∧ i < p + 4 * k + 4 then fo x (i - (p + 4 * k)) else τ 226 i) ∧ ∀ a, a ≠ 226 → T a = τ a := by
  have s : ∀ (U : gM) (c : Int), U 119 153 = p → 0 ≤ c → c < 4 → md_feed_b71 U x1 x2 x3 x4 x5 k x c = md_feed_b71 (gW U 226 (p + 4 * k + c) (w8 (w8 (i_shr x (24 - 8 * c))))) x1 x2 x3 x4 x5 k x (c + 1) := fun U c e c0 c1 => by
    rw [md_feed_b71_e, if_pos c1, e, w32_e (x := 4 * k) (by omega) (by omega), w32_e (x := p + 4 * k) (by omega) (by omega), w32_e (x := p + 4 * k + c) (by omega) (by omega), if_pos (by omega), w32_e (x := 8 * c) (by omega) (by omega), w32_e (x := 24 - 8 * c) (by omega) (by omega), w32_e (x := c + 1) (by omega) (by omega)]
  rw [md_feed_b66_e, s τ 0 h (by decide) (by decide), s _ (0 + 1) (by rw [gW_c (by decide)]; exact h) (by decide) (by decide), s _ (0 + 1 + 1) (by rw [gW_c (by decide), gW_c (by decide)]; exact h) (by decide) (by decide), s _ (0 + 1 + 1 + 1) (by rw [gW_c (by decide), gW_c (by decide), gW_c (by decide)]; exact h) (by decide) (by decide), md_feed_b71_e, if_neg (by decide), w32_e (x := k + 1) (by omega) (by omega)]
  refine ⟨_, rfl, fun i => ?_, fun a q => by rw [gW_cell q, gW_cell q, gW_cell q, gW_cell q]⟩
  rw [gW_if, gW_if, gW_if, gW_if]
  unfold fo
  by_cases c3 : i = p + 4 * k + (0 + 1 + 1 + 1)
  · rw [if_pos c3, if_pos (by omega), show 24 - 8 * (i - (p + 4 * k)) = 24 - 8 * (0 + 1 + 1 + 1) by omega]
  rw [if_neg c3]
  by_cases c2 : i = p + 4 * k + (0 + 1 + 1)
  · rw [if_pos c2, if_pos (by omega), show 24 - 8 * (i - (p + 4 * k)) = 24 - 8 * (0 + 1 + 1) by omega]
  rw [if_neg c2]
  by_cases c1 : i = p + 4 * k + (0 + 1)
  · rw [if_pos c1, if_pos (by omega), show 24 - 8 * (i - (p + 4 * k)) = 24 - 8 * (0 + 1) by omega]
  rw [if_neg c1]
  by_cases c0 : i = p + 4 * k + 0
  · rw [if_pos c0, if_pos (by omega), show 24 - 8 * (i - (p + 4 * k)) = 24 - 8 * 0 by omega]
  rw [if_neg c0, if_neg (by omega)]
/-- both sides while words are fed -/
def fdI (σ τ S T : gM) (p k : Int) : Prop := (S 117 7 = p + 4 * k ∧ T 119 153 = p) ∧ (∀ i, 0 ≤ i → i < p + 4 * k → T 226 i = S 118 i) ∧ ((∀ i, i8 (S 118 i)) ∧ ∀ i, i8 (T 226 i)) ∧ (∀ a, a ≠ 117 → a ≠ 118 → S a = σ a) ∧ (∀ i, i ≠ 7 → S 117 i = σ 117 i) ∧ ∀ a, a ≠ 226 → T a = τ a
theorem fdI.s {x1 x2 x3 x4 x5 k p : Int} (h : fdI σ τ S T p k) (k0 : 0 ≤ k ∧ k < 5) (p0 : 0 ≤ p ∧ p + 20 ≤ 4000) : ∃ S' T', gt_four S x = some (S', 0) ∧ md_feed_b66 T x1 x2 x3 x4 x5 k x = md_feed_b18 T' x1 x2 x3 x4 x5 (k + 1) ∧ fdI σ τ S' T' p (k + 1) := by
  obtain ⟨⟨h1, h2⟩, h3, ⟨h4, h4'⟩, h5, h6, h7⟩ := h
  obtain ⟨S', a1, a2, a3, a4, a5⟩ := four_s (σ := S) (x := x) (by omega) (by omega)
  obtain ⟨T', b1, b2, b3⟩ := word_s (τ := T) (x := x) (x1 := x1) (x2 := x2) (x3 := x3) (x4 := x4) (x5 := x5) (k := k) h2 k0 p0
  refine ⟨S', T', a1, b1, ⟨by omega, by rw [b3 119 (by decide)]; exact h2⟩, fun i i0 i1 => ?_, ⟨fun i => ?_, fun i => ?_⟩, fun a q1 q2 => by rw [a4 a q1 q2, h5 a q1 q2], fun i q => by rw [a5 i q, h6 i q], fun a q => by rw [b3 a q, h7 a q]⟩
  · rw [a3, b2, h1]
    by_cases z : p + 4 * k ≤ i ∧ i < p + 4 * k + 4
    · rw [if_pos z, if_pos z]
    · rw [if_neg z, if_neg z]
      exact h3 i i0 (by omega)
  · rw [a3]
    split
    · exact w8_r _
    · exact h4 i
  · rw [b2]
    split
    · exact w8_r _
    · exact h4' i
theorem feed_pair {x1 x2 x3 x4 x5 : Int} (R : RW σ τ) : ∃ S T r, gt_feed σ x1 x2 x3 x4 x5 = some (S, r) ∧ md_feed τ x1 x2 x3 x4 x5 = some (T, r) ∧ RW S T := by
  obtain ⟨f1, f2, f3, f4, f5⟩ := R.1
  have eC := gt_feed_e σ x1 x2 x3 x4 x5
  have eM := md_feed_e τ x1 x2 x3 x4 x5
  rw [w32_e (x := σ 117 7 + 20) (by omega) (by omega)] at eC
  rw [f1.2.2, w32_e (x := σ 117 7 + 20) (by omega) (by omega)] at eM
  by_cases big : 4000 < σ 117 7 + 20
  · rw [if_pos big] at eC eM
    exact ⟨σ, τ, -1, eC, eM, R⟩
  · rw [if_neg big] at eC eM
    have i0 : fdI σ τ σ τ (σ 117 7) 0 := ⟨⟨by omega, f1.2.2⟩, fun i q1 q2 => f2 i q1 (by omega), f3, fun _ _ _ => rfl, fun _ _ => rfl, fun _ _ => rfl⟩
    have p0 : 0 ≤ σ 117 7 ∧ σ 117 7 + 20 ≤ 4000 := by omega
    obtain ⟨S1, T1, a1, b1, i1⟩ := i0.s (x := x1) (x1 := x1) (x2 := x2) (x3 := x3) (x4 := x4) (x5 := x5) (by decide) p0
    obtain ⟨S2, T2, a2, b2, i2⟩ := i1.s (x := x2) (x1 := x1) (x2 := x2) (x3 := x3) (x4 := x4) (x5 := x5) (by decide) p0
    obtain ⟨S3, T3, a3, b3, i3⟩ := i2.s (x := x3) (x1 := x1) (x2 := x2) (x3 := x3) (x4 := x4) (x5 := x5) (by decide) p0
    obtain ⟨S4, T4, a4, b4, i4⟩ := i3.s (x := x4) (x1 := x1) (x2 := x2) (x3 := x3) (x4 := x4) (x5 := x5) (by decide) p0
    obtain ⟨S5, T5, a5, b5, i5⟩ := i4.s (x := x5) (x1 := x1) (x2 := x2) (x3 := x3) (x4 := x4) (x5 := x5) (by decide) p0
    obtain ⟨⟨j1, j2⟩, j3, j4, j5, j6, j7⟩ := i5
    have eC' : gt_feed σ x1 x2 x3 x4 x5 = some (S5, σ 117 7 + 20) := by
      rw [eC, a1]
      simp only [Option.bind_some]
      rw [a2]
      simp only [Option.bind_some]
      rw [a3]
      simp only [Option.bind_some]
      rw [a4]
      simp only [Option.bind_some]
      rw [a5]
      simp only [Option.bind_some]
      rw [j1, show σ 117 7 + 4 * (0 + 1 + 1 + 1 + 1 + 1) = σ 117 7 + 20 by omega]
    have eM' : md_feed τ x1 x2 x3 x4 x5 = some (gW T5 119 153 (σ 117 7 + 20), σ 117 7 + 20) := by
      rw [eM, md_feed_b18_e, if_pos (by decide), if_pos rfl, b1, md_feed_b18_e, if_pos (by decide), if_neg (by decide), if_pos (by decide), b2, md_feed_b18_e, if_pos (by decide), if_neg (by decide), if_neg (by decide), if_pos (by decide), b3, md_feed_b18_e, if_pos (by decide), if_neg (by decide), if_neg (by decide), if_neg (by decide), if_pos (by decide), b4, md_feed_b18_e, if_pos (by decide), if_neg (by decide), if_neg (by decide), if_neg (by decide), if_neg (by decide), b5, md_feed_b18_e, if_neg (by decide), j2, w32_e (by omega) (by omega)]
    refine ⟨S5, _, _, eC', eM', R.lw ⟨⟨by omega, by omega, by rw [gW_at]; omega⟩, fun i q1 q2 => by rw [gW_c (by decide)]; exact j3 i q1 (by omega), ⟨j4.1, fun i => by rw [gW_c (by decide)]; exact j4.2 i⟩, by rw [gW_i (by decide), j7 119 (by decide), j6 8 (by decide)]; exact f4, by rw [gW_i (by decide), j7 119 (by decide), j6 9 (by decide)]; exact f5⟩ (b8_inl bm_gt_feed (gt_feed_l σ x1 x2 x3 x4 x5) eC' R.2.1) ⟨fun a q => j5 a (by omega) (by omega), fun i _ _ => by rw [j5 0 (by decide) (by decide)], fun i _ _ => by rw [j5 8 (by decide) (by decide)], fun i _ _ => by rw [j5 42 (by decide) (by decide)], fun i _ _ => by rw [j5 52 (by decide) (by decide)], fun i _ _ => by rw [j5 87 (by decide) (by decide)]⟩ ⟨fun a q => by rw [gW_cell (by omega), j7 a (by omega)], fun i q => by rw [gW_i (by omega), j7 119 (by decide)], fun i => by rw [gW_c (by decide), j7 134 (by decide)]; exact R.b.1.2.2.2.2 i⟩⟩
end FEED2
