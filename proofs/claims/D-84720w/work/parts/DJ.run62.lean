/-! results that need room: both sides -/
section RB
variable {σ τ S T Z X : gM} {pT hT : Int → Int} {m : Nat} {br co θ n : Int}
theorem bits4 {s : Int} (h : 0 ≤ s ∧ s < 16) : ((0 ≤ i_or s 1 ∧ i_or s 1 < 16) ∧ i_or s 1 / 2 % 2 = s / 2 % 2) ∧ ((0 ≤ i_or (i_and s (-2)) 2 ∧ i_or (i_and s (-2)) 2 < 16) ∧ i_or (i_and s (-2)) 2 % 2 = 0 ∧ i_or (i_and s (-2)) 2 / 2 % 2 = 1) ∧ ((0 ≤ i_or s 4 ∧ i_or s 4 < 16) ∧ i_or s 4 % 2 = s % 2 ∧ i_or s 4 / 2 % 2 = s / 2 % 2) ∧ (0 ≤ i_or (i_and s (-8)) 8 ∧ i_or (i_and s (-8)) 8 < 16) ∧ (0 ≤ i_or s 2 ∧ i_or s 2 < 16) := by
  have : ∀ k : Fin 16, ((0 ≤ i_or k.val 1 ∧ i_or k.val 1 < 16) ∧ i_or k.val 1 / 2 % 2 = (k.val : Int) / 2 % 2) ∧ ((0 ≤ i_or (i_and k.val (-2)) 2 ∧ i_or (i_and k.val (-2)) 2 < 16) ∧ i_or (i_and k.val (-2)) 2 % 2 = 0 ∧ i_or (i_and k.val (-2)) 2 / 2 % 2 = 1) ∧ ((0 ≤ i_or k.val 4 ∧ i_or k.val 4 < 16) ∧ i_or k.val 4 % 2 = (k.val : Int) % 2 ∧ i_or k.val 4 / 2 % 2 = (k.val : Int) / 2 % 2) ∧ (0 ≤ i_or (i_and k.val (-8)) 8 ∧ i_or (i_and k.val (-8)) 8 < 16) ∧ (0 ≤ i_or k.val 2 ∧ i_or k.val 2 < 16) := by decide +kernel
  have hk := this ⟨s.toNat, by omega⟩
  have e : ((s.toNat : Nat) : Int) = s := by omega
  simp only [e] at hk
  exact hk
/-- a node's state changes while the model has not yet counted the room -/
theorem set_pairT {w v g b rep : Int} (R : RQ σ (gW τ 119 11 w) pT hT) (hn : σ 26 (σ 90 (σ 87 21)) ≤ n ∧ n < σ 26 (σ 90 (σ 87 21)) + σ 27 (σ 90 (σ 87 21))) (hv : v = if rep = 0 then i_or (σ 11 n) b else i_or (i_and (σ 11 n) (i_xor (w32 (b - 1)) (-1))) b) (hg : g = if rep = 0 then τ 179 n else i_or (τ 179 n) (w32 (b - 1))) (v16 : 0 ≤ v ∧ v < 16) (nk : 8 ≤ σ 9 n ∧ σ 9 n ≤ 17) (n2 : 8 ≤ σ 9 n → σ 9 n ≤ 11 → (v % 2 = 1 → v / 2 % 2 = 0) ∧ (v / 2 % 2 = 0 → g = 0)) :
    ∃ S T, mc_changes σ n v = some (S, 0) ∧ md_settle τ n b rep = some (T, 0) ∧ RQ S (gW T 119 11 w) pT hT ∧ ndX σ (gW τ 119 11 w) S (gW T 119 11 w) ∧ cgC σ S n v ∧ cgM τ T n (σ 90 (σ 87 21)) v g := by
  obtain ⟨c1, c2, c3, c4, c5, c6⟩ := R.cu
  have u1 : ∀ (W : gM) a, a ≠ 119 → gW W 119 11 w a = W a := fun W a q => gW_cell q
  have u2 : ∀ (W : gM) i, i ≠ 11 → gW W 119 11 w 119 i = W 119 i := fun W i q => gW_i q
  have R' := R
  obtain ⟨⟨⟨P1, -⟩, -⟩, A, -⟩ := R'
  have hN := P1.2.2.2.2.2.2.2.2.1
  have n8 := hN.2.1 _ c2.1 c2.2
  have nn := hN.2.2 n (by omega) (by omega)
  have e178 := nn.2.2.1.1
  rw [u1 τ 178 (by decide)] at e178
  have A0 : aA σ τ pT := A.mv (fun a _ => rfl) rfl (fun _ _ _ => rfl) (fun _ _ => rfl) (fun a q => (u1 τ a (by omega)).symm) (fun i q => (u2 τ i (by omega)).symm)
  have h174 := c6 n hn.1 hn.2
  rw [u1 τ 174 (by decide)] at h174
  obtain ⟨S, T, s1, s2, s3, s4, s5, s6, s7, s8⟩ := settle_pair (n := n) (v := v) (g := g) (b := b) (rep := rep) A0 (by omega) h174 (by rw [e178]; exact hv) hg
  have A1 : aA S (gW T 119 11 w) pT := s3.mv (fun a _ => rfl) rfl (fun _ _ _ => rfl) (fun _ _ => rfl) (fun a q => u1 T a (by omega)) (fun i q => u2 T i (by omega))
  have d : cgM (gW τ 119 11 w) (gW T 119 11 w) n (σ 90 (σ 87 21)) v g := by
    obtain ⟨d1, d2, d3, d4, d5, d6, d7⟩ := s6
    refine ⟨fun a i q1 q2 q3 q4 q5 q6 q7 q8 q9 => by rw [u1 T a q1, u1 τ a q1, d1 a i q1 q2 q3 q4 q5 q6 q7 q8 q9], by rw [u1 T 178 (by decide), u1 τ 178 (by decide)]; exact d2, by rw [u1 T 179 (by decide), u1 τ 179 (by decide)]; exact d3, by rw [u1 T 180 (by decide), u1 τ 180 (by decide)]; exact d4, by rw [u1 T 166 (by decide), u1 τ 166 (by decide)]; exact d5, fun i q => ?_, by rw [u1 T 224 (by decide), u1 τ 224 (by decide)]; exact d7⟩
    by_cases z : i = 11
    · rw [z, gW_at, gW_at]
    · rw [u2 T i z, u2 τ i z, d6 i q]
  refine ⟨S, T, s1, s2, R.st A1 s4 s5 d rfl hn v16 (by omega) (by omega) n2 (by omega) s7, cg_nd s5 d ?_, s5, s6⟩
  rw [u2 T 123 (by decide), u2 τ 123 (by decide)]
  exact s8
/-- what a node needs, of two things: both sides -/
theorem needs_pair {w b rep : Int} (R : RQ σ (gW τ 119 11 w) pT hT) (hn : σ 26 (σ 90 (σ 87 21)) ≤ n ∧ n < σ 26 (σ 90 (σ 87 21)) + σ 27 (σ 90 (σ 87 21))) (hk : 8 ≤ σ 9 n ∧ σ 9 n ≤ 17) (hb : (b = 1 ∧ rep = 0) ∨ (b = 2 ∧ rep = 1) ∨ (b = 2 ∧ rep = 0) ∨ (b = 4 ∧ rep = 0) ∨ (b = 8 ∧ rep = 1)) (h11 : σ 9 n ≤ 11 → (b = 1 ∧ σ 11 n / 2 % 2 = 0) ∨ (b = 2 ∧ rep = 1) ∨ b = 4) :
    ∃ S T, mc_needs σ n b rep = some (S, 0) ∧ ((i_and (σ 11 n) b = 0 ∧ md_settle τ n b rep = some (T, 0)) ∨ (¬ i_and (σ 11 n) b = 0 ∧ T = τ)) ∧ RQ S (gW T 119 11 w) pT hT ∧ ndX σ (gW τ 119 11 w) S (gW T 119 11 w) ∧ (∀ a, a < 11 ∨ 96 < a → S a = σ a) ∧ (∀ i, i ≠ 22 → i ≠ 36 → i ≠ 38 → S 87 i = σ 87 i) ∧ (∀ a, (120 ≤ a ∧ a ≤ 162) ∨ a = 225 → T a = τ a) ∧ (∀ i, i ≠ 123 → T 119 i = τ 119 i) := by
  obtain ⟨c1, c2, c3, c4, c5, c6⟩ := R.cu
  have u1 : ∀ (W : gM) a, a ≠ 119 → gW W 119 11 w a = W a := fun W a q => gW_cell q
  have hN := R.1.1.1.2.2.2.2.2.2.2.2.1
  have n8 := hN.2.1 _ c2.1 c2.2
  have nn := hN.2.2 n (by omega) (by omega)
  have s16 := nn.2.2.1.2
  have iv := (R.1.2.1.1 n (by omega) (by omega)).2.1
  rw [u1 τ 179 (by decide)] at iv
  have nb : 0 ≤ n ∧ n < 16000 := by have := hN.1; omega
  have bt := bits4 s16
  have ab := i_and_bit s16.1 s16.2
  have m2 : w32 (-2) = -2 := by decide
  have m8 : w32 (-8) = -8 := by decide
  have x2 : i_xor (w32 (2 - 1)) (-1) = -2 := by decide +kernel
  have x8 : i_xor (w32 (8 - 1)) (-1) = -8 := by decide +kernel
  by_cases z : i_and (σ 11 n) b = 0
  · generalize ev : (if rep = 0 then i_or (σ 11 n) b else i_or (i_and (σ 11 n) (i_xor (w32 (b - 1)) (-1))) b) = v
    generalize eg : (if rep = 0 then τ 179 n else i_or (τ 179 n) (w32 (b - 1))) = g
    have em : mc_needs σ n b rep = ((mc_changes σ n v).bind fun p1 => some (p1.1, 0)) := by
      rw [mc_needs_e, if_pos nb, if_pos z]
      rcases hb with ⟨q1, q2⟩ | ⟨q1, q2⟩ | ⟨q1, q2⟩ | ⟨q1, q2⟩ | ⟨q1, q2⟩
      · rw [if_pos q2, mc_needs_b38_e]; rw [if_pos q2] at ev; rw [ev]
      · rw [if_neg (by omega), mc_needs_b38_e]; rw [if_neg (by omega)] at ev; rw [← ev, q1, m2, x2]
      · rw [if_pos q2, mc_needs_b38_e]; rw [if_pos q2] at ev; rw [ev]
      · rw [if_pos q2, mc_needs_b38_e]; rw [if_pos q2] at ev; rw [ev]
      · rw [if_neg (by omega), mc_needs_b38_e]; rw [if_neg (by omega)] at ev; rw [← ev, q1, m8, x8]
    have v16 : 0 ≤ v ∧ v < 16 := by
      rcases hb with ⟨q1, q2⟩ | ⟨q1, q2⟩ | ⟨q1, q2⟩ | ⟨q1, q2⟩ | ⟨q1, q2⟩
      · rw [← ev, if_pos q2, q1]; exact bt.1.1
      · rw [← ev, if_neg (by omega), q1, x2]; exact bt.2.1.1
      · rw [← ev, if_pos q2, q1]; exact bt.2.2.2.2
      · rw [← ev, if_pos q2, q1]; exact bt.2.2.1.1
      · rw [← ev, if_neg (by omega), q1, x8]; exact bt.2.2.2.1
    have n2 : 8 ≤ σ 9 n → σ 9 n ≤ 11 → (v % 2 = 1 → v / 2 % 2 = 0) ∧ (v / 2 % 2 = 0 → g = 0) := fun k8 k11 => by
      have iv' := iv k8 k11
      rcases h11 k11 with ⟨q1, q2⟩ | ⟨q1, q2⟩ | q1
      · have q3 : rep = 0 := by omega
        rw [← ev, ← eg, if_pos q3, if_pos q3, q1, bt.1.2]
        exact ⟨fun _ => q2, fun _ => iv'.2 q2⟩
      · rw [← ev, if_neg (by omega), q1, x2]
        have w1 := bt.2.1.2.1
        have w2 := bt.2.1.2.2
        exact ⟨fun q => by omega, fun q => by omega⟩
      · have q3 : rep = 0 := by omega
        rw [← ev, ← eg, if_pos q3, if_pos q3, q1, bt.2.2.1.2.1, bt.2.2.1.2.2]
        exact iv'
    obtain ⟨S, T, s1, s2, s3, s4, s5, s6⟩ := set_pairT (v := v) (g := g) (b := b) (rep := rep) R hn ev.symm eg.symm v16 hk n2
    refine ⟨S, T, by rw [em, s1]; rfl, Or.inl ⟨z, s2⟩, s3, s4, fun a q => funext fun j => s5.1 a j (by omega) (by omega) (by omega) (by omega) (by omega) (by omega) (by omega) (by omega) (by omega), s5.2.2.2.1, fun a q => funext fun j => s6.1 a j (by omega) (by omega) (by omega) (by omega) (by omega) (by omega) (by omega) (by omega) (by omega), s6.2.2.2.2.2.1⟩
  · refine ⟨σ, τ, by rw [mc_needs_e, if_pos nb, if_neg z], Or.inr ⟨z, rfl⟩, R, ndX.rf, fun _ _ => rfl, fun _ _ _ _ => rfl, fun _ _ => rfl, fun _ _ => rfl⟩
/-- great numbers come -/
theorem hpF.mk2 (P : rPg σ τ) (c : ∀ a, (1 ≤ a ∧ a ≤ 5) ∨ (8 ≤ a ∧ a ≤ 35) ∨ a = 40 ∨ (42 ≤ a ∧ a ≤ 67) → Z a = σ a) (c0 : ∀ i, i ≠ 12 → i ≠ 13 → Z 0 i = σ 0 i) (c12 : σ 0 12 ≤ Z 0 12) (c13 : σ 0 13 ≤ Z 0 13 ∧ Z 0 13 ≤ 100000) (c6 : ∀ k, k < σ 0 12 → Z 6 k = σ 6 k) (c7 : ∀ j, j < 4 * σ 0 12 → Z 7 j = σ 7 j) (c31 : σ 87 31 ≤ Z 87 31) (d : ∀ a, (121 ≤ a ∧ a ≤ 127) ∨ (155 ≤ a ∧ a ≤ 192) ∨ (196 ≤ a ∧ a ≤ 206) → X a = τ a) (d128 : ∀ j, j < 5 * τ 119 16 → X 128 j = τ 128 j) (d119 : ∀ i, i = 9 ∨ i = 10 ∨ i = 12 ∨ i = 13 ∨ i = 15 ∨ (55 ≤ i ∧ i ≤ 57) ∨ (89 ≤ i ∧ i ≤ 94) ∨ i = 104 → X 119 i = τ 119 i) (d16 : τ 119 16 ≤ X 119 16) (gr : rGr Z X) : hpF σ τ Z X := by
  have hi := P.1.1
  have mi := P.1.2.1
  have m8 := P.1.2.2
  obtain ⟨h1, h2, h3, h4, h5, h6⟩ := hi
  have cs : ∀ s, cS Z s = cS σ s := fun s => cS_mv (c 1 (by decide)) (c 2 (by decide)) (c 3 (by decide))
  have vs : ∀ s, vS Z s ↔ vS σ s := fun s => by
    unfold vS
    rw [c0 7 (by decide) (by decide), c0 10 (by decide) (by decide)]
  refine ⟨⟨⟨?_, ?_, ?_, ?_, ?_, ?_⟩, mI_mv mi (d119 9 (by decide)) (d119 10 (by decide)) (d119 12 (by decide)) (d119 13 (by decide)) (fun a q1 q2 => d a (by omega)), by rw [d 121 (by decide)]; exact m8⟩, ⟨fun a q => c a (by omega), c31, ⟨c0 7 (by decide) (by decide), c0 9 (by decide) (by decide)⟩, fun s hs => ⟨(vs s).mpr hs, cs s, by rw [c 4 (by decide)], by rw [c 5 (by decide)], by rw [c 3 (by decide)]⟩, fun s q1 q2 => absurd ((vs s).mp q1) q2, c12, fun k x hk q => ?_⟩, ⟨fun a q => d a (by omega), fun i q => d119 i (by omega), fun r q => ⟨?_, mS_mv fun a q1 q2 => d a (by omega)⟩, d16, fun y x hy q => ?_⟩, gr⟩
  · rw [c0 7 (by decide) (by decide)]; exact h1
  · rw [c0 8 (by decide) (by decide)]; exact h2
  · rw [c0 7 (by decide) (by decide), c0 8 (by decide) (by decide), c 2 (by decide), c 3 (by decide)]; exact h3
  · intro s t s0 s1 t0 t1 e
    rw [c0 7 (by decide) (by decide)] at s1 t1
    rw [cs s, cs t] at e
    exact h4 s t s0 s1 t0 t1 e
  · rw [c0 10 (by decide) (by decide), c0 11 (by decide) (by decide)]
    omega
  · rw [c0 10 (by decide) (by decide), c0 11 (by decide) (by decide), c 2 (by decide), c 3 (by decide)]; exact h6
  · unfold cB at q ⊢
    rw [c6 k hk, c7 (4 * k) (by omega), c7 (4 * k + 1) (by omega), c7 (4 * k + 2) (by omega), c7 (4 * k + 3) (by omega)]
    exact q
  · unfold vM at q ⊢
    rw [d119 10 (by decide), d119 13 (by decide)]
    exact q
  · unfold mB at q ⊢
    rw [d128 (5 * y) (by omega), d128 (5 * y + 1) (by omega), d128 (5 * y + 2) (by omega), d128 (5 * y + 3) (by omega), d128 (5 * y + 4) (by omega)]
    exact q
/-- a great number that was reckoned is kept: the component -/
theorem hp_whole_r {x : Int} (hk : 0 ≤ σ 0 12 ∧ σ 0 12 < 33000) (hx : wIs σ 111 x) : ∃ S, hp_whole σ 111 0 = some (S, σ 0 12) ∧ S 0 12 = σ 0 12 + 1 ∧ cB S (σ 0 12) x ∧ (∀ a i, (a ≠ 0 ∨ i ≠ 12) → (a ≠ 6 ∨ i ≠ σ 0 12) → (a ≠ 7 ∨ i < 4 * σ 0 12 ∨ 4 * σ 0 12 + 4 ≤ i) → S a i = σ a i) := by
  have hwc : gWc 111 := by unfold gWc; omega
  have step : ∀ (S : gM) (i i' : Int), 0 ≤ i → i < 4 → i + 1 = i' → hp_whole_b56 S 111 (σ 0 12) i = hp_whole_b56 (gW S 7 (4 * σ 0 12 + i) (S 112 i)) 111 (σ 0 12) i' := fun S i i' h0 h4 hi => by
    rw [hp_whole_b56_e, if_pos h4, w32_e (x := 4 * σ 0 12) (by omega) (by omega), w32_e (x := 4 * σ 0 12 + i) (by omega) (by omega), w32_e (x := i + 1) (by omega) (by omega), hi, gWc_R1 hwc, gWc_is _ hwc, gWc_is1 _ hwc, gWc_N1 hwc, if_pos (by omega), if_pos (by omega)]
    rfl
  rw [hp_whole_e, if_pos rfl, hp_whole_b15_e, if_pos rfl, hp_whole_b43_e, gWc_is _ hwc, if_pos (by omega), step _ 0 1 (by decide) (by decide) (by decide), step _ 1 2 (by decide) (by decide) (by decide), step _ 2 3 (by decide) (by decide) (by decide), step _ 3 4 (by decide) (by decide) (by decide), hp_whole_b56_e, if_neg (by decide), w32_e (by omega) (by omega)]
  simp only [gW_c (show (112 : Int) ≠ 7 by decide), gW_c (show (112 : Int) ≠ 6 by decide), gW_c (show (112 : Int) ≠ 0 by decide), gW_c (show (111 : Int) ≠ 0 by decide), Int.add_zero]
  refine ⟨_, rfl, ?_, ?_, fun a i q1 q2 q3 => ?_⟩
  · rw [gW_c (by decide), gW_c (by decide), gW_c (by decide), gW_c (by decide), gW_c (by decide), gW_at]
  · obtain ⟨h1, h2⟩ := hx
    unfold wOk wm at *
    unfold cB
    have e6 : ∀ (u v p q : Int), gW (gW (gW (gW (gW (gW σ 0 12 (σ 0 12 + 1)) 6 (σ 0 12) (σ 111 0)) 7 (4 * σ 0 12) u) 7 (4 * σ 0 12 + 1) v) 7 (4 * σ 0 12 + 2) p) 7 (4 * σ 0 12 + 3) q 6 (σ 0 12) = σ 111 0 := fun u v p q => by
      rw [gW_c (by decide), gW_c (by decide), gW_c (by decide), gW_c (by decide), gW_at]
    rw [e6, gW_at, gW_i (show 4 * σ 0 12 ≠ 4 * σ 0 12 + 3 by omega), gW_i (show 4 * σ 0 12 ≠ 4 * σ 0 12 + 2 by omega), gW_i (show 4 * σ 0 12 ≠ 4 * σ 0 12 + 1 by omega), gW_at, gW_i (show 4 * σ 0 12 + 1 ≠ 4 * σ 0 12 + 3 by omega), gW_i (show 4 * σ 0 12 + 1 ≠ 4 * σ 0 12 + 2 by omega), gW_at, gW_i (show 4 * σ 0 12 + 2 ≠ 4 * σ 0 12 + 3 by omega), gW_at]
    exact ⟨h1, h2⟩
  · unfold gW
    rw [if_neg (by omega), if_neg (by omega), if_neg (by omega), if_neg (by omega), if_neg (by omega), if_neg (by omega)]
/-- the model -/
theorem b372_s {g z : Int} (eg : τ 119 16 = g) (hg : 0 ≤ g ∧ g < 27000) (hz : mIs τ 131 z) (h0 : z = 0 → τ 131 0 = 0) : ∃ T, md_reckons_b372 τ 0 = ((md_pairBecomes T 3 g).bind fun p1 => some (gW p1.1 119 16 (w32 ((p1.1 119 16) + 1)), some 0)) ∧ mB T g z ∧ (∀ a i, a ≠ 128 → T a i = τ a i) ∧ ∀ j, j < 5 * g ∨ 5 * g + 5 ≤ j → T 128 j = τ 128 j := by
  have step : ∀ (W : gM) (i i' : Int), W 119 16 = g → 0 ≤ i → i < 5 → i + 1 = i' → md_reckons_b372 W i = md_reckons_b372 (gW W 128 (5 * g + i) (W 131 i)) i' := fun W i i' e i0 i5 hi => by
    rw [md_reckons_b372_e, if_pos i5, if_pos ⟨i0, i5⟩, e, w32_e (x := 5 * g) (by omega) (by omega), w32_e (x := 5 * g + i) (by omega) (by omega), w32_e (x := i + 1) (by omega) (by omega), if_pos (by omega), hi]
  have k : ∀ (W : gM) (j v : Int), W 119 16 = g → gW W 128 j v 119 16 = g := fun W j v e => by rw [gW_c (by decide)]; exact e
  rw [step τ 0 1 eg (by decide) (by decide) (by decide), step _ 1 2 (k _ _ _ eg) (by decide) (by decide) (by decide), step _ 2 3 (k _ _ _ (k _ _ _ eg)) (by decide) (by decide) (by decide), step _ 3 4 (k _ _ _ (k _ _ _ (k _ _ _ eg))) (by decide) (by decide) (by decide), step _ 4 5 (k _ _ _ (k _ _ _ (k _ _ _ (k _ _ _ eg)))) (by decide) (by decide) (by decide), md_reckons_b372_e, if_neg (by decide)]
  simp only [gW_c (show (131 : Int) ≠ 128 by decide), gW_c (show (119 : Int) ≠ 128 by decide), Int.add_zero]
  rw [eg]
  refine ⟨_, rfl, ?_, fun a i q => ?_, fun j q => ?_⟩
  · obtain ⟨ok, h⟩ := hz
    unfold mOk mm at *
    unfold mB
    rw [gW_at, gW_i (show 5 * g ≠ 5 * g + 4 by omega), gW_i (show 5 * g ≠ 5 * g + 3 by omega), gW_i (show 5 * g ≠ 5 * g + 2 by omega), gW_i (show 5 * g ≠ 5 * g + 1 by omega), gW_at, gW_i (show 5 * g + 1 ≠ 5 * g + 4 by omega), gW_i (show 5 * g + 1 ≠ 5 * g + 3 by omega), gW_i (show 5 * g + 1 ≠ 5 * g + 2 by omega), gW_at, gW_i (show 5 * g + 2 ≠ 5 * g + 4 by omega), gW_i (show 5 * g + 2 ≠ 5 * g + 3 by omega), gW_at, gW_i (show 5 * g + 3 ≠ 5 * g + 4 by omega), gW_at]
    refine ⟨ok, ?_⟩
    omega
  · rw [gW_c q, gW_c q, gW_c q, gW_c q, gW_c q]
  · rw [gW_i (by omega), gW_i (by omega), gW_i (by omega), gW_i (by omega), gW_i (by omega)]
end RB
