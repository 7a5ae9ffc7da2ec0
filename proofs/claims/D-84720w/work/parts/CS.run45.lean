/-! a new activation within a code: both sides -/
section AI
variable {σ τ S T : gM} {pT hT : Int → Int} {m : Nat} {br co θ n : Int}
/-- a unit lies there: the caller's code is gone on with -/
theorem act_in {r a0 aM ar u P1 h1 : Int} (ha1 : a0 ≤ aM) (R : RQ σ τ pT hT) (m58 : σ 87 19 ≤ 58) (hr : 4 ≤ r ∧ r < σ 8 31) (hcc : τ 119 123 ≤ 2000000000) (hd : 0 ≤ σ 93 (σ 87 21)) (hu : ∀ T, rBk σ T → md_unitAt T (σ 93 (σ 87 21)) (σ 94 (σ 87 21)) n = some (T, u)) (hx : (1 ≤ u ∧ u < σ 55 (σ 93 (σ 87 21))) ∧ σ 62 (σ 54 (σ 93 (σ 87 21)) + u) = r) (pcc : pcT σ (σ 87 21) (σ 87 22 + 1) P1)
    (low : ∃ (m : Nat) (br co : Int), aX σ τ (σ 87 21) m P1 h1 br co ∧ τ 119 124 = τ 212 (σ 87 21) + m + 2 ∧ a0 + 1 = σ 92 (σ 87 21) + h1) : ∃ S T, mc_activate (gW (gW σ 87 41 (if σ 87 41 < 1000000000 then σ 87 41 + 1 else σ 87 41)) 91 (σ 87 21) (σ 87 22 + 1)) r a0 ar u = mc_activate_b313 S r a0 ar 0 ∧ md_activate τ r aM ar n = md_activate_b317 T r aM ar 0 ∧ RQ S T (updF (updF pT (σ 87 21) P1) (σ 87 19) (σ 28 r)) (updF hT (σ 87 21) h1) ∧ (∀ k x t y, rVal σ τ k x t y → rVal S T k x t y) ∧ naX σ τ S T r a0 aM := by
  obtain ⟨c1, c2, c3, c4, c5, c6⟩ := R.cu
  have hb := R.2.1.1
  have ha := R.2.1.2.1
  have ht := R.2.1.2.2.2.2.1
  have hm := R.2.1.2.2.2.2.2.1
  have hC := R.2.2.2.2.1
  have P1' := R.1.1.1
  have hU := P1'.2.2.2.2.2.2.2.2.2.2.2.1.1
  have hV := P1'.2.2.2.2.2.2.2.2.2.2.2.1.2.2
  have hQ := P1'.2.2.2.2.2.2.2.2.2.2.2.2.1
  have hIn := P1'.2.2.2.2.2.2.2.2.2.2.1.2 r hr.1 hr.2
  have rr := (P1'.2.2.2.2.2.2.2.2.2.2.2.2.2.1 r hr.1 hr.2).1
  have arow := (ha.2.2 (σ 87 21) (by omega) (by omega)).1
  obtain ⟨-, -, acr, a211, -, a95⟩ := ha.2.2 (σ 87 21) (by omega) (by omega)
  have hF := R.2.2.2.2.2 hd
  generalize ey : (if σ 87 41 < 1000000000 then σ 87 41 + 1 else σ 87 41) = y
  have y9 : 0 ≤ y ∧ y ≤ 1000000000 := by rw [← ey]; exact more_b ht.2.2.2.2.2.2.2.2.1
  have D1 : 0 ≤ σ 93 (σ 87 21) ∧ σ 93 (σ 87 21) < σ 52 10 := by
    rcases acr with z | z
    · omega
    · exact z.1
  have gk := hb.2.2.2 _ D1.1 D1.2
  generalize ey2 : (if σ 87 42 < 1000000000 then σ 87 42 + 1 else σ 87 42) = y2
  have y29 : 0 ≤ y2 ∧ y2 ≤ 1000000000 := by rw [← ey2]; exact more_b ht.2.2.2.2.2.2.2.2.2
  have mc2 : ∀ s, cd_more s (σ 87 42) = some (s, y2) := fun s => by rw [more_c ht.2.2.2.2.2.2.2.2.2, ey2]
  have mm2 : ∀ s, md_more s (τ 224 15) = some (s, y2) := fun s => by rw [ht.2.2.2.2.2.2.1, more_m ht.2.2.2.2.2.2.2.2.2, ey2]
  have b54 : 0 ≤ σ 54 (σ 93 (σ 87 21)) + u ∧ σ 54 (σ 93 (σ 87 21)) + u < 16000 := by have := gk.2.2.2.2.2.2.2.2.1; have := hb.2.2.1; have := hb.2.1; omega
  have D100 : 0 ≤ σ 93 (σ 87 21) ∧ σ 93 (σ 87 21) < 100 := by have := hb.2.1; omega
  generalize eM : σ 87 19 = M at *
  generalize eC : σ 87 21 = cu at *
  generalize eX : gW (gW σ 87 41 y) 91 cu (σ 87 22 + 1) = X
  have x1 : ∀ a, a ≠ 87 → a ≠ 91 → X a = σ a := fun a q1 q2 => funext fun i => by rw [← eX, gW_c q2, gW_c q1]
  have x2 : ∀ i, i ≠ 41 → X 87 i = σ 87 i := fun i q => by rw [← eX, gW_c (by decide), gW_i q]
  have x3 : X 87 41 = y := by rw [← eX, gW_c (by decide), gW_at]
  have x4 : ∀ j, j ≠ cu → X 91 j = σ 91 j := fun j q => by rw [← eX, gW_j q, gW_c (by decide)]
  have x5 : X 91 cu = σ 87 22 + 1 := by rw [← eX, gW_at]
  clear eX
  obtain ⟨S1, a1, f1, f2, f3, f4, f5, f6, f7, f8⟩ := actC (σ := X) (a0 := a0) (ar := ar) (u := u) (k := M) (cu := cu) (r := r) (by omega) (by rw [x2 19 (by decide)]; exact eM) (by omega) (by rw [x2 21 (by decide)]; exact eC) (by omega) (by rw [x1 31 (by decide) (by decide)]; omega)
  rw [if_neg (by omega)] at a1
  rw [x1 28 (by decide) (by decide), x2 20 (by decide)] at f4
  rw [x1 31 (by decide) (by decide)] at f8
  have e8 : S1 8 = σ 8 := by rw [f1 8 (by decide) (by decide), x1 8 (by decide) (by decide)]
  have kS : ∀ a, a ≠ 87 → (a < 90 ∨ 99 < a) → S1 a = σ a := fun a q1 q2 => by rw [f1 a q1 q2, x1 a q1 (by omega)]
  obtain ⟨T1, b1, g1, g2, g3, g4, g5, g6, g7⟩ := actM (τ := τ) (n := n) (r := r) (a0 := aM) (ar := ar) (u := u) (k := M) (by rw [ha.1.2.2]; exact eM) (by omega) (by rw [ht.2.2.2.2.2.1]; exact ht.2.2.2.2.2.2.2.2.1) (fun T0 F0 => by
    rw [show M - 1 = cu by omega, arow.2.1, arow.2.2.1]
    · refine Or.inr ⟨hd, hu T0 ?_⟩
      exact hb.up (fun a _ => rfl) rfl rfl rfl (fun a q => F0.1 a (by omega) (by omega) (by omega)) (by rw [F0.2.1 55 (by decide) (by decide)]) (by rw [F0.2.1 104 (by decide) (by decide)]) fun i i0 i1 => by
        have gi := hb.2.2.2 i i0 i1
        rw [F0.1 200 (by decide) (by decide) (by decide), F0.1 201 (by decide) (by decide) (by decide), F0.1 202 (by decide) (by decide) (by decide)]
        exact ⟨gi.2.2.2.2.1, gi.2.2.2.2.2.1, gi.2.2.2.2.2.2.1⟩)
  have M60 : 0 ≤ M ∧ M < 60 := by omega
  have c0 := ha.2.1
  have e93 : X 93 cu = σ 93 cu := by rw [x1 93 (by decide) (by decide)]
  have e95 : X 95 cu = σ 95 cu := by rw [x1 95 (by decide) (by decide)]
  rw [e93, e95, x2 42 (by decide), mc2] at a1
  simp only [Option.bind_some] at a1
  rw [if_pos M60] at a1
  generalize eD : σ 93 cu = D at *
  generalize eA : gW (gW (gW (gW S1 93 M D) 94 M u) 95 M (σ 95 cu)) 96 M 1 = A at a1
  have o1 : ∀ a, (a < 93 ∨ 96 < a) → A a = S1 a := fun a q => funext fun i => by rw [← eA, gW_c (by omega), gW_c (by omega), gW_c (by omega), gW_c (by omega)]
  have o2 : ∀ a j, j ≠ M → A a j = S1 a j := fun a j q => by rw [← eA, gW_j q, gW_j q, gW_j q, gW_j q]
  have o3 : A 93 M = D ∧ A 94 M = u ∧ A 95 M = σ 95 cu ∧ A 96 M = 1 := by
    rw [← eA]
    exact ⟨by rw [gW_c (by decide), gW_c (by decide), gW_c (by decide), gW_at], by rw [gW_c (by decide), gW_c (by decide), gW_at], by rw [gW_c (by decide), gW_at], by rw [gW_at]⟩
  clear eA
  have st : cd_start (gW A 87 42 y2) (A 93 M) u = some (gW A 87 42 y2, σ 65 (σ 54 D + u)) := by
    rw [o3.1, cd_start_e, if_pos D100, gW_cell (show (54 : Int) ≠ 87 by decide), gW_cell (show (65 : Int) ≠ 87 by decide), o1 54 (by decide), o1 65 (by decide), kS 54 (by decide) (by decide), kS 65 (by decide) (by decide), w32_e (by omega) (by omega), if_pos b54]
  rw [st] at a1
  simp only [Option.bind_some] at a1
  rw [mc_activate_b310_e] at a1
  generalize eS : gW (gW A 87 42 y2) 87 22 (σ 65 (σ 54 D + u)) = S at a1
  have v1 : ∀ a, a ≠ 87 → (a < 93 ∨ 96 < a) → S a = S1 a := fun a q1 q2 => funext fun i => by rw [← eS, gW_c q1, gW_c q1, o1 a q2]
  have v2 : ∀ a j, a ≠ 87 → j ≠ M → S a j = S1 a j := fun a j q1 q2 => by rw [← eS, gW_c q1, gW_c q1, o2 a j q2]
  have v3 : ∀ i, i ≠ 22 → i ≠ 42 → S 87 i = S1 87 i := fun i q1 q2 => by rw [← eS, gW_i q1, gW_i q2, o1 87 (by decide)]
  have s22 : S 87 22 = σ 65 (σ 54 D + u) := by rw [← eS, gW_at]
  have s42 : S 87 42 = y2 := by rw [← eS, gW_i (by decide), gW_at]
  have v4 : S 93 M = D ∧ S 94 M = u ∧ S 95 M = σ 95 cu ∧ S 96 M = 1 := by
    rw [← eS, gW_c (by decide), gW_c (by decide), gW_c (by decide), gW_c (by decide), gW_c (by decide), gW_c (by decide), gW_c (by decide), gW_c (by decide)]
    exact o3
  clear eS o1 o2 o3 st
  have Mp : 0 ≤ M - 1 ∧ M - 1 < 60 := by omega
  have t15 : (0 : Int) ≤ 15 ∧ (15 : Int) < 16 := by decide
  have p9 : T1 209 (M - 1) = D := by rw [g6 209 _ (by decide) (by decide) (by omega), show M - 1 = cu by omega, arow.2.1]
  have p11 : T1 211 (M - 1) = τ 211 cu := by rw [g6 211 _ (by decide) (by decide) (by omega), show M - 1 = cu by omega]
  rw [md_activate_b144_e, if_neg (by omega), w32_e (x := M - 1) (by omega) (by omega), p9, p11, g4 15 (by decide), mm2] at b1
  simp only [Option.bind_some] at b1
  simp only [M60, Mp, t15, and_self, if_true] at b1
  rw [md_activate_b252_e] at b1
  generalize eT : gW (gW (gW (gW (gW T1 209 M D) 210 M u) 214 M 1) 211 M (τ 211 cu)) 224 15 y2 = T at b1
  have w1 : ∀ a, (a < 209 ∨ 211 < a) → a ≠ 214 → a ≠ 224 → T a = T1 a := fun a q1 q2 q3 => funext fun i => by rw [← eT, gW_c q3, gW_c (by omega), gW_c q2, gW_c (by omega), gW_c (by omega)]
  have w2 : ∀ a j, a ≠ 224 → j ≠ M → T a j = T1 a j := fun a j q1 q2 => by rw [← eT, gW_c q1, gW_j q2, gW_j q2, gW_j q2, gW_j q2]
  have w3 : ∀ i, i ≠ 15 → T 224 i = T1 224 i := fun i q => by rw [← eT, gW_i q, gW_c (by decide), gW_c (by decide), gW_c (by decide), gW_c (by decide)]
  have w4 : T 224 15 = y2 := by rw [← eT, gW_at]
  have w5 : T 209 M = D ∧ T 210 M = u ∧ T 214 M = 1 ∧ T 211 M = τ 211 cu := by
    rw [← eT]
    exact ⟨by rw [gW_c (by decide), gW_c (by decide), gW_c (by decide), gW_c (by decide), gW_at], by rw [gW_c (by decide), gW_c (by decide), gW_c (by decide), gW_at], by rw [gW_c (by decide), gW_c (by decide), gW_at], by rw [gW_c (by decide), gW_at]⟩
  clear eT
  have lS : ∀ a, a ≠ 87 → (a < 90 ∨ 99 < a) → S a = σ a := fun a q1 q2 => by rw [v1 a q1 (by omega), kS a q1 q2]
  have l87 : ∀ i, i ≠ 19 → i ≠ 20 → i ≠ 21 → i ≠ 22 → i ≠ 41 → i ≠ 42 → S 87 i = σ 87 i := fun i q1 q2 q3 q4 q5 q6 => by rw [v3 i q4 q6, f3 i q1 q2 q3 q4, x2 i q5]
  have cr : ∀ a j, 90 ≤ a → a ≤ 96 → a ≠ 91 → j < M → S a j = σ a j := fun a j q1 q2 q3 q4 => by rw [v2 a j (by omega) (by omega), f5 a j q1 q2 (by omega), x1 a (by omega) q3]
  have dr : ∀ a j, 208 ≤ a → a ≤ 214 → j < M → T a j = τ a j := fun a j q1 q2 q3 => by rw [w2 a j (by omega) (by omega), g6 a j q1 q2 (by omega)]
  have t119 : ∀ i, i ≠ 121 → i ≠ 122 → T 119 i = τ 119 i := fun i q1 q2 => by rw [w1 119 (by decide) (by decide) (by decide), g2 i q1 q2]
  have dT : ∀ a, a ≠ 119 → (a < 208 ∨ 214 < a) → a ≠ 224 → T a = τ a := fun a q1 q2 q3 => by rw [w1 a (by omega) (by omega) q3, g1 a q1 (by omega) q3]
  have n90 : S 90 M = r ∧ S 92 M = a0 := by
    rw [v1 90 (by decide) (by decide), v1 92 (by decide) (by decide)]
    exact ⟨f6.1, f6.2.1⟩
  have m208 : T 208 M = r ∧ T 213 M = aM ∧ T 212 M = τ 119 124 := by
    rw [w1 208 (by decide) (by decide) (by decide), w1 213 (by decide) (by decide) (by decide), w1 212 (by decide) (by decide) (by decide)]
    exact ⟨g7.1, g7.2.2.1, g7.2.1⟩
  have s19 : S 87 19 = M + 1 := by rw [v3 19 (by decide) (by decide)]; exact f4.1
  have s21 : S 87 21 = M := by rw [v3 21 (by decide) (by decide)]; exact f4.2.2.1
  have t121 : T 119 121 = M + 1 := by rw [w1 119 (by decide) (by decide) (by decide)]; exact g3.1
  have t122 : T 119 122 = S 87 20 := by rw [w1 119 (by decide) (by decide) (by decide), v3 20 (by decide) (by decide), g3.2, f4.2.1, hC.2.2.1]
  have HB : rBk S T := hb.up (fun a q => lS a (by omega) (by omega)) (by rw [lS 8 (by decide) (by decide)]) (by rw [lS 52 (by decide) (by decide)]) (by rw [lS 52 (by decide) (by decide)]) (fun a q => dT a (by omega) (by omega) (by omega)) (t119 55 (by decide) (by decide)) (t119 104 (by decide) (by decide)) fun i i0 i1 => by
    have gi := hb.2.2.2 i i0 i1
    rw [dT 200 (by decide) (by decide) (by decide), dT 201 (by decide) (by decide) (by decide), dT 202 (by decide) (by decide) (by decide), lS 58 (by decide) (by decide), lS 59 (by decide) (by decide), lS 60 (by decide) (by decide)]
    exact ⟨gi.2.2.2.2.1, gi.2.2.2.2.2.1, gi.2.2.2.2.2.2.1⟩
  have HT : rTo S T := by
    unfold rTo at ht ⊢
    have q : ∀ i, i ≠ 14 → i ≠ 15 → T 224 i = τ 224 i := fun i q1 q2 => by rw [w3 i q2, g4 i q1]
    have q' : T 224 14 = y := by rw [w3 14 (by decide), g5, ht.2.2.2.2.2.1, ey]
    have p' : S 87 41 = y := by rw [v3 41 (by decide) (by decide), f3 41 (by decide) (by decide) (by decide) (by decide), x3]
    rw [q 9 (by decide) (by decide), q 10 (by decide) (by decide), q 11 (by decide) (by decide), q 12 (by decide) (by decide), q 13 (by decide) (by decide), q', w4, p', s42, l87 36 (by decide) (by decide) (by decide) (by decide) (by decide) (by decide), l87 37 (by decide) (by decide) (by decide) (by decide) (by decide) (by decide), l87 38 (by decide) (by decide) (by decide) (by decide) (by decide) (by decide), l87 39 (by decide) (by decide) (by decide) (by decide) (by decide) (by decide), l87 40 (by decide) (by decide) (by decide) (by decide) (by decide) (by decide)]
    exact ⟨ht.1, ht.2.1, ht.2.2.1, ht.2.2.2.1, ht.2.2.2.2.1, rfl, rfl, ht.2.2.2.2.2.2.2.1, y9, y29⟩
  have HQ : rQu S T := by
    unfold rQu at hQ ⊢
    simp only [t119 89 (by decide) (by decide)]
    rw [lS 8 (by decide) (by decide), lS 52 (by decide) (by decide), lS 67 (by decide) (by decide), dT 185 (by decide) (by decide) (by decide)]
    exact hQ
  have cc := ccN_ss (S := S) (σ := σ) (M := M) (by omega) fun j q => cr 93 j (by decide) (by decide) (by decide) q
  have cr1 := ccN_rg (σ := σ) M.toNat
  have hrow : aR1 S T M := by
    unfold aR1 acC
    rw [n90.1, n90.2, m208.1, m208.2.1, w5.1, w5.2.1, w5.2.2.1, w5.2.2.2, v4.1, v4.2.1, v4.2.2.1, v4.2.2.2, lS 8 (by decide) (by decide), lS 54 (by decide) (by decide), lS 55 (by decide) (by decide), lS 62 (by decide) (by decide), lS 52 (by decide) (by decide), dr 211 (M - 1) (by decide) (by decide) (by omega), cr 93 (M - 1) (by decide) (by decide) (by decide) (by omega), cr 95 (M - 1) (by decide) (by decide) (by decide) (by omega), show M - 1 = cu by omega, eD, t119 123 (by decide) (by decide)]
    exact ⟨⟨rfl, rfl, rfl, rfl, ha1⟩, hr, Or.inr ⟨D1, ⟨by omega, hx.1.2⟩, hx.2, Or.inr ⟨by omega, rfl, rfl, rfl⟩⟩, a211, fun _ => Or.inr ⟨rfl, rfl⟩, by omega, by omega⟩
  have pcw : pcT S M (σ 65 (σ 54 D + u)) (σ 28 r) := by
    unfold pcT
    rw [n90.1, v4.1, v4.2.1, lS 28 (by decide) (by decide), lS 29 (by decide) (by decide), lS 54 (by decide) (by decide), lS 65 (by decide) (by decide)]
    exact ⟨by omega, fun q => by omega, fun q => by omega⟩
  have F : rFa S := by
    intro q
    rw [s21, v4.1]
    unfold cFa at hF ⊢
    rw [lS 9 (by decide) (by decide), lS 11 (by decide) (by decide), lS 18 (by decide) (by decide), lS 19 (by decide) (by decide), lS 20 (by decide) (by decide), lS 22 (by decide) (by decide), lS 29 (by decide) (by decide), lS 54 (by decide) (by decide), lS 55 (by decide) (by decide), lS 62 (by decide) (by decide), lS 64 (by decide) (by decide), lS 65 (by decide) (by decide)]
    exact hF
  have c91 : ∀ j, j ≠ cu → S 91 j = σ 91 j := fun j q => by rw [v1 91 (by decide) (by decide), f2, x4 j q]
  have s91 : S 91 cu = σ 87 22 + 1 := by rw [v1 91 (by decide) (by decide), f2, x5]
  have lk : ∀ l, 0 ≤ l → l < σ 31 r → S 97 (12 * M + l) = 4 ∧ S 99 (12 * M + l) = 0 ∧ S 98 (12 * M + l) = 3 := fun l q1 q2 => by
    rw [v1 97 (by decide) (by decide), v1 98 (by decide) (by decide), v1 99 (by decide) (by decide)]
    exact f8 l q1 q2
  have cl : ∀ a j, 97 ≤ a → a ≤ 99 → j < 12 * M → S a j = σ a j := fun a j q1 q2 q3 => by rw [v1 a (by omega) (by omega), f7 a j q1 q2 q3, x1 a (by omega) (by omega)]
  clear x1 x2 x3 x4 x5 f1 f2 f3 f4 f5 f6 f7 f8 g1 g2 g3 g4 g5 g6 g7 kS v1 v2 v3 w1 w2 w3 mc2 mm2
  subst eM
  subst eC
  obtain ⟨T5, z1, z2, z3, z4⟩ := act_fin (a1 := aM) (ar := ar) (S := S) (T := T) R m58 hr (fun a q => lS a (by omega) (by omega)) (fun i _ => by rw [lS 52 (by decide) (by decide)]) (fun i q => l87 i (by omega) (by omega) (by omega) (by omega) (by omega) (by omega)) s19 s21 s22 cr (fun j q => c91 j (by omega)) s91 n90.1 n90.2 hrow cl lk (fun a q => dT a (by omega) (by omega) (by omega)) (fun i _ q2 q3 _ => t119 i q2 q3) t121 t122 (by rw [t119 123 (by decide) (by decide)]; exact Int.le_refl _) dr m208.2.2 HB HQ HT pcw pcc (by rw [t119 123 (by decide) (by decide)]; omega) F low
  refine ⟨S, T5, a1, by rw [b1]; exact z1, z2, z3, fun a q => lS a (by omega) (by omega), ⟨s19, s21, l87 24 (by decide) (by decide) (by decide) (by decide) (by decide) (by decide), l87 34 (by decide) (by decide) (by decide) (by decide) (by decide) (by decide)⟩, ⟨n90.1, n90.2, by rw [z4 212 (by decide)]; exact m208.2.2, by rw [z4 213 (by decide)]; exact m208.2.1⟩, fun j q => ⟨cr 90 j (by decide) (by decide) (by decide) q, cr 92 j (by decide) (by decide) (by decide) q, by rw [z4 212 (by decide)]; exact dr 212 j (by decide) (by decide) q, by rw [z4 213 (by decide)]; exact dr 213 j (by decide) (by decide) q⟩, fun a q => by rw [z4 a (by omega), dT a (by omega) (by omega) (by omega)], fun i q1 q2 q3 q4 => by rw [z4 119 (by decide), t119 i q2 q3], by rw [z4 119 (by decide), t119 123 (by decide) (by decide)]; omega⟩
end AI
