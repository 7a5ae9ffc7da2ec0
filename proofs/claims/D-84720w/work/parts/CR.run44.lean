/-! a new activation: both sides -/
section AP
variable {σ τ S T : gM} {pT hT : Int → Int} {m : Nat} {br co θ n : Int}
/-- what is left as it was when an activation has begun -/
def naX (σ τ S T : gM) (r a0 aM : Int) : Prop := (∀ a, a = 88 ∨ a = 89 ∨ a = 14 ∨ (20 ≤ a ∧ a ≤ 22) ∨ (26 ≤ a ∧ a ≤ 31) → S a = σ a) ∧ (S 87 19 = σ 87 19 + 1 ∧ S 87 21 = σ 87 19 ∧ S 87 24 = σ 87 24 ∧ S 87 34 = σ 87 34) ∧ (S 90 (σ 87 19) = r ∧ S 92 (σ 87 19) = a0 ∧ T 212 (σ 87 19) = τ 119 124 ∧ T 213 (σ 87 19) = aM) ∧ (∀ j, j < σ 87 19 → S 90 j = σ 90 j ∧ S 92 j = σ 92 j ∧ T 212 j = τ 212 j ∧ T 213 j = τ 213 j) ∧ (∀ a, a = 168 ∨ (170 ≤ a ∧ a ≤ 173) ∨ (218 ≤ a ∧ a ≤ 222) → T a = τ a) ∧ (∀ i, i ≠ 89 → i ≠ 121 → i ≠ 122 → i ≠ 123 → T 119 i = τ 119 i) ∧ T 119 123 + ccN S (σ 87 19 + 1).toNat ≤ τ 119 123 + ccN σ (σ 87 19).toNat + 2
theorem ccN_ss {M : Int} (M0 : 0 ≤ M) (h : ∀ j, j < M → S 93 j = σ 93 j) : ccN S (M + 1).toNat ≤ ccN σ M.toNat + 1 := by
  rw [show (M + 1).toNat = M.toNat + 1 by omega]
  show ccN S M.toNat + _ ≤ _
  rw [ccN_eq (S := S) (σ := σ) M.toNat fun j _ q => h j (by omega)]
  split <;> omega
/-- no unit lies there: the code that there is is entered -/
theorem act_no {r a0 aM ar P1 h1 : Int} (ha1 : a0 ≤ aM) (R : RQ σ τ pT hT) (m58 : σ 87 19 ≤ 58) (hr : 4 ≤ r ∧ r < σ 8 31) (hcc : τ 119 123 ≤ 2000000000) (hu : (σ 93 (σ 87 21) < 0) ∨ (0 ≤ σ 93 (σ 87 21) ∧ ∀ T, rBk σ T → md_unitAt T (σ 93 (σ 87 21)) (σ 94 (σ 87 21)) n = some (T, -1))) (pcc : pcT σ (σ 87 21) (σ 87 22 + 1) P1)
    (low : ∃ (m : Nat) (br co : Int), aX σ τ (σ 87 21) m P1 h1 br co ∧ τ 119 124 = τ 212 (σ 87 21) + m + 2 ∧ a0 + 1 = σ 92 (σ 87 21) + h1) : ∃ S T, mc_activate (gW (gW σ 87 41 (if σ 87 41 < 1000000000 then σ 87 41 + 1 else σ 87 41)) 91 (σ 87 21) (σ 87 22 + 1)) r a0 ar (-1) = mc_activate_b313 S r a0 ar 0 ∧ md_activate τ r aM ar n = md_activate_b317 T r aM ar 0 ∧ RQ S T (updF (updF pT (σ 87 21) P1) (σ 87 19) (σ 28 r)) (updF hT (σ 87 21) h1) ∧ (∀ k x t y, rVal σ τ k x t y → rVal S T k x t y) ∧ naX σ τ S T r a0 aM := by
  obtain ⟨c1, c2, c3, c4, c5, c6⟩ := R.cu
  have hb := R.2.1.1
  have ha := R.2.1.2.1
  have ht := R.2.1.2.2.2.2.1
  have hm := R.2.1.2.2.2.2.2.1
  have hC := R.2.2.2.2.1
  have P1' := R.1.1.1
  have hU := P1'.2.2.2.2.2.2.2.2.2.2.2.1.1
  have hV := P1'.2.2.2.2.2.2.2.2.2.2.2.1.2.2
  have hQ := P1'.2.2.2.2.2.2.2.2.2.2.2.2.1
  have hIn := P1'.2.2.2.2.2.2.2.2.2.2.1.2 r hr.1 hr.2
  have rr := (P1'.2.2.2.2.2.2.2.2.2.2.2.2.2.1 r hr.1 hr.2).1
  have arow := (ha.2.2 (σ 87 21) (by omega) (by omega)).1
  generalize ey : (if σ 87 41 < 1000000000 then σ 87 41 + 1 else σ 87 41) = y
  have y9 : 0 ≤ y ∧ y ≤ 1000000000 := by rw [← ey]; exact more_b ht.2.2.2.2.2.2.2.2.1
  generalize eM : σ 87 19 = M at *
  generalize eC : σ 87 21 = cu at *
  generalize eX : gW (gW σ 87 41 y) 91 cu (σ 87 22 + 1) = X
  have x1 : ∀ a, a ≠ 87 → a ≠ 91 → X a = σ a := fun a q1 q2 => funext fun i => by rw [← eX, gW_c q2, gW_c q1]
  have x2 : ∀ i, i ≠ 41 → X 87 i = σ 87 i := fun i q => by rw [← eX, gW_c (by decide), gW_i q]
  have x3 : X 87 41 = y := by rw [← eX, gW_c (by decide), gW_at]
  have x4 : ∀ j, j ≠ cu → X 91 j = σ 91 j := fun j q => by rw [← eX, gW_j q, gW_c (by decide)]
  have x5 : X 91 cu = σ 87 22 + 1 := by rw [← eX, gW_at]
  clear eX
  obtain ⟨S1, a1, f1, f2, f3, f4, f5, f6, f7, f8⟩ := actC (σ := X) (a0 := a0) (ar := ar) (u := -1) (k := M) (cu := cu) (r := r) (by omega) (by rw [x2 19 (by decide)]; exact eM) (by omega) (by rw [x2 21 (by decide)]; exact eC) (by omega) (by rw [x1 31 (by decide) (by decide)]; omega)
  rw [if_pos (by decide)] at a1
  rw [x1 28 (by decide) (by decide), x2 20 (by decide)] at f4
  rw [x1 31 (by decide) (by decide)] at f8
  have e8 : S1 8 = σ 8 := by rw [f1 8 (by decide) (by decide), x1 8 (by decide) (by decide)]
  have kS : ∀ a, a ≠ 87 → (a < 90 ∨ 99 < a) → S1 a = σ a := fun a q1 q2 => by rw [f1 a q1 q2, x1 a q1 (by omega)]
  obtain ⟨T1, b1, g1, g2, g3, g4, g5, g6, g7⟩ := actM (τ := τ) (n := n) (r := r) (a0 := aM) (ar := ar) (u := -1) (k := M) (by rw [ha.1.2.2]; exact eM) (by omega) (by rw [ht.2.2.2.2.2.1]; exact ht.2.2.2.2.2.2.2.2.1) (fun T0 F0 => by
    rw [show M - 1 = cu by omega, arow.2.1, arow.2.2.1]
    rcases hu with z | ⟨z1, z2⟩
    · exact Or.inl ⟨z, rfl⟩
    · refine Or.inr ⟨z1, z2 T0 ?_⟩
      exact hb.up (fun a _ => rfl) rfl rfl rfl (fun a q => F0.1 a (by omega) (by omega) (by omega)) (by rw [F0.2.1 55 (by decide) (by decide)]) (by rw [F0.2.1 104 (by decide) (by decide)]) fun i i0 i1 => by
        have gi := hb.2.2.2 i i0 i1
        rw [F0.1 200 (by decide) (by decide) (by decide), F0.1 201 (by decide) (by decide) (by decide), F0.1 202 (by decide) (by decide) (by decide)]
        exact ⟨gi.2.2.2.2.1, gi.2.2.2.2.2.1, gi.2.2.2.2.2.2.1⟩)
  have M60 : 0 ≤ M ∧ M < 60 := by omega
  have c0 := ha.2.1
  rw [md_activate_b144_e, if_pos (by decide), if_pos M60, g2 123 (by decide) (by decide), w32_e (x := τ 119 123 + 1) (by omega) (by omega)] at b1
  generalize eT : gW (gW T1 119 123 (τ 119 123 + 1)) 211 M (τ 119 123 + 1) = T2 at b1
  have h1' : ∀ a, a ≠ 119 → a ≠ 211 → T2 a = T1 a := fun a q1 q2 => funext fun i => by rw [← eT, gW_c q2, gW_c q1]
  have h2 : ∀ i, i ≠ 123 → T2 119 i = T1 119 i := fun i q => by rw [← eT, gW_c (by decide), gW_i q]
  have h3 : T2 119 123 = τ 119 123 + 1 := by rw [← eT, gW_c (by decide), gW_at]
  have h4 : ∀ j, j ≠ M → T2 211 j = τ 211 j := fun j q => by rw [← eT, gW_j q, gW_c (by decide), g1 211 (by decide) (by decide) (by decide)]
  have h5 : T2 211 M = τ 119 123 + 1 := by rw [← eT, gW_at]
  clear eT
  have kT : ∀ a, a ≠ 119 → (a < 208 ∨ 214 < a) → a ≠ 224 → T2 a = τ a := fun a q1 q2 q3 => by rw [h1' a q1 (by omega), g1 a q1 (by omega) q3]
  have k119 : ∀ i, i ≠ 121 → i ≠ 122 → i ≠ 123 → T2 119 i = τ 119 i := fun i q1 q2 q3 => by rw [h2 i q3, g2 i q1 q2]
  have HB1 : rBk S1 T2 := hb.up (fun a q => kS a (by omega) (by omega)) (by rw [e8]) (by rw [kS 52 (by decide) (by decide)]) (by rw [kS 52 (by decide) (by decide)]) (fun a q => kT a (by omega) (by omega) (by omega)) (k119 55 (by decide) (by decide) (by decide)) (k119 104 (by decide) (by decide) (by decide)) fun i i0 i1 => by
    have gi := hb.2.2.2 i i0 i1
    rw [kT 200 (by decide) (by decide) (by decide), kT 201 (by decide) (by decide) (by decide), kT 202 (by decide) (by decide) (by decide), kS 58 (by decide) (by decide), kS 59 (by decide) (by decide), kS 60 (by decide) (by decide)]
    exact ⟨gi.2.2.2.2.1, gi.2.2.2.2.2.1, gi.2.2.2.2.2.2.1⟩
  have HT1 : rTo S1 T2 := by
    unfold rTo at ht ⊢
    have q : ∀ i, i ≠ 14 → T2 224 i = τ 224 i := fun i q => by rw [h1' 224 (by decide) (by decide), g4 i q]
    have q' : T2 224 14 = y := by rw [h1' 224 (by decide) (by decide), g5, ht.2.2.2.2.2.1, ey]
    have p : ∀ i, i ≠ 19 → i ≠ 20 → i ≠ 21 → i ≠ 22 → i ≠ 41 → S1 87 i = σ 87 i := fun i q1 q2 q3 q4 q5 => by rw [f3 i q1 q2 q3 q4, x2 i q5]
    have p' : S1 87 41 = y := by rw [f3 41 (by decide) (by decide) (by decide) (by decide), x3]
    rw [q 9 (by decide), q 10 (by decide), q 11 (by decide), q 12 (by decide), q 13 (by decide), q', q 15 (by decide), p', p 36 (by decide) (by decide) (by decide) (by decide) (by decide), p 37 (by decide) (by decide) (by decide) (by decide) (by decide), p 38 (by decide) (by decide) (by decide) (by decide) (by decide), p 39 (by decide) (by decide) (by decide) (by decide) (by decide), p 40 (by decide) (by decide) (by decide) (by decide) (by decide), p 42 (by decide) (by decide) (by decide) (by decide) (by decide)]
    exact ⟨ht.1, ht.2.1, ht.2.2.1, ht.2.2.2.1, ht.2.2.2.2.1, rfl, ht.2.2.2.2.2.2.1, ht.2.2.2.2.2.2.2.1, y9, ht.2.2.2.2.2.2.2.2.2⟩
  have HU1 : rUn S1 := by
    unfold rUn at hU ⊢
    rw [kS 26 (by decide) (by decide), kS 27 (by decide) (by decide), kS 52 (by decide) (by decide), kS 53 (by decide) (by decide), kS 54 (by decide) (by decide), kS 55 (by decide) (by decide), kS 62 (by decide) (by decide), kS 63 (by decide) (by decide), kS 64 (by decide) (by decide)]
    exact hU
  have HV1 : rVc S1 := by
    unfold rVc cFa at hV ⊢
    rw [kS 9 (by decide) (by decide), kS 11 (by decide) (by decide), kS 18 (by decide) (by decide), kS 19 (by decide) (by decide), kS 20 (by decide) (by decide), kS 22 (by decide) (by decide), kS 29 (by decide) (by decide), kS 52 (by decide) (by decide), kS 54 (by decide) (by decide), kS 55 (by decide) (by decide), kS 61 (by decide) (by decide), kS 62 (by decide) (by decide), kS 64 (by decide) (by decide), kS 65 (by decide) (by decide)]
    exact hV
  have HQ1 : rQu S1 T2 := by
    unfold rQu at hQ ⊢
    simp only [k119 89 (by decide) (by decide) (by decide)]
    rw [e8, kS 52 (by decide) (by decide), kS 67 (by decide) (by decide), kT 185 (by decide) (by decide) (by decide)]
    exact hQ
  obtain ⟨S, T, u1, u2, HB, HQ, HT, ⟨v1, v2, v3, v4, v5, v6, v7⟩, row⟩ := act_ent (a0 := a0) (a1 := aM) (ar := ar) (r := r) (k := M) HB1 HU1 HV1 HQ1 HT1 M60 f4.2.2.1 (by rw [h1' 208 (by decide) (by decide)]; exact g7.1) (by rw [e8]; exact hr) (by rw [k119 1 (by decide) (by decide) (by decide), f3 5 (by decide) (by decide) (by decide) (by decide), x2 5 (by decide)]; exact hC.2.2.2.2.2.2.1)
  have lS : ∀ a, a ≠ 32 → a ≠ 52 → a ≠ 58 → a ≠ 67 → a ≠ 87 → (a < 90 ∨ 99 < a) → S a = σ a := fun a q1 q2 q3 q4 q5 q6 => by rw [v1 a q1 q2 q3 q4 q5 (by omega) (by omega), kS a q5 q6]
  have l87 : ∀ i, i ≠ 19 → i ≠ 20 → i ≠ 21 → i ≠ 22 → i ≠ 37 → i ≠ 41 → S 87 i = σ 87 i := fun i q1 q2 q3 q4 q5 q6 => by rw [v3 i q4 q5, f3 i q1 q2 q3 q4, x2 i q6]
  have rw1 : ∀ a, 90 ≤ a → a ≤ 99 → a ≠ 93 → a ≠ 94 → S a = S1 a := fun a q1 q2 q3 q4 => v1 a (by omega) (by omega) (by omega) (by omega) (by omega) q3 q4
  have cr : ∀ a j, 90 ≤ a → a ≤ 96 → a ≠ 91 → j < M → S a j = σ a j := fun a j q1 q2 q3 q4 => by
    have w : S a j = S1 a j := by
      by_cases z : a = 93
      · rw [z, (v4 j (by omega)).1]
      · by_cases z' : a = 94
        · rw [z', (v4 j (by omega)).2]
        · rw [rw1 a q1 (by omega) z z']
    rw [w, f5 a j q1 q2 (by omega), x1 a (by omega) q3]
  have dr : ∀ a j, 208 ≤ a → a ≤ 214 → j < M → T a j = τ a j := fun a j q1 q2 q3 => by
    have w : T a j = T2 a j := by
      by_cases z : a = 209
      · rw [z, (v7 j (by omega)).1]
      · by_cases z' : a = 210
        · rw [z', (v7 j (by omega)).2]
        · rw [v5 a (by omega) (by omega) (by omega) (by omega) z z' (by omega)]
    rw [w]
    by_cases z : a = 211
    · rw [z, h4 j (by omega)]
    · rw [h1' a (by omega) z, g6 a j q1 q2 (by omega)]
  have k20 : T2 119 122 = S1 87 20 := by rw [h2 122 (by decide), g3.2, f4.2.1, hC.2.2.1]
  have n95 : S 95 M = M ∧ S 96 M = 0 ∧ S 90 M = r ∧ S 92 M = a0 := by
    rw [rw1 95 (by decide) (by decide) (by decide) (by decide), rw1 96 (by decide) (by decide) (by decide) (by decide), rw1 90 (by decide) (by decide) (by decide) (by decide), rw1 92 (by decide) (by decide) (by decide) (by decide)]
    exact ⟨f6.2.2.2.2.1, f6.2.2.2.2.2, f6.1, f6.2.1⟩
  have m208 : T 208 M = r ∧ T 214 M = 0 ∧ T 213 M = aM ∧ T 212 M = τ 119 124 ∧ T 211 M = τ 119 123 + 1 := by
    rw [v5 208 (by decide) (by decide) (by decide) (by decide) (by decide) (by decide) (by decide), v5 214 (by decide) (by decide) (by decide) (by decide) (by decide) (by decide) (by decide), v5 213 (by decide) (by decide) (by decide) (by decide) (by decide) (by decide) (by decide), v5 212 (by decide) (by decide) (by decide) (by decide) (by decide) (by decide) (by decide), v5 211 (by decide) (by decide) (by decide) (by decide) (by decide) (by decide) (by decide), h1' 208 (by decide) (by decide), h1' 214 (by decide) (by decide), h1' 213 (by decide) (by decide), h1' 212 (by decide) (by decide)]
    exact ⟨g7.1, g7.2.2.2.2.2, g7.2.2.1, g7.2.1, h5⟩
  have t123 : T 119 123 = τ 119 123 + 1 := by rw [v6 123 (by decide)]; exact h3
  have t119 : ∀ i, i ≠ 89 → i ≠ 121 → i ≠ 122 → i ≠ 123 → T 119 i = τ 119 i := fun i q1 q2 q3 q4 => by rw [v6 i q1, k119 i q2 q3 q4]
  have dT : ∀ a, a ≠ 119 → a ≠ 163 → a ≠ 185 → a ≠ 200 → (a < 208 ∨ 214 < a) → a ≠ 224 → T a = τ a := fun a q1 q2 q3 q4 q5 q6 => by rw [v5 a q1 q2 q3 q4 (by omega) (by omega) q6, kT a q1 q5 q6]
  have r211 := (ha.2.2 cu (by omega) (by omega)).2.2.2.1
  have s22 : S1 87 22 = σ 28 r := f4.2.2.2
  rw [f6.2.2.1, f6.2.2.2.1, s22, h1' 209 (by decide) (by decide), h1' 210 (by decide) (by decide), g7.2.2.2.1, g7.2.2.2.2.1, kS 52 (by decide) (by decide), kS 65 (by decide) (by decide), kS 54 (by decide) (by decide), kS 62 (by decide) (by decide), kS 55 (by decide) (by decide)] at row
  have s19 : S 87 19 = M + 1 := by rw [v3 19 (by decide) (by decide)]; exact f4.1
  have s21 : S 87 21 = M := by rw [v3 21 (by decide) (by decide)]; exact f4.2.2.1
  have cc := ccN_ss (S := S) (σ := σ) (M := M) (by omega) fun j q => cr 93 j (by decide) (by decide) (by decide) q
  have cr1 := ccN_rg (σ := σ) M.toNat
  have hrow : aR1 S T M := by
    unfold aR1 acC
    rw [n95.1, n95.2.1, n95.2.2.1, n95.2.2.2, m208.1, m208.2.1, m208.2.2.1, m208.2.2.2.2, t123, lS 8 (by decide) (by decide) (by decide) (by decide) (by decide) (by decide), lS 54 (by decide) (by decide) (by decide) (by decide) (by decide) (by decide), lS 55 (by decide) (by decide) (by decide) (by decide) (by decide) (by decide), lS 62 (by decide) (by decide) (by decide) (by decide) (by decide) (by decide), v2 10 (by decide), kS 52 (by decide) (by decide), dr 211 (M - 1) (by decide) (by decide) (by omega), show M - 1 = cu by omega]
    rcases row with ⟨w1, w2, w3, w4, w5⟩ | ⟨D, w0, w1, w2, w3, w4, w5, w6, w7, w8⟩
    · rw [w1, w2, w4, w5]
      exact ⟨⟨rfl, rfl, rfl, rfl, ha1⟩, hr, Or.inl ⟨rfl, rfl, rfl, rfl⟩, Int.le_refl _, fun _ => Or.inl ⟨rfl, by omega⟩, by omega, Int.le_refl _⟩
    · rw [w1, w2, w4, w5, Int.add_zero]
      exact ⟨⟨rfl, rfl, rfl, rfl, ha1⟩, hr, Or.inr ⟨w0, ⟨Int.le_refl _, by omega⟩, w6, Or.inl ⟨rfl, rfl⟩⟩, Int.le_refl _, fun _ => Or.inl ⟨rfl, by omega⟩, by omega, Int.le_refl _⟩
  have pcw : pcT S M (S 87 22) (σ 28 r) := by
    unfold pcT
    rw [n95.2.2.1, lS 28 (by decide) (by decide) (by decide) (by decide) (by decide) (by decide), lS 29 (by decide) (by decide) (by decide) (by decide) (by decide) (by decide), lS 54 (by decide) (by decide) (by decide) (by decide) (by decide) (by decide), lS 65 (by decide) (by decide) (by decide) (by decide) (by decide) (by decide)]
    refine ⟨by omega, fun q => ?_, fun q => ?_⟩
    · rcases row with ⟨w1, w2, w3, w4, w5⟩ | ⟨D, w0, w1, w2, w3, w4, w5, w6, w7, w8⟩
      · exact w3
      · omega
    · rcases row with ⟨w1, w2, w3, w4, w5⟩ | ⟨D, w0, w1, w2, w3, w4, w5, w6, w7, w8⟩
      · omega
      · rw [w1, w2, w3, Int.add_zero]
        omega
  have F : rFa S := by
    intro q
    rw [s21] at q ⊢
    rcases row with ⟨w1, w2, w3, w4, w5⟩ | ⟨D, w0, w1, w2, w3, w4, w5, w6, w7, w8⟩
    · omega
    · rw [w1]
      unfold cFa at w8 ⊢
      rw [v1 9 (by decide) (by decide) (by decide) (by decide) (by decide) (by decide) (by decide), v1 11 (by decide) (by decide) (by decide) (by decide) (by decide) (by decide) (by decide), v1 18 (by decide) (by decide) (by decide) (by decide) (by decide) (by decide) (by decide), v1 19 (by decide) (by decide) (by decide) (by decide) (by decide) (by decide) (by decide), v1 20 (by decide) (by decide) (by decide) (by decide) (by decide) (by decide) (by decide), v1 22 (by decide) (by decide) (by decide) (by decide) (by decide) (by decide) (by decide), v1 29 (by decide) (by decide) (by decide) (by decide) (by decide) (by decide) (by decide), v1 54 (by decide) (by decide) (by decide) (by decide) (by decide) (by decide) (by decide), v1 55 (by decide) (by decide) (by decide) (by decide) (by decide) (by decide) (by decide), v1 62 (by decide) (by decide) (by decide) (by decide) (by decide) (by decide) (by decide), v1 64 (by decide) (by decide) (by decide) (by decide) (by decide) (by decide) (by decide), v1 65 (by decide) (by decide) (by decide) (by decide) (by decide) (by decide) (by decide)]
      exact w8
  have c91 : ∀ j, j ≠ cu → S 91 j = σ 91 j := fun j q => by rw [rw1 91 (by decide) (by decide) (by decide) (by decide), f2, x4 j q]
  have s91 : S 91 cu = σ 87 22 + 1 := by rw [rw1 91 (by decide) (by decide) (by decide) (by decide), f2, x5]
  have c52 : ∀ i, i ≠ 19 → S 52 i = σ 52 i := fun i q => by rw [v2 i q, kS 52 (by decide) (by decide)]
  have lk : ∀ l, 0 ≤ l → l < σ 31 r → S 97 (12 * M + l) = 4 ∧ S 99 (12 * M + l) = 0 ∧ S 98 (12 * M + l) = 3 := fun l q1 q2 => by
    rw [rw1 97 (by decide) (by decide) (by decide) (by decide), rw1 98 (by decide) (by decide) (by decide) (by decide), rw1 99 (by decide) (by decide) (by decide) (by decide)]
    exact f8 l q1 q2
  have cl : ∀ a j, 97 ≤ a → a ≤ 99 → j < 12 * M → S a j = σ a j := fun a j q1 q2 q3 => by rw [rw1 a (by omega) q2 (by omega) (by omega), f7 a j q1 q2 q3, x1 a (by omega) (by omega)]
  have t121 : T 119 121 = M + 1 := by rw [v6 121 (by decide), h2 121 (by decide)]; exact g3.1
  have t122 : T 119 122 = S 87 20 := by rw [v6 122 (by decide), v3 20 (by decide) (by decide)]; exact k20
  clear x1 x2 x3 x4 x5 f1 f2 f3 f4 f5 f6 f7 f8 g1 g2 g3 g4 g5 g6 g7 h1' h2 h3 h4 h5 kS kT k119 v1 v2 v3 v4 v5 v6 v7 row HB1 HT1 HU1 HV1 HQ1 e8 s22 k20 rw1
  subst eM
  subst eC
  obtain ⟨T5, z1, z2, z3, z4⟩ := act_fin (a1 := aM) (ar := ar) (S := S) (T := T) R m58 hr (fun a q => lS a (by omega) (by omega) (by omega) (by omega) (by omega) (by omega)) c52 (fun i q => l87 i (by omega) (by omega) (by omega) (by omega) (by omega) (by omega)) s19 s21 rfl cr (fun j q => c91 j (by omega)) s91 n95.2.2.1 n95.2.2.2 hrow cl lk (fun a q => dT a (by omega) (by omega) (by omega) (by omega) (by omega) (by omega)) t119 t121 t122 (by omega) dr m208.2.2.2.1 HB HQ HT pcw pcc (by omega) F low
  refine ⟨S, T5, by rw [a1]; exact u1, by rw [b1, u2]; exact z1, z2, z3, fun a q => lS a (by omega) (by omega) (by omega) (by omega) (by omega) (by omega), ⟨s19, s21, l87 24 (by decide) (by decide) (by decide) (by decide) (by decide) (by decide), l87 34 (by decide) (by decide) (by decide) (by decide) (by decide) (by decide)⟩, ⟨n95.2.2.1, n95.2.2.2, by rw [z4 212 (by decide)]; exact m208.2.2.2.1, by rw [z4 213 (by decide)]; exact m208.2.2.1⟩, fun j q => ⟨cr 90 j (by decide) (by decide) (by decide) q, cr 92 j (by decide) (by decide) (by decide) q, by rw [z4 212 (by decide)]; exact dr 212 j (by decide) (by decide) q, by rw [z4 213 (by decide)]; exact dr 213 j (by decide) (by decide) q⟩, fun a q => by rw [z4 a (by omega), dT a (by omega) (by omega) (by omega) (by omega) (by omega) (by omega)], fun i q1 q2 q3 q4 => by rw [z4 119 (by decide), t119 i q1 q2 q3 q4], by rw [z4 119 (by decide), t123]; omega⟩
end AP
