/-! a run's first activation -/
section A0
variable {σ τ S T : gM} {pT hT : Int → Int} {m : Nat} {br co θ n : Int}
/-- what is left as it was when the first activation has begun -/
def naO (σ τ S T : gM) (r a0 : Int) : Prop := (∀ a, a = 88 ∨ a = 89 ∨ a = 14 ∨ (20 ≤ a ∧ a ≤ 22) ∨ (26 ≤ a ∧ a ≤ 31) → S a = σ a) ∧ (S 87 19 = 1 ∧ S 87 21 = 0 ∧ S 87 24 = σ 87 24 ∧ S 87 34 = σ 87 34 ∧ S 87 8 = σ 87 8) ∧ (S 90 0 = r ∧ S 92 0 = a0 ∧ T 212 0 = τ 119 124 ∧ T 213 0 = a0) ∧ (∀ a, a = 168 ∨ (170 ≤ a ∧ a ≤ 173) ∨ (218 ≤ a ∧ a ≤ 222) → T a = τ a) ∧ (∀ i, i ≠ 89 → i ≠ 121 → i ≠ 122 → i ≠ 123 → T 119 i = τ 119 i) ∧ T 119 123 + ccN S 1 ≤ 2
theorem act0 {r a0 ar : Int} (R1 : rPr σ τ ∧ rNo σ τ ∧ rRm σ τ ∧ rBy σ τ) (ht : rTo σ τ) (k19 : σ 87 19 = 0) (k121 : τ 119 121 = 0) (k123 : τ 119 123 = 0) (ob : rOb σ τ) (hC : rCt σ τ) (hr : 4 ≤ r ∧ r < σ 8 31) : ∃ S T, mc_activate (gW σ 87 41 (if σ 87 41 < 1000000000 then σ 87 41 + 1 else σ 87 41)) r a0 ar (-1) = mc_activate_b313 S r a0 ar 0 ∧ md_activate τ r a0 ar n = md_activate_b317 T r a0 ar 0 ∧ RQ S T (fun _ => σ 28 r) hT ∧ (∀ k x t y, rVal σ τ k x t y → rVal S T k x t y) ∧ naO σ τ S T r a0 := by
  obtain ⟨M, eM⟩ : ∃ M : Int, M = 0 := ⟨0, rfl⟩
  have P1' := R1.1.1
  have hb := P1'.2.2.2.2.2.2.2.1
  have r60 := hb.1.1
  have hU := P1'.2.2.2.2.2.2.2.2.2.2.2.1.1
  have hV := P1'.2.2.2.2.2.2.2.2.2.2.2.1.2.2
  have hQ := P1'.2.2.2.2.2.2.2.2.2.2.2.2.1
  have hIn := P1'.2.2.2.2.2.2.2.2.2.2.1.2 r hr.1 hr.2
  have rr := (P1'.2.2.2.2.2.2.2.2.2.2.2.2.2.1 r hr.1 hr.2).1
  generalize ey : (if σ 87 41 < 1000000000 then σ 87 41 + 1 else σ 87 41) = y
  have y9 : 0 ≤ y ∧ y ≤ 1000000000 := by rw [← ey]; exact more_b ht.2.2.2.2.2.2.2.2.1
  generalize eX : gW σ 87 41 y = X
  have x1 : ∀ a, a ≠ 87 → X a = σ a := fun a q1 => funext fun i => by rw [← eX, gW_c q1]
  have x2 : ∀ i, i ≠ 41 → X 87 i = σ 87 i := fun i q => by rw [← eX, gW_i q]
  have x3 : X 87 41 = y := by rw [← eX, gW_at]
  clear eX
  obtain ⟨S1, a1, f1, f2, f3, f4, f5, f6, f7, f8⟩ := actC0 (σ := X) (a0 := a0) (ar := ar) (k := M) (r := r) (by omega) (by rw [x2 19 (by decide), k19, eM]) (by omega) rfl (by rw [x1 31 (by decide)]; omega)
  rw [x1 28 (by decide), x2 20 (by decide)] at f4
  rw [x1 31 (by decide)] at f8
  have e8 : S1 8 = σ 8 := by rw [f1 8 (by decide) (by decide), x1 8 (by decide)]
  have kS : ∀ a, a ≠ 87 → (a < 90 ∨ 99 < a) → S1 a = σ a := fun a q1 q2 => by rw [f1 a q1 q2, x1 a q1]
  have am : ∃ T, md_activate τ r a0 ar n = md_activate_b144 T r a0 ar M (-1) ∧ amF τ T M r a0 := by
    rw [eM]
    exact actM0 k121 (by rw [ht.2.2.2.2.2.1]; exact ht.2.2.2.2.2.2.2.2.1)
  obtain ⟨T1, b1, g1, g2, g3, g4, g5, g6, g7⟩ := am
  have M60 : 0 ≤ M ∧ M < 60 := by omega
  rw [md_activate_b144_e, if_pos (by decide), if_pos M60, g2 123 (by decide) (by decide), w32_e (x := τ 119 123 + 1) (by omega) (by omega)] at b1
  generalize eT : gW (gW T1 119 123 (τ 119 123 + 1)) 211 M (τ 119 123 + 1) = T2 at b1
  have h1' : ∀ a, a ≠ 119 → a ≠ 211 → T2 a = T1 a := fun a q1 q2 => funext fun i => by rw [← eT, gW_c q2, gW_c q1]
  have h2 : ∀ i, i ≠ 123 → T2 119 i = T1 119 i := fun i q => by rw [← eT, gW_c (by decide), gW_i q]
  have h3 : T2 119 123 = τ 119 123 + 1 := by rw [← eT, gW_c (by decide), gW_at]
  have h4 : ∀ j, j ≠ M → T2 211 j = τ 211 j := fun j q => by rw [← eT, gW_j q, gW_c (by decide), g1 211 (by decide) (by decide) (by decide)]
  have h5 : T2 211 M = τ 119 123 + 1 := by rw [← eT, gW_at]
  clear eT
  have kT : ∀ a, a ≠ 119 → (a < 208 ∨ 214 < a) → a ≠ 224 → T2 a = τ a := fun a q1 q2 q3 => by rw [h1' a q1 (by omega), g1 a q1 (by omega) q3]
  have k119 : ∀ i, i ≠ 121 → i ≠ 122 → i ≠ 123 → T2 119 i = τ 119 i := fun i q1 q2 q3 => by rw [h2 i q3, g2 i q1 q2]
  have HB1 : rBk S1 T2 := hb.up (fun a q => kS a (by omega) (by omega)) (by rw [e8]) (by rw [kS 52 (by decide) (by decide)]) (by rw [kS 52 (by decide) (by decide)]) (fun a q => kT a (by omega) (by omega) (by omega)) (k119 55 (by decide) (by decide) (by decide)) (k119 104 (by decide) (by decide) (by decide)) fun i i0 i1 => by
    have gi := hb.2.2.2 i i0 i1
    rw [kT 200 (by decide) (by decide) (by decide), kT 201 (by decide) (by decide) (by decide), kT 202 (by decide) (by decide) (by decide), kS 58 (by decide) (by decide), kS 59 (by decide) (by decide), kS 60 (by decide) (by decide)]
    exact ⟨gi.2.2.2.2.1, gi.2.2.2.2.2.1, gi.2.2.2.2.2.2.1⟩
  have HT1 : rTo S1 T2 := by
    unfold rTo at ht ⊢
    have q : ∀ i, i ≠ 14 → T2 224 i = τ 224 i := fun i q => by rw [h1' 224 (by decide) (by decide), g4 i q]
    have q' : T2 224 14 = y := by rw [h1' 224 (by decide) (by decide), g5, ht.2.2.2.2.2.1, ey]
    have p : ∀ i, i ≠ 19 → i ≠ 20 → i ≠ 21 → i ≠ 22 → i ≠ 41 → S1 87 i = σ 87 i := fun i q1 q2 q3 q4 q5 => by rw [f3 i q1 q2 q3 q4, x2 i q5]
    have p' : S1 87 41 = y := by rw [f3 41 (by decide) (by decide) (by decide) (by decide), x3]
    rw [q 9 (by decide), q 10 (by decide), q 11 (by decide), q 12 (by decide), q 13 (by decide), q', q 15 (by decide), p', p 36 (by decide) (by decide) (by decide) (by decide) (by decide), p 37 (by decide) (by decide) (by decide) (by decide) (by decide), p 38 (by decide) (by decide) (by decide) (by decide) (by decide), p 39 (by decide) (by decide) (by decide) (by decide) (by decide), p 40 (by decide) (by decide) (by decide) (by decide) (by decide), p 42 (by decide) (by decide) (by decide) (by decide) (by decide)]
    exact ⟨ht.1, ht.2.1, ht.2.2.1, ht.2.2.2.1, ht.2.2.2.2.1, rfl, ht.2.2.2.2.2.2.1, ht.2.2.2.2.2.2.2.1, y9, ht.2.2.2.2.2.2.2.2.2⟩
  have HU1 : rUn S1 := by
    unfold rUn at hU ⊢
    rw [kS 26 (by decide) (by decide), kS 27 (by decide) (by decide), kS 52 (by decide) (by decide), kS 53 (by decide) (by decide), kS 54 (by decide) (by decide), kS 55 (by decide) (by decide), kS 62 (by decide) (by decide), kS 63 (by decide) (by decide), kS 64 (by decide) (by decide)]
    exact hU
  have HV1 : rVc S1 := by
    unfold rVc cFa at hV ⊢
    rw [kS 9 (by decide) (by decide), kS 11 (by decide) (by decide), kS 18 (by decide) (by decide), kS 19 (by decide) (by decide), kS 20 (by decide) (by decide), kS 22 (by decide) (by decide), kS 29 (by decide) (by decide), kS 52 (by decide) (by decide), kS 54 (by decide) (by decide), kS 55 (by decide) (by decide), kS 61 (by decide) (by decide), kS 62 (by decide) (by decide), kS 64 (by decide) (by decide), kS 65 (by decide) (by decide)]
    exact hV
  have HQ1 : rQu S1 T2 := by
    unfold rQu at hQ ⊢
    simp only [k119 89 (by decide) (by decide) (by decide)]
    rw [e8, kS 52 (by decide) (by decide), kS 67 (by decide) (by decide), kT 185 (by decide) (by decide) (by decide)]
    exact hQ
  obtain ⟨S, T, u1, u2, HB, HQ, HT, ⟨v1, v2, v3, v4, v5, v6, v7⟩, row⟩ := act_ent (a0 := a0) (a1 := a0) (ar := ar) (r := r) (k := M) HB1 HU1 HV1 HQ1 HT1 M60 f4.2.2.1 (by rw [h1' 208 (by decide) (by decide)]; exact g7.1) (by rw [e8]; exact hr) (by rw [k119 1 (by decide) (by decide) (by decide), f3 5 (by decide) (by decide) (by decide) (by decide), x2 5 (by decide)]; exact hC.2.2.2.2.2.2.1)
  have lS : ∀ a, a ≠ 32 → a ≠ 52 → a ≠ 58 → a ≠ 67 → a ≠ 87 → (a < 90 ∨ 99 < a) → S a = σ a := fun a q1 q2 q3 q4 q5 q6 => by rw [v1 a q1 q2 q3 q4 q5 (by omega) (by omega), kS a q5 q6]
  have l87 : ∀ i, i ≠ 19 → i ≠ 20 → i ≠ 21 → i ≠ 22 → i ≠ 37 → i ≠ 41 → S 87 i = σ 87 i := fun i q1 q2 q3 q4 q5 q6 => by rw [v3 i q4 q5, f3 i q1 q2 q3 q4, x2 i q6]
  have rw1 : ∀ a, 90 ≤ a → a ≤ 99 → a ≠ 93 → a ≠ 94 → S a = S1 a := fun a q1 q2 q3 q4 => v1 a (by omega) (by omega) (by omega) (by omega) (by omega) q3 q4
  have k20 : T2 119 122 = S1 87 20 := by rw [h2 122 (by decide), g3.2, f4.2.1, hC.2.2.1]
  have n95 : S 95 M = M ∧ S 96 M = 0 ∧ S 90 M = r ∧ S 92 M = a0 := by
    rw [rw1 95 (by decide) (by decide) (by decide) (by decide), rw1 96 (by decide) (by decide) (by decide) (by decide), rw1 90 (by decide) (by decide) (by decide) (by decide), rw1 92 (by decide) (by decide) (by decide) (by decide)]
    exact ⟨f6.2.2.2.2.1, f6.2.2.2.2.2, f6.1, f6.2.1⟩
  have m208 : T 208 M = r ∧ T 214 M = 0 ∧ T 213 M = a0 ∧ T 212 M = τ 119 124 ∧ T 211 M = τ 119 123 + 1 := by
    rw [v5 208 (by decide) (by decide) (by decide) (by decide) (by decide) (by decide) (by decide), v5 214 (by decide) (by decide) (by decide) (by decide) (by decide) (by decide) (by decide), v5 213 (by decide) (by decide) (by decide) (by decide) (by decide) (by decide) (by decide), v5 212 (by decide) (by decide) (by decide) (by decide) (by decide) (by decide) (by decide), v5 211 (by decide) (by decide) (by decide) (by decide) (by decide) (by decide) (by decide), h1' 208 (by decide) (by decide), h1' 214 (by decide) (by decide), h1' 213 (by decide) (by decide), h1' 212 (by decide) (by decide)]
    exact ⟨g7.1, g7.2.2.2.2.2, g7.2.2.1, g7.2.1, h5⟩
  have t123 : T 119 123 = τ 119 123 + 1 := by rw [v6 123 (by decide)]; exact h3
  have t119 : ∀ i, i ≠ 89 → i ≠ 121 → i ≠ 122 → i ≠ 123 → T 119 i = τ 119 i := fun i q1 q2 q3 q4 => by rw [v6 i q1, k119 i q2 q3 q4]
  have dT : ∀ a, a ≠ 119 → a ≠ 163 → a ≠ 185 → a ≠ 200 → (a < 208 ∨ 214 < a) → a ≠ 224 → T a = τ a := fun a q1 q2 q3 q4 q5 q6 => by rw [v5 a q1 q2 q3 q4 (by omega) (by omega) q6, kT a q1 q5 q6]
  have s22 : S1 87 22 = σ 28 r := f4.2.2.2
  rw [f6.2.2.1, f6.2.2.2.1, s22, h1' 209 (by decide) (by decide), h1' 210 (by decide) (by decide), g7.2.2.2.1, g7.2.2.2.2.1, kS 52 (by decide) (by decide), kS 65 (by decide) (by decide), kS 54 (by decide) (by decide), kS 62 (by decide) (by decide), kS 55 (by decide) (by decide)] at row
  have s19 : S 87 19 = M + 1 := by rw [v3 19 (by decide) (by decide)]; exact f4.1
  have s21 : S 87 21 = M := by rw [v3 21 (by decide) (by decide)]; exact f4.2.2.1
  have cc : T 119 123 + ccN S 1 ≤ 2 := by
    have e : ccN S 1 = 0 + (if 0 ≤ S 93 0 then 1 else 0) := rfl
    rw [e, t123, k123]
    split <;> omega
  have hrow : aR1 S T M := by
    unfold aR1 acC
    rw [n95.1, n95.2.1, n95.2.2.1, n95.2.2.2, m208.1, m208.2.1, m208.2.2.1, m208.2.2.2.2, t123, lS 8 (by decide) (by decide) (by decide) (by decide) (by decide) (by decide), lS 54 (by decide) (by decide) (by decide) (by decide) (by decide) (by decide), lS 55 (by decide) (by decide) (by decide) (by decide) (by decide) (by decide), lS 62 (by decide) (by decide) (by decide) (by decide) (by decide) (by decide), v2 10 (by decide), kS 52 (by decide) (by decide)]
    rcases row with ⟨w1, w2, w3, w4, w5⟩ | ⟨D, w0, w1, w2, w3, w4, w5, w6, w7, w8⟩
    · rw [w1, w2, w4, w5]
      exact ⟨⟨rfl, rfl, rfl, rfl, Int.le_refl _⟩, hr, Or.inl ⟨rfl, rfl, rfl, rfl⟩, Int.le_refl _, fun q => by omega, by omega, Int.le_refl _⟩
    · rw [w1, w2, w4, w5, Int.add_zero]
      exact ⟨⟨rfl, rfl, rfl, rfl, Int.le_refl _⟩, hr, Or.inr ⟨w0, ⟨Int.le_refl _, by omega⟩, w6, Or.inl ⟨rfl, rfl⟩⟩, Int.le_refl _, fun q => by omega, by omega, Int.le_refl _⟩
  have pcw : pcT S M (S 87 22) (σ 28 r) := by
    unfold pcT
    rw [n95.2.2.1, lS 28 (by decide) (by decide) (by decide) (by decide) (by decide) (by decide), lS 29 (by decide) (by decide) (by decide) (by decide) (by decide) (by decide), lS 54 (by decide) (by decide) (by decide) (by decide) (by decide) (by decide), lS 65 (by decide) (by decide) (by decide) (by decide) (by decide) (by decide)]
    refine ⟨by omega, fun q => ?_, fun q => ?_⟩
    · rcases row with ⟨w1, w2, w3, w4, w5⟩ | ⟨D, w0, w1, w2, w3, w4, w5, w6, w7, w8⟩
      · exact w3
      · omega
    · rcases row with ⟨w1, w2, w3, w4, w5⟩ | ⟨D, w0, w1, w2, w3, w4, w5, w6, w7, w8⟩
      · omega
      · rw [w1, w2, w3, Int.add_zero]
        omega
  have F : rFa S := by
    intro q
    rw [s21] at q ⊢
    rcases row with ⟨w1, w2, w3, w4, w5⟩ | ⟨D, w0, w1, w2, w3, w4, w5, w6, w7, w8⟩
    · omega
    · rw [w1]
      unfold cFa at w8 ⊢
      rw [v1 9 (by decide) (by decide) (by decide) (by decide) (by decide) (by decide) (by decide), v1 11 (by decide) (by decide) (by decide) (by decide) (by decide) (by decide) (by decide), v1 18 (by decide) (by decide) (by decide) (by decide) (by decide) (by decide) (by decide), v1 19 (by decide) (by decide) (by decide) (by decide) (by decide) (by decide) (by decide), v1 20 (by decide) (by decide) (by decide) (by decide) (by decide) (by decide) (by decide), v1 22 (by decide) (by decide) (by decide) (by decide) (by decide) (by decide) (by decide), v1 29 (by decide) (by decide) (by decide) (by decide) (by decide) (by decide) (by decide), v1 54 (by decide) (by decide) (by decide) (by decide) (by decide) (by decide) (by decide), v1 55 (by decide) (by decide) (by decide) (by decide) (by decide) (by decide) (by decide), v1 62 (by decide) (by decide) (by decide) (by decide) (by decide) (by decide) (by decide), v1 64 (by decide) (by decide) (by decide) (by decide) (by decide) (by decide) (by decide), v1 65 (by decide) (by decide) (by decide) (by decide) (by decide) (by decide) (by decide)]
      exact w8
  have c52 : ∀ i, i ≠ 19 → S 52 i = σ 52 i := fun i q => by rw [v2 i q, kS 52 (by decide) (by decide)]
  have lk : ∀ l, 0 ≤ l → l < σ 31 r → S 97 (12 * M + l) = 4 ∧ S 99 (12 * M + l) = 0 ∧ S 98 (12 * M + l) = 3 := fun l q1 q2 => by
    rw [rw1 97 (by decide) (by decide) (by decide) (by decide), rw1 98 (by decide) (by decide) (by decide) (by decide), rw1 99 (by decide) (by decide) (by decide) (by decide)]
    exact f8 l q1 q2
  have t121 : T 119 121 = M + 1 := by rw [v6 121 (by decide), h2 121 (by decide)]; exact g3.1
  have t122 : T 119 122 = S 87 20 := by rw [v6 122 (by decide), v3 20 (by decide) (by decide)]; exact k20
  clear x1 x2 x3 f1 f2 f3 f4 f5 f6 f7 f8 g1 g2 g3 g4 g5 g6 g7 h1' h2 h3 h4 h5 kS kT k119 v1 v2 v3 v4 v5 v6 v7 row HB1 HT1 HU1 HV1 HQ1 e8 s22 k20 rw1
  have b31 : 0 ≤ σ 31 r ∧ σ 31 r ≤ 12 := by omega
  have e161 : T 161 r = σ 31 r := by rw [dT 161 (by decide) (by decide) (by decide) (by decide) (by decide) (by decide)]; omega
  obtain ⟨T2, l1, l2, l3, l4⟩ := locM (a0 := a0) (ar := ar) (k := M) (r := r) (by omega) (by omega) (σ 31 r).toNat T 0 (by decide) (by omega) (by omega)
  rw [e161] at l3 l4
  have yT : ∀ a, (a < 215 ∨ 217 < a) → T2 a = T a := fun a q => funext fun i => l2 a i q
  have y119 : T2 119 = T 119 := yT 119 (by decide)
  have c : ∀ a, (0 ≤ a ∧ a ≤ 31) ∨ (33 ≤ a ∧ a ≤ 35) ∨ a = 40 ∨ (42 ≤ a ∧ a ≤ 51) ∨ (53 ≤ a ∧ a ≤ 57) ∨ (59 ≤ a ∧ a ≤ 66) ∨ (100 ≤ a ∧ a ≤ 103) → S a = σ a := fun a q => lS a (by omega) (by omega) (by omega) (by omega) (by omega) (by omega)
  have d : ∀ a, (121 ≤ a ∧ a ≤ 128) ∨ a = 134 ∨ (155 ≤ a ∧ a ≤ 162) ∨ (164 ≤ a ∧ a ≤ 184) ∨ (186 ≤ a ∧ a ≤ 199) ∨ (201 ≤ a ∧ a ≤ 206) ∨ (218 ≤ a ∧ a ≤ 223) → T2 a = τ a := fun a q => by rw [yT a (by omega), dT a (by omega) (by omega) (by omega) (by omega) (by omega) (by omega)]
  have d119 : ∀ i, i ≠ 89 → i ≠ 121 → i ≠ 122 → i ≠ 123 → T2 119 i = τ 119 i := fun i q1 q2 q3 q4 => by rw [y119, t119 i q1 q2 q3 q4]
  have c87 : ∀ i, i = 5 ∨ i = 8 ∨ i = 23 ∨ i = 24 ∨ i = 31 ∨ i = 34 → S 87 i = σ 87 i := fun i q => l87 i (by omega) (by omega) (by omega) (by omega) (by omega) (by omega)
  have HB' : rBk S T2 := HB.up (fun a _ => rfl) rfl rfl rfl (fun a q => yT a (by omega)) (by rw [y119]) (by rw [y119]) fun i i0 i1 => by
    have gi := HB.2.2.2 i i0 i1
    rw [yT 200 (by decide), yT 201 (by decide), yT 202 (by decide)]
    exact ⟨gi.2.2.2.2.1, gi.2.2.2.2.2.1, gi.2.2.2.2.2.2.1⟩
  have HQ' : rQu S T2 := by
    unfold rQu at HQ ⊢
    rw [y119, yT 185 (by decide)]
    exact HQ
  have HT' : rTo S T2 := by
    unfold rTo at HT ⊢
    rw [yT 224 (by decide)]
    exact HT
  obtain ⟨⟨P, P2⟩, N, Mm, B⟩ := R1
  have e1 : stlC σ S := by
    refine ⟨fun a q => c a (by omega), ?_⟩
    rw [c 0 (by decide), c 8 (by decide), c 42 (by decide)]
    exact ⟨rfl, rfl, rfl, rfl, rfl, rfl, rfl, rfl, rfl, rfl, rfl, rfl, rfl, rfl, c52 10 (by decide), c52 11 (by decide), c52 12 (by decide), c87 31 (by decide)⟩
  have e2 : stlT τ T2 := ⟨fun a q => d a (by omega), d119 9 (by decide) (by decide) (by decide) (by decide), d119 10 (by decide) (by decide) (by decide) (by decide), d119 12 (by decide) (by decide) (by decide) (by decide), d119 13 (by decide) (by decide) (by decide) (by decide), d119 15 (by decide) (by decide) (by decide) (by decide), d119 16 (by decide) (by decide) (by decide) (by decide), d119 55 (by decide) (by decide) (by decide) (by decide), d119 56 (by decide) (by decide) (by decide) (by decide), d119 57 (by decide) (by decide) (by decide) (by decide), d119 92 (by decide) (by decide) (by decide) (by decide), d119 93 (by decide) (by decide) (by decide) (by decide), d119 94 (by decide) (by decide) (by decide) (by decide), d119 104 (by decide) (by decide) (by decide) (by decide)⟩
  have rv := (rVal_up e1 e2).1
  have hN := P.2.2.2.2.2.2.2.2.1
  have hV := P.2.2.2.2.2.2.2.2.2.2.2.1.2.2
  have hS := P.2.2.2.2.2.2.2.2.2.2.2.2.2.2.2.1
  have hCh := P.2.2.2.2.2.2.2.2.2.2.2.2.2.2.2.2
  have P3 : rPg S T2 := by
    refine P.up e1 e2 HB' ?_ ?_ HQ' ?_ ?_
    · have pl : ∀ s n, plc S s n = plc σ s n := fun s n => plc_mv (c 43 (by decide)) (c 44 (by decide)) (c 47 (by decide))
      unfold rNd rN1 rEn at hN ⊢
      simp only [pl, d119 57 (by decide) (by decide) (by decide) (by decide)]
      rw [c 8 (by decide), c 9 (by decide), c 10 (by decide), c 11 (by decide), c 12 (by decide), c 13 (by decide), c 18 (by decide), c 19 (by decide), c 26 (by decide), c 27 (by decide), c 42 (by decide), d 158 (by decide), d 159 (by decide), d 168 (by decide), d 169 (by decide), d 174 (by decide), d 175 (by decide), d 178 (by decide), d 180 (by decide), d 181 (by decide), d 182 (by decide), d 183 (by decide), d 184 (by decide)]
      exact hN
    · unfold rVc cFa at hV ⊢
      simp only [c52 10 (by decide)]
      rw [c 9 (by decide), c 11 (by decide), c 18 (by decide), c 19 (by decide), c 20 (by decide), c 22 (by decide), c 29 (by decide), c 54 (by decide), c 55 (by decide), c 61 (by decide), c 62 (by decide), c 64 (by decide), c 65 (by decide)]
      exact hV
    · unfold rSo at hS ⊢
      rw [c 8 (by decide), c 35 (by decide), d 167 (by decide)]
      exact hS
    · intro r' q0 q1
      rw [c 8 (by decide)] at q1
      rw [d 166 (by decide), c 26 (by decide), c 27 (by decide), hCh r' q0 q1]
      exact (congrArg w32 (chN_mv _ fun i _ => by rw [c 12 (by decide)])).symm
  have R1' : rPr S T2 ∧ rNo S T2 ∧ rRm S T2 ∧ rBy S T2 := by
    refine ⟨⟨P3, ?_⟩, N.mv (fun a q => c a (by omega)) (d 179 (by decide)), ?_, ?_⟩
    · unfold rRp at P2 ⊢
      rw [c 8 (by decide), c 24 (by decide), c 25 (by decide)]
      exact P2
    · unfold rRm cRm mRm at Mm ⊢
      rw [c 0 (by decide), c 8 (by decide), c 42 (by decide), d119 9 (by decide) (by decide) (by decide) (by decide), d119 10 (by decide) (by decide) (by decide) (by decide), d119 15 (by decide) (by decide) (by decide) (by decide), d119 56 (by decide) (by decide) (by decide) (by decide)]
      exact Mm
    · exact ⟨by rw [c 1 (by decide)]; exact B.1, by rw [d 134 (by decide)]; exact B.2.1, B.2.2.mv (fun a q => d a (by omega)) (d119 56 (by decide) (by decide) (by decide) (by decide))⟩
  subst eM
  have Q : RQ S T2 (fun _ => σ 28 r) hT := by
    refine RQ.one R1' HT' (by omega) s21 (by rw [y119]; omega) ?_ (by rw [y119, t123, k123]; decide) pcw (by rw [y119]; omega) ?_ ?_ ?_ F
    · unfold aR1 at hrow ⊢
      rw [y119, yT 208 (by decide), yT 209 (by decide), yT 210 (by decide), yT 211 (by decide), yT 213 (by decide), yT 214 (by decide)]
      exact hrow
    · intro k l k0 k1 l0 l1
      have ek : k = 0 := by omega
      rw [ek] at l1 ⊢
      rw [n95.2.2.1, c 31 (by decide)] at l1
      obtain ⟨v1, v2, v3⟩ := lk l l0 l1
      obtain ⟨w1, w2, w3⟩ := l4 l l0 l1
      rw [v1, v2, v3, w1, w2, w3]
      exact ⟨rfl, by decide, Or.inr (Or.inr (Or.inr (Or.inr (Or.inl ⟨rfl, rfl, rfl, rfl⟩))))⟩
    · unfold rOb at ob ⊢
      rw [c87 31 (by decide), d119 95 (by decide) (by decide) (by decide) (by decide), d 193 (by decide), d 194 (by decide), d 195 (by decide), c 100 (by decide), c 101 (by decide), c 102 (by decide), c 42 (by decide), c 47 (by decide)]
      refine ⟨ob.1, fun o q1 q2 => ?_⟩
      obtain ⟨o1, o2, o3⟩ := ob.2 o q1 q2
      exact ⟨o1, o2, fun p p0 p1 => (rv _ _ _ _).mpr (o3 p p0 p1)⟩
    · unfold rCt at hC ⊢
      rw [c87 23 (by decide), c87 24 (by decide), c87 34 (by decide), c87 5 (by decide), c 103 (by decide), c 0 (by decide), d 223 (by decide), d119 117 (by decide) (by decide) (by decide) (by decide), d119 118 (by decide) (by decide) (by decide) (by decide), d119 126 (by decide) (by decide) (by decide) (by decide), d119 11 (by decide) (by decide) (by decide) (by decide), d119 12 (by decide) (by decide) (by decide) (by decide), d119 13 (by decide) (by decide) (by decide) (by decide), d119 1 (by decide) (by decide) (by decide) (by decide), d119 127 (by decide) (by decide) (by decide) (by decide), y119, t122]
      exact ⟨hC.1, hC.2.1, rfl, hC.2.2.2⟩
  refine ⟨S, T2, by rw [a1]; exact u1, by rw [b1, u2]; exact l1, Q, fun k x t y q => (rv k x t y).mpr q, fun a q => lS a (by omega) (by omega) (by omega) (by omega) (by omega) (by omega), ⟨by omega, s21, c87 24 (by decide), c87 34 (by decide), c87 8 (by decide)⟩, ⟨n95.2.2.1, n95.2.2.2, by rw [yT 212 (by decide)]; exact m208.2.2.2.1, by rw [yT 213 (by decide)]; exact m208.2.2.1⟩, fun a q => d a (by omega), d119, by rw [y119]; exact cc⟩
end A0
