/-! entries within a run: both sides -/
section EN2
variable {σ τ S T : gM} {pT hT : Int → Int} {m : Nat} {br co θ n : Int}
theorem en_stl (c : enC σ S n) (d : enM τ T n) : stlC σ S ∧ stlT τ T := by
  obtain ⟨c1, c2, c3, c4, c5⟩ := c
  obtain ⟨d1, d2, d3, d4, d5⟩ := d
  have kS : ∀ a, a ≠ 11 → a ≠ 12 → a ≠ 18 → a ≠ 19 → a ≠ 32 → a ≠ 34 → a ≠ 59 → a ≠ 61 → a ≠ 87 → a ≠ 91 → (a < 93 ∨ 96 < a) → S a = σ a := fun a q1 q2 q3 q4 q5 q6 q7 q8 q9 q10 q11 => funext fun i => c1 a i q1 q2 q3 q4 q5 q6 q7 q8 q9 q10 q11
  have kT : ∀ a, a ≠ 119 → (a < 163 ∨ 164 < a) → a ≠ 166 → a ≠ 178 → (a < 180 ∨ 184 < a) → a ≠ 201 → a ≠ 203 → (a < 209 ∨ 211 < a) → a ≠ 214 → a ≠ 224 → T a = τ a := fun a q1 q2 q3 q4 q5 q6 q7 q8 q9 q10 => funext fun i => d1 a i q1 q2 q3 q4 q5 q6 q7 q8 q9 q10
  refine ⟨⟨fun a q => kS a (by omega) (by omega) (by omega) (by omega) (by omega) (by omega) (by omega) (by omega) (by omega) (by omega) (by omega), ?_⟩, ⟨fun a q => kT a (by omega) (by omega) (by omega) (by omega) (by omega) (by omega) (by omega) (by omega) (by omega) (by omega), d4 9 (by decide), d4 10 (by decide), d4 12 (by decide), d4 13 (by decide), d4 15 (by decide), d4 16 (by decide), d4 55 (by decide), d4 56 (by decide), d4 57 (by decide), d4 92 (by decide), d4 93 (by decide), d4 94 (by decide), d4 104 (by decide)⟩⟩
  rw [kS 0 (by decide) (by decide) (by decide) (by decide) (by decide) (by decide) (by decide) (by decide) (by decide) (by decide) (by decide), kS 8 (by decide) (by decide) (by decide) (by decide) (by decide) (by decide) (by decide) (by decide) (by decide) (by decide) (by decide), kS 42 (by decide) (by decide) (by decide) (by decide) (by decide) (by decide) (by decide) (by decide) (by decide) (by decide) (by decide), kS 52 (by decide) (by decide) (by decide) (by decide) (by decide) (by decide) (by decide) (by decide) (by decide) (by decide) (by decide)]
  exact ⟨rfl, rfl, rfl, rfl, rfl, rfl, rfl, rfl, rfl, rfl, rfl, rfl, rfl, rfl, rfl, rfl, rfl, c4 31 (by decide) (by decide) (by decide)⟩
theorem en_nd (c : enC σ S n) (d : enM τ T n) (cc : T 119 123 + ccN S (σ 87 19).toNat = τ 119 123 + ccN σ (σ 87 19).toNat) : ndX σ τ S T := by
  have rv := (rVal_up (en_stl c d).1 (en_stl c d).2).1
  obtain ⟨c1, c2, c3, c4, c5⟩ := c
  obtain ⟨d1, d2, d3, d4, d5⟩ := d
  have kS : ∀ a, a ≠ 11 → a ≠ 12 → a ≠ 18 → a ≠ 19 → a ≠ 32 → a ≠ 34 → a ≠ 59 → a ≠ 61 → a ≠ 87 → a ≠ 91 → (a < 93 ∨ 96 < a) → S a = σ a := fun a q1 q2 q3 q4 q5 q6 q7 q8 q9 q10 q11 => funext fun i => c1 a i q1 q2 q3 q4 q5 q6 q7 q8 q9 q10 q11
  have kT : ∀ a, a ≠ 119 → (a < 163 ∨ 164 < a) → a ≠ 166 → a ≠ 178 → (a < 180 ∨ 184 < a) → a ≠ 201 → a ≠ 203 → (a < 209 ∨ 211 < a) → a ≠ 214 → a ≠ 224 → T a = τ a := fun a q1 q2 q3 q4 q5 q6 q7 q8 q9 q10 => funext fun i => d1 a i q1 q2 q3 q4 q5 q6 q7 q8 q9 q10
  exact ⟨⟨fun a q => kS a (by omega) (by omega) (by omega) (by omega) (by omega) (by omega) (by omega) (by omega) (by omega) (by omega) (by omega), fun i q => c4 i (by omega) (by omega) (by omega), fun a q => kT a (by omega) (by omega) (by omega) (by omega) (by omega) (by omega) (by omega) (by omega) (by omega) (by omega), cc⟩, fun a q => kS a (by omega) (by omega) (by omega) (by omega) (by omega) (by omega) (by omega) (by omega) (by omega) (by omega) (by omega), c4 8 (by decide) (by decide) (by decide), fun a q1 q2 => kT a (by omega) (by omega) (by omega) (by omega) (by omega) (by omega) (by omega) (by omega) (by omega) (by omega), d4, fun k x t y q => (rv k x t y).mpr q⟩
/-- a node settles on what it has come to -/
theorem RQ.en {x2 x3 x4 x5 y2 y3 y4 : Int} (R : RQ σ τ pT hT) (hn : σ 26 (σ 90 (σ 87 21)) ≤ n ∧ n < σ 26 (σ 90 (σ 87 21)) + σ 27 (σ 90 (σ 87 21))) (hE : nE σ n x3 x4 x5 y2 y3 y4) (hx : 1 ≤ x2 ∧ x2 ≤ 3) (h23 : σ 9 n = 23 → x2 = 2) (h18x : σ 18 n ≤ x2) :
    ∃ S T, mc_settles σ n x2 x3 x4 x5 = some (S, 0) ∧ md_enter τ n y2 y3 y4 x2 = some (T, 0) ∧ RQ S T pT hT ∧ ndX σ τ S T ∧ enC σ S n ∧ enM τ T n ∧ ((S = σ ∧ T = τ ∧ (σ 11 n = 1 ∨ (σ 11 n = 0 ∧ (σ 18 n = 1 → σ 19 (9 * n) = x3)))) ∨ S 93 (σ 87 21) = -1) := by
  obtain ⟨c1, c2, c3, c4, c5, c6⟩ := R.cu
  have R' := R
  obtain ⟨⟨⟨P1, -⟩, ⟨N1, N2⟩, -⟩, A, -, -, -, F⟩ := R'
  have hN := P1.2.2.2.2.2.2.2.2.1
  have n8 := hN.2.1 _ c2.1 c2.2
  have kn : σ 9 n = 21 ∨ σ 9 n = 22 ∨ σ 9 n = 23 := by
    rcases hE.2 with z | z | z <;> omega
  have iv := (N1 n (by omega) (by omega)).2.2 kn
  obtain ⟨S, T, s1, s2, s3, s4, s5, s6, s7, s8, s9, s10⟩ := settles_pair P1 A rfl c2 hn hE iv.1 hx h18x
  have nd := en_nd s5 s6 s8
  obtain ⟨e1, e2⟩ := en_stl s5 s6
  refine ⟨S, T, s1, s2, ?_, nd, s5, s6, s7⟩
  obtain ⟨d1, d2, d3, d4, d5⟩ := s6
  obtain ⟨f1, f2, f3, f4, f5⟩ := s5
  have kS : ∀ a, a ≠ 11 → a ≠ 12 → a ≠ 18 → a ≠ 19 → a ≠ 32 → a ≠ 34 → a ≠ 59 → a ≠ 61 → a ≠ 87 → a ≠ 91 → (a < 93 ∨ 96 < a) → S a = σ a := fun a q1 q2 q3 q4 q5 q6 q7 q8 q9 q10 q11 => funext fun i => f1 a i q1 q2 q3 q4 q5 q6 q7 q8 q9 q10 q11
  have kT : ∀ a, a ≠ 119 → (a < 163 ∨ 164 < a) → a ≠ 166 → a ≠ 178 → (a < 180 ∨ 184 < a) → a ≠ 201 → a ≠ 203 → (a < 209 ∨ 211 < a) → a ≠ 214 → a ≠ 224 → T a = τ a := fun a q1 q2 q3 q4 q5 q6 q7 q8 q9 q10 => funext fun i => d1 a i q1 q2 q3 q4 q5 q6 q7 q8 q9 q10
  have k9 := e1.1 9 (by decide)
  refine R.fr s3 ⟨fun m m0 m1 => ?_, fun r' m q1 q2 q3 q4 => ?_⟩ s4 ?_ e1 e2 (fun a q => kS a (by omega) (by omega) (by omega) (by omega) (by omega) (by omega) (by omega) (by omega) (by omega) (by omega) (by omega)) (fun i q => f4 i (by omega) (by omega) (by omega)) (fun a q => kT a (by omega) (by omega) (by omega) (by omega) (by omega) (by omega) (by omega) (by omega) (by omega) (by omega)) (fun a i q1 q2 _ => by rw [kT a (by omega) (by omega) (by omega) (by omega) (by omega) (by omega) (by omega) (by omega) (by omega) (by omega)]) (fun i q => d4 i (by omega))
  · rw [e1.2.2.2.2.2.2.2.2.1] at m1
    unfold nIv
    rw [k9, kT 179 (by decide) (by decide) (by decide) (by decide) (by decide) (by decide) (by decide) (by decide) (by decide) (by decide)]
    by_cases z : m = n
    · rw [z]
      exact ⟨fun q => by omega, fun _ q => by omega, fun _ => ⟨s9, fun q => by have := h23 q; omega⟩⟩
    · rw [(f2 m z).1, (f2 m z).2.2]
      exact N1 m m0 m1
  · rw [e1.2.2.2.2.2.2.2.2.2.2.2.1] at q2
    rw [e1.1 26 (by decide)] at q3
    rw [e1.1 26 (by decide), e1.1 27 (by decide)] at q4
    unfold sI2
    rw [k9, e1.1 13 (by decide), kS 35 (by decide) (by decide) (by decide) (by decide) (by decide) (by decide) (by decide) (by decide) (by decide) (by decide) (by decide)]
    by_cases z : m = n
    · rw [z]
      intro q
      omega
    · rw [(f2 m z).1]
      exact N2 r' m q1 q2 q3 q4
  · rcases s7 with ⟨z, -⟩ | z
    · rw [z]; exact F
    · intro q
      rw [f4 21 (by decide) (by decide) (by decide), z] at q
      omega
end EN2
