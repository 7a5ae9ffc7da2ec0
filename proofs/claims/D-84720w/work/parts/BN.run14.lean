/-! a run while nodes change -/
section NC
variable {σ τ S T : gM} {pT hT : Int → Int} {n r v g : Int}
theorem cgC.stl (c : cgC σ S n v) : stlC σ S := by
  obtain ⟨c1, c2, c3, c4, c5⟩ := c
  have kS : ∀ a, a ≠ 11 → a ≠ 12 → a ≠ 32 → a ≠ 34 → a ≠ 59 → a ≠ 61 → a ≠ 87 → a ≠ 91 → (a < 93 ∨ 96 < a) → S a = σ a := fun a q1 q2 q3 q4 q5 q6 q7 q8 q9 => funext fun i => c1 a i q1 q2 q3 q4 q5 q6 q7 q8 q9
  refine ⟨fun a q => kS a (by omega) (by omega) (by omega) (by omega) (by omega) (by omega) (by omega) (by omega) (by omega), ?_⟩
  rw [kS 0 (by decide) (by decide) (by decide) (by decide) (by decide) (by decide) (by decide) (by decide) (by decide), kS 8 (by decide) (by decide) (by decide) (by decide) (by decide) (by decide) (by decide) (by decide) (by decide), kS 42 (by decide) (by decide) (by decide) (by decide) (by decide) (by decide) (by decide) (by decide) (by decide), kS 52 (by decide) (by decide) (by decide) (by decide) (by decide) (by decide) (by decide) (by decide) (by decide)]
  exact ⟨rfl, rfl, rfl, rfl, rfl, rfl, rfl, rfl, rfl, rfl, rfl, rfl, rfl, rfl, rfl, rfl, rfl, c4 31 (by decide) (by decide) (by decide)⟩
theorem cgM.stl (d : cgM τ T n r v g) : stlT τ T := by
  obtain ⟨d1, d2, d3, d4, d5, d6, d7⟩ := d
  have kT : ∀ a, a ≠ 119 → (a < 163 ∨ 164 < a) → a ≠ 166 → (a < 178 ∨ 180 < a) → a ≠ 201 → a ≠ 203 → (a < 209 ∨ 211 < a) → a ≠ 214 → a ≠ 224 → T a = τ a := fun a q1 q2 q3 q4 q5 q6 q7 q8 q9 => funext fun i => d1 a i q1 q2 q3 q4 q5 q6 q7 q8 q9
  exact ⟨fun a q => kT a (by omega) (by omega) (by omega) (by omega) (by omega) (by omega) (by omega) (by omega) (by omega), d6 9 (by decide), d6 10 (by decide), d6 12 (by decide), d6 13 (by decide), d6 15 (by decide), d6 16 (by decide), d6 55 (by decide), d6 56 (by decide), d6 57 (by decide), d6 92 (by decide), d6 93 (by decide), d6 94 (by decide), d6 104 (by decide)⟩
/-- what the rest of a run needs: it stays where these cells stay -/
theorem RQ.fr (R : RQ σ τ pT hT) (P : rPg S T) (N : rNo S T) (A : aA S T pT) (F : rFa S) (e1 : stlC σ S) (e2 : stlT τ T) (c : ∀ a, a = 90 ∨ a = 92 ∨ (97 ≤ a ∧ a ≤ 103) → S a = σ a) (c87 : ∀ i, i = 5 ∨ (19 ≤ i ∧ i ≤ 21) ∨ i = 23 ∨ i = 24 ∨ i = 31 ∨ i = 34 → S 87 i = σ 87 i) (d : ∀ a, a = 134 ∨ (193 ≤ a ∧ a ≤ 195) ∨ a = 212 ∨ (215 ≤ a ∧ a ≤ 217) ∨ a = 223 → T a = τ a) (dt : ∀ a i, 218 ≤ a → a ≤ 220 → i < τ 212 (σ 87 21) → T a i = τ a i) (d119 : ∀ i, i = 1 ∨ i = 11 ∨ i = 95 ∨ i = 117 ∨ i = 118 ∨ i = 122 ∨ i = 126 ∨ i = 127 → T 119 i = τ 119 i) : RQ S T pT hT := by
  obtain ⟨⟨⟨P1, P2⟩, -, M, B⟩, A0, ⟨V2, V3⟩, K1, C, -⟩ := R
  have rv := (rVal_up e1 e2).1
  obtain ⟨s, f0_7, f0_8, f0_9, f0_10, f0_11, f0_12, f0_13, f8_12, f8_16, f8_19, f8_31, f42_6, f42_10, f42_11, f52_10, f52_11, f52_12, f87⟩ := e1
  obtain ⟨t, f119_9, f119_10, f119_12, f119_13, f119_15, f119_16, f119_55, f119_56, f119_57, f119_92, f119_93, f119_94, f119_104⟩ := e2
  have hm := A0.2.2.2.2.2.1
  refine ⟨⟨⟨P, ?_⟩, N, ?_, ?_⟩, A, ⟨?_, ?_⟩, ?_, ?_, F⟩
  · intro r r0 r1
    rw [f8_31] at r1
    rw [s 24 (by decide), s 25 (by decide)]
    exact P2 r r0 r1
  · unfold rRm cRm mRm at M ⊢
    rw [f0_7, f0_8, f0_9, f8_12, f8_16, f8_19, f8_31, f42_6, f119_9, f119_10, f119_15, f119_56]
    exact M
  · exact ⟨by rw [s 1 (by decide)]; exact B.1, by rw [d 134 (by decide)]; exact B.2.1, B.2.2.mv (fun a q => t a (by omega)) f119_56⟩
  · intro k l k0 k1 l0 l1
    rw [c87 19 (by decide)] at k1
    rw [s 31 (by decide), c 90 (by decide)] at l1
    rw [c 97 (by decide), c 98 (by decide), c 99 (by decide), d 215 (by decide), d 216 (by decide), d 217 (by decide), rv]
    exact V2 k l k0 k1 l0 l1
  · unfold rOb at V3 ⊢
    rw [c87 31 (by decide), d119 95 (by decide), c 100 (by decide), c 101 (by decide), c 102 (by decide), f42_6, s 47 (by decide), d 193 (by decide), d 194 (by decide), d 195 (by decide)]
    simp only [rv]
    exact V3
  · rw [c87 21 (by decide)]
    exact K1.fr (fun k q1 q2 => (A0.2.1.2.2 k q1 (by omega)).2.1) (fun k _ _ => ⟨rfl, rfl⟩) (fun k _ _ => by rw [c 90 (by decide)]) (fun k _ _ => by rw [c 92 (by decide)]) (fun k _ _ => by rw [d 212 (by decide)]) (fun a r q1 q2 _ _ => by rw [s a (by omega)]) (fun r _ _ => ⟨fun a n q _ _ => by rw [t a (by omega)], fun n _ _ => by rw [s 14 (by decide)], fun p _ _ => ⟨by rw [s 20 (by decide)], by rw [s 21 (by decide)], by rw [s 22 (by decide)]⟩⟩) dt K1.mon
  · unfold rCt at C ⊢
    rw [c87 23 (by decide), c87 24 (by decide), c87 20 (by decide), c87 34 (by decide), c87 5 (by decide), c 103 (by decide), f0_13, d 223 (by decide), d119 117 (by decide), d119 118 (by decide), d119 122 (by decide), d119 126 (by decide), d119 11 (by decide), d119 1 (by decide), d119 127 (by decide), f119_12, f119_13]
    exact C
/-- a node of the newest activation gets another state -/
theorem RQ.st (R : RQ σ τ pT hT) (A : aA S T pT) (no : noV S r) (c : cgC σ S n v) (d : cgM τ T n r v g) (er : σ 90 (σ 87 21) = r) (hn : σ 26 r ≤ n ∧ n < σ 26 r + σ 27 r) (hv : 0 ≤ v ∧ v < 16) (nk : σ 9 n < 21 ∨ 23 < σ 9 n) (n1 : (σ 9 n = 0 ∨ σ 9 n = 5 ∨ σ 9 n = 6) → v ≤ 4 ∧ (v ≠ 4 → g = 0)) (n2 : 8 ≤ σ 9 n → σ 9 n ≤ 11 → (v % 2 = 1 → v / 2 % 2 = 0) ∧ (v / 2 % 2 = 0 → g = 0)) (n3 : (σ 9 n = 0 ∨ σ 9 n = 6) → 1 ≤ v → v ≤ 3 → σ 35 (12 * r + σ 13 n) ≠ 0) (e5 : S 93 (σ 87 21) = -1) : RQ S T pT hT := by
  have R' := R
  obtain ⟨⟨⟨P1, P2⟩, ⟨N1, N2⟩, -, -⟩, A0, -⟩ := R'
  have hm := A0.2.2.2.2.2.1
  have r4 := (A0.2.1.2.2 (σ 87 21) (by omega) (by omega)).2.1
  rw [er] at r4
  have e1 := c.stl
  have e2 := d.stl
  have P := P1.st A no c d r4 hn hv
  have hN := P1.2.2.2.2.2.2.2.2.1
  have n8 := hN.2.1 r r4.1 r4.2
  obtain ⟨c1, c2, c3, c4, c5⟩ := c
  obtain ⟨d1, d2, d3, d4, d5, d6, d7⟩ := d
  have kS : ∀ a, a ≠ 11 → a ≠ 12 → a ≠ 32 → a ≠ 34 → a ≠ 59 → a ≠ 61 → a ≠ 87 → a ≠ 91 → (a < 93 ∨ 96 < a) → S a = σ a := fun a q1 q2 q3 q4 q5 q6 q7 q8 q9 => funext fun i => c1 a i q1 q2 q3 q4 q5 q6 q7 q8 q9
  have kT : ∀ a, a ≠ 119 → (a < 163 ∨ 164 < a) → a ≠ 166 → (a < 178 ∨ 180 < a) → a ≠ 201 → a ≠ 203 → (a < 209 ∨ 211 < a) → a ≠ 214 → a ≠ 224 → T a = τ a := fun a q1 q2 q3 q4 q5 q6 q7 q8 q9 => funext fun i => d1 a i q1 q2 q3 q4 q5 q6 q7 q8 q9
  have k9 := e1.1 9 (by decide)
  have k18 := kS 18 (by decide) (by decide) (by decide) (by decide) (by decide) (by decide) (by decide) (by decide) (by decide)
  refine R.fr P ⟨fun m m0 m1 => ?_, fun r' m q1 q2 q3 q4 => ?_⟩ A (fun q => by rw [c4 21 (by decide) (by decide) (by decide), e5] at q; omega) e1 e2 (fun a q => kS a (by omega) (by omega) (by omega) (by omega) (by omega) (by omega) (by omega) (by omega) (by omega)) (fun i q => c4 i (by omega) (by omega) (by omega)) (fun a q => kT a (by omega) (by omega) (by omega) (by omega) (by omega) (by omega) (by omega) (by omega) (by omega)) (fun a i q1 q2 _ => by rw [kT a (by omega) (by omega) (by omega) (by omega) (by omega) (by omega) (by omega) (by omega) (by omega)]) (fun i q => d6 i (by omega))
  · rw [e1.2.2.2.2.2.2.2.2.1] at m1
    unfold nIv
    rw [k9, k18]
    by_cases z : m = n
    · rw [z, c2.1, d3.1]
      exact ⟨n1, n2, fun q => by omega⟩
    · rw [c2.2 m z, d3.2 m z]
      exact N1 m m0 m1
  · rw [e1.2.2.2.2.2.2.2.2.2.2.2.1] at q2
    rw [e1.1 26 (by decide)] at q3
    rw [e1.1 26 (by decide), e1.1 27 (by decide)] at q4
    unfold sI2
    rw [k9, e1.1 13 (by decide), kS 35 (by decide) (by decide) (by decide) (by decide) (by decide) (by decide) (by decide) (by decide) (by decide)]
    by_cases z : m = n
    · have : r' = r := by
        have b1 := (hN.2.1 r' q1 q2).2.2.2.2.2 m q3 q4
        have b2 := n8.2.2.2.2.2 n hn.1 hn.2
        rw [z] at b1
        omega
      rw [z, c2.1, this]
      exact n3
    · rw [c2.2 m z]
      exact N2 r' m q1 q2 q3 q4
end NC
