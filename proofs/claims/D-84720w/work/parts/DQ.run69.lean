/-! strings are joined: both sides -/
section OJ
variable {σ τ S T Z X : gM} {pT hT : Int → Int} {m : Nat} {br co θ n : Int}
/-- a string comes that the run has made -/
theorem hpF.mk3 {N : Int} (P : rPg σ τ) (c : ∀ a, a = 1 ∨ (6 ≤ a ∧ a ≤ 35) ∨ a = 40 ∨ (42 ≤ a ∧ a ≤ 67) → Z a = σ a) (c0 : ∀ i, i ≠ 10 → i ≠ 11 → Z 0 i = σ 0 i) (z10 : Z 0 10 = σ 0 10 + 1) (z11 : Z 0 11 = σ 0 11 + N) (N0 : 0 ≤ N) (rm : σ 0 10 + 1 - 8000 + (σ 0 11 + N - 24000) ≤ σ 0 13) (c25 : ∀ a j, 2 ≤ a → a ≤ 5 → j ≠ σ 0 10 → Z a j = σ a j) (n2 : Z 2 (σ 0 10) = σ 0 11) (n3 : Z 3 (σ 0 10) = N) (n4 : Z 4 (σ 0 10) = -1) (n5 : Z 5 (σ 0 10) = 0) (c31 : σ 87 31 ≤ Z 87 31) (mi : mI X) (m8 : ∀ i, i8 (X 121 i)) (kp : mKeep τ X) (d : ∀ a, a = 128 ∨ (155 ≤ a ∧ a ≤ 192) ∨ (196 ≤ a ∧ a ≤ 206) → X a = τ a) (d119 : ∀ i, i = 10 ∨ i = 15 ∨ i = 16 ∨ (55 ≤ i ∧ i ≤ 57) ∨ (89 ≤ i ∧ i ≤ 94) ∨ i = 104 → X 119 i = τ 119 i) : hpF σ τ Z X := by
  have hi := P.1.1
  have gr := P.2.2.2.2.1
  obtain ⟨h1, h2, h3, h4, h5, h6⟩ := hi
  have ne : ∀ s, vS σ s → s ≠ σ 0 10 := fun s hs => by
    rcases hs with q | q
    · omega
    · omega
  have cs : ∀ s, vS σ s → cS Z s = cS σ s := fun s hs => by
    unfold cS
    rw [c 1 (by decide), c25 2 s (by decide) (by decide) (ne s hs), c25 3 s (by decide) (by decide) (ne s hs)]
  have vs : ∀ s, vS σ s → vS Z s := fun s hs => by
    unfold vS at hs ⊢
    rw [c0 7 (by decide) (by decide), z10]
    omega
  refine ⟨⟨⟨?_, ?_, ?_, ?_, ?_, ?_⟩, mi, m8⟩, ⟨fun a q => c a (by omega), c31, ⟨c0 7 (by decide) (by decide), c0 9 (by decide) (by decide)⟩, fun s hs => ⟨vs s hs, cs s hs, c25 4 s (by decide) (by decide) (ne s hs), c25 5 s (by decide) (by decide) (ne s hs), c25 3 s (by decide) (by decide) (ne s hs)⟩, fun s q1 q2 => ?_, by rw [c0 12 (by decide) (by decide)]; exact Int.le_refl _, fun k x _ q => ?_⟩, ⟨fun a q => d a (by omega), fun i q => d119 i (by omega), fun r q => ⟨(kp r q).1, (kp r q).2.1⟩, by rw [d119 16 (by decide)]; exact Int.le_refl _, fun y x _ q => ?_⟩, ?_⟩
  · rw [c0 7 (by decide) (by decide)]; exact h1
  · rw [c0 8 (by decide) (by decide)]; exact h2
  · intro s s0 s1
    rw [c0 7 (by decide) (by decide)] at s1
    rw [c0 8 (by decide) (by decide), c25 2 s (by decide) (by decide) (by omega), c25 3 s (by decide) (by decide) (by omega)]
    exact h3 s s0 s1
  · intro s t s0 s1 t0 t1 e
    rw [c0 7 (by decide) (by decide)] at s1 t1
    rw [cs s (Or.inl ⟨s0, s1⟩), cs t (Or.inl ⟨t0, t1⟩)] at e
    exact h4 s t s0 s1 t0 t1 e
  · rw [z10, z11, c0 13 (by decide) (by decide)]
    omega
  · intro s s0 s1
    rw [z10] at s1
    rw [z11]
    by_cases e : s = σ 0 10
    · rw [e, n2, n3]
      omega
    · rw [c25 2 s (by decide) (by decide) e, c25 3 s (by decide) (by decide) e]
      have := h6 s s0 (by omega)
      omega
  · have e : s = σ 0 10 := by
      unfold vS at q1 q2
      rw [c0 7 (by decide) (by decide), z10] at q1
      omega
    rw [e]
    exact ⟨n4, n5⟩
  · unfold cB at q ⊢
    rw [c 6 (by decide), c 7 (by decide)]
    exact q
  · unfold mB at q ⊢
    rw [d 128 (by decide)]
    exact q
  · unfold rGr at gr ⊢
    rw [c0 9 (by decide) (by decide), c0 12 (by decide) (by decide), c0 13 (by decide) (by decide), d119 15 (by decide), d119 16 (by decide)]
    exact gr
/-- letters are laid, two values' in a row: both sides -/
theorem lay_two {k1 x1 t1 y1 k2 x2 t2 y2 : Int} (Q : RQ σ τ pT hT) (v1 : rVal σ τ k1 x1 t1 y1) (v2 : rVal σ τ k2 x2 t2 y2) :
    ∃ σ1 τ1 σ2 τ2 L1 L2, mc_shows (gW σ 0 14 (σ 0 11)) k1 x1 = some (put1 σ1 L1, 0) ∧ mc_shows (put1 σ1 L1) k2 x2 = some (put1 σ2 L2, 0) ∧ md_show (gW τ 119 151 0) t1 y1 = some (put2 τ1 L1, 0) ∧ md_show (put2 τ1 L1) t2 y2 = some (put2 τ2 L2, 0) ∧ L1.length ≤ 200 ∧ L2.length ≤ 200 ∧ (∀ z ∈ L1 ++ L2, i8 z) ∧
      (∀ a, a ≠ 0 → a ≠ 1 → (a < 105 ∨ 107 < a) → put1 σ2 L2 a = σ a) ∧ (∀ j, j ≠ 14 → put1 σ2 L2 0 j = σ 0 j) ∧ put1 σ2 L2 0 14 = σ 0 11 + (L1.length + L2.length : Int) ∧ (∀ j, j < σ 0 11 → put1 σ2 L2 1 j = σ 1 j) ∧ (∀ i, i8 (put1 σ2 L2 1 i)) ∧ lt (put1 σ2 L2 1) (σ 0 11) (L1 ++ L2).length = L1 ++ L2 ∧
      (∀ a, a ≠ 119 → a ≠ 129 → a ≠ 225 → put2 τ2 L2 a = τ a) ∧ (∀ i, i ≠ 151 → put2 τ2 L2 119 i = τ 119 i) ∧ put2 τ2 L2 119 151 = (L1.length + L2.length : Int) ∧ lt (put2 τ2 L2 225) 0 (L1 ++ L2).length = L1 ++ L2 ∧
      (∀ a, a ≠ 0 → a ≠ 1 → (a < 105 ∨ 107 < a) → put1 σ1 L1 a = σ a) ∧ (∀ i, i ≠ 151 → put2 τ1 L1 119 i = τ 119 i) ∧ (∀ a, a ≠ 119 → a ≠ 129 → a ≠ 225 → put2 τ1 L1 a = τ a) := by
  have P1 := Q.1.1.1
  have B := Q.1.2.2.2
  have h5 := P1.1.1.2.2.2.2.1
  have s1 : sameC σ (gW σ 0 14 (σ 0 11)) := ⟨fun a q => gW_cell (by omega), gW_i (by decide), gW_i (by decide), gW_i (by decide), gW_i (by decide), gW_i (by decide), gW_i (by decide), gW_i (by decide), gW_c (by decide), gW_c (by decide), gW_c (by decide), gW_c (by decide), gW_c (by decide), gW_c (by decide), gW_c (by decide), gW_c (by decide), gW_c (by decide), gW_c (by decide), gW_c (by decide), gW_c (by decide)⟩
  have s2 : sameT τ (gW τ 119 151 0) := ⟨fun a q => gW_cell (by omega), gW_i (by decide), gW_i (by decide), gW_i (by decide), gW_i (by decide), gW_i (by decide), gW_i (by decide), gW_i (by decide), gW_i (by decide), gW_i (by decide), gW_i (by decide), gW_i (by decide), gW_i (by decide), gW_i (by decide), gW_i (by decide)⟩
  have Pa := P1.mv s1 s2
  have va := ((rVal_mv s1 s2).1 k1 x1 t1 y1).mpr v1
  have a14 : gW σ 0 14 (σ 0 11) 0 14 = σ 0 11 := gW_at ..
  have a11 : gW σ 0 14 (σ 0 11) 0 11 = σ 0 11 := gW_i (by decide)
  have b151 : gW τ 119 151 0 119 151 = 0 := gW_at ..
  obtain ⟨σ1, τ1, L1, e1, e2, l1, l2, w1, w2, -⟩ := mc_shows_v Pa.1.1 Pa.1.2.1 (by rw [gW_cell (by decide)]; exact B.1) Pa.1.2.2 Pa.2.2.2.1 Pa.2.1 Pa.2.2.2.2.1 (by rw [a11, a14]; exact Int.le_refl _) (by rw [a14]; omega) (by rw [b151]; decide) (by rw [b151]; decide) va
  have c1 : ∀ a j, a ≠ 105 → a ≠ 106 → a ≠ 107 → (a ≠ 0 ∨ j ≠ 14) → σ1 a j = σ a j := fun a j q1 q2 q3 q4 => by
    rw [w1 a j q1 (by omega) (by omega)]
    rcases q4 with q | q
    · exact gW_c q
    · by_cases z : a = 0
      · rw [z, gW_i q]
      · exact gW_c z
  have v14 : σ1 0 14 = σ 0 11 := by rw [w1 0 14 (by decide) (by decide) (by decide), a14]
  have d1 : ∀ a j, a ≠ 129 → (a ≠ 119 ∨ j ≠ 151) → τ1 a j = τ a j := fun a j q1 q2 => by
    rw [w2 a j q1]
    rcases q2 with q | q
    · exact gW_c q
    · by_cases z : a = 119
      · rw [z, gW_i q]
      · exact gW_c z
  have u151 : τ1 119 151 = 0 := by rw [w2 119 151 (by decide), b151]
  -- between the two
  have m0 : ∀ a, a ≠ 0 → a ≠ 1 → (a < 105 ∨ 107 < a) → put1 σ1 L1 a = σ a := fun a q1 q2 q3 => funext fun j => by rw [put1_c q2 (fun q => q1 q.1), c1 a j (by omega) (by omega) (by omega) (Or.inl q1)]
  have m0' : ∀ j, j ≠ 14 → put1 σ1 L1 0 j = σ 0 j := fun j q => by rw [put1_c (by decide) (fun w => q w.2), c1 0 j (by decide) (by decide) (by decide) (Or.inr q)]
  have m14 : put1 σ1 L1 0 14 = σ 0 11 + L1.length := by rw [put1_14, v14]
  have m1 : ∀ j, j < σ 0 11 → put1 σ1 L1 1 j = σ 1 j := fun j q => by rw [put1_lo (by rw [v14]; exact Or.inl q), c1 1 j (by decide) (by decide) (by decide) (Or.inl (by decide))]
  have m8 : ∀ i, i8 (put1 σ1 L1 1 i) := put1_i8 (fun i => by rw [c1 1 i (by decide) (by decide) (by decide) (Or.inl (by decide))]; exact B.1 i) l2
  have n0 : ∀ a, a ≠ 119 → a ≠ 129 → a ≠ 225 → put2 τ1 L1 a = τ a := fun a q1 q2 q3 => funext fun j => by rw [put2_c q3 (fun q => q1 q.1), d1 a j q2 (Or.inl q1)]
  have n119 : ∀ j, j ≠ 151 → put2 τ1 L1 119 j = τ 119 j := fun j q => by rw [put2_c (by decide) (fun w => q w.2), d1 119 j (by decide) (Or.inr q)]
  have n151 : put2 τ1 L1 119 151 = L1.length := by rw [put2_151, u151]; omega
  have F1 : hpF σ τ (put1 σ1 L1) (put2 τ1 L1) := hpF.mk P1 (fun a q => m0 a (by omega) (by omega) (by omega)) m1 m0' (by rw [m0 87 (by decide) (by decide) (by decide)]; exact Int.le_refl _) (fun a q => n0 a (by omega) (by omega) (by omega)) (fun i q => n119 i (by omega))
  have Pb := P1.hp F1
  have vb := (hpF.rf P1 F1).2 _ _ _ _ v2
  obtain ⟨σ2, τ2, L2, e3, e4, l3, l4, w3, w4, -⟩ := mc_shows_v Pb.1.1 Pb.1.2.1 m8 Pb.1.2.2 Pb.2.2.2.1 Pb.2.1 Pb.2.2.2.2.1 (by rw [m0' 11 (by decide), m14]; omega) (by rw [m14]; omega) (by rw [n151]; omega) (by rw [n151]; omega) vb
  have c2 : ∀ a j, a ≠ 105 → a ≠ 106 → a ≠ 107 → σ2 a j = put1 σ1 L1 a j := fun a j q1 q2 q3 => w3 a j q1 (by omega) (by omega)
  have x14 : σ2 0 14 = σ 0 11 + L1.length := by rw [c2 0 14 (by decide) (by decide) (by decide), m14]
  have y151 : τ2 119 151 = L1.length := by rw [w4 119 151 (by decide), n151]
  have lz : ∀ z ∈ L1 ++ L2, i8 z := fun z hz => by
    rcases List.mem_append.mp hz with q | q
    · exact l2 z q
    · exact l4 z q
  have t1 : ∀ j, j < σ 0 11 + L1.length → put1 σ2 L2 1 j = put1 σ1 L1 1 j := fun j q => by rw [put1_lo (by rw [x14]; exact Or.inl q), c2 1 j (by decide) (by decide) (by decide)]
  have r1 : ∀ j, j < (L1.length : Int) → put2 τ2 L2 225 j = put2 τ1 L1 225 j := fun j q => by rw [put2_lo (by rw [y151]; exact Or.inl q), w4 225 j (by decide)]
  refine ⟨σ1, τ1, σ2, τ2, L1, L2, e1, e3, e2, e4, l1, l3, lz, fun a q1 q2 q3 => funext fun j => ?_, fun j q => ?_, ?_, fun j q => ?_, put1_i8 (fun i => by rw [c2 1 i (by decide) (by decide) (by decide)]; exact m8 i) l4, ?_, fun a q1 q2 q3 => funext fun j => ?_, fun i q => ?_, ?_, ?_, m0, n119, n0⟩
  · rw [put1_c q2 (fun q => q1 q.1), c2 a j (by omega) (by omega) (by omega), m0 a q1 q2 q3]
  · rw [put1_c (by decide) (fun w => q w.2), c2 0 j (by decide) (by decide) (by decide), m0' j q]
  · rw [put1_14, x14]; omega
  · rw [t1 j (by omega), m1 j q]
  · rw [List.length_append, lt_append]
    have a1 : lt (put1 σ2 L2 1) (σ 0 11) L1.length = L1 := by
      have w := put1_lt (σ := σ1) (L := L1)
      rw [v14] at w
      rw [← w]
      rw [show (lt (put1 σ1 L1 1) (σ 0 11) L1.length).length = L1.length from lt_len]
      exact lt_congr fun i hi => by rw [t1 _ (by omega)]
    have a2 : lt (put1 σ2 L2 1) (σ 0 11 + L1.length) L2.length = L2 := by
      have w := put1_lt (σ := σ2) (L := L2)
      rw [x14] at w
      exact w
    rw [a1, a2]
  · rw [put2_c q3 (fun q => q1 q.1), w4 a j q2, n0 a q1 q2 q3]
  · rw [put2_c (by decide) (fun w => q w.2), w4 119 i (by decide), n119 i q]
  · rw [put2_151, y151]
  · rw [List.length_append, lt_append]
    have a1 : lt (put2 τ2 L2 225) 0 L1.length = L1 := by
      have w := put2_lt (τ := τ1) (L := L1)
      rw [u151] at w
      rw [← w]
      rw [show (lt (put2 τ1 L1 225) 0 L1.length).length = L1.length from lt_len]
      exact lt_congr fun i hi => by rw [r1 _ (by omega)]
    have a2 : lt (put2 τ2 L2 225) (0 + L1.length) L2.length = L2 := by
      have w := put2_lt (τ := τ2) (L := L2)
      rw [y151] at w
      rw [Int.zero_add]
      exact w
    rw [a1, a2]
end OJ
