/-! print: both sides -/
section PT
variable {σ τ S T Z X : gM} {pT hT : Int → Int} {m : Nat} {br co θ n : Int}
theorem put1_at {L : List Int} {k : Nat} (h : k < L.length) : put1 σ L 1 (σ 0 14 + k) = L.getD k 0 := by
  unfold put1
  rw [gW_c (by decide), wrL_in h]
theorem put2_at {L : List Int} {k : Nat} (h : k < L.length) : put2 τ L 225 (τ 119 151 + k) = L.getD k 0 := by
  unfold put2
  rw [gW_c (by decide), wrL_in h]
theorem print_pair {f k x t y x6 : Int} (R : RQ σ τ pT hT) (v : rVal σ τ k x t y) (h34 : σ 87 34 ≤ 2100000000) : ∃ Z X N, mc_print σ k x = some (Z, 0) ∧ ((md_show (gW τ 119 151 0) t y).bind fun p4 => if 0 ≤ p4.1 119 151 ∧ p4.1 119 151 < 420 then (md_calls_b299 (gW (gW p4.1 225 (p4.1 119 151) (w8 10)) 119 151 (w32 ((p4.1 119 151) + 1))) x6 0 0 0) else none) = md_calls_b416 X x6 0 0 ∧ RQ Z X pT hT ∧ kq σ τ Z X f ∧ Z 87 34 = σ 87 34 + N ∧ N ≤ 201 ∧ (k ≠ 2 → N ≤ 38) := by
  have P1 := R.1.1.1
  have hi := P1.1.1
  have h5 := hi.2.2.2.2.1
  have B := R.1.2.2.2
  have V3 := R.2.2.1.2
  have C := R.2.2.2.2.1
  have s1 : sameC σ (gW σ 0 14 (σ 0 11)) := ⟨fun a q => gW_cell (by omega), gW_i (by decide), gW_i (by decide), gW_i (by decide), gW_i (by decide), gW_i (by decide), gW_i (by decide), gW_i (by decide), gW_c (by decide), gW_c (by decide), gW_c (by decide), gW_c (by decide), gW_c (by decide), gW_c (by decide), gW_c (by decide), gW_c (by decide), gW_c (by decide), gW_c (by decide), gW_c (by decide), gW_c (by decide)⟩
  have s2 : sameT τ (gW τ 119 151 0) := ⟨fun a q => gW_cell (by omega), gW_i (by decide), gW_i (by decide), gW_i (by decide), gW_i (by decide), gW_i (by decide), gW_i (by decide), gW_i (by decide), gW_i (by decide), gW_i (by decide), gW_i (by decide), gW_i (by decide), gW_i (by decide), gW_i (by decide), gW_i (by decide)⟩
  have Pa := P1.mv s1 s2
  have va := ((rVal_mv s1 s2).1 k x t y).mpr v
  have a14 : gW σ 0 14 (σ 0 11) 0 14 = σ 0 11 := gW_at ..
  have a11 : gW σ 0 14 (σ 0 11) 0 11 = σ 0 11 := gW_i (by decide)
  have b151 : gW τ 119 151 0 119 151 = 0 := gW_at ..
  obtain ⟨σ1, τ1, L, e1, e2, l1, l2, w1, w2, l3, l4⟩ := mc_shows_v Pa.1.1 Pa.1.2.1 (by rw [gW_cell (by decide)]; exact B.1) Pa.1.2.2 Pa.2.2.2.1 Pa.2.1 Pa.2.2.2.2.1 (by rw [a11, a14]; exact Int.le_refl _) (by rw [a14]; omega) (by rw [b151]; decide) (by rw [b151]; decide) va
  have v1 : ∀ a j, a ≠ 105 → a ≠ 106 → a ≠ 107 → (a ≠ 0 ∨ j ≠ 14) → σ1 a j = σ a j := fun a j q1 q2 q3 q4 => by
    rw [w1 a j q1 (by omega) (by omega)]
    rcases q4 with q | q
    · exact gW_c q
    · by_cases z : a = 0
      · rw [z, gW_i q]
      · exact gW_c z
  have v14 : σ1 0 14 = σ 0 11 := by rw [w1 0 14 (by decide) (by decide) (by decide), a14]
  have u1 : ∀ a j, a ≠ 129 → (a ≠ 119 ∨ j ≠ 151) → τ1 a j = τ a j := fun a j q1 q2 => by
    rw [w2 a j q1]
    rcases q2 with q | q
    · exact gW_c q
    · by_cases z : a = 119
      · rw [z, gW_i q]
      · exact gW_c z
  have u151 : τ1 119 151 = 0 := by rw [w2 119 151 (by decide), b151]
  have l10 : i8 10 := by unfold i8; omega
  have hp : hp_put (put1 σ1 L) 10 = some (put1 σ1 (L ++ [10]), 0) := by
    rw [hp_put_s (by rw [put1_14, v14]; omega) l10, put1_app]
  have lM : ((L ++ [10]).length : Int) = L.length + 1 := by rw [List.length_append]; rfl
  have m8 : ∀ z ∈ L ++ [10], i8 z := fun z hz => by
    rcases List.mem_append.mp hz with q | q
    · exact l2 z q
    · rw [List.mem_singleton.mp q]; exact l10
  have eU : gW (gW (put2 τ1 L) 225 (put2 τ1 L 119 151) (w8 10)) 119 151 (w32 (put2 τ1 L 119 151 + 1)) = put2 τ1 (L ++ [10]) := by
    rw [← put2_app, w8_e l10.1 l10.2, w32_e (by rw [put2_151, u151]; omega) (by rw [put2_151, u151]; omega)]
    show _ = gW (wrL (put2 τ1 L) 225 (put2 τ1 L 119 151) [10]) 119 151 (put2 τ1 L 119 151 + (([10] : List Int).length : Int))
    rw [wrL_one]
    rfl
  have gd1 : ∀ j : Nat, j < (L ++ [10]).length → put1 σ1 (L ++ [10]) 1 (σ 0 11 + j) = (L ++ [10]).getD j 0 := fun j q => by
    rw [← v14, put1_at q]
  have gd2 : ∀ j : Nat, j < (L ++ [10]).length → put2 τ1 (L ++ [10]) 225 (0 + j) = (L ++ [10]).getD j 0 := fun j q => by
    have w := put2_at (τ := τ1) q
    rw [u151] at w
    exact w
  have e34 : put1 σ1 (L ++ [10]) 87 34 = σ 87 34 := by rw [put1_c (by decide) (by decide), v1 87 34 (by decide) (by decide) (by decide) (by decide)]
  have e11 : put1 σ1 (L ++ [10]) 0 11 = σ 0 11 := by rw [put1_c (by decide) (by decide), v1 0 11 (by decide) (by decide) (by decide) (by decide)]
  have e14 : put1 σ1 (L ++ [10]) 0 14 = σ 0 11 + (L ++ [10]).length := by rw [put1_14, v14]
  have e126 : put2 τ1 (L ++ [10]) 119 126 = σ 87 34 := by rw [put2_c (by decide) (by decide), u1 119 126 (by decide) (by decide)]; exact C.2.2.2.1.1
  have e151 : put2 τ1 (L ++ [10]) 119 151 = (L ++ [10]).length := by rw [put2_151, u151]; omega
  have p8 : ∀ i, i8 (put1 σ1 (L ++ [10]) 1 i) := put1_i8 (fun i => by rw [v1 1 i (by decide) (by decide) (by decide) (Or.inl (by decide))]; exact B.1 i) m8
  have pc : ∀ a j, a ≠ 0 → a ≠ 1 → a ≠ 105 → a ≠ 106 → a ≠ 107 → put1 σ1 (L ++ [10]) a j = σ a j := fun a j q1 q2 q3 q4 q5 => by rw [put1_c q2 (fun q => q1 q.1), v1 a j q3 q4 q5 (Or.inl q1)]
  have p0 : ∀ j, j ≠ 14 → put1 σ1 (L ++ [10]) 0 j = σ 0 j := fun j q => by rw [put1_c (by decide) (fun w => q w.2), v1 0 j (by decide) (by decide) (by decide) (Or.inr q)]
  have p1 : ∀ j, j < σ 0 11 → put1 σ1 (L ++ [10]) 1 j = σ 1 j := fun j q => by rw [put1_lo (by rw [v14]; exact Or.inl q), v1 1 j (by decide) (by decide) (by decide) (Or.inl (by decide))]
  have qc : ∀ a j, a ≠ 119 → a ≠ 129 → a ≠ 225 → put2 τ1 (L ++ [10]) a j = τ a j := fun a j q1 q2 q3 => by rw [put2_c q3 (fun q => q1 q.1), u1 a j q2 (Or.inl q1)]
  have q119 : ∀ j, j ≠ 151 → put2 τ1 (L ++ [10]) 119 j = τ 119 j := fun j q => by rw [put2_c (by decide) (fun w => q w.2), u1 119 j (by decide) (Or.inr q)]
  have eM0 : ((md_show (gW τ 119 151 0) t y).bind fun p4 => if 0 ≤ p4.1 119 151 ∧ p4.1 119 151 < 420 then (md_calls_b299 (gW (gW p4.1 225 (p4.1 119 151) (w8 10)) 119 151 (w32 ((p4.1 119 151) + 1))) x6 0 0 0) else none) = md_calls_b299 (put2 τ1 (L ++ [10])) x6 0 0 0 := by
    rw [e2]
    simp only [Option.bind_some]
    rw [if_pos (by rw [put2_151, u151]; omega), eU]
  have eC0 : mc_print σ k x = mc_print_b34 (put1 σ1 (L ++ [10])) (L ++ [10]).length 0 := by
    rw [mc_print_e, hp_lay_e]
    simp only [Option.bind_some]
    rw [e1]
    simp only [Option.bind_some]
    rw [hp]
    simp only [Option.bind_some]
    rw [hp_laidLetters_e, e14, e11]
    simp only [Option.bind_some]
    have e : ∀ p q : Int, p + q - p = q := fun p q => by omega
    rw [w32_e (by omega) (by omega), e]
  have N201 : ((L ++ [10]).length : Int) ≤ 201 ∧ (k ≠ 2 → ((L ++ [10]).length : Int) ≤ 38) := ⟨by omega, fun q => by have := l4 q; omega⟩
  generalize put1 σ1 (L ++ [10]) = U at *
  generalize put2 τ1 (L ++ [10]) = W at *
  generalize eN : (L ++ [10]).length = N at *
  have c34 := C.2.2.2.1.2
  obtain ⟨S, i1, i2, i3, i4⟩ := prC (N := (N : Int)) N U 0 (by decide) (by omega) (by omega) (by omega)
  obtain ⟨X, j1, j2, j3, j4, j5, j6⟩ := prM (x6 := x6) (x11 := 0) (x12 := 0) N W 0 (by decide) (by omega) (by omega) (by omega) (by omega)
  rw [e34] at i1 i3 i4
  rw [e11] at i4
  rw [e126] at j4 j5 j6
  have z1 : ∀ a, a ≠ 0 → a ≠ 1 → a ≠ 87 → a ≠ 103 → a ≠ 105 → a ≠ 106 → a ≠ 107 → gW S 87 34 (σ 87 34 + N) a = σ a := fun a q1 q2 q3 q4 q5 q6 q7 => by
    funext j
    rw [gW_c q3, i2 a j q4, pc a j q1 q2 q5 q6 q7]
  have z87 : ∀ i, i ≠ 34 → gW S 87 34 (σ 87 34 + N) 87 i = σ 87 i := fun i q => by rw [gW_i q, i2 87 i (by decide), pc 87 i (by decide) (by decide) (by decide) (by decide) (by decide)]
  have z34 : gW S 87 34 (σ 87 34 + N) 87 34 = σ 87 34 + N := gW_at ..
  have z0 : ∀ i, i ≠ 14 → gW S 87 34 (σ 87 34 + N) 0 i = σ 0 i := fun i q => by rw [gW_c (by decide), i2 0 i (by decide), p0 i q]
  have z1' : ∀ i, gW S 87 34 (σ 87 34 + N) 1 i = U 1 i := fun i => by rw [gW_c (by decide), i2 1 i (by decide)]
  have z103 : ∀ j, gW S 87 34 (σ 87 34 + N) 103 j = S 103 j := fun j => gW_c (by decide)
  generalize gW S 87 34 (σ 87 34 + N) = Z at *
  have x1 : ∀ a, a ≠ 119 → a ≠ 129 → a ≠ 223 → a ≠ 225 → X a = τ a := fun a q1 q2 q3 q4 => funext fun j => by rw [j2 a j q3 q1, qc a j q1 q2 q4]
  have x119 : ∀ i, i ≠ 126 → i ≠ 151 → X 119 i = τ 119 i := fun i q1 q2 => by rw [j3 i q1, q119 i q2]
  have F : hpF σ τ Z X := hpF.mk P1 (fun a q => z1 a (by omega) (by omega) (by omega) (by omega) (by omega) (by omega) (by omega)) (fun j q => by rw [z1', p1 j q]) z0 (by rw [z87 31 (by decide)]; exact Int.le_refl _) (fun a q => x1 a (by omega) (by omega) (by omega) (by omega)) (fun i q => x119 i (by omega) (by omega))
  have rv := (hpF.rf P1 F).2
  obtain ⟨Q, -⟩ := R.hp F (fun a q1 q2 => z1 a (by omega) (by omega) (by omega) (by omega) (by omega) (by omega) (by omega)) (z0 8 (by decide)) (fun i q => z87 i (by omega)) (fun i => by rw [z1']; exact p8 i) (fun a q => x1 a (by omega) (by omega) (by omega) (by omega)) (fun i q => x119 i (by omega) (by omega)) (by
    obtain ⟨o1, o2⟩ := V3
    unfold rOb
    rw [z87 31 (by decide), x119 95 (by decide) (by decide), z1 100 (by decide) (by decide) (by decide) (by decide) (by decide) (by decide) (by decide), z1 101 (by decide) (by decide) (by decide) (by decide) (by decide) (by decide) (by decide), z1 102 (by decide) (by decide) (by decide) (by decide) (by decide) (by decide) (by decide), z1 42 (by decide) (by decide) (by decide) (by decide) (by decide) (by decide) (by decide), z1 47 (by decide) (by decide) (by decide) (by decide) (by decide) (by decide) (by decide), x1 193 (by decide) (by decide) (by decide) (by decide), x1 194 (by decide) (by decide) (by decide) (by decide), x1 195 (by decide) (by decide) (by decide) (by decide)]
    refine ⟨o1, fun o q1 q2 => ?_⟩
    obtain ⟨y1, y2, y3⟩ := o2 o q1 q2
    exact ⟨y1, y2, fun p p0 p1 => rv _ _ _ _ (y3 p p0 p1)⟩) (by
    obtain ⟨g1, g2, g3, g4, g5, g6, g7, g8⟩ := C
    refine ⟨by rw [z87 23 (by decide), x119 117 (by decide) (by decide)]; exact g1, by rw [z87 24 (by decide), x119 118 (by decide) (by decide)]; exact g2, by rw [z87 20 (by decide), x119 122 (by decide) (by decide)]; exact g3, ⟨by rw [j4, z34], by rw [z34]; omega⟩, fun i q1 q2 q3 => ?_, by rw [x119 11 (by decide) (by decide), x119 12 (by decide) (by decide), x119 13 (by decide) (by decide), z0 13 (by decide)]; exact g6, by rw [x119 1 (by decide) (by decide), z87 5 (by decide)]; exact g7, by rw [x119 127 (by decide) (by decide)]; exact g8⟩
    rw [z34] at q3
    rw [z103]
    by_cases w : i < σ 87 34
    · rw [i3 i (by omega), j5 i (by omega), pc 103 i (by decide) (by decide) (by decide) (by decide) (by decide), qc 223 i (by decide) (by decide) (by decide)]
      exact g5 i q1 q2 w
    · have a1 := i4 (i - σ 87 34) (by omega) (by omega) (by omega)
      have a2 := j6 (i - σ 87 34) (by omega) (by omega) (by omega)
      have a3 := gd1 (i - σ 87 34).toNat (by omega)
      have a4 := gd2 (i - σ 87 34).toNat (by omega)
      rw [show (((i - σ 87 34).toNat : Nat) : Int) = i - σ 87 34 by omega] at a3 a4
      rw [show σ 87 34 + (i - σ 87 34) = i by omega] at a1 a2
      have b8 := p8 (σ 0 11 + (i - σ 87 34))
      rw [a1, a2, a4, ← a3, w8_e b8.1 b8.2, w8_e b8.1 b8.2])
  refine ⟨Z, X, N, by rw [eC0, i1], by rw [eM0, j1], Q, ⟨⟨fun j _ => by rw [z1 14 (by decide) (by decide) (by decide) (by decide) (by decide) (by decide) (by decide)], fun a p q1 q2 _ => by rw [z1 a (by omega) (by omega) (by omega) (by omega) (by omega) (by omega) (by omega)], fun a r q1 q2 _ => by rw [z1 a (by omega) (by omega) (by omega) (by omega) (by omega) (by omega) (by omega)]⟩, fun a q => z1 a (by omega) (by omega) (by omega) (by omega) (by omega) (by omega) (by omega), fun i q => z87 i (by omega), fun a j q _ => by rw [x1 a (by omega) (by omega) (by omega) (by omega)], fun a q => x1 a (by omega) (by omega) (by omega) (by omega), fun a j q1 q2 _ => by rw [x1 a (by omega) (by omega) (by omega) (by omega)], fun i q => x119 i (by omega) (by omega), ?_, rv⟩, z34, N201.1, N201.2⟩
  rw [x119 123 (by decide) (by decide), ccN_eq (S := Z) (σ := σ) _ fun j _ _ => by rw [z1 93 (by decide) (by decide) (by decide) (by decide) (by decide) (by decide) (by decide)]]
end PT
