/-! given functions: print, new, type; both sides -/
section GF
variable {σ τ S T Z X : gM} {pT hT : Int → Int} {m : Nat} {br co θ n : Int}
theorem kq.tr {f : Int} (h : kq σ τ S T f) (e8 : S 8 = σ 8) (h' : kq S T Z X f) : kq σ τ Z X f := by
  obtain ⟨⟨a1, a2, a3⟩, a4, a5, a6, a7, a8, a9, a10, a11⟩ := h
  obtain ⟨⟨b1, b2, b3⟩, b4, b5, b6, b7, b8, b9, b10, b11⟩ := h'
  rw [e8] at b1 b2 b3 b6
  refine ⟨⟨fun j q => by rw [b1 j q, a1 j q], fun a p q1 q2 q3 => by rw [b2 a p q1 q2 q3, a2 a p q1 q2 q3], fun a r q1 q2 q3 => by rw [b3 a r q1 q2 q3, a3 a r q1 q2 q3]⟩, fun a q => by rw [b4 a q, a4 a q], fun i q => by rw [b5 i q, a5 i q], fun a j q1 q2 => by rw [b6 a j q1 q2, a6 a j q1 q2], fun a q => by rw [b7 a q, a7 a q], fun a j q1 q2 q3 => by rw [b8 a j q1 q2 q3, a8 a j q1 q2 q3], fun i q => by rw [b9 i q, a9 i q], ?_, fun k x t y q => b11 _ _ _ _ (a11 _ _ _ _ q)⟩
  rw [a5 19 (by decide)] at b10
  rw [b10, a10]
/-- letters behind those of strings may change, objects may come -/
theorem hpF.mk (P : rPg σ τ) (c : ∀ a, (2 ≤ a ∧ a ≤ 35) ∨ a = 40 ∨ (42 ≤ a ∧ a ≤ 67) → Z a = σ a) (c1 : ∀ j, j < σ 0 11 → Z 1 j = σ 1 j) (c0 : ∀ i, i ≠ 14 → Z 0 i = σ 0 i) (c31 : σ 87 31 ≤ Z 87 31) (d : ∀ a, (121 ≤ a ∧ a ≤ 128) ∨ (155 ≤ a ∧ a ≤ 192) ∨ (196 ≤ a ∧ a ≤ 206) → X a = τ a) (d119 : ∀ i, (9 ≤ i ∧ i ≤ 16) ∨ (55 ≤ i ∧ i ≤ 57) ∨ (89 ≤ i ∧ i ≤ 94) ∨ i = 104 → X 119 i = τ 119 i) : hpF σ τ Z X := by
  have hi := P.1.1
  have mi := P.1.2.1
  have m8 := P.1.2.2
  have gr := P.2.2.2.2.1
  have hi' := hi
  obtain ⟨h1, h2, h3, h4, h5, h6⟩ := hi'
  have z2 := c 2 (by decide)
  have z3 := c 3 (by decide)
  have cs : ∀ s, vS σ s → cS Z s = cS σ s := fun s hs => by
    unfold cS
    rw [z2, z3]
    apply lt_congr
    intro j hj
    apply c1
    rcases hs with q | q
    · have := h3 s q.1 q.2
      omega
    · have := h6 s q.1 q.2
      omega
  have vs : ∀ s, vS Z s ↔ vS σ s := fun s => by
    unfold vS
    rw [c0 7 (by decide), c0 10 (by decide)]
  refine ⟨⟨⟨?_, ?_, ?_, ?_, ?_, ?_⟩, mI_mv mi (d119 9 (by decide)) (d119 10 (by decide)) (d119 12 (by decide)) (d119 13 (by decide)) (fun a q1 q2 => d a (by omega)), by rw [d 121 (by decide)]; exact m8⟩, ⟨fun a q => c a (by omega), c31, ⟨c0 7 (by decide), c0 9 (by decide)⟩, fun s hs => ⟨(vs s).mpr hs, cs s hs, by rw [c 4 (by decide)], by rw [c 5 (by decide)], by rw [z3]⟩, fun s q1 q2 => absurd ((vs s).mp q1) q2, by rw [c0 12 (by decide)]; exact Int.le_refl _, fun k x _ q => ?_⟩, ⟨fun a q => d a (by omega), fun i q => d119 i (by omega), fun r q => ⟨?_, mS_mv fun a q1 q2 => d a (by omega)⟩, by rw [d119 16 (by decide)]; exact Int.le_refl _, fun y x _ q => ?_⟩, ?_⟩
  · rw [c0 7 (by decide)]; exact h1
  · rw [c0 8 (by decide)]; exact h2
  · rw [c0 7 (by decide), c0 8 (by decide), z2, z3]; exact h3
  · intro s t s0 s1 t0 t1 e
    rw [c0 7 (by decide)] at s1 t1
    rw [cs s (Or.inl ⟨s0, s1⟩), cs t (Or.inl ⟨t0, t1⟩)] at e
    exact h4 s t s0 s1 t0 t1 e
  · rw [c0 10 (by decide), c0 11 (by decide), c0 13 (by decide)]; exact h5
  · rw [c0 10 (by decide), c0 11 (by decide), z2, z3]; exact h6
  · unfold cB at q ⊢
    rw [c 6 (by decide), c 7 (by decide)]
    exact q
  · unfold vM at q ⊢
    rw [d119 10 (by decide), d119 13 (by decide)]
    exact q
  · unfold mB at q ⊢
    rw [d 128 (by decide)]
    exact q
  · unfold rGr at gr ⊢
    rw [c0 9 (by decide), c0 12 (by decide), c0 13 (by decide), d119 15 (by decide), d119 16 (by decide)]
    exact gr
/-- a run whose heap changed -/
theorem RQ.hp (R : RQ σ τ pT hT) (F : hpF σ τ Z X) (c : ∀ a, 90 ≤ a → a ≤ 99 → Z a = σ a) (c8 : Z 0 8 = σ 0 8) (c87 : ∀ i, i = 19 ∨ i = 21 ∨ i = 22 ∨ (36 ≤ i ∧ i ≤ 42) → Z 87 i = σ 87 i) (b1 : ∀ i, i8 (Z 1 i)) (d : ∀ a, a = 134 ∨ (208 ≤ a ∧ a ≤ 220) ∨ a = 224 → X a = τ a) (d119 : ∀ i, i = 9 ∨ i = 121 ∨ i = 123 → X 119 i = τ 119 i) (O : rOb Z X) (C : rCt Z X) : RQ Z X pT hT ∧ ∀ k x t y, rVal σ τ k x t y → rVal Z X k x t y := by
  have P := R.1.1.1.hp F
  have rv := (hpF.rf R.1.1.1 F).2
  have R' := R
  obtain ⟨⟨⟨P1, P2⟩, N, M, B⟩, A, ⟨V2, V3⟩, K1, C0, Fa⟩ := R'
  have ht := A.2.2.2.2.1
  obtain ⟨-, ⟨g, -, ⟨g7, g9⟩, -⟩, ⟨h, h119, hms, -⟩, -⟩ := F
  refine ⟨RQm.toQ (R.toM.hq ⟨P, ?_⟩ (N.mv (fun a q => g a (by omega)) (h 179 (by decide))) ?_ ⟨b1, by rw [d 134 (by decide)]; exact B.2.1, B.2.2.gr P1.2.1.2.1 (fun x _ => by rw [h 155 (by decide)]) (Int.le_of_eq (h119 56 (by decide)).symm) hms⟩ O C ?_ rv (fun a q => ?_) (by rw [g 52 (by decide)]) (by rw [g 8 (by decide)]; exact Int.le_refl _) (fun a r q1 q2 _ => by rw [g a (by omega)]) (fun a p q1 q2 _ => by rw [g a (by omega)]) (fun j _ => by rw [g 14 (by decide)]) (fun i q => c87 i (by omega)) (fun a q1 q2 => d a (by omega)) (fun a j q _ => by rw [h a (by omega)]) (fun i q => d119 i (by omega))) ?_, rv⟩
  · unfold rRp at P2 ⊢
    rw [g 8 (by decide), g 24 (by decide), g 25 (by decide)]
    exact P2
  · unfold rRm cRm mRm at M ⊢
    rw [g7, c8, g9, g 8 (by decide), g 42 (by decide), d119 9 (by decide), h119 10 (by decide), h119 15 (by decide), h119 56 (by decide)]
    exact M
  · unfold rTo at ht ⊢
    rw [d 224 (by decide), c87 36 (by decide), c87 37 (by decide), c87 38 (by decide), c87 39 (by decide), c87 40 (by decide), c87 41 (by decide), c87 42 (by decide)]
    exact ht
  · by_cases w : 90 ≤ a
    · exact c a w (by omega)
    · exact g a (by omega)
  · unfold rFa cFa at Fa ⊢
    rw [c87 21 (by decide), c 93 (by decide) (by decide), g 9 (by decide), g 11 (by decide), g 18 (by decide), g 19 (by decide), g 20 (by decide), g 22 (by decide), g 29 (by decide), g 54 (by decide), g 55 (by decide), g 62 (by decide), g 64 (by decide), g 65 (by decide)]
    exact Fa
/-- a new object -/
theorem new_pair {f : Int} (R : RQ σ τ pT hT) (h4 : σ 87 31 < 400) : RQ (gW (gW σ 100 (σ 87 31) 0) 87 31 (σ 87 31 + 1)) (gW (gW τ 193 (σ 87 31) 0) 119 95 (σ 87 31 + 1)) pT hT ∧ kq σ τ (gW (gW σ 100 (σ 87 31) 0) 87 31 (σ 87 31 + 1)) (gW (gW τ 193 (σ 87 31) 0) 119 95 (σ 87 31 + 1)) f ∧ rVal (gW (gW σ 100 (σ 87 31) 0) 87 31 (σ 87 31 + 1)) (gW (gW τ 193 (σ 87 31) 0) 119 95 (σ 87 31 + 1)) 6 (σ 87 31) 6 (σ 87 31) := by
  have P1 := R.1.1.1
  have V3 := R.2.2.1.2
  have C := R.2.2.2.2.1
  have sh := P1.2.2.2.2.2.1
  have z1 : ∀ a, a ≠ 87 → a ≠ 100 → gW (gW σ 100 (σ 87 31) 0) 87 31 (σ 87 31 + 1) a = σ a := fun a q1 q2 => by rw [gW_cell q1, gW_cell q2]
  have z2 : ∀ i, i ≠ 31 → gW (gW σ 100 (σ 87 31) 0) 87 31 (σ 87 31 + 1) 87 i = σ 87 i := fun i q => by rw [gW_i q, gW_c (by decide)]
  have z3 : gW (gW σ 100 (σ 87 31) 0) 87 31 (σ 87 31 + 1) 87 31 = σ 87 31 + 1 := gW_at ..
  have z4 : ∀ j, j ≠ σ 87 31 → gW (gW σ 100 (σ 87 31) 0) 87 31 (σ 87 31 + 1) 100 j = σ 100 j := fun j q => by rw [gW_c (by decide), gW_i q]
  have z5 : gW (gW σ 100 (σ 87 31) 0) 87 31 (σ 87 31 + 1) 100 (σ 87 31) = 0 := by rw [gW_c (by decide), gW_at]
  have w1 : ∀ a, a ≠ 119 → a ≠ 193 → gW (gW τ 193 (σ 87 31) 0) 119 95 (σ 87 31 + 1) a = τ a := fun a q1 q2 => by rw [gW_cell q1, gW_cell q2]
  have w2 : ∀ i, i ≠ 95 → gW (gW τ 193 (σ 87 31) 0) 119 95 (σ 87 31 + 1) 119 i = τ 119 i := fun i q => by rw [gW_i q, gW_c (by decide)]
  have w3 : gW (gW τ 193 (σ 87 31) 0) 119 95 (σ 87 31 + 1) 119 95 = σ 87 31 + 1 := gW_at ..
  have w4 : ∀ j, j ≠ σ 87 31 → gW (gW τ 193 (σ 87 31) 0) 119 95 (σ 87 31 + 1) 193 j = τ 193 j := fun j q => by rw [gW_c (by decide), gW_i q]
  have w5 : gW (gW τ 193 (σ 87 31) 0) 119 95 (σ 87 31 + 1) 193 (σ 87 31) = 0 := by rw [gW_c (by decide), gW_at]
  generalize gW (gW σ 100 (σ 87 31) 0) 87 31 (σ 87 31 + 1) = Z at *
  generalize gW (gW τ 193 (σ 87 31) 0) 119 95 (σ 87 31 + 1) = X at *
  have F : hpF σ τ Z X := hpF.mk P1 (fun a q => z1 a (by omega) (by omega)) (fun j _ => by rw [z1 1 (by decide) (by decide)]) (fun i _ => by rw [z1 0 (by decide) (by decide)]) (by omega) (fun a q => w1 a (by omega) (by omega)) (fun i q => w2 i (by omega))
  have rv := (hpF.rf P1 F).2
  obtain ⟨Q, -⟩ := R.hp F (fun a q1 q2 => z1 a (by omega) (by omega)) (by rw [z1 0 (by decide) (by decide)]) (fun i q => z2 i (by omega)) (by rw [z1 1 (by decide) (by decide)]; exact R.1.2.2.2.1) (fun a q => w1 a (by omega) (by omega)) (fun i q => w2 i (by omega)) (by
    obtain ⟨⟨o1, o2, o3⟩, o4⟩ := V3
    refine ⟨⟨by omega, by omega, by omega⟩, fun o q1 q2 => ?_⟩
    rw [z1 42 (by decide) (by decide), z1 47 (by decide) (by decide), z1 101 (by decide) (by decide), z1 102 (by decide) (by decide), w1 194 (by decide) (by decide), w1 195 (by decide) (by decide)]
    by_cases e : o = σ 87 31
    · rw [e, z5, w5]
      refine ⟨rfl, by have := sh.1; omega, fun p p0 p1 => ?_⟩
      rw [sh.2.2.2.1.1] at p1
      omega
    · rw [z4 o e, w4 o e]
      obtain ⟨v1, v2, v3⟩ := o4 o q1 (by omega)
      exact ⟨v1, v2, fun p p0 p1 => rv _ _ _ _ (v3 p p0 p1)⟩) (by
    unfold rCt at C ⊢
    rw [z2 23 (by decide), z2 24 (by decide), z2 20 (by decide), z2 34 (by decide), z2 5 (by decide), z1 103 (by decide) (by decide), z1 0 (by decide) (by decide), w1 223 (by decide) (by decide), w2 117 (by decide), w2 118 (by decide), w2 122 (by decide), w2 126 (by decide), w2 11 (by decide), w2 1 (by decide), w2 127 (by decide), w2 12 (by decide), w2 13 (by decide)]
    exact C)
  refine ⟨Q, ⟨⟨fun j _ => by rw [z1 14 (by decide) (by decide)], fun a p q1 q2 _ => by rw [z1 a (by omega) (by omega)], fun a r q1 q2 _ => by rw [z1 a (by omega) (by omega)]⟩, fun a q => z1 a (by omega) (by omega), fun i q => z2 i (by omega), fun a j q _ => by rw [w1 a (by omega) (by omega)], fun a q => w1 a (by omega) (by omega), fun a j q1 q2 _ => by rw [w1 a (by omega) (by omega)], fun i q => w2 i (by omega), ?_, rv⟩, Or.inr (Or.inr (Or.inr (Or.inr (Or.inr (Or.inr ⟨rfl, rfl, rfl, by have := V3.1; omega, ?_⟩)))))⟩
  · rw [w2 123 (by decide), ccN_eq (S := Z) (σ := σ) _ fun j _ _ => by rw [z1 93 (by decide) (by decide)]]
  · rw [z3]; omega
theorem kq.rf {f : Int} : kq σ τ σ τ f := ⟨⟨fun _ _ => rfl, fun _ _ _ _ _ => rfl, fun _ _ _ _ _ => rfl⟩, fun _ _ => rfl, fun _ _ => rfl, fun _ _ _ _ => rfl, fun _ _ => rfl, fun _ _ _ _ _ => rfl, fun _ _ => rfl, rfl, fun _ _ _ _ q => q⟩
/-- a type's name -/
theorem typ_val {k : Int} (R : RQ σ τ pT hT) (hk : 0 ≤ k ∧ k < 7) : rVal σ τ 2 (σ 40 k) 4 (τ 187 (kT k)) := by
  have kn := (R.1.1.1.2.2.2.1.1 k hk.1 hk.2)
  exact Or.inr (Or.inr (Or.inl ⟨rfl, rfl, Or.inl kn.2.1, Or.inl kn.1, kn.2.2.2, kn.2.2.1⟩))
/-- what is printed: the component -/
theorem prC {N : Int} : ∀ (d : Nat) (σ : gM) (i : Int), 0 ≤ i → i + d = N → 0 ≤ σ 87 34 ∧ σ 87 34 + N ≤ 2147000000 → 0 ≤ σ 0 11 ∧ σ 0 11 + N ≤ 124600 → ∃ S, mc_print_b34 σ N i = some (gW S 87 34 (σ 87 34 + N), 0) ∧ (∀ a j, a ≠ 103 → S a j = σ a j) ∧ (∀ j, j < σ 87 34 + i ∨ σ 87 34 + N ≤ j ∨ 2000 ≤ j → S 103 j = σ 103 j) ∧ ∀ j, i ≤ j → j < N → σ 87 34 + j < 2000 → S 103 (σ 87 34 + j) = w8 (σ 1 (σ 0 11 + j))
  | 0, σ, i, i0, hd, h1, h2 => ⟨σ, by rw [mc_print_b34_e, if_neg (by omega), mc_print_b90_e, w32_e (by omega) (by omega)], fun _ _ _ => rfl, fun _ _ => rfl, fun j q1 q2 => by omega⟩
  | d + 1, σ, i, i0, hd, h1, h2 => by
    rw [mc_print_b34_e, if_pos (by omega), w32_e (x := σ 87 34 + i) (by omega) (by omega), w32_e (x := σ 0 11 + i) (by omega) (by omega), w32_e (x := i + 1) (by omega) (by omega)]
    by_cases z : σ 87 34 + i < 2000
    · rw [if_pos z, if_pos (by omega), if_pos (by omega)]
      generalize eW : gW σ 103 (σ 87 34 + i) (w8 (σ 1 (σ 0 11 + i))) = W
      have w1 : ∀ a j, a ≠ 103 → W a j = σ a j := fun a j q => by rw [← eW, gW_c q]
      have w2 : ∀ j, j ≠ σ 87 34 + i → W 103 j = σ 103 j := fun j q => by rw [← eW, gW_i q]
      have w3 : W 103 (σ 87 34 + i) = w8 (σ 1 (σ 0 11 + i)) := by rw [← eW, gW_at]
      clear eW
      have e34 := w1 87 34 (by decide)
      have e11 := w1 0 11 (by decide)
      obtain ⟨S, i1, i2, i3, i4⟩ := prC (N := N) d W (i + 1) (by omega) (by omega) (by omega) (by omega)
      rw [e34] at i1 i3
      refine ⟨S, i1, fun a j q => by rw [i2 a j q, w1 a j q], fun j q => by rw [i3 j (by omega), w2 j (by omega)], fun j q1 q2 q3 => ?_⟩
      by_cases y : j = i
      · rw [y, i3 _ (by omega), w3]
      · have := i4 j (by omega) q2 (by omega)
        rw [e34, e11, w1 1 _ (by decide)] at this
        exact this
    · rw [if_neg z, mc_print_b90_e, w32_e (by omega) (by omega)]
      exact ⟨σ, rfl, fun _ _ _ => rfl, fun _ _ => rfl, fun j q1 q2 q3 => by omega⟩
/-- the model -/
theorem prM {x6 x11 x12 : Int} : ∀ (d : Nat) (τ : gM) (i : Int), 0 ≤ i → i + d = τ 119 151 → τ 119 151 ≤ 420 → 0 ≤ τ 119 126 → τ 119 126 + d ≤ 2147000000 → ∃ T, md_calls_b299 τ x6 x11 x12 i = md_calls_b416 T x6 x11 x12 ∧ (∀ a j, a ≠ 223 → a ≠ 119 → T a j = τ a j) ∧ (∀ j, j ≠ 126 → T 119 j = τ 119 j) ∧ T 119 126 = τ 119 126 + d ∧ (∀ j, j < τ 119 126 ∨ τ 119 126 + d ≤ j ∨ 2000 ≤ j → T 223 j = τ 223 j) ∧ ∀ j : Int, 0 ≤ j → j < d → τ 119 126 + j < 2000 → T 223 (τ 119 126 + j) = w8 (w8 (τ 225 (i + j)))
  | 0, τ, i, i0, hd, h1, h2, h3 => ⟨τ, by rw [md_calls_b299_e, if_neg (by omega)], fun _ _ _ _ => rfl, fun _ _ => rfl, by omega, fun _ _ => rfl, fun j q1 q2 => by omega⟩
  | d + 1, τ, i, i0, hd, h1, h2, h3 => by
    have st : ∃ W, md_prints τ (τ 225 i) = some (W, 0) ∧ (∀ a j, a ≠ 223 → a ≠ 119 → W a j = τ a j) ∧ (∀ j, j ≠ 126 → W 119 j = τ 119 j) ∧ W 119 126 = τ 119 126 + 1 ∧ (∀ j, j ≠ τ 119 126 ∨ 2000 ≤ j → W 223 j = τ 223 j) ∧ (τ 119 126 < 2000 → W 223 (τ 119 126) = w8 (w8 (τ 225 i))) := by
      rw [md_prints_e]
      by_cases z : τ 119 126 < 2000
      · rw [if_pos z, if_pos (by omega), md_prints_b21_e, gW_c (show (119 : Int) ≠ 223 by decide), w32_e (by omega) (by omega)]
        exact ⟨_, rfl, fun a j q1 q2 => by rw [gW_c q2, gW_c q1], fun j q => by rw [gW_i q, gW_c (by decide)], gW_at .., fun j q => by rw [gW_c (by decide), gW_i (by omega)], fun _ => by rw [gW_c (by decide), gW_at]⟩
      · rw [if_neg z, md_prints_b21_e, w32_e (by omega) (by omega)]
        exact ⟨_, rfl, fun a j q1 q2 => by rw [gW_c q2], fun j q => by rw [gW_i q], gW_at .., fun j q => by rw [gW_c (by decide)], fun q => absurd q z⟩
    obtain ⟨W, w0, w1, w2, w3, w4, w5⟩ := st
    rw [md_calls_b299_e, if_pos (by omega), if_pos (by omega), w0]
    simp only [Option.bind_some]
    rw [w32_e (x := i + 1) (by omega) (by omega)]
    have e151 := w2 151 (by decide)
    obtain ⟨T, i1, i2, i3, i4, i5, i6⟩ := prM (x6 := x6) (x11 := x11) (x12 := x12) d W (i + 1) (by omega) (by omega) (by omega) (by omega) (by omega)
    rw [w3] at i4 i5 i6
    refine ⟨T, i1, fun a j q1 q2 => by rw [i2 a j q1 q2, w1 a j q1 q2], fun j q => by rw [i3 j q, w2 j q], by rw [i4]; omega, fun j q => by rw [i5 j (by omega), w4 j (by omega)], fun j q1 q2 q3 => ?_⟩
    by_cases y : j = 0
    · rw [y, Int.add_zero, Int.add_zero, i5 _ (by omega)]
      exact w5 (by omega)
    · have := i6 (j - 1) (by omega) (by omega) (by omega)
      rw [show τ 119 126 + 1 + (j - 1) = τ 119 126 + j by omega, show i + 1 + (j - 1) = i + j by omega, w1 225 _ (by decide) (by decide)] at this
      exact this
end GF
