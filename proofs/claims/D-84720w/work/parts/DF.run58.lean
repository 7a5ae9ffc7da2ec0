/-! the program ends: both sides -/
section EE
variable {σ τ S T Z X : gM} {pT hT : Int → Int} {m : Nat} {br co θ n : Int}
theorem put1_inj {σ1 σ2 : gM} {L M : List Int} (e : put1 σ1 L = put1 σ2 M) (h : σ1 0 14 = σ2 0 14) : L = M := by
  have h1 : (L.length : Int) = M.length := by
    have := congrFun (congrFun e 0) 14
    rw [put1_14, put1_14] at this
    omega
  apply List.ext_getElem (by omega)
  intro i h2 h3
  have q := congrFun (congrFun e 1) (σ1 0 14 + i)
  rw [put1_at h2] at q
  rw [h, put1_at h3] at q
  simp only [List.getD_eq_getElem?_getD, List.getElem?_eq_getElem h2, List.getElem?_eq_getElem h3, Option.getD_some] at q
  exact q
/-- what a value looks like rests on a few cells alone -/
theorem shw_mv {τ' : gM} {k x t y : Int} (P : rPg σ τ) (v : rVal σ τ k x t y) (d : ∀ a, (121 ≤ a ∧ a ≤ 128) ∨ (155 ≤ a ∧ a ≤ 156) ∨ (186 ≤ a ∧ a ≤ 187) → τ' a = τ a) (d119 : ∀ i, i = 9 ∨ i = 10 ∨ i = 12 ∨ i = 13 ∨ i = 15 ∨ i = 16 ∨ i = 56 ∨ i = 92 ∨ i = 93 → τ' 119 i = τ 119 i) : (mI τ' ∧ ∀ i, i8 (τ' 121 i)) ∧ rKn σ τ' ∧ rFv σ τ' ∧ rGr σ τ' ∧ rVal σ τ' k x t y := by
  obtain ⟨⟨-, mi, m8⟩, hv, -, hk, hg, -⟩ := P
  have ms : ∀ r, mS τ' r = mS τ r := fun r => mS_mv fun a q1 q2 => d a (by omega)
  have vm : ∀ r, vM τ' r ↔ vM τ r := fun r => by unfold vM; rw [d119 10 (by decide), d119 13 (by decide)]
  have fn : ∀ f g, rFn σ τ' f g ↔ rFn σ τ f g := fun f g => by
    unfold rFn
    rw [ms, d 155 (by decide), d119 56 (by decide)]
  have mb : ∀ y z, mB τ' y z ↔ mB τ y z := fun y z => by unfold mB; rw [d 128 (by decide)]
  refine ⟨⟨mI_mv mi (d119 9 (by decide)) (d119 10 (by decide)) (d119 12 (by decide)) (d119 13 (by decide)) (fun a q1 q2 => d a (by omega)), by rw [d 121 (by decide)]; exact m8⟩, ?_, ⟨hv.1, ?_, ?_, ?_, ?_⟩, ?_, ?_⟩
  · unfold rKn at hk ⊢
    simp only [ms]
    rw [d 187 (by decide), d119 10 (by decide), d119 92 (by decide), d119 93 (by decide)]
    exact hk
  · have j := hv.2.1
    unfold fJ at j ⊢
    rw [d119 56 (by decide), d119 10 (by decide), d 155 (by decide), d 186 (by decide)]
    exact j
  · intro f g q
    rw [d 156 (by decide)]
    exact hv.2.2.1 f g ((fn f g).mp q)
  · intro g g0 g1 q
    rw [d119 56 (by decide)] at g1
    rw [d 156 (by decide)]
    exact hv.2.2.2.1 g g0 g1 fun f w => q f ((fn f g).mpr w)
  · intro f f0 f1 q
    exact hv.2.2.2.2 f f0 f1 fun g w => q g ((fn f g).mpr w)
  · unfold rGr at hg ⊢
    rw [d119 15 (by decide), d119 16 (by decide)]
    exact hg
  · unfold rVal at v ⊢
    simp only [fn, vm, ms, mb]
    rw [d119 15 (by decide), d119 16 (by decide)]
    exact v
/-- the answer's letters -/
theorem resC : ∀ (d : Nat) (σ : gM) (i : Int), 0 ≤ i → i + d = σ 87 35 → σ 87 35 ≤ 200 → 0 ≤ σ 0 11 ∧ σ 0 11 + σ 87 35 ≤ 124600 → ∃ S, mc_comesBack_b96 σ i = some (S, 0) ∧ (∀ a j, a ≠ 104 → S a j = σ a j) ∧ (∀ j, j < i → S 104 j = σ 104 j) ∧ ∀ j, i ≤ j → j < σ 87 35 → S 104 j = w8 (σ 1 (σ 0 11 + j))
  | 0, σ, i, i0, hd, h1, h2 => ⟨σ, by rw [mc_comesBack_b96_e, if_neg (by omega)], fun _ _ _ => rfl, fun _ _ => rfl, fun j q1 q2 => by omega⟩
  | d + 1, σ, i, i0, hd, h1, h2 => by
    rw [mc_comesBack_b96_e, if_pos (by omega), w32_e (x := σ 0 11 + i) (by omega) (by omega), if_pos (by omega), if_pos (by omega), w32_e (x := i + 1) (by omega) (by omega)]
    generalize eW : gW σ 104 i (w8 (σ 1 (σ 0 11 + i))) = W
    have w1 : ∀ a j, a ≠ 104 → W a j = σ a j := fun a j q => by rw [← eW, gW_c q]
    have w2 : ∀ j, j ≠ i → W 104 j = σ 104 j := fun j q => by rw [← eW, gW_i q]
    have w3 : W 104 i = w8 (σ 1 (σ 0 11 + i)) := by rw [← eW, gW_at]
    clear eW
    have e35 := w1 87 35 (by decide)
    have e11 := w1 0 11 (by decide)
    obtain ⟨S, i1, i2, i3, i4⟩ := resC d W (i + 1) (by omega) (by omega) (by omega) (by omega)
    refine ⟨S, i1, fun a j q => by rw [i2 a j q, w1 a j q], fun j q => by rw [i3 j (by omega), w2 j (by omega)], fun j q1 q2 => ?_⟩
    by_cases z : j = i
    · rw [z, i3 _ (by omega), w3]
    · have := i4 j (by omega) (by omega)
      rw [e11, w1 1 _ (by decide)] at this
      exact this
/-- the first activation comes back -/
theorem end_pair {k x t y : Int} (Q : RQ σ τ pT hT) (h8 : 0 < σ 87 8 ∧ σ 87 8 ≤ 18240) (m1 : σ 87 19 = 1) (ek : σ 88 (σ 87 8 - 1) = k) (ex : σ 89 (σ 87 8 - 1) = x) (rv : rVal σ τ k x t y) (b92 : 0 ≤ σ 92 (σ 87 21) ∧ σ 92 (σ 87 21) < 18240) :
    ∃ S T, mc_comesBack σ = some (S, 0) ∧ md_comesBack τ t y = some (T, 0) ∧ S 87 23 = 2 ∧ T 119 117 = 2 ∧ RE S (gW T 119 121 0) ∧ ∀ i, i ≠ 117 → i ≠ 121 → i ≠ 124 → i ≠ 125 → i ≠ 148 → i ≠ 149 → T 119 i = τ 119 i := by
  obtain ⟨⟨⟨P1, P2⟩, N, M, B⟩, A, ⟨V2, V3⟩, K1, C, -⟩ := Q
  have hm := A.2.2.2.2.2.1
  have m121 := A.2.1.1.2.2
  have ht := A.2.2.2.2.1
  have hi := P1.1.1
  have h5 := hi.2.2.2.2.1
  have c21 : σ 87 21 = 0 := by omega
  -- the component ahead of showing
  generalize eU : gW (gW (puC (gW (gW σ 87 19 0) 87 8 (σ 92 (σ 87 21))) k x) 87 23 2) 0 14 (σ 0 11) = U
  have g8 : gW (gW σ 87 19 0) 87 8 (σ 92 (σ 87 21)) 87 8 = σ 92 (σ 87 21) := gW_at ..
  have u1 : ∀ a j, a ≠ 87 → a ≠ 88 → a ≠ 89 → (a ≠ 0 ∨ j ≠ 14) → U a j = σ a j := fun a j q1 q2 q3 q4 => by
    rw [← eU]
    have w : ∀ (W : gM) (v : Int), gW W 0 14 v a j = W a j := fun W v => by
      rcases q4 with q | q
      · exact gW_c q
      · by_cases z : a = 0
        · rw [z, gW_i q]
        · exact gW_c z
    rw [w, gW_c q1, puC_o (Or.inl ⟨q1, q2, q3⟩), gW_c q1, gW_c q1]
  have u2 : ∀ j, j ≠ 8 → j ≠ 19 → j ≠ 23 → U 87 j = σ 87 j := fun j q1 q2 q3 => by rw [← eU, gW_c (by decide), gW_i q3, puC_o (Or.inr (Or.inr ⟨rfl, q1⟩)), gW_i q1, gW_i q2]
  have u19 : U 87 19 = 0 := by rw [← eU, gW_c (by decide), gW_i (by decide), puC_o (Or.inr (Or.inr ⟨rfl, by decide⟩)), gW_i (by decide), gW_at]
  have u23 : U 87 23 = 2 := by rw [← eU, gW_c (by decide), gW_at]
  have u14 : U 0 14 = σ 0 11 := by rw [← eU, gW_at]
  have eC : mc_comesBack σ = ((mc_shows U k x).bind fun p4 => (hp_laidLetters p4.1).bind fun p5 => mc_comesBack_b96 (gW p5.1 87 35 p5.2) 0) := by
    rw [mc_comesBack_e, w32_e (x := σ 87 8 - 1) (by omega) (by omega), if_pos (by omega), if_pos (by omega), if_pos (by omega), m1, show w32 (1 - 1) = 0 by decide, ek, ex, mc_push_s (by rw [g8]; omega)]
    simp only [Option.bind_some]
    rw [puC_o (Or.inr (Or.inr ⟨rfl, by decide⟩)), gW_i (show (19 : Int) ≠ 8 by decide), gW_at, if_pos rfl, hp_lay_e]
    simp only [Option.bind_some]
    rw [gW_c (show (0 : Int) ≠ 87 by decide), puC_o (Or.inl (by decide)), gW_c (show (0 : Int) ≠ 87 by decide), gW_c (show (0 : Int) ≠ 87 by decide), eU]
  clear eU
  have kU : ∀ a, a ≠ 0 → a ≠ 87 → a ≠ 88 → a ≠ 89 → U a = σ a := fun a q0 q1 q2 q3 => funext fun j => u1 a j q1 q2 q3 (Or.inl q0)
  have k0 : ∀ j, j ≠ 14 → U 0 j = σ 0 j := fun j q => u1 0 j (by decide) (by decide) (by decide) (Or.inr q)
  have s1 : sameC σ U := ⟨fun a q => kU a (by omega) (by omega) (by omega) (by omega), k0 7 (by decide), k0 8 (by decide), k0 9 (by decide), k0 10 (by decide), k0 11 (by decide), k0 12 (by decide), k0 13 (by decide), by rw [kU 8 (by decide) (by decide) (by decide) (by decide)], by rw [kU 8 (by decide) (by decide) (by decide) (by decide)], by rw [kU 8 (by decide) (by decide) (by decide) (by decide)], by rw [kU 8 (by decide) (by decide) (by decide) (by decide)], by rw [kU 42 (by decide) (by decide) (by decide) (by decide)], by rw [kU 42 (by decide) (by decide) (by decide) (by decide)], by rw [kU 42 (by decide) (by decide) (by decide) (by decide)], by rw [kU 52 (by decide) (by decide) (by decide) (by decide)], by rw [kU 52 (by decide) (by decide) (by decide) (by decide)], by rw [kU 52 (by decide) (by decide) (by decide) (by decide)], by rw [kU 52 (by decide) (by decide) (by decide) (by decide)], u2 31 (by decide) (by decide) (by decide)⟩
  have s2 : sameT τ τ := ⟨fun _ _ => rfl, rfl, rfl, rfl, rfl, rfl, rfl, rfl, rfl, rfl, rfl, rfl, rfl, rfl, rfl⟩
  have PU := P1.mv s1 s2
  have vU := ((rVal_mv s1 s2).1 k x t y).mpr rv
  have sh : ∀ τ' : gM, (∀ a, (121 ≤ a ∧ a ≤ 128) ∨ (155 ≤ a ∧ a ≤ 156) ∨ (186 ≤ a ∧ a ≤ 187) → τ' a = τ a) → (∀ i, i = 9 ∨ i = 10 ∨ i = 12 ∨ i = 13 ∨ i = 15 ∨ i = 16 ∨ i = 56 ∨ i = 92 ∨ i = 93 → τ' 119 i = τ 119 i) → τ' 119 151 = 0 → ∃ σ1 τ1 L, mc_shows U k x = some (put1 σ1 L, 0) ∧ md_show τ' t y = some (put2 τ1 L, 0) ∧ L.length ≤ 200 ∧ (∀ z ∈ L, i8 z) ∧ wFr U σ1 105 ∧ (∀ b i, b ≠ 129 → τ1 b i = τ' b i) := fun τ' d1 d2 d3 => by
    obtain ⟨⟨a1, a2⟩, a3, a4, a5, a6⟩ := shw_mv PU vU d1 d2
    obtain ⟨σ1, τ1, L, e1, e2, l1, l2, w1, w2, -⟩ := mc_shows_v PU.1.1 a1 (by rw [kU 1 (by decide) (by decide) (by decide) (by decide)]; exact B.1) a2 a3 a4 a5 (by rw [k0 11 (by decide), u14]; exact Int.le_refl _) (by rw [u14]; omega) (by rw [d3]; decide) (by rw [d3]; decide) a6
    exact ⟨σ1, τ1, L, e1, e2, l1, l2, w1, w2⟩
  obtain ⟨σ1, τ1, L, e1, -, l1, l2, w1, -⟩ := sh (gW τ 119 151 0) (fun a q => gW_cell (by omega)) (fun i q => gW_i (by omega)) (gW_at ..)
  have v14 : σ1 0 14 = σ 0 11 := by rw [w1 0 14 (by decide) (by decide) (by decide), u14]
  have pc : ∀ a j, a ≠ 0 → a ≠ 1 → a ≠ 105 → a ≠ 106 → a ≠ 107 → put1 σ1 L a j = U a j := fun a j q1 q2 q3 q4 q5 => by rw [put1_c q2 (fun q => q1 q.1), w1 a j q3 (by omega) (by omega)]
  have p0 : ∀ j, j ≠ 14 → put1 σ1 L 0 j = U 0 j := fun j q => by rw [put1_c (by decide) (fun w => q w.2), w1 0 j (by decide) (by decide) (by decide)]
  have p1 : ∀ j, j < σ 0 11 → put1 σ1 L 1 j = σ 1 j := fun j q => by rw [put1_lo (by rw [v14]; exact Or.inl q), w1 1 j (by decide) (by decide) (by decide), kU 1 (by decide) (by decide) (by decide) (by decide)]
  have p8 : ∀ i, i8 (put1 σ1 L 1 i) := put1_i8 (fun i => by rw [w1 1 i (by decide) (by decide) (by decide), kU 1 (by decide) (by decide) (by decide) (by decide)]; exact B.1 i) l2
  have pat : ∀ j : Nat, j < L.length → put1 σ1 L 1 (σ 0 11 + j) = L.getD j 0 := fun j q => by rw [← v14, put1_at q]
  have p11 : put1 σ1 L 0 11 = σ 0 11 := by rw [p0 11 (by decide), k0 11 (by decide)]
  have p14 : put1 σ1 L 0 14 = σ 0 11 + L.length := by rw [put1_14, v14]
  rw [e1] at eC
  simp only [Option.bind_some] at eC
  rw [hp_laidLetters_e, p14, p11, w32_e (by omega) (by omega), show ∀ p q : Int, p + q - p = q from fun p q => by omega] at eC
  simp only [Option.bind_some] at eC
  have q35 : gW (put1 σ1 L) 87 35 L.length 87 35 = L.length := gW_at ..
  have q11 : gW (put1 σ1 L) 87 35 L.length 0 11 = σ 0 11 := by rw [gW_c (by decide), p11]
  obtain ⟨S, i1, i2, i3, i4⟩ := resC L.length (gW (put1 σ1 L) 87 35 L.length) 0 (by decide) (by rw [q35]; omega) (by rw [q35]; omega) (by rw [q11, q35]; omega)
  rw [i1] at eC
  rw [q35, q11] at i4
  have z1 : ∀ a, a ≠ 0 → a ≠ 1 → a ≠ 87 → a ≠ 88 → a ≠ 89 → (a < 104 ∨ 107 < a) → S a = σ a := fun a q1 q2 q3 q4 q5 q6 => funext fun j => by
    rw [i2 a j (by omega), gW_c q3, pc a j q1 q2 (by omega) (by omega) (by omega), kU a q1 q3 q4 q5]
  have z87 : ∀ j, j ≠ 8 → j ≠ 19 → j ≠ 23 → j ≠ 35 → S 87 j = σ 87 j := fun j q1 q2 q3 q4 => by rw [i2 87 j (by decide), gW_i q4, pc 87 j (by decide) (by decide) (by decide) (by decide) (by decide), u2 j q1 q2 q3]
  have z19 : S 87 19 = 0 := by rw [i2 87 19 (by decide), gW_i (by decide), pc 87 19 (by decide) (by decide) (by decide) (by decide) (by decide), u19]
  have z23 : S 87 23 = 2 := by rw [i2 87 23 (by decide), gW_i (by decide), pc 87 23 (by decide) (by decide) (by decide) (by decide) (by decide), u23]
  have z35 : S 87 35 = L.length := by rw [i2 87 35 (by decide), q35]
  have z0 : ∀ j, j ≠ 14 → S 0 j = σ 0 j := fun j q => by rw [i2 0 j (by decide), gW_c (by decide), p0 j q, k0 j q]
  have z1' : ∀ j, S 1 j = put1 σ1 L 1 j := fun j => by rw [i2 1 j (by decide), gW_c (by decide)]
  -- the model
  have eM : md_comesBack τ t y = some (gW (gW (gW (gW (gW (gW τ 119 124 (τ 212 0)) 119 125 (τ 213 0)) 119 121 0) 119 148 t) 119 149 y) 119 117 2, 0) := by
    rw [md_comesBack_e, m121, m1, show w32 (1 - 1) = 0 by decide, if_pos (by decide), if_pos (by decide), if_pos rfl]
  generalize eT : gW (gW (gW (gW (gW (gW τ 119 124 (τ 212 0)) 119 125 (τ 213 0)) 119 121 0) 119 148 t) 119 149 y) 119 117 2 = T at eM
  have t1 : ∀ a, a ≠ 119 → T a = τ a := fun a q => by rw [← eT, gW_cell q, gW_cell q, gW_cell q, gW_cell q, gW_cell q, gW_cell q]
  have t2 : ∀ i, i ≠ 117 → i ≠ 121 → i ≠ 124 → i ≠ 125 → i ≠ 148 → i ≠ 149 → T 119 i = τ 119 i := fun i q1 q2 q3 q4 q5 q6 => by rw [← eT, gW_i q1, gW_i q6, gW_i q5, gW_i q2, gW_i q4, gW_i q3]
  have t117 : T 119 117 = 2 := by rw [← eT, gW_at]
  have t149 : T 119 149 = y := by rw [← eT, gW_i (by decide), gW_at]
  have t148 : T 119 148 = t := by rw [← eT, gW_i (by decide), gW_i (by decide), gW_at]
  clear eT
  have x1 : ∀ a, a ≠ 119 → gW T 119 121 0 a = τ a := fun a q => by rw [gW_cell q, t1 a q]
  have x2 : ∀ i, i ≠ 117 → i ≠ 121 → i ≠ 124 → i ≠ 125 → i ≠ 148 → i ≠ 149 → gW T 119 121 0 119 i = τ 119 i := fun i q1 q2 q3 q4 q5 q6 => by rw [gW_i q2, t2 i q1 q2 q3 q4 q5 q6]
  have x117 : gW T 119 121 0 119 117 = 2 := by rw [gW_i (by decide), t117]
  have x121 : gW T 119 121 0 119 121 = 0 := gW_at ..
  have x148 : gW T 119 121 0 119 148 = t := by rw [gW_i (by decide), t148]
  have x149 : gW T 119 121 0 119 149 = y := by rw [gW_i (by decide), t149]
  refine ⟨S, T, eC, eM, z23, t117, ?_, t2⟩
  generalize gW T 119 121 0 = X at x1 x2 x117 x121 x148 x149
  have F : hpF σ τ S X := hpF.mk P1 (fun a q => z1 a (by omega) (by omega) (by omega) (by omega) (by omega) (by omega)) (fun j q => by rw [z1', p1 j q]) z0 (by rw [z87 31 (by decide) (by decide) (by decide) (by decide)]; exact Int.le_refl _) (fun a q => x1 a (by omega)) (fun i q => x2 i (by omega) (by omega) (by omega) (by omega) (by omega) (by omega))
  have c8 : S 8 = σ 8 := z1 8 (by decide) (by decide) (by decide) (by decide) (by decide) (by decide)
  refine ⟨⟨⟨⟨P1.hp F, ?_⟩, N.mv (fun a q => z1 a (by omega) (by omega) (by omega) (by omega) (by omega) (by omega)) (x1 179 (by decide)), ?_, ⟨fun i => by rw [z1']; exact p8 i, by rw [x1 134 (by decide)]; exact B.2.1, B.2.2.mv (fun a q => x1 a (by omega)) (x2 56 (by decide) (by decide) (by decide) (by decide) (by decide) (by decide))⟩⟩, ?_, by rw [x117, z23], ?_, by rw [x121, z19], ?_, ?_, ?_, ?_, ?_⟩, z19, Or.inr ⟨z23, L, fun τ' d1 d2 d3 => ?_, z35, by omega, fun j q => ?_⟩⟩
  · unfold rRp at P2 ⊢
    rw [c8, z1 24 (by decide) (by decide) (by decide) (by decide) (by decide) (by decide), z1 25 (by decide) (by decide) (by decide) (by decide) (by decide) (by decide)]
    exact P2
  · unfold rRm cRm mRm at M ⊢
    rw [z0 7 (by decide), z0 8 (by decide), z0 9 (by decide), c8, z1 42 (by decide) (by decide) (by decide) (by decide) (by decide) (by decide), x2 9 (by decide) (by decide) (by decide) (by decide) (by decide) (by decide), x2 10 (by decide) (by decide) (by decide) (by decide) (by decide) (by decide), x2 15 (by decide) (by decide) (by decide) (by decide) (by decide) (by decide), x2 56 (by decide) (by decide) (by decide) (by decide) (by decide) (by decide)]
    exact M
  · unfold rTo at ht ⊢
    rw [x1 224 (by decide), z87 36 (by decide) (by decide) (by decide) (by decide), z87 37 (by decide) (by decide) (by decide) (by decide), z87 38 (by decide) (by decide) (by decide) (by decide), z87 39 (by decide) (by decide) (by decide) (by decide), z87 40 (by decide) (by decide) (by decide) (by decide), z87 41 (by decide) (by decide) (by decide) (by decide), z87 42 (by decide) (by decide) (by decide) (by decide)]
    exact ht
  · rw [x2 118 (by decide) (by decide) (by decide) (by decide) (by decide) (by decide), z87 24 (by decide) (by decide) (by decide) (by decide)]; exact C.2.1.1
  · rw [x2 122 (by decide) (by decide) (by decide) (by decide) (by decide) (by decide), z87 20 (by decide) (by decide) (by decide) (by decide)]; exact C.2.2.1
  · rw [x2 95 (by decide) (by decide) (by decide) (by decide) (by decide) (by decide), z87 31 (by decide) (by decide) (by decide) (by decide)]; exact V3.1.2.2
  · rw [x2 126 (by decide) (by decide) (by decide) (by decide) (by decide) (by decide), z87 34 (by decide) (by decide) (by decide) (by decide)]; exact C.2.2.2.1
  · rw [z87 34 (by decide) (by decide) (by decide) (by decide), x1 223 (by decide), z1 103 (by decide) (by decide) (by decide) (by decide) (by decide) (by decide)]; exact C.2.2.2.2.1
  · rw [x2 1 (by decide) (by decide) (by decide) (by decide) (by decide) (by decide), z87 5 (by decide) (by decide) (by decide) (by decide)]; exact C.2.2.2.2.2.2.1
  · rw [x148, x149]
    obtain ⟨σ2, τ2, L2, e3, e4, -, -, w3, w4⟩ := sh τ' (fun a q => by rw [d1 a q, x1 a (by omega)]) (fun i q => by rw [d2 i (by omega), x2 i (by omega) (by omega) (by omega) (by omega) (by omega) (by omega)]) d3
    rw [e1] at e3
    have e5 : put1 σ1 L = put1 σ2 L2 := congrArg Prod.fst (Option.some.inj e3)
    have e6 := put1_inj e5 (by rw [w1 0 14 (by decide) (by decide) (by decide), w3 0 14 (by decide) (by decide) (by decide)])
    rw [e6]
    exact ⟨τ2, e4, w4⟩
  · rw [i4 j (by omega) (by omega), gW_c (by decide), pat j q]
    have := p8 (σ 0 11 + j)
    rw [pat j q] at this
    exact w8_e this.1 this.2
end EE
