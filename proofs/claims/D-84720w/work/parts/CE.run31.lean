/-! steps: both sides -/
section SP
variable {σ τ S T : gM} {pT hT : Int → Int} {m : Nat} {br co θ n : Int}
/-- only what is counted of codes has changed -/
theorem rPg.bk (h : rPg σ τ) (HB : rBk S T) (c : ∀ a, (0 ≤ a ∧ a ≤ 35) ∨ a = 40 ∨ (42 ≤ a ∧ a ≤ 57) ∨ (61 ≤ a ∧ a ≤ 67) → S a = σ a) (c31 : S 87 31 = σ 87 31) (d : ∀ a, (121 ≤ a ∧ a ≤ 128) ∨ (155 ≤ a ∧ a ≤ 192) ∨ (196 ≤ a ∧ a ≤ 199) ∨ (203 ≤ a ∧ a ≤ 206) → T a = τ a) (d119 : ∀ i, (9 ≤ i ∧ i ≤ 16) ∨ (55 ≤ i ∧ i ≤ 57) ∨ (89 ≤ i ∧ i ≤ 104) → T 119 i = τ 119 i) : rPg S T ∧ stlC σ S ∧ stlT τ T := by
  have e1 : stlC σ S := by
    refine ⟨fun a q => c a (by omega), ?_⟩
    rw [c 0 (by decide), c 8 (by decide), c 42 (by decide), c 52 (by decide)]
    exact ⟨rfl, rfl, rfl, rfl, rfl, rfl, rfl, rfl, rfl, rfl, rfl, rfl, rfl, rfl, rfl, rfl, rfl, c31⟩
  have e2 : stlT τ T := ⟨fun a q => d a (by omega), d119 9 (by decide), d119 10 (by decide), d119 12 (by decide), d119 13 (by decide), d119 15 (by decide), d119 16 (by decide), d119 55 (by decide), d119 56 (by decide), d119 57 (by decide), d119 92 (by decide), d119 93 (by decide), d119 94 (by decide), d119 104 (by decide)⟩
  have hN := h.2.2.2.2.2.2.2.2.1
  have hV := h.2.2.2.2.2.2.2.2.2.2.2.1.2.2
  have hQ := h.2.2.2.2.2.2.2.2.2.2.2.2.1
  have hS := h.2.2.2.2.2.2.2.2.2.2.2.2.2.2.2.1
  have hC := h.2.2.2.2.2.2.2.2.2.2.2.2.2.2.2.2
  refine ⟨h.up e1 e2 HB ?_ ?_ ?_ ?_ ?_, e1, e2⟩
  · have pl : ∀ s n, plc S s n = plc σ s n := fun s n => plc_mv (c 43 (by decide)) (c 44 (by decide)) (c 47 (by decide))
    unfold rNd rN1 rEn at hN ⊢
    simp only [pl, d119 57 (by decide)]
    rw [c 8 (by decide), c 9 (by decide), c 10 (by decide), c 11 (by decide), c 12 (by decide), c 13 (by decide), c 18 (by decide), c 19 (by decide), c 26 (by decide), c 27 (by decide), c 42 (by decide), d 158 (by decide), d 159 (by decide), d 168 (by decide), d 169 (by decide), d 174 (by decide), d 175 (by decide), d 178 (by decide), d 180 (by decide), d 181 (by decide), d 182 (by decide), d 183 (by decide), d 184 (by decide)]
    exact hN
  · unfold rVc cFa at hV ⊢
    rw [c 9 (by decide), c 11 (by decide), c 18 (by decide), c 19 (by decide), c 20 (by decide), c 22 (by decide), c 29 (by decide), c 52 (by decide), c 54 (by decide), c 55 (by decide), c 61 (by decide), c 62 (by decide), c 64 (by decide), c 65 (by decide)]
    exact hV
  · unfold rQu at hQ ⊢
    simp only [d119 89 (by decide)]
    rw [c 8 (by decide), c 52 (by decide), c 67 (by decide), d 185 (by decide)]
    exact hQ
  · unfold rSo at hS ⊢
    rw [c 8 (by decide), c 35 (by decide), d 167 (by decide)]
    exact hS
  · intro r' q0 q1
    rw [c 8 (by decide)] at q1
    rw [d 166 (by decide), c 26 (by decide), c 27 (by decide), hC r' q0 q1]
    exact (congrArg w32 (chN_mv _ fun i _ => by rw [c 12 (by decide)])).symm
theorem rNo.mv (N : rNo σ τ) (c : ∀ a, a = 8 ∨ a = 9 ∨ a = 11 ∨ a = 13 ∨ a = 18 ∨ a = 26 ∨ a = 27 ∨ a = 35 → S a = σ a) (d : T 179 = τ 179) : rNo S T := by
  obtain ⟨N1, N2⟩ := N
  refine ⟨?_, ?_⟩
  · unfold nIv at N1 ⊢
    rw [c 8 (by decide), c 9 (by decide), c 11 (by decide), c 18 (by decide), d]
    exact N1
  · unfold sI2 at N2 ⊢
    rw [c 8 (by decide), c 9 (by decide), c 11 (by decide), c 13 (by decide), c 26 (by decide), c 27 (by decide), c 35 (by decide)]
    exact N2
/-- a frame falls out of a code that is not valid: within a run -/
theorem fall_RQ (R : RQ σ τ pT hT) : ∃ S T, mc_falls σ = some (S, 0) ∧ md_falls τ = some (T, 0) ∧ RQ S T pT hT ∧ ndX σ τ S T ∧ flC σ S ∧ flM τ T := by
  have R0 := R
  obtain ⟨⟨⟨P1, P2⟩, N, M, B⟩, A, ⟨V2, V3⟩, K1, C, F⟩ := R
  obtain ⟨S, T, s1, s2, s3, ⟨c1, c2⟩, ⟨d1, d2, d3⟩, s6, s7⟩ := falls_pair A
  have kS : ∀ a, a ≠ 60 → a ≠ 87 → a ≠ 91 → (a < 93 ∨ 96 < a) → S a = σ a := fun a q1 q2 q3 q4 => funext fun i => c1 a i q1 q2 q3 q4
  have kT : ∀ a, a ≠ 119 → a ≠ 202 → (a < 209 ∨ 211 < a) → a ≠ 214 → a ≠ 224 → T a = τ a := fun a q1 q2 q3 q4 q5 => funext fun i => d1 a i q1 q2 q3 q4 q5
  obtain ⟨P3, e1, e2⟩ := P1.bk s3.1 (fun a q => kS a (by omega) (by omega) (by omega) (by omega)) (c2 31 (by decide) (by decide)) (fun a q => kT a (by omega) (by omega) (by omega) (by omega) (by omega)) (fun i q => d2 i (by omega))
  have rv := (rVal_up e1 e2).1
  refine ⟨S, T, s1, s2, R0.fr P3 (N.mv (fun a q => kS a (by omega) (by omega) (by omega) (by omega)) (kT 179 (by decide) (by decide) (by decide) (by decide) (by decide))) s3 ?_ e1 e2 (fun a q => kS a (by omega) (by omega) (by omega) (by omega)) (fun i q => c2 i (by omega) (by omega)) (fun a q => kT a (by omega) (by omega) (by omega) (by omega) (by omega)) (fun a i q1 q2 _ => by rw [kT a (by omega) (by omega) (by omega) (by omega) (by omega)]) (fun i q => d2 i (by omega)), ⟨⟨fun a q => kS a (by omega) (by omega) (by omega) (by omega), fun i q => c2 i (by omega) (by omega), fun a q => kT a (by omega) (by omega) (by omega) (by omega) (by omega), s7⟩, fun a q => kS a (by omega) (by omega) (by omega) (by omega), c2 8 (by decide) (by decide), fun a q1 q2 => kT a (by omega) (by omega) (by omega) (by omega) (by omega), d2, fun k x t y q => (rv k x t y).mpr q⟩, ⟨c1, c2⟩, ⟨d1, d2, d3⟩⟩
  rcases s6 with ⟨z, -, -⟩ | z
  · rw [z]; exact F
  · intro q
    rw [c2 21 (by decide) (by decide), z] at q
    omega
/-- one step more -/
theorem RQ.stp (R : RQ σ τ pT hT) (h : σ 87 24 ≠ 20000) : RQ (gW σ 87 24 (σ 87 24 + 1)) (gW (gW τ 119 118 (τ 119 118 + 1)) 119 119 (τ 119 119 + 1)) pT hT := by
  have R0 := R
  obtain ⟨⟨⟨P1, P2⟩, N, M, B⟩, A, ⟨V2, V3⟩, K1, C, F⟩ := R
  have kS : ∀ a, a ≠ 87 → gW σ 87 24 (σ 87 24 + 1) a = σ a := fun a q => gW_cell q
  have s87 : ∀ i, i ≠ 24 → gW σ 87 24 (σ 87 24 + 1) 87 i = σ 87 i := fun i q => gW_i q
  have kT : ∀ a, a ≠ 119 → gW (gW τ 119 118 (τ 119 118 + 1)) 119 119 (τ 119 119 + 1) a = τ a := fun a q => by rw [gW_cell q, gW_cell q]
  have t119 : ∀ i, i ≠ 118 → i ≠ 119 → gW (gW τ 119 118 (τ 119 118 + 1)) 119 119 (τ 119 119 + 1) 119 i = τ 119 i := fun i q1 q2 => by rw [gW_i q2, gW_i q1]
  have A2 : aA (gW σ 87 24 (σ 87 24 + 1)) (gW (gW τ 119 118 (τ 119 118 + 1)) 119 119 (τ 119 119 + 1)) pT := A.mv (fun a q => kS a (by omega)) (by rw [kS 8 (by decide)]) (fun i _ _ => by rw [kS 52 (by decide)]) (fun i q => s87 i (by omega)) (fun a q => kT a (by omega)) (fun i q => t119 i (by omega) (by omega))
  obtain ⟨P3, e1, e2⟩ := P1.bk A2.1 (fun a q => kS a (by omega)) (s87 31 (by decide)) (fun a q => kT a (by omega)) (fun i q => t119 i (by omega) (by omega))
  have rv := (rVal_up e1 e2).1
  refine ⟨⟨⟨P3, ?_⟩, N.mv (fun a q => kS a (by omega)) (kT 179 (by decide)), ?_, ?_⟩, A2, ⟨?_, ?_⟩, ?_, ?_, ?_⟩
  · unfold rRp at P2 ⊢
    rw [kS 8 (by decide), kS 24 (by decide), kS 25 (by decide)]
    exact P2
  · unfold rRm cRm mRm at M ⊢
    rw [kS 0 (by decide), kS 8 (by decide), kS 42 (by decide), t119 9 (by decide) (by decide), t119 10 (by decide) (by decide), t119 15 (by decide) (by decide), t119 56 (by decide) (by decide)]
    exact M
  · exact ⟨by rw [kS 1 (by decide)]; exact B.1, by rw [kT 134 (by decide)]; exact B.2.1, B.2.2.mv (fun a q => kT a (by omega)) (t119 56 (by decide) (by decide))⟩
  · intro k l k0 k1 l0 l1
    rw [s87 19 (by decide)] at k1
    rw [kS 31 (by decide), kS 90 (by decide)] at l1
    rw [kS 97 (by decide), kS 98 (by decide), kS 99 (by decide), kT 215 (by decide), kT 216 (by decide), kT 217 (by decide), rv]
    exact V2 k l k0 k1 l0 l1
  · unfold rOb at V3 ⊢
    rw [s87 31 (by decide), t119 95 (by decide) (by decide), kS 100 (by decide), kS 101 (by decide), kS 102 (by decide), kS 42 (by decide), kS 47 (by decide), kT 193 (by decide), kT 194 (by decide), kT 195 (by decide)]
    simp only [rv]
    exact V3
  · rw [s87 21 (by decide)]
    have hm := A.2.2.2.2.2.1
    exact K1.fr (fun k q1 q2 => (A.2.1.2.2 k q1 (by omega)).2.1) (fun k _ _ => ⟨rfl, rfl⟩) (fun k _ _ => by rw [kS 90 (by decide)]) (fun k _ _ => by rw [kS 92 (by decide)]) (fun k _ _ => by rw [kT 212 (by decide)]) (fun a r q1 q2 _ _ => by rw [kS a (by omega)]) (fun r _ _ => ⟨fun a n q _ _ => by rw [kT a (by omega)], fun n _ _ => by rw [kS 14 (by decide)], fun p _ _ => ⟨by rw [kS 20 (by decide)], by rw [kS 21 (by decide)], by rw [kS 22 (by decide)]⟩⟩) (fun a i q1 q2 _ => by rw [kT a (by omega)]) K1.mon
  · obtain ⟨C1, C2, C3, C4, C5, C6, C7, C8⟩ := C
    refine ⟨by rw [s87 23 (by decide), t119 117 (by decide) (by decide)]; exact C1, ?_, by rw [s87 20 (by decide), t119 122 (by decide) (by decide)]; exact C3, by rw [s87 34 (by decide), t119 126 (by decide) (by decide)]; exact C4, by rw [s87 34 (by decide), kT 223 (by decide), kS 103 (by decide)]; exact C5, by rw [t119 11 (by decide) (by decide), t119 12 (by decide) (by decide), t119 13 (by decide) (by decide), kS 0 (by decide)]; exact C6, by rw [t119 1 (by decide) (by decide), s87 5 (by decide)]; exact C7, by rw [t119 127 (by decide) (by decide)]; exact C8⟩
    rw [gW_at, gW_i (show (118 : Int) ≠ 119 by decide), gW_at]
    omega
  · unfold rFa cFa at F ⊢
    rw [s87 21 (by decide), kS 93 (by decide), kS 9 (by decide), kS 11 (by decide), kS 18 (by decide), kS 19 (by decide), kS 20 (by decide), kS 22 (by decide), kS 29 (by decide), kS 54 (by decide), kS 55 (by decide), kS 62 (by decide), kS 64 (by decide), kS 65 (by decide)]
    exact F
end SP
