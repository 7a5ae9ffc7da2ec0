/-! roots grow warm, codes are entered: both sides -/
section EN
variable {σ τ S T : gM} {pT hT : Int → Int} {m : Nat} {br co θ n : Int}
/-- a root is come to once more -/
theorem heat_pair {r : Int} (R : RQ σ τ pT hT) (hr : 4 ≤ r ∧ r < σ 8 31) : ∃ S T, cd_heats σ r (σ 87 5) = some (S, 0) ∧ md_heat τ r = some (T, 0) ∧ RQ S T pT hT ∧ (kpX σ τ S T ∧ ∀ k x t y, rVal σ τ k x t y → rVal S T k x t y) ∧ (∀ a i, a ≠ 32 → a ≠ 52 → a ≠ 67 → S a i = σ a i) ∧ (∀ a i, a ≠ 163 → a ≠ 119 → a ≠ 185 → T a i = τ a i) ∧ (∀ i, i ≠ 89 → T 119 i = τ 119 i) := by
  have R0 := R
  obtain ⟨⟨⟨P1, P2⟩, ⟨N1, N2⟩, M, B⟩, A, ⟨V2, V3⟩, K1, C, F⟩ := R
  have hN := P1.2.2.2.2.2.2.2.2.1
  have hS := P1.2.2.2.2.2.2.2.2.2.2.2.2.2.2.2.1
  have hV := P1.2.2.2.2.2.2.2.2.2.2.2.1.2.2
  have hQ := P1.2.2.2.2.2.2.2.2.2.2.2.2.1
  have hC := P1.2.2.2.2.2.2.2.2.2.2.2.2.2.2.2.2
  obtain ⟨S, T, s1, s2, s3, s4, c, c52, d, d119⟩ := cd_heats_s A.1.1 hQ hr.1 hr.2 C.2.2.2.2.2.2.1
  have kS : ∀ a, a ≠ 32 → a ≠ 52 → a ≠ 67 → S a = σ a := fun a q1 q2 q3 => funext fun i => c a i q1 q2 q3
  have kT : ∀ a, a ≠ 163 → a ≠ 119 → a ≠ 185 → T a = τ a := fun a q1 q2 q3 => funext fun i => d a i q1 q2 q3
  have k8 := kS 8 (by decide) (by decide) (by decide)
  have k87 := kS 87 (by decide) (by decide) (by decide)
  have e1 : stlC σ S := by
    refine ⟨fun a q => kS a (by omega) (by omega) (by omega), ?_⟩
    rw [kS 0 (by decide) (by decide) (by decide), k8, kS 42 (by decide) (by decide) (by decide), k87]
    exact ⟨rfl, rfl, rfl, rfl, rfl, rfl, rfl, rfl, rfl, rfl, rfl, rfl, rfl, rfl, c52 10 (by decide), c52 11 (by decide), c52 12 (by decide), rfl⟩
  have e2 : stlT τ T := ⟨fun a q => kT a (by omega) (by omega) (by omega), d119 9 (by decide), d119 10 (by decide), d119 12 (by decide), d119 13 (by decide), d119 15 (by decide), d119 16 (by decide), d119 55 (by decide), d119 56 (by decide), d119 57 (by decide), d119 92 (by decide), d119 93 (by decide), d119 94 (by decide), d119 104 (by decide)⟩
  have rv := (rVal_up e1 e2).1
  have HB : rBk S T := by
    refine ⟨s3, ?_⟩
    have hb := A.1.2
    unfold rCo at hb ⊢
    simp only [c52 10 (by decide), c52 11 (by decide), d119 104 (by decide)]
    rw [k8, kS 53 (by decide) (by decide) (by decide), kS 54 (by decide) (by decide) (by decide), kS 55 (by decide) (by decide) (by decide), kS 56 (by decide) (by decide) (by decide), kS 57 (by decide) (by decide) (by decide), kS 58 (by decide) (by decide) (by decide), kS 59 (by decide) (by decide) (by decide), kS 60 (by decide) (by decide) (by decide), kS 61 (by decide) (by decide) (by decide), kS 62 (by decide) (by decide) (by decide), kS 63 (by decide) (by decide) (by decide), kS 64 (by decide) (by decide) (by decide), kT 196 (by decide) (by decide) (by decide), kT 197 (by decide) (by decide) (by decide), kT 198 (by decide) (by decide) (by decide), kT 199 (by decide) (by decide) (by decide), kT 200 (by decide) (by decide) (by decide), kT 201 (by decide) (by decide) (by decide), kT 202 (by decide) (by decide) (by decide), kT 203 (by decide) (by decide) (by decide), kT 204 (by decide) (by decide) (by decide), kT 205 (by decide) (by decide) (by decide), kT 206 (by decide) (by decide) (by decide)]
    exact hb
  have P3 : rPg S T := by
    refine P1.up e1 e2 HB ?_ ?_ s4 ?_ ?_
    · have pl : ∀ s n, plc S s n = plc σ s n := fun s n => plc_mv (kS 43 (by decide) (by decide) (by decide)) (kS 44 (by decide) (by decide) (by decide)) (kS 47 (by decide) (by decide) (by decide))
      unfold rNd rN1 rEn at hN ⊢
      simp only [pl, d119 57 (by decide)]
      rw [k8, kS 9 (by decide) (by decide) (by decide), kS 10 (by decide) (by decide) (by decide), kS 11 (by decide) (by decide) (by decide), kS 12 (by decide) (by decide) (by decide), kS 13 (by decide) (by decide) (by decide), kS 18 (by decide) (by decide) (by decide), kS 19 (by decide) (by decide) (by decide), kS 26 (by decide) (by decide) (by decide), kS 27 (by decide) (by decide) (by decide), kS 42 (by decide) (by decide) (by decide), kT 158 (by decide) (by decide) (by decide), kT 159 (by decide) (by decide) (by decide), kT 168 (by decide) (by decide) (by decide), kT 169 (by decide) (by decide) (by decide), kT 174 (by decide) (by decide) (by decide), kT 175 (by decide) (by decide) (by decide), kT 178 (by decide) (by decide) (by decide), kT 180 (by decide) (by decide) (by decide), kT 181 (by decide) (by decide) (by decide), kT 182 (by decide) (by decide) (by decide), kT 183 (by decide) (by decide) (by decide), kT 184 (by decide) (by decide) (by decide)]
      exact hN
    · unfold rVc cFa at hV ⊢
      simp only [c52 10 (by decide)]
      rw [kS 9 (by decide) (by decide) (by decide), kS 11 (by decide) (by decide) (by decide), kS 18 (by decide) (by decide) (by decide), kS 19 (by decide) (by decide) (by decide), kS 20 (by decide) (by decide) (by decide), kS 22 (by decide) (by decide) (by decide), kS 29 (by decide) (by decide) (by decide), kS 54 (by decide) (by decide) (by decide), kS 55 (by decide) (by decide) (by decide), kS 61 (by decide) (by decide) (by decide), kS 62 (by decide) (by decide) (by decide), kS 64 (by decide) (by decide) (by decide), kS 65 (by decide) (by decide) (by decide)]
      exact hV
    · unfold rSo at hS ⊢
      rw [k8, kS 35 (by decide) (by decide) (by decide), kT 167 (by decide) (by decide) (by decide)]
      exact hS
    · intro r' q0 q1
      rw [k8] at q1
      rw [kT 166 (by decide) (by decide) (by decide), kS 26 (by decide) (by decide) (by decide), kS 27 (by decide) (by decide) (by decide), hC r' q0 q1]
      exact (congrArg w32 (chN_mv _ fun i _ => by rw [kS 12 (by decide) (by decide) (by decide)])).symm
  have A2 : aA S T pT := by
    obtain ⟨hb, ha, hcp, hap, ht, hm, hf⟩ := A
    refine ⟨HB, ha.mv (fun a q => kS a (by omega) (by omega) (by omega)) (by rw [k87]) (by rw [k8]) (c52 10 (by decide)) (fun a q => kT a (by omega) (by omega) (by omega)) (d119 121 (by decide)) (d119 123 (by decide)), hcp.mv' (fun a q => kS a (by omega) (by omega) (by omega)) (c52 10 (by decide)) (c52 12 (by decide)), hap.mv (fun a q => kS a (by omega) (by omega) (by omega)) (by rw [k87]) (by rw [k87]) (by rw [k87]), ?_, by rw [k87]; exact hm, by rw [k87, d119 123 (by decide), ccN_eq (S := S) (σ := σ) _ fun j _ _ => by rw [kS 93 (by decide) (by decide) (by decide)]]; exact hf⟩
    unfold rTo at ht ⊢
    rw [kT 224 (by decide) (by decide) (by decide), k87]
    exact ht
  refine ⟨S, T, s1, s2, R0.fr P3 ⟨?_, ?_⟩ A2 ?_ e1 e2 (fun a q => kS a (by omega) (by omega) (by omega)) (fun i _ => by rw [k87]) (fun a q => kT a (by omega) (by omega) (by omega)) (fun a i q1 q2 _ => by rw [kT a (by omega) (by omega) (by omega)]) (fun i q => d119 i (by omega)), ⟨⟨fun a q => kS a (by omega) (by omega) (by omega), fun i _ => by rw [k87], fun a q => kT a (by omega) (by omega) (by omega), by rw [d119 123 (by decide), ccN_eq (S := S) (σ := σ) _ fun j _ _ => by rw [kS 93 (by decide) (by decide) (by decide)]]⟩, fun k x t y q => (rv k x t y).mpr q⟩, c, d, d119⟩
  · unfold nIv at N1 ⊢
    rw [k8, kS 9 (by decide) (by decide) (by decide), kS 11 (by decide) (by decide) (by decide), kS 18 (by decide) (by decide) (by decide), kT 179 (by decide) (by decide) (by decide)]
    exact N1
  · unfold sI2 at N2 ⊢
    rw [k8, kS 9 (by decide) (by decide) (by decide), kS 11 (by decide) (by decide) (by decide), kS 13 (by decide) (by decide) (by decide), kS 26 (by decide) (by decide) (by decide), kS 27 (by decide) (by decide) (by decide), kS 35 (by decide) (by decide) (by decide)]
    exact N2
  · unfold rFa cFa at F ⊢
    rw [k87, kS 93 (by decide) (by decide) (by decide), kS 9 (by decide) (by decide) (by decide), kS 11 (by decide) (by decide) (by decide), kS 18 (by decide) (by decide) (by decide), kS 19 (by decide) (by decide) (by decide), kS 20 (by decide) (by decide) (by decide), kS 22 (by decide) (by decide) (by decide), kS 29 (by decide) (by decide) (by decide), kS 54 (by decide) (by decide) (by decide), kS 55 (by decide) (by decide) (by decide), kS 62 (by decide) (by decide) (by decide), kS 64 (by decide) (by decide) (by decide), kS 65 (by decide) (by decide) (by decide)]
    exact F
theorem ccN_ent {c D : Int} (h : ∀ i, S 93 i = if i = c then D else σ 93 i) (h1 : σ 93 c = -1) (h2 : 0 ≤ D) (c0 : 0 ≤ c) : ∀ m : Nat, c < m → ccN S m = ccN σ m + 1
  | 0, q => by omega
  | m + 1, q => by
    show ccN S m + (if 0 ≤ S 93 m then 1 else 0) = ccN σ m + (if 0 ≤ σ 93 m then 1 else 0) + 1
    by_cases z : c = m
    · rw [ccN_eq (S := S) (σ := σ) m fun j q1 q2 => by rw [h j, if_neg (by omega)], h m, if_pos z.symm, ← z, h1, if_pos h2, if_neg (show ¬ (0 : Int) ≤ -1 by decide)]
      omega
    · rw [ccN_ent h h1 h2 c0 m (by omega), h m, if_neg (show ¬ (m : Int) = c by omega)]
      omega
/-- as RQ.fr, with other places for the newest activation -/
theorem RQ.frp {pT' : Int → Int} (R : RQ σ τ pT hT) (hp : ∀ k, 0 ≤ k → k < σ 87 21 → pT' k = pT k) (P : rPg S T) (N : rNo S T) (A : aA S T pT') (F : rFa S) (e1 : stlC σ S) (e2 : stlT τ T) (c : ∀ a, a = 90 ∨ a = 92 ∨ (97 ≤ a ∧ a ≤ 103) → S a = σ a) (c87 : ∀ i, i = 5 ∨ (19 ≤ i ∧ i ≤ 21) ∨ i = 23 ∨ i = 24 ∨ i = 31 ∨ i = 34 → S 87 i = σ 87 i) (d : ∀ a, a = 134 ∨ (193 ≤ a ∧ a ≤ 195) ∨ a = 212 ∨ (215 ≤ a ∧ a ≤ 217) ∨ a = 223 → T a = τ a) (dt : ∀ a i, 218 ≤ a → a ≤ 220 → i < τ 212 (σ 87 21) → T a i = τ a i) (d119 : ∀ i, i = 1 ∨ i = 11 ∨ i = 95 ∨ i = 117 ∨ i = 118 ∨ i = 122 ∨ i = 126 ∨ i = 127 → T 119 i = τ 119 i) : RQ S T pT' hT := by
  obtain ⟨⟨⟨P1, P2⟩, -, M, B⟩, A0, ⟨V2, V3⟩, K1, C, -⟩ := R
  have rv := (rVal_up e1 e2).1
  obtain ⟨s, f0_7, f0_8, f0_9, f0_10, f0_11, f0_12, f0_13, f8_12, f8_16, f8_19, f8_31, f42_6, f42_10, f42_11, f52_10, f52_11, f52_12, f87⟩ := e1
  obtain ⟨t, f119_9, f119_10, f119_12, f119_13, f119_15, f119_16, f119_55, f119_56, f119_57, f119_92, f119_93, f119_94, f119_104⟩ := e2
  have hm := A0.2.2.2.2.2.1
  refine ⟨⟨⟨P, ?_⟩, N, ?_, ?_⟩, A, ⟨?_, ?_⟩, ?_, ?_, F⟩
  · intro r r0 r1
    rw [f8_31] at r1
    rw [s 24 (by decide), s 25 (by decide)]
    exact P2 r r0 r1
  · unfold rRm cRm mRm at M ⊢
    rw [f0_7, f0_8, f0_9, f8_12, f8_16, f8_19, f8_31, f42_6, f119_9, f119_10, f119_15, f119_56]
    exact M
  · exact ⟨by rw [s 1 (by decide)]; exact B.1, by rw [d 134 (by decide)]; exact B.2.1, B.2.2.mv (fun a q => t a (by omega)) f119_56⟩
  · intro k l k0 k1 l0 l1
    rw [c87 19 (by decide)] at k1
    rw [s 31 (by decide), c 90 (by decide)] at l1
    rw [c 97 (by decide), c 98 (by decide), c 99 (by decide), d 215 (by decide), d 216 (by decide), d 217 (by decide), rv]
    exact V2 k l k0 k1 l0 l1
  · unfold rOb at V3 ⊢
    rw [c87 31 (by decide), d119 95 (by decide), c 100 (by decide), c 101 (by decide), c 102 (by decide), f42_6, s 47 (by decide), d 193 (by decide), d 194 (by decide), d 195 (by decide)]
    simp only [rv]
    exact V3
  · rw [c87 21 (by decide)]
    exact K1.fr (fun k q1 q2 => (A0.2.1.2.2 k q1 (by omega)).2.1) (fun k q1 q2 => ⟨hp k q1 q2, rfl⟩) (fun k _ _ => by rw [c 90 (by decide)]) (fun k _ _ => by rw [c 92 (by decide)]) (fun k _ _ => by rw [d 212 (by decide)]) (fun a r q1 q2 _ _ => by rw [s a (by omega)]) (fun r _ _ => ⟨fun a n q _ _ => by rw [t a (by omega)], fun n _ _ => by rw [s 14 (by decide)], fun p _ _ => ⟨by rw [s 20 (by decide)], by rw [s 21 (by decide)], by rw [s 22 (by decide)]⟩⟩) dt K1.mon
  · unfold rCt at C ⊢
    rw [c87 23 (by decide), c87 24 (by decide), c87 20 (by decide), c87 34 (by decide), c87 5 (by decide), c 103 (by decide), f0_13, d 223 (by decide), d119 117 (by decide), d119 118 (by decide), d119 122 (by decide), d119 126 (by decide), d119 11 (by decide), d119 1 (by decide), d119 127 (by decide), f119_12, f119_13]
    exact C
/-- where there is no code none is entered -/
theorem ent_no (R : RQ σ τ pT hT) (h : σ 34 (σ 90 (σ 87 21)) < 0) : md_enterCode τ (σ 87 21) = some (τ, 0) := by
  obtain ⟨c1, c2, c3, c4, c5, c6⟩ := R.cu
  have A := R.2.1
  have hm := A.2.2.2.2.2.1
  have a1 := (A.2.1.2.2 (σ 87 21) (by omega) (by omega)).1
  have g := A.1.1.2 _ (by omega) c2.2
  rw [md_enterCode_e, if_pos (by omega), a1.1, if_pos (by omega), g.2.1.1, if_pos h]
/-- a code is entered; the place in the trees that is gone on with is P' -/
theorem ent_yes {P' : Int} (R : RQ σ τ pT hT) (h : 0 ≤ σ 34 (σ 90 (σ 87 21))) (h93 : σ 93 (σ 87 21) = -1) (hcc : τ 119 123 ≤ 2000000000) (hP : σ 28 (σ 90 (σ 87 21)) ≤ P' ∧ P' < σ 28 (σ 90 (σ 87 21)) + σ 29 (σ 90 (σ 87 21))) : ∃ S T, mc_enters σ (σ 34 (σ 90 (σ 87 21))) = some (S, 0) ∧ md_enterCode τ (σ 87 21) = some (T, 0) ∧ cd_start S (S 93 (σ 87 21)) 0 = some (S, σ 65 (σ 54 (σ 34 (σ 90 (σ 87 21))))) ∧ RQ (gW S 87 22 (P' - σ 28 (σ 90 (σ 87 21)) + σ 65 (σ 54 (σ 34 (σ 90 (σ 87 21)))))) T (updF pT (σ 87 21) P') hT ∧ (∀ a i, a ≠ 58 → a ≠ 87 → a ≠ 93 → a ≠ 94 → S a i = σ a i) ∧ (∀ i, i ≠ 37 → S 87 i = σ 87 i) ∧ (∀ a i, a ≠ 200 → a ≠ 209 → a ≠ 210 → a ≠ 224 → T a i = τ a i) ∧ ccN S (σ 87 19).toNat = ccN σ (σ 87 19).toNat + 1 ∧ (∀ k x t y, rVal σ τ k x t y → rVal S T k x t y) ∧ (-1000 ≤ P' - σ 28 (σ 90 (σ 87 21)) + σ 65 (σ 54 (σ 34 (σ 90 (σ 87 21)))) ∧ P' - σ 28 (σ 90 (σ 87 21)) + σ 65 (σ 54 (σ 34 (σ 90 (σ 87 21)))) < 164000) := by
  obtain ⟨c1, c2, c3, c4, c5, c6⟩ := R.cu
  have R0 := R
  obtain ⟨⟨⟨P1, P2⟩, ⟨N1, N2⟩, M, B⟩, A, ⟨V2, V3⟩, K1, C, F⟩ := R
  have A0 := A
  obtain ⟨hb, ha, hcp, hap, ht, hm, hf⟩ := A
  have hN := P1.2.2.2.2.2.2.2.2.1
  have hS := P1.2.2.2.2.2.2.2.2.2.2.2.2.2.2.2.1
  have hU := P1.2.2.2.2.2.2.2.2.2.2.2.1.1
  have hV := P1.2.2.2.2.2.2.2.2.2.2.2.1.2.2
  have hQ := P1.2.2.2.2.2.2.2.2.2.2.2.2.1
  have hC := P1.2.2.2.2.2.2.2.2.2.2.2.2.2.2.2.2
  obtain ⟨a1, a2, a3, a4, a5, a6⟩ := ha.2.2 (σ 87 21) (by omega) (by omega)
  have g := hb.1.2 _ (by omega) c2.2
  have gc := g.2.1.2.2.2 h
  have k100 : 0 ≤ σ 34 (σ 90 (σ 87 21)) ∧ σ 34 (σ 90 (σ 87 21)) < 100 := by have := hb.2.1; omega
  have gk := hb.2.2.2 _ h g.2.1.2.2.1
  have cub : 0 ≤ σ 87 21 ∧ σ 87 21 < 60 := by omega
  have u0 := hU _ h g.2.1.2.2.1
  have cpu := (hcp.2 _ 0 h g.2.1.2.2.1 (by decide) (by omega)).1
  rw [Int.add_zero, u0.1, gc.1] at cpu
  have c12 := hcp.1
  generalize eD : σ 34 (σ 90 (σ 87 21)) = D at *
  have m1 : ∀ s x, 0 ≤ x ∧ x ≤ 1000000000 → cd_more s x = some (s, if x < 1000000000 then x + 1 else x) := fun s x q => cd_more_s q
  have m2 : ∀ s x, 0 ≤ x ∧ x ≤ 1000000000 → md_more s x = some (s, if x < 1000000000 then x + 1 else x) := fun s x q => by
    rw [md_more_e]
    split
    · rw [w32_e (by omega) (by omega)]
    · rfl
  have nx : ∀ x : Int, 0 ≤ x ∧ x ≤ 1000000000 → 0 ≤ (if x < 1000000000 then x + 1 else x) ∧ (if x < 1000000000 then x + 1 else x) ≤ 1000000000 := fun x q => by split <;> omega
  generalize eS : gW (gW (gW (gW σ 93 (σ 87 21) D) 94 (σ 87 21) 0) 58 D (if σ 58 D < 1000000000 then σ 58 D + 1 else σ 58 D)) 87 37 (if σ 87 37 < 1000000000 then σ 87 37 + 1 else σ 87 37) = S
  generalize eT : gW (gW (gW (gW τ 209 (σ 87 21) D) 210 (σ 87 21) 0) 200 D (if σ 58 D < 1000000000 then σ 58 D + 1 else σ 58 D)) 224 10 (if σ 87 37 < 1000000000 then σ 87 37 + 1 else σ 87 37) = T
  have sS : ∀ a i, a ≠ 58 → a ≠ 87 → a ≠ 93 → a ≠ 94 → S a i = σ a i := fun a i q1 q2 q3 q4 => by rw [← eS, gW_c q2, gW_c q1, gW_c q4, gW_c q3]
  have s87 : ∀ i, i ≠ 37 → S 87 i = σ 87 i := fun i q => by rw [← eS, gW_i q, gW_c (by decide), gW_c (by decide), gW_c (by decide)]
  have s37 : S 87 37 = if σ 87 37 < 1000000000 then σ 87 37 + 1 else σ 87 37 := by rw [← eS, gW_at]
  have s93 : ∀ i, S 93 i = if i = σ 87 21 then D else σ 93 i := fun i => by rw [← eS, gW_c (by decide), gW_c (by decide), gW_c (by decide), gW_if]
  have s94 : ∀ i, S 94 i = if i = σ 87 21 then 0 else σ 94 i := fun i => by rw [← eS, gW_c (by decide), gW_c (by decide), gW_if, gW_c (by decide)]
  have s58 : ∀ i, S 58 i = if i = D then (if σ 58 D < 1000000000 then σ 58 D + 1 else σ 58 D) else σ 58 i := fun i => by rw [← eS, gW_c (by decide), gW_if, gW_c (by decide), gW_c (by decide)]
  have tT : ∀ a i, a ≠ 200 → a ≠ 209 → a ≠ 210 → a ≠ 224 → T a i = τ a i := fun a i q1 q2 q3 q4 => by rw [← eT, gW_c q4, gW_c q1, gW_c q3, gW_c q2]
  have t209 : ∀ i, T 209 i = if i = σ 87 21 then D else τ 209 i := fun i => by rw [← eT, gW_c (by decide), gW_c (by decide), gW_c (by decide), gW_if]
  have t210 : ∀ i, T 210 i = if i = σ 87 21 then 0 else τ 210 i := fun i => by rw [← eT, gW_c (by decide), gW_c (by decide), gW_if, gW_c (by decide)]
  have t200 : ∀ i, T 200 i = if i = D then (if σ 58 D < 1000000000 then σ 58 D + 1 else σ 58 D) else τ 200 i := fun i => by rw [← eT, gW_c (by decide), gW_if, gW_c (by decide), gW_c (by decide)]
  have t224 : ∀ i, T 224 i = if i = 10 then (if σ 87 37 < 1000000000 then σ 87 37 + 1 else σ 87 37) else τ 224 i := fun i => by rw [← eT, gW_if, gW_c (by decide), gW_c (by decide), gW_c (by decide)]
  have kS : ∀ a, a ≠ 58 → a ≠ 87 → a ≠ 93 → a ≠ 94 → S a = σ a := fun a q1 q2 q3 q4 => funext fun i => sS a i q1 q2 q3 q4
  have kT : ∀ a, a ≠ 200 → a ≠ 209 → a ≠ 210 → a ≠ 224 → T a = τ a := fun a q1 q2 q3 q4 => funext fun i => tT a i q1 q2 q3 q4
  have e1 : mc_enters σ D = some (S, 0) := by
    rw [mc_enters_e, if_pos cub, if_pos cub, if_pos k100, m1 _ _ gk.2.2.2.2.1.2]
    simp only [Option.bind_some]
    rw [if_pos k100, gW_c (show (87 : Int) ≠ 94 by decide), gW_c (show (87 : Int) ≠ 93 by decide), m1 _ _ ht.2.2.2.2.2.2.2.1]
    simp only [Option.bind_some]
    rw [eS]
  have e2 : md_enterCode τ (σ 87 21) = some (T, 0) := by
    have t10 : (0 : Int) ≤ 10 ∧ (10 : Int) < 16 := by decide
    rw [md_enterCode_e, if_pos cub, a1.1, if_pos (by omega), g.2.1.1, if_neg (by omega), if_pos cub, if_pos cub, if_pos k100, gk.2.2.2.2.1.1, m2 _ _ gk.2.2.2.2.1.2]
    simp only [Option.bind_some]
    rw [if_pos k100, if_pos t10, gW_c (show (224 : Int) ≠ 210 by decide), gW_c (show (224 : Int) ≠ 209 by decide), ht.2.1, m2 _ _ ht.2.2.2.2.2.2.2.1]
    simp only [Option.bind_some]
    rw [if_pos t10, eT]
  have e3 : cd_start S (S 93 (σ 87 21)) 0 = some (S, σ 65 (σ 54 D)) := by
    rw [s93, if_pos rfl, cd_start_e, if_pos k100, Int.add_zero, kS 54 (by decide) (by decide) (by decide) (by decide), kS 65 (by decide) (by decide) (by decide) (by decide), w32_e (by have := gk.2.2.2.2.2.2.2.2.1; omega) (by have := gk.2.2.2.2.2.2.2.2.1; have := hb.2.2.1; have := hb.2.1; omega), if_pos (by have := gk.2.2.2.2.2.2.2.2.1; have := hb.2.2.1; have := hb.2.1; omega)]
  clear eS eT
  have cce := ccN_ent s93 h93 h (by omega) (σ 87 19).toNat (by omega)
  have ccr := ccN_rg (σ := σ) (σ 87 19).toNat
  generalize eW : P' - σ 28 (σ 90 (σ 87 21)) + σ 65 (σ 54 D) = W
  have gS : ∀ a i, a ≠ 87 ∨ i ≠ 22 → gW S 87 22 W a i = S a i := fun a i q => by
    rcases q with q | q
    · exact gW_c q
    · exact gW_j q
  have zS : ∀ a, a ≠ 87 → gW S 87 22 W a = S a := fun a q => gW_cell q
  have lS : ∀ a, a ≠ 58 → a ≠ 87 → a ≠ 93 → a ≠ 94 → gW S 87 22 W a = σ a := fun a q1 q2 q3 q4 => by rw [zS a q2, kS a q1 q2 q3 q4]
  have l87 : ∀ i, i ≠ 22 → i ≠ 37 → gW S 87 22 W 87 i = σ 87 i := fun i q1 q2 => by rw [gS 87 i (Or.inr q1), s87 i q2]
  have f1 : stlC σ (gW S 87 22 W) := by
    refine ⟨fun a q => lS a (by omega) (by omega) (by omega) (by omega), ?_⟩
    rw [lS 0 (by decide) (by decide) (by decide) (by decide), lS 8 (by decide) (by decide) (by decide) (by decide), lS 42 (by decide) (by decide) (by decide) (by decide), lS 52 (by decide) (by decide) (by decide) (by decide)]
    exact ⟨rfl, rfl, rfl, rfl, rfl, rfl, rfl, rfl, rfl, rfl, rfl, rfl, rfl, rfl, rfl, rfl, rfl, l87 31 (by decide) (by decide)⟩
  have f1' : stlC σ S := by
    refine ⟨fun a q => kS a (by omega) (by omega) (by omega) (by omega), ?_⟩
    rw [kS 0 (by decide) (by decide) (by decide) (by decide), kS 8 (by decide) (by decide) (by decide) (by decide), kS 42 (by decide) (by decide) (by decide) (by decide), kS 52 (by decide) (by decide) (by decide) (by decide)]
    exact ⟨rfl, rfl, rfl, rfl, rfl, rfl, rfl, rfl, rfl, rfl, rfl, rfl, rfl, rfl, rfl, rfl, rfl, s87 31 (by decide)⟩
  have f2 : stlT τ T := by
    refine ⟨fun a q => kT a (by omega) (by omega) (by omega) (by omega), ?_⟩
    rw [kT 119 (by decide) (by decide) (by decide) (by decide)]
    exact ⟨rfl, rfl, rfl, rfl, rfl, rfl, rfl, rfl, rfl, rfl, rfl, rfl, rfl⟩
  have HB : rBk (gW S 87 22 W) T := hb.up (fun a q => lS a (by omega) (by omega) (by omega) (by omega)) (by rw [lS 8 (by decide) (by decide) (by decide) (by decide)]) (by rw [lS 52 (by decide) (by decide) (by decide) (by decide)]) (by rw [lS 52 (by decide) (by decide) (by decide) (by decide)]) (fun a q => kT a (by omega) (by omega) (by omega) (by omega)) (by rw [kT 119 (by decide) (by decide) (by decide) (by decide)]) (by rw [kT 119 (by decide) (by decide) (by decide) (by decide)]) fun i i0 i1 => by
    have gi := hb.2.2.2 i i0 i1
    rw [zS 58 (by decide), s58, t200, kT 201 (by decide) (by decide) (by decide) (by decide), kT 202 (by decide) (by decide) (by decide) (by decide), lS 59 (by decide) (by decide) (by decide) (by decide), lS 60 (by decide) (by decide) (by decide) (by decide)]
    refine ⟨?_, gi.2.2.2.2.2.1, gi.2.2.2.2.2.2.1⟩
    by_cases z : i = D
    · rw [if_pos z, if_pos z]
      have := nx _ gk.2.2.2.2.1.2
      exact ⟨rfl, this⟩
    · rw [if_neg z, if_neg z]
      exact gi.2.2.2.2.1
  have A3 : aA (gW S 87 22 W) T (updF pT (σ 87 21) P') := by
    refine ⟨HB, ⟨by rw [l87 19 (by decide) (by decide), kT 119 (by decide) (by decide) (by decide) (by decide)]; exact ha.1, by rw [kT 119 (by decide) (by decide) (by decide) (by decide)]; exact ha.2.1, fun k q1 q2 => ?_⟩, hcp.mv' (fun a q => lS a (by omega) (by omega) (by omega) (by omega)) (by rw [lS 52 (by decide) (by decide) (by decide) (by decide)]) (by rw [lS 52 (by decide) (by decide) (by decide) (by decide)]), fun k q1 q2 => ?_, ?_, by rw [l87 19 (by decide) (by decide), l87 21 (by decide) (by decide)]; exact hm, ?_⟩
    · rw [l87 19 (by decide) (by decide)] at q2
      obtain ⟨b1, b2, b3, b4, b5, b6⟩ := ha.2.2 k q1 q2
      unfold aR1 acC at *
      rw [zS 93 (by decide), zS 94 (by decide), s93, s94, s93 (k - 1), lS 90 (by decide) (by decide) (by decide) (by decide), lS 92 (by decide) (by decide) (by decide) (by decide), lS 95 (by decide) (by decide) (by decide) (by decide), lS 96 (by decide) (by decide) (by decide) (by decide), lS 8 (by decide) (by decide) (by decide) (by decide), lS 52 (by decide) (by decide) (by decide) (by decide), lS 54 (by decide) (by decide) (by decide) (by decide), lS 55 (by decide) (by decide) (by decide) (by decide), lS 62 (by decide) (by decide) (by decide) (by decide), t209, t210, kT 208 (by decide) (by decide) (by decide) (by decide), kT 211 (by decide) (by decide) (by decide) (by decide), kT 213 (by decide) (by decide) (by decide) (by decide), kT 214 (by decide) (by decide) (by decide) (by decide), kT 119 (by decide) (by decide) (by decide) (by decide)]
      by_cases z : k = σ 87 21
      · rw [if_pos z, if_pos z, if_pos z, if_pos z]
        have f95 : σ 95 (σ 87 21) = σ 87 21 ∧ σ 96 (σ 87 21) = 0 := by
          rcases a3 with y | y
          · exact ⟨y.2.2.2, y.2.2.1⟩
          · omega
        refine ⟨⟨b1.1, rfl, rfl, b1.2.2.2.1, b1.2.2.2.2⟩, b2, Or.inr ⟨⟨h, g.2.1.2.2.1⟩, ⟨by decide, by omega⟩, by rw [Int.add_zero, u0.1, gc.1, z], Or.inl (by rw [z]; exact f95)⟩, b4, b5, b6⟩
      · rw [if_neg z, if_neg z, if_neg z, if_neg z, if_neg (by omega)]
        exact ⟨b1, b2, b3, b4, b5, b6⟩
    · rw [l87 19 (by decide) (by decide)] at q2
      have p := hap k q1 q2
      unfold pcT pcA at *
      rw [l87 21 (by decide) (by decide), gW_at, zS 93 (by decide), zS 94 (by decide), s93, s94, lS 28 (by decide) (by decide) (by decide) (by decide), lS 29 (by decide) (by decide) (by decide) (by decide), lS 54 (by decide) (by decide) (by decide) (by decide), lS 65 (by decide) (by decide) (by decide) (by decide), lS 90 (by decide) (by decide) (by decide) (by decide), lS 91 (by decide) (by decide) (by decide) (by decide)]
      by_cases z : k = σ 87 21
      · rw [if_pos z, if_pos z, if_pos z, z, updF_at, Int.add_zero]
        exact ⟨hP, fun q => by omega, fun _ => eW.symm⟩
      · rw [if_neg z] at p
        rw [if_neg z, if_neg z, if_neg z, updF_ne z]
        exact p
    · unfold rTo at ht ⊢
      rw [t224, t224, t224, t224, t224, t224, t224, if_neg (show ¬ (9 : Int) = 10 by decide), if_pos (show (10 : Int) = 10 by decide), if_neg (show ¬ (11 : Int) = 10 by decide), if_neg (show ¬ (12 : Int) = 10 by decide), if_neg (show ¬ (13 : Int) = 10 by decide), if_neg (show ¬ (14 : Int) = 10 by decide), if_neg (show ¬ (15 : Int) = 10 by decide), gS 87 37 (by omega), s37, l87 36 (by decide) (by decide), l87 38 (by decide) (by decide), l87 39 (by decide) (by decide), l87 40 (by decide) (by decide), l87 41 (by decide) (by decide), l87 42 (by decide) (by decide)]
      have := nx _ ht.2.2.2.2.2.2.2.1
      exact ⟨ht.1, rfl, ht.2.2.1, ht.2.2.2.1, ht.2.2.2.2.1, ht.2.2.2.2.2.1, ht.2.2.2.2.2.2.1, this, ht.2.2.2.2.2.2.2.2⟩
    · rw [kT 119 (by decide) (by decide) (by decide) (by decide), l87 19 (by decide) (by decide), ccN_eq (S := gW S 87 22 W) (σ := S) _ fun j _ _ => by rw [zS 93 (by decide)], cce]
      have := ha.1
      omega
  have P3 : rPg (gW S 87 22 W) T := by
    refine P1.up f1 f2 HB ?_ ?_ ?_ ?_ ?_
    · have pl : ∀ s n, plc (gW S 87 22 W) s n = plc σ s n := fun s n => plc_mv (lS 43 (by decide) (by decide) (by decide) (by decide)) (lS 44 (by decide) (by decide) (by decide) (by decide)) (lS 47 (by decide) (by decide) (by decide) (by decide))
      unfold rNd rN1 rEn at hN ⊢
      simp only [pl]
      rw [lS 8 (by decide) (by decide) (by decide) (by decide), lS 9 (by decide) (by decide) (by decide) (by decide), lS 10 (by decide) (by decide) (by decide) (by decide), lS 11 (by decide) (by decide) (by decide) (by decide), lS 12 (by decide) (by decide) (by decide) (by decide), lS 13 (by decide) (by decide) (by decide) (by decide), lS 18 (by decide) (by decide) (by decide) (by decide), lS 19 (by decide) (by decide) (by decide) (by decide), lS 26 (by decide) (by decide) (by decide) (by decide), lS 27 (by decide) (by decide) (by decide) (by decide), lS 42 (by decide) (by decide) (by decide) (by decide), kT 119 (by decide) (by decide) (by decide) (by decide), kT 158 (by decide) (by decide) (by decide) (by decide), kT 159 (by decide) (by decide) (by decide) (by decide), kT 168 (by decide) (by decide) (by decide) (by decide), kT 169 (by decide) (by decide) (by decide) (by decide), kT 174 (by decide) (by decide) (by decide) (by decide), kT 175 (by decide) (by decide) (by decide) (by decide), kT 178 (by decide) (by decide) (by decide) (by decide), kT 180 (by decide) (by decide) (by decide) (by decide), kT 181 (by decide) (by decide) (by decide) (by decide), kT 182 (by decide) (by decide) (by decide) (by decide), kT 183 (by decide) (by decide) (by decide) (by decide), kT 184 (by decide) (by decide) (by decide) (by decide)]
      exact hN
    · have hV' := hV
      unfold rVc cFa at hV' ⊢
      rw [lS 9 (by decide) (by decide) (by decide) (by decide), lS 11 (by decide) (by decide) (by decide) (by decide), lS 18 (by decide) (by decide) (by decide) (by decide), lS 19 (by decide) (by decide) (by decide) (by decide), lS 20 (by decide) (by decide) (by decide) (by decide), lS 22 (by decide) (by decide) (by decide) (by decide), lS 29 (by decide) (by decide) (by decide) (by decide), lS 52 (by decide) (by decide) (by decide) (by decide), lS 54 (by decide) (by decide) (by decide) (by decide), lS 55 (by decide) (by decide) (by decide) (by decide), lS 61 (by decide) (by decide) (by decide) (by decide), lS 62 (by decide) (by decide) (by decide) (by decide), lS 64 (by decide) (by decide) (by decide) (by decide), lS 65 (by decide) (by decide) (by decide) (by decide)]
      exact hV'
    · unfold rQu at hQ ⊢
      rw [lS 8 (by decide) (by decide) (by decide) (by decide), lS 52 (by decide) (by decide) (by decide) (by decide), lS 67 (by decide) (by decide) (by decide) (by decide), kT 119 (by decide) (by decide) (by decide) (by decide), kT 185 (by decide) (by decide) (by decide) (by decide)]
      exact hQ
    · unfold rSo at hS ⊢
      rw [lS 8 (by decide) (by decide) (by decide) (by decide), lS 35 (by decide) (by decide) (by decide) (by decide), kT 167 (by decide) (by decide) (by decide) (by decide)]
      exact hS
    · intro r' q0 q1
      rw [lS 8 (by decide) (by decide) (by decide) (by decide)] at q1
      rw [kT 166 (by decide) (by decide) (by decide) (by decide), lS 26 (by decide) (by decide) (by decide) (by decide), lS 27 (by decide) (by decide) (by decide) (by decide), hC r' q0 q1]
      exact (congrArg w32 (chN_mv _ fun i _ => by rw [lS 12 (by decide) (by decide) (by decide) (by decide)])).symm
  refine ⟨S, T, e1, e2, e3, R0.frp (fun k q1 q2 => updF_ne (by omega)) P3 ⟨?_, ?_⟩ A3 ?_ f1 f2 (fun a q => lS a (by omega) (by omega) (by omega) (by omega)) (fun i q => l87 i (by omega) (by omega)) (fun a q => kT a (by omega) (by omega) (by omega) (by omega)) (fun a i q1 q2 _ => by rw [kT a (by omega) (by omega) (by omega) (by omega)]) (fun i _ => by rw [kT 119 (by decide) (by decide) (by decide) (by decide)]), sS, s87, tT, cce, fun k x t y q => ((rVal_up f1' f2).1 k x t y).mpr q, by have := hb.2.1; omega⟩
  · unfold nIv at N1 ⊢
    rw [lS 8 (by decide) (by decide) (by decide) (by decide), lS 9 (by decide) (by decide) (by decide) (by decide), lS 11 (by decide) (by decide) (by decide) (by decide), lS 18 (by decide) (by decide) (by decide) (by decide), kT 179 (by decide) (by decide) (by decide) (by decide)]
    exact N1
  · unfold sI2 at N2 ⊢
    rw [lS 8 (by decide) (by decide) (by decide) (by decide), lS 9 (by decide) (by decide) (by decide) (by decide), lS 11 (by decide) (by decide) (by decide) (by decide), lS 13 (by decide) (by decide) (by decide) (by decide), lS 26 (by decide) (by decide) (by decide) (by decide), lS 27 (by decide) (by decide) (by decide) (by decide), lS 35 (by decide) (by decide) (by decide) (by decide)]
    exact N2
  · intro _
    have := hV D h g.2.1.2.2.1 gc.2
    rw [l87 21 (by decide) (by decide), zS 93 (by decide), s93, if_pos rfl]
    unfold cFa at this ⊢
    rw [lS 9 (by decide) (by decide) (by decide) (by decide), lS 11 (by decide) (by decide) (by decide) (by decide), lS 18 (by decide) (by decide) (by decide) (by decide), lS 19 (by decide) (by decide) (by decide) (by decide), lS 20 (by decide) (by decide) (by decide) (by decide), lS 22 (by decide) (by decide) (by decide) (by decide), lS 29 (by decide) (by decide) (by decide) (by decide), lS 54 (by decide) (by decide) (by decide) (by decide), lS 55 (by decide) (by decide) (by decide) (by decide), lS 62 (by decide) (by decide) (by decide) (by decide), lS 64 (by decide) (by decide) (by decide) (by decide), lS 65 (by decide) (by decide) (by decide) (by decide)]
    exact this
end EN
