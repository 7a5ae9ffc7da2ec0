/-! an activation comes back to the one that called it: both sides -/
/-- a run but for what its code is -/
def RQm (σ τ : gM) (pT hT : Int → Int) : Prop := (rPr σ τ ∧ rNo σ τ ∧ rRm σ τ ∧ rBy σ τ) ∧ aA σ τ pT ∧ (rLo σ τ ∧ rOb σ τ) ∧ rSl σ τ pT hT (σ 87 21) ∧ rCt σ τ
section CB
variable {σ τ S T : gM} {pT hT : Int → Int} {m : Nat} {br co θ n : Int}
theorem RQ.toM (R : RQ σ τ pT hT) : RQm σ τ pT hT := ⟨R.1, R.2.1, R.2.2.1, R.2.2.2.1, R.2.2.2.2.1⟩
theorem RQm.fr (R : RQm σ τ pT hT) (P : rPg S T) (N : rNo S T) (A : aA S T pT) (F : rFa S) (e1 : stlC σ S) (e2 : stlT τ T) (c : ∀ a, a = 90 ∨ a = 92 ∨ (97 ≤ a ∧ a ≤ 103) → S a = σ a) (c87 : ∀ i, i = 5 ∨ (19 ≤ i ∧ i ≤ 21) ∨ i = 23 ∨ i = 24 ∨ i = 31 ∨ i = 34 → S 87 i = σ 87 i) (d : ∀ a, a = 134 ∨ (193 ≤ a ∧ a ≤ 195) ∨ a = 212 ∨ (215 ≤ a ∧ a ≤ 217) ∨ a = 223 → T a = τ a) (dt : ∀ a i, 218 ≤ a → a ≤ 220 → i < τ 212 (σ 87 21) → T a i = τ a i) (d119 : ∀ i, i = 1 ∨ i = 11 ∨ i = 95 ∨ i = 117 ∨ i = 118 ∨ i = 122 ∨ i = 126 ∨ i = 127 → T 119 i = τ 119 i) : RQ S T pT hT := by
  obtain ⟨⟨⟨P1, P2⟩, -, M, B⟩, A0, ⟨V2, V3⟩, K1, C⟩ := R
  have rv := (rVal_up e1 e2).1
  obtain ⟨s, f0_7, f0_8, f0_9, f0_10, f0_11, f0_12, f0_13, f8_12, f8_16, f8_19, f8_31, f42_6, f42_10, f42_11, f52_10, f52_11, f52_12, f87⟩ := e1
  obtain ⟨t, f119_9, f119_10, f119_12, f119_13, f119_15, f119_16, f119_55, f119_56, f119_57, f119_92, f119_93, f119_94, f119_104⟩ := e2
  have hm := A0.2.2.2.2.2.1
  refine ⟨⟨⟨P, ?_⟩, N, ?_, ?_⟩, A, ⟨?_, ?_⟩, ?_, ?_, F⟩
  · intro r r0 r1
    rw [f8_31] at r1
    rw [s 24 (by decide), s 25 (by decide)]
    exact P2 r r0 r1
  · unfold rRm cRm mRm at M ⊢
    rw [f0_7, f0_8, f0_9, f8_12, f8_16, f8_19, f8_31, f42_6, f119_9, f119_10, f119_15, f119_56]
    exact M
  · exact ⟨by rw [s 1 (by decide)]; exact B.1, by rw [d 134 (by decide)]; exact B.2.1, B.2.2.mv (fun a q => t a (by omega)) f119_56⟩
  · intro k l k0 k1 l0 l1
    rw [c87 19 (by decide)] at k1
    rw [s 31 (by decide), c 90 (by decide)] at l1
    rw [c 97 (by decide), c 98 (by decide), c 99 (by decide), d 215 (by decide), d 216 (by decide), d 217 (by decide), rv]
    exact V2 k l k0 k1 l0 l1
  · unfold rOb at V3 ⊢
    rw [c87 31 (by decide), d119 95 (by decide), c 100 (by decide), c 101 (by decide), c 102 (by decide), f42_6, s 47 (by decide), d 193 (by decide), d 194 (by decide), d 195 (by decide)]
    simp only [rv]
    exact V3
  · rw [c87 21 (by decide)]
    exact K1.fr (fun k q1 q2 => (A0.2.1.2.2 k q1 (by omega)).2.1) (fun k _ _ => ⟨rfl, rfl⟩) (fun k _ _ => by rw [c 90 (by decide)]) (fun k _ _ => by rw [c 92 (by decide)]) (fun k _ _ => by rw [d 212 (by decide)]) (fun a r q1 q2 _ _ => by rw [s a (by omega)]) (fun r _ _ => ⟨fun a n q _ _ => by rw [t a (by omega)], fun n _ _ => by rw [s 14 (by decide)], fun p _ _ => ⟨by rw [s 20 (by decide)], by rw [s 21 (by decide)], by rw [s 22 (by decide)]⟩⟩) dt K1.mon
  · unfold rCt at C ⊢
    rw [c87 23 (by decide), c87 24 (by decide), c87 20 (by decide), c87 34 (by decide), c87 5 (by decide), c 103 (by decide), f0_13, d 223 (by decide), d119 117 (by decide), d119 118 (by decide), d119 122 (by decide), d119 126 (by decide), d119 11 (by decide), d119 1 (by decide), d119 127 (by decide), f119_12, f119_13]
    exact C
/-- as fall_RQ: afterwards the code is as its nodes are -/
theorem fall_RQm (R : RQm σ τ pT hT) : ∃ S T, mc_falls σ = some (S, 0) ∧ md_falls τ = some (T, 0) ∧ RQ S T pT hT ∧ ndX σ τ S T := by
  have R0 := R
  obtain ⟨⟨⟨P1, P2⟩, N, M, B⟩, A, ⟨V2, V3⟩, K1, C⟩ := R
  obtain ⟨S, T, s1, s2, s3, ⟨c1, c2⟩, ⟨d1, d2, d3⟩, s6, s7⟩ := falls_pair A
  have kS : ∀ a, a ≠ 60 → a ≠ 87 → a ≠ 91 → (a < 93 ∨ 96 < a) → S a = σ a := fun a q1 q2 q3 q4 => funext fun i => c1 a i q1 q2 q3 q4
  have kT : ∀ a, a ≠ 119 → a ≠ 202 → (a < 209 ∨ 211 < a) → a ≠ 214 → a ≠ 224 → T a = τ a := fun a q1 q2 q3 q4 q5 => funext fun i => d1 a i q1 q2 q3 q4 q5
  obtain ⟨P3, e1, e2⟩ := P1.bk s3.1 (fun a q => kS a (by omega) (by omega) (by omega) (by omega)) (c2 31 (by decide) (by decide)) (fun a q => kT a (by omega) (by omega) (by omega) (by omega) (by omega)) (fun i q => d2 i (by omega))
  have rv := (rVal_up e1 e2).1
  refine ⟨S, T, s1, s2, R0.fr P3 (N.mv (fun a q => kS a (by omega) (by omega) (by omega) (by omega)) (kT 179 (by decide) (by decide) (by decide) (by decide) (by decide))) s3 ?_ e1 e2 (fun a q => kS a (by omega) (by omega) (by omega) (by omega)) (fun i q => c2 i (by omega) (by omega)) (fun a q => kT a (by omega) (by omega) (by omega) (by omega) (by omega)) (fun a i q1 q2 _ => by rw [kT a (by omega) (by omega) (by omega) (by omega) (by omega)]) (fun i q => d2 i (by omega)), ⟨⟨fun a q => kS a (by omega) (by omega) (by omega) (by omega), fun i q => c2 i (by omega) (by omega), fun a q => kT a (by omega) (by omega) (by omega) (by omega) (by omega), s7⟩, fun a q => kS a (by omega) (by omega) (by omega) (by omega), c2 8 (by decide) (by decide), fun a q1 q2 => kT a (by omega) (by omega) (by omega) (by omega) (by omega), d2, fun k x t y q => (rv k x t y).mpr q⟩⟩
  intro q
  rcases s6 with ⟨z, -, y⟩ | z
  · rw [z] at q ⊢
    have hm := A.2.2.2.2.2.1
    have m59 := A.2.1.1
    obtain ⟨-, -, a3, -⟩ := A.2.1.2.2 (σ 87 21) (by omega) (by omega)
    have hV := P1.2.2.2.2.2.2.2.2.2.2.2.1.2.2
    rcases a3 with w | w
    · omega
    · exact hV _ q w.1.2 (y q)
  · rw [c2 21 (by decide) (by decide), z] at q
    omega
theorem ccN_le : ∀ m : Nat, ccN σ m ≤ ccN σ (m + 1) := fun m => by
  show ccN σ m ≤ ccN σ m + _
  split <;> omega
/-- as rPi.ret: the pile was related in states that are alike but for the newest activation's part -/
theorem rPi.ret2 {σ' τ' : gM} {k x t y : Int} (h : rPi σ' τ') (q21 : σ' 87 21 = σ 87 21) (q92 : σ' 92 = σ 92) (q213 : τ' 213 = τ 213) (q88 : ∀ a j, a = 88 ∨ a = 89 → j < σ 92 (σ 87 21) → σ a j = σ' a j) (q221 : ∀ a j, a = 221 ∨ a = 222 → τ a j = τ' a j) (qrv : ∀ k x t y, rVal σ' τ' k x t y → rVal σ τ k x t y) (c0 : 1 ≤ σ 87 21) (e21 : S 87 21 = σ 87 21 - 1) (c92 : ∀ j, j ≤ σ 87 21 → S 92 j = σ 92 j) (d213 : ∀ j, j ≤ σ 87 21 → T 213 j = τ 213 j) (c88 : ∀ a j, a = 88 ∨ a = 89 → j < σ 92 (σ 87 21) → S a j = σ a j) (d221 : ∀ a j, a = 221 ∨ a = 222 → j < τ 213 (σ 87 21) → T a j = τ a j) (rv : ∀ k x t y, rVal σ τ k x t y → rVal S T k x t y) (e8 : S 87 8 = σ 92 (σ 87 21) + 1) (e125 : T 119 125 = τ 213 (σ 87 21) + 1) (vn : S 88 (σ 92 (σ 87 21)) = k ∧ S 89 (σ 92 (σ 87 21)) = x ∧ T 221 (τ 213 (σ 87 21)) = t ∧ T 222 (τ 213 (σ 87 21)) = y) (v : rVal S T k x t y) : rPi S T := by
  have r1 : σ' 92 (σ' 87 21) = σ 92 (σ 87 21) := by rw [q92, q21]
  have r2 : τ' 213 (σ' 87 21) = τ 213 (σ 87 21) := by rw [q213, q21]
  refine h.ret (k := k) (x := x) (t := t) (y := y) (by omega) (by omega) (fun j q => by rw [q92]; exact c92 j (by omega)) (fun j q => by rw [q213]; exact d213 j (by omega)) (fun a j q r => ?_) (fun a j q r => ?_) (fun k x t y q => rv _ _ _ _ (qrv _ _ _ _ q)) (by omega) (by omega) (by rw [r1, r2]; exact vn) v
  · rw [r1] at r
    exact (c88 a j q r).trans (q88 a j q r)
  · rw [r2] at r
    exact (d221 a j q r).trans (q221 a j q)
/-- back to the caller -/
theorem comes_pair {σ' τ' : gM} {k x t y : Int} (Q : RQ σ τ pT hT) (h8 : σ 92 (σ 87 21) < σ 87 8 ∧ σ 87 8 ≤ 18240) (m2 : 2 ≤ σ 87 19) (ek : σ 88 (σ 87 8 - 1) = k) (ex : σ 89 (σ 87 8 - 1) = x) (rv : rVal σ τ k x t y) (pi : rPi σ' τ') (q21 : σ' 87 21 = σ 87 21) (q92 : σ' 92 = σ 92) (q213 : τ' 213 = τ 213) (q88 : ∀ a j, a = 88 ∨ a = 89 → j < σ 92 (σ 87 21) → σ a j = σ' a j) (q221 : ∀ a j, a = 221 ∨ a = 222 → τ a j = τ' a j) (qrv : ∀ k x t y, rVal σ' τ' k x t y → rVal σ τ k x t y) (b92 : 0 ≤ σ 92 (σ 87 21)) (b212 : 0 ≤ τ 212 (σ 87 21) ∧ τ 212 (σ 87 21) < 42000) :
    ∃ (S T : gM) (m : Nat) (br co : Int), mc_comesBack σ = some (S, 0) ∧ md_comesBack τ t y = some (T, 0) ∧ RQ S T pT hT ∧ rPi S T ∧ rTp S T pT hT m br co ∧ (∀ a, a = 14 ∨ (20 ≤ a ∧ a ≤ 22) ∨ (26 ≤ a ∧ a ≤ 29) ∨ a = 90 ∨ a = 92 → S a = σ a) ∧ (S 87 21 = σ 87 21 - 1 ∧ S 87 19 = σ 87 19 - 1 ∧ S 87 24 = σ 87 24 ∧ S 87 34 = σ 87 34 ∧ S 87 8 = σ 92 (σ 87 21) + 1) ∧ (∀ i, i ≠ 121 → i ≠ 123 → i ≠ 124 → i ≠ 125 → T 119 i = τ 119 i) ∧ T 119 123 + ccN S (σ 87 19 - 1).toNat ≤ τ 119 123 + ccN σ (σ 87 19).toNat := by
  obtain ⟨c1, c2, c3, c4, c5, c6⟩ := Q.cu
  obtain ⟨⟨⟨P1, P2⟩, N, M, B⟩, A, ⟨V2, V3⟩, K1, C, -⟩ := Q
  obtain ⟨hb, ha, hcp, hap, ht, ⟨hm, hc⟩, hf⟩ := A
  have m59 := ha.1
  obtain ⟨a1, -⟩ := ha.2.2 (σ 87 21) (by omega) (by omega)
  obtain ⟨mm, br, co, ⟨ax1, ax2, ax3, ax4⟩, b1, b2⟩ := K1 (σ 87 21 - 1) (by omega) (by omega)
  rw [show σ 87 21 - 1 + 1 = σ 87 21 by omega] at b1 b2
  have hZ : 0 ≤ τ 213 (σ 87 21) ∧ τ 213 (σ 87 21) < 23000 := by
    have w1 := (pi.2 (σ 87 21 - 1) (σ 87 21) (by omega) (by omega) (by omega)).2
    rw [show σ 87 21 - 1 + 1 = σ 87 21 by omega, q213] at w1
    have w2 := (pi.1 (σ 87 21) (by omega) (by omega)).1
    rw [q92] at w1 w2
    have := a1.2.2.2.2
    omega
  -- the component's state ahead of the fall
  generalize eS : gW (gW (puC (gW (gW σ 87 19 (σ 87 19 - 1)) 87 8 (σ 92 (σ 87 21))) k x) 87 21 (σ 87 21 - 1)) 87 22 (σ 91 (σ 87 21 - 1)) = S1
  generalize eT : gW (puM (gW (gW (gW τ 119 124 (τ 212 (σ 87 21))) 119 125 (τ 213 (σ 87 21))) 119 121 (σ 87 21)) t y) 119 124 (τ 212 (σ 87 21) - 1) = T1
  have g8 : gW (gW σ 87 19 (σ 87 19 - 1)) 87 8 (σ 92 (σ 87 21)) 87 8 = σ 92 (σ 87 21) := gW_at ..
  have g125 : gW (gW (gW τ 119 124 (τ 212 (σ 87 21))) 119 125 (τ 213 (σ 87 21))) 119 121 (σ 87 21) 119 125 = τ 213 (σ 87 21) := by rw [gW_i (by decide), gW_at]
  have pn := puC_n (σ := gW (gW σ 87 19 (σ 87 19 - 1)) 87 8 (σ 92 (σ 87 21))) (k := k) (x := x)
  rw [g8] at pn
  have pm := puM_n (τ := gW (gW (gW τ 119 124 (τ 212 (σ 87 21))) 119 125 (τ 213 (σ 87 21))) 119 121 (σ 87 21)) (t := t) (y := y)
  rw [g125] at pm
  have sC : ∀ a j, (a ≠ 87 ∧ a ≠ 88 ∧ a ≠ 89) ∨ (a ≠ 87 ∧ j ≠ σ 92 (σ 87 21)) ∨ (a = 87 ∧ j ≠ 8 ∧ j ≠ 19 ∧ j ≠ 21 ∧ j ≠ 22) → S1 a j = σ a j := fun a j q => by
    rw [← eS]
    rcases q with q | q | q
    · rw [gW_c q.1, gW_c q.1, puC_o (Or.inl q), gW_c q.1, gW_c q.1]
    · rw [gW_c q.1, gW_c q.1, puC_o (Or.inr (Or.inl ⟨q.1, by rw [g8]; exact q.2⟩)), gW_c q.1, gW_c q.1]
    · rw [q.1, gW_i q.2.2.2.2, gW_i q.2.2.2.1, puC_o (Or.inr (Or.inr ⟨rfl, q.2.1⟩)), gW_i q.2.1, gW_i q.2.2.1]
  have s19 : S1 87 19 = σ 87 19 - 1 := by rw [← eS, gW_i (by decide), gW_i (by decide), puC_o (Or.inr (Or.inr ⟨rfl, by decide⟩)), gW_i (by decide), gW_at]
  have s21 : S1 87 21 = σ 87 21 - 1 := by rw [← eS, gW_i (by decide), gW_at]
  have s22 : S1 87 22 = σ 91 (σ 87 21 - 1) := by rw [← eS, gW_at]
  have s8 : S1 87 8 = σ 92 (σ 87 21) + 1 := by rw [← eS, gW_i (by decide), gW_i (by decide), pn.2.2]
  have s88 : S1 88 (σ 92 (σ 87 21)) = k := by rw [← eS, gW_c (by decide), gW_c (by decide), pn.1]
  have s89 : S1 89 (σ 92 (σ 87 21)) = x := by rw [← eS, gW_c (by decide), gW_c (by decide), pn.2.1]
  have sM : ∀ a j, (a ≠ 119 ∧ a ≠ 221 ∧ a ≠ 222) ∨ (a ≠ 119 ∧ j ≠ τ 213 (σ 87 21)) ∨ (a = 119 ∧ j ≠ 121 ∧ j ≠ 124 ∧ j ≠ 125) → T1 a j = τ a j := fun a j q => by
    rw [← eT]
    rcases q with q | q | q
    · rw [gW_c q.1, puM_o (Or.inl q), gW_c q.1, gW_c q.1, gW_c q.1]
    · rw [gW_c q.1, puM_o (Or.inr (Or.inl ⟨q.1, by rw [g125]; exact q.2⟩)), gW_c q.1, gW_c q.1, gW_c q.1]
    · rw [q.1, gW_i q.2.2.1, puM_o (Or.inr (Or.inr ⟨rfl, q.2.2.2⟩)), gW_i q.2.1, gW_i q.2.2.2, gW_i q.2.2.1]
  have t121 : T1 119 121 = σ 87 21 := by rw [← eT, gW_i (by decide), puM_o (Or.inr (Or.inr ⟨rfl, by decide⟩)), gW_at]
  have t124 : T1 119 124 = τ 212 (σ 87 21) - 1 := by rw [← eT, gW_at]
  have t125 : T1 119 125 = τ 213 (σ 87 21) + 1 := by rw [← eT, gW_i (by decide), pm.2.2]
  have t221 : T1 221 (τ 213 (σ 87 21)) = t := by rw [← eT, gW_c (by decide), pm.1]
  have t222 : T1 222 (τ 213 (σ 87 21)) = y := by rw [← eT, gW_c (by decide), pm.2.1]
  have eC : mc_comesBack σ = ((mc_falls S1).bind fun p2 => some (p2.1, 0)) := by
    rw [mc_comesBack_e, w32_e (x := σ 87 8 - 1) (by omega) (by omega), if_pos (by omega), if_pos (by omega), if_pos (by omega), w32_e (x := σ 87 19 - 1) (by omega) (by omega), ek, ex, mc_push_s (by rw [g8]; omega)]
    simp only [Option.bind_some]
    rw [puC_o (Or.inr (Or.inr ⟨rfl, by decide⟩)), gW_i (show (19 : Int) ≠ 8 by decide), gW_at, if_neg (by omega), w32_e (x := σ 87 19 - 1 - 1) (by omega) (by omega), if_pos (by omega), puC_o (Or.inl (by decide)), gW_c (show (91 : Int) ≠ 87 by decide), gW_c (show (91 : Int) ≠ 87 by decide), show σ 87 19 - 1 - 1 = σ 87 21 - 1 by omega, eS]
  have eM : md_comesBack τ t y = ((md_falls T1).bind fun p2 => some (p2.1, 0)) := by
    have w : w32 (τ 119 121 - 1) = σ 87 21 := by rw [w32_e (by omega) (by omega)]; omega
    rw [md_comesBack_e, w, if_pos (by omega), if_pos (by omega), if_neg (by omega), md_push_s (by rw [g125]; omega)]
    simp only [Option.bind_some]
    rw [puM_o (Or.inr (Or.inr ⟨rfl, by decide⟩)), gW_i (show (124 : Int) ≠ 121 by decide), gW_i (show (124 : Int) ≠ 125 by decide), gW_at, w32_e (by omega) (by omega), eT]
  clear eS eT
  have kS : ∀ a, a ≠ 87 → a ≠ 88 → a ≠ 89 → S1 a = σ a := fun a q1 q2 q3 => funext fun j => sC a j (Or.inl ⟨q1, q2, q3⟩)
  have kT : ∀ a, a ≠ 119 → a ≠ 221 → a ≠ 222 → T1 a = τ a := fun a q1 q2 q3 => funext fun j => sM a j (Or.inl ⟨q1, q2, q3⟩)
  have l87 : ∀ j, j ≠ 8 → j ≠ 19 → j ≠ 21 → j ≠ 22 → S1 87 j = σ 87 j := fun j q1 q2 q3 q4 => sC 87 j (Or.inr (Or.inr ⟨rfl, q1, q2, q3, q4⟩))
  have l119 : ∀ j, j ≠ 121 → j ≠ 124 → j ≠ 125 → T1 119 j = τ 119 j := fun j q1 q2 q3 => sM 119 j (Or.inr (Or.inr ⟨rfl, q1, q2, q3⟩))
  have ccl : ccN S1 (σ 87 19 - 1).toNat ≤ ccN σ (σ 87 19).toNat := by
    rw [ccN_eq (S := S1) (σ := σ) _ fun j _ _ => by rw [kS 93 (by decide) (by decide) (by decide)], show (σ 87 19).toNat = (σ 87 19 - 1).toNat + 1 by omega]
    exact ccN_le _
  have HB : rBk S1 T1 := hb.up (fun a q => kS a (by omega) (by omega) (by omega)) (by rw [kS 8 (by decide) (by decide) (by decide)]) (by rw [kS 52 (by decide) (by decide) (by decide)]) (by rw [kS 52 (by decide) (by decide) (by decide)]) (fun a q => kT a (by omega) (by omega) (by omega)) (l119 55 (by decide) (by decide) (by decide)) (l119 104 (by decide) (by decide) (by decide)) fun i i0 i1 => by
    rw [kT 200 (by decide) (by decide) (by decide), kT 201 (by decide) (by decide) (by decide), kT 202 (by decide) (by decide) (by decide), kS 58 (by decide) (by decide) (by decide), kS 59 (by decide) (by decide) (by decide), kS 60 (by decide) (by decide) (by decide)]
    have g := hb.2.2.2 i i0 i1
    exact ⟨g.2.2.2.2.1, g.2.2.2.2.2.1, g.2.2.2.2.2.2.1⟩
  obtain ⟨P3, e1, e2⟩ := P1.bk HB (fun a q => kS a (by omega) (by omega) (by omega)) (l87 31 (by decide) (by decide) (by decide) (by decide)) (fun a q => kT a (by omega) (by omega) (by omega)) (fun i q => l119 i (by omega) (by omega) (by omega))
  have rvm := (rVal_up e1 e2).1
  have fsI : ∀ P Q, sI σ S1 P Q := fun P Q p _ _ => ⟨by rw [kS 20 (by decide) (by decide) (by decide)], by rw [kS 21 (by decide) (by decide) (by decide)], by rw [kS 22 (by decide) (by decide) (by decide)]⟩
  have Q1 : RQm S1 T1 pT hT := by
    refine ⟨⟨⟨P3, ?_⟩, N.mv (fun a q => kS a (by omega) (by omega) (by omega)) (kT 179 (by decide) (by decide) (by decide)), ?_, ?_⟩, ⟨HB, ⟨⟨by omega, by omega, by rw [t121, s19]; omega⟩, by rw [l119 123 (by decide) (by decide) (by decide)]; exact ha.2.1, fun k q1 q2 => ?_⟩, hcp.mv' (fun a q => kS a (by omega) (by omega) (by omega)) (by rw [kS 52 (by decide) (by decide) (by decide)]) (by rw [kS 52 (by decide) (by decide) (by decide)]), fun k q1 q2 => ?_, ?_, ⟨by omega, by omega⟩, ?_⟩, ⟨fun k l k0 k1 l0 l1 => ?_, ?_⟩, ?_, ?_⟩
    · unfold rRp at P2 ⊢
      rw [kS 8 (by decide) (by decide) (by decide), kS 24 (by decide) (by decide) (by decide), kS 25 (by decide) (by decide) (by decide)]
      exact P2
    · unfold rRm cRm mRm at M ⊢
      rw [kS 0 (by decide) (by decide) (by decide), kS 8 (by decide) (by decide) (by decide), kS 42 (by decide) (by decide) (by decide), l119 9 (by decide) (by decide) (by decide), l119 10 (by decide) (by decide) (by decide), l119 15 (by decide) (by decide) (by decide), l119 56 (by decide) (by decide) (by decide)]
      exact M
    · exact ⟨by rw [kS 1 (by decide) (by decide) (by decide)]; exact B.1, by rw [kT 134 (by decide) (by decide) (by decide)]; exact B.2.1, B.2.2.mv (fun a q => kT a (by omega) (by omega) (by omega)) (l119 56 (by decide) (by decide) (by decide))⟩
    · rw [s19] at q2
      have := ha.2.2 k q1 (by omega)
      unfold aR1 acC at this ⊢
      rw [kS 8 (by decide) (by decide) (by decide), kS 52 (by decide) (by decide) (by decide), kS 54 (by decide) (by decide) (by decide), kS 55 (by decide) (by decide) (by decide), kS 62 (by decide) (by decide) (by decide), kS 90 (by decide) (by decide) (by decide), kS 92 (by decide) (by decide) (by decide), kS 93 (by decide) (by decide) (by decide), kS 94 (by decide) (by decide) (by decide), kS 95 (by decide) (by decide) (by decide), kS 96 (by decide) (by decide) (by decide), kT 208 (by decide) (by decide) (by decide), kT 209 (by decide) (by decide) (by decide), kT 210 (by decide) (by decide) (by decide), kT 211 (by decide) (by decide) (by decide), kT 213 (by decide) (by decide) (by decide), kT 214 (by decide) (by decide) (by decide), l119 123 (by decide) (by decide) (by decide)]
      exact this
    · rw [s19] at q2
      have := hap k q1 (by omega)
      unfold pcT pcA at this ⊢
      rw [s21, s22, kS 28 (by decide) (by decide) (by decide), kS 29 (by decide) (by decide) (by decide), kS 54 (by decide) (by decide) (by decide), kS 65 (by decide) (by decide) (by decide), kS 90 (by decide) (by decide) (by decide), kS 91 (by decide) (by decide) (by decide), kS 93 (by decide) (by decide) (by decide), kS 94 (by decide) (by decide) (by decide)]
      rw [if_neg (by omega)] at this
      by_cases z : k = σ 87 21 - 1
      · rw [if_pos z, ← z]
        exact this
      · rw [if_neg z]
        exact this
    · unfold rTo at ht ⊢
      rw [kT 224 (by decide) (by decide) (by decide), l87 36 (by decide) (by decide) (by decide) (by decide), l87 37 (by decide) (by decide) (by decide) (by decide), l87 38 (by decide) (by decide) (by decide) (by decide), l87 39 (by decide) (by decide) (by decide) (by decide), l87 40 (by decide) (by decide) (by decide) (by decide), l87 41 (by decide) (by decide) (by decide) (by decide), l87 42 (by decide) (by decide) (by decide) (by decide)]
      exact ht
    · rw [s19, l119 123 (by decide) (by decide) (by decide)]
      omega
    · rw [s19] at k1
      rw [kS 31 (by decide) (by decide) (by decide), kS 90 (by decide) (by decide) (by decide)] at l1
      rw [kS 97 (by decide) (by decide) (by decide), kS 98 (by decide) (by decide) (by decide), kS 99 (by decide) (by decide) (by decide), kT 215 (by decide) (by decide) (by decide), kT 216 (by decide) (by decide) (by decide), kT 217 (by decide) (by decide) (by decide), rvm]
      exact V2 k l k0 (by omega) l0 l1
    · unfold rOb at V3 ⊢
      rw [l87 31 (by decide) (by decide) (by decide) (by decide), l119 95 (by decide) (by decide) (by decide), kS 100 (by decide) (by decide) (by decide), kS 101 (by decide) (by decide) (by decide), kS 102 (by decide) (by decide) (by decide), kS 42 (by decide) (by decide) (by decide), kS 47 (by decide) (by decide) (by decide), kT 193 (by decide) (by decide) (by decide), kT 194 (by decide) (by decide) (by decide), kT 195 (by decide) (by decide) (by decide)]
      simp only [rvm]
      exact V3
    · rw [s21]
      have K2 : rSl σ τ pT hT (σ 87 21 - 1) := fun k q1 q2 => K1 k q1 (by omega)
      exact K2.fr (fun k q1 q2 => (ha.2.2 k q1 (by omega)).2.1) (fun k _ _ => ⟨rfl, rfl⟩) (fun k _ _ => by rw [kS 90 (by decide) (by decide) (by decide)]) (fun k _ _ => by rw [kS 92 (by decide) (by decide) (by decide)]) (fun k _ _ => by rw [kT 212 (by decide) (by decide) (by decide)]) (fun a r q1 q2 _ _ => by rw [kS a (by omega) (by omega) (by omega)]) (fun r _ _ => ⟨fun a n q _ _ => by rw [kT a (by omega) (by omega) (by omega)], fun n _ _ => by rw [kS 14 (by decide) (by decide) (by decide)], fsI _ _⟩) (fun a i q1 q2 _ => by rw [kT a (by omega) (by omega) (by omega)]) K2.mon
    · unfold rCt at C ⊢
      rw [l87 23 (by decide) (by decide) (by decide) (by decide), l87 24 (by decide) (by decide) (by decide) (by decide), l87 20 (by decide) (by decide) (by decide) (by decide), l87 34 (by decide) (by decide) (by decide) (by decide), l87 5 (by decide) (by decide) (by decide) (by decide), kS 103 (by decide) (by decide) (by decide), kS 0 (by decide) (by decide) (by decide), kT 223 (by decide) (by decide) (by decide), l119 117 (by decide) (by decide) (by decide), l119 118 (by decide) (by decide) (by decide), l119 122 (by decide) (by decide) (by decide), l119 126 (by decide) (by decide) (by decide), l119 11 (by decide) (by decide) (by decide), l119 1 (by decide) (by decide) (by decide), l119 127 (by decide) (by decide) (by decide), l119 12 (by decide) (by decide) (by decide), l119 13 (by decide) (by decide) (by decide)]
      exact C
  obtain ⟨S, T, f1, f2, f3, ⟨⟨x1, x2, x3, x4⟩, x5, x6, x7, x8, x9⟩⟩ := fall_RQm Q1
  have zS : ∀ a, a = 14 ∨ (20 ≤ a ∧ a ≤ 22) ∨ (26 ≤ a ∧ a ≤ 29) ∨ a = 90 ∨ a = 92 → S a = σ a := fun a q => by rw [x1 a q, kS a (by omega) (by omega) (by omega)]
  have z21 : S 87 21 = σ 87 21 - 1 := by rw [x2 21 (by decide), s21]
  have z8 : S 87 8 = σ 92 (σ 87 21) + 1 := by rw [x6, s8]
  refine ⟨S, T, mm, br, co, by rw [eC, f1]; rfl, by rw [eM, f2]; rfl, f3, pi.ret2 (k := k) (x := x) (t := t) (y := y) q21 q92 q213 q88 q221 qrv (by omega) z21 (fun j _ => by rw [zS 92 (by decide)]) (fun j _ => by rw [x3 213 (by decide), kT 213 (by decide) (by decide) (by decide)]) (fun a j q _ => by rw [x5 a q, sC a j (by omega)]) (fun a j q _ => by rw [x7 a (by omega) (by omega), sM a j (by omega)]) (fun k x t y q => x9 _ _ _ _ ((rvm _ _ _ _).mpr q)) z8 (by rw [x8 125 (by decide), t125]) ⟨by rw [x5 88 (by decide)]; exact s88, by rw [x5 89 (by decide)]; exact s89, by rw [x7 221 (by decide) (by decide)]; exact t221, by rw [x7 222 (by decide) (by decide)]; exact t222⟩ (x9 _ _ _ _ ((rvm _ _ _ _).mpr rv)), ⟨⟨?_, ?_, ?_, ?_⟩, ?_, ?_⟩, zS, ⟨z21, by rw [x2 19 (by decide), s19], by rw [x2 24 (by decide), l87 24 (by decide) (by decide) (by decide) (by decide)], by rw [x2 34 (by decide), l87 34 (by decide) (by decide) (by decide) (by decide)], z8⟩, fun i q1 q2 q3 q4 => by rw [x8 i q2, l119 i q1 q3 q4], ?_⟩
  · rw [z21, zS 26 (by decide), zS 27 (by decide), zS 28 (by decide), zS 29 (by decide), zS 90 (by decide), x3 212 (by decide), kT 212 (by decide) (by decide) (by decide)]
    exact St.fr (fun a j q _ _ => by rw [x3 a (by omega), kT a (by omega) (by omega) (by omega)]) (fun j _ _ => by rw [zS 14 (by decide)]) (fun p _ _ => ⟨by rw [zS 20 (by decide)], by rw [zS 21 (by decide)], by rw [zS 22 (by decide)]⟩) mm _ _ _ _ (fun a j q1 q2 _ _ => by rw [x7 a q1 (by omega), kT a (by omega) (by omega) (by omega)]) ax1
  · rw [z21, x3 212 (by decide), kT 212 (by decide) (by decide) (by decide)]; exact ax2
  · rw [z21, zS 92 (by decide)]; exact ax3
  · rw [z21]; exact ax4
  · rw [z21, x8 124 (by decide), t124, x3 212 (by decide), kT 212 (by decide) (by decide) (by decide)]
    omega
  · rw [z8, z21, zS 92 (by decide)]
    omega
  · rw [s19] at x4
    rw [x4, l119 123 (by decide) (by decide) (by decide)]
    omega
end CB
