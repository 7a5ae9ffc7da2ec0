/-! a call of a given function comes to a value: both sides -/
section TF
variable {σ τ S T Z X : gM} {pT hT : Int → Int} {m : Nat} {br co θ n : Int}
/-- a simple instruction: the newest activation's place and tasks change -/
theorem RQm.sm {P' h' : Int} (R : RQm σ τ pT hT) (c : smC σ S) (d : smM τ T (τ 212 (σ 87 21))) (pc : pcT σ (σ 87 21) (S 87 22) P') : RQm S T (updF pT (σ 87 21) P') (updF hT (σ 87 21) h') := by
  obtain ⟨⟨⟨P1, P2⟩, ⟨N1, N2⟩, M, B⟩, A, ⟨V2, V3⟩, K1, C⟩ := R
  have c' := c
  have d' := d
  obtain ⟨c1, c2⟩ := c
  obtain ⟨d1, d2, d3⟩ := d
  have kS : ∀ a, a ≠ 87 → a ≠ 88 → a ≠ 89 → (a < 105 ∨ 116 < a) → S a = σ a := fun a q1 q2 q3 q4 => funext fun i => c1 a i q1 q2 q3 q4
  have kT : ∀ a, a ≠ 119 → (a < 218 ∨ 222 < a) → (a < 129 ∨ 133 < a) → a ≠ 225 → T a = τ a := fun a q1 q2 q3 q4 => funext fun i => d1 a i q1 q2 q3 q4
  have rv : ∀ {k x t y : Int}, rVal S T k x t y ↔ rVal σ τ k x t y := c'.rv d'
  have e19 := c2 19 (by decide) (by decide) (by decide)
  have e21 := c2 21 (by decide) (by decide) (by decide)
  obtain ⟨hb, ha, hcp, hap, htt, ⟨hm, hc⟩, hf⟩ := A
  have m59 := ha.1
  have AA : aA σ τ pT := ⟨hb, ha, hcp, hap, htt, ⟨hm, hc⟩, hf⟩
  refine ⟨⟨⟨P1.mv c'.sm d'.sm, ?_⟩, ⟨?_, ?_⟩, ?_, ?_⟩, ⟨?_, ?_, ?_, ?_, ?_, ?_, ?_⟩, ⟨?_, ?_⟩, ?_, ?_⟩
  · intro r r0 r1
    rw [kS 8 (by decide) (by decide) (by decide) (by decide)] at r1
    rw [kS 24 (by decide) (by decide) (by decide) (by decide), kS 25 (by decide) (by decide) (by decide) (by decide)]
    exact P2 r r0 r1
  · unfold nIv at N1 ⊢
    rw [kS 8 (by decide) (by decide) (by decide) (by decide), kS 9 (by decide) (by decide) (by decide) (by decide), kS 11 (by decide) (by decide) (by decide) (by decide), kS 18 (by decide) (by decide) (by decide) (by decide), kT 179 (by decide) (by decide) (by decide) (by decide)]
    exact N1
  · unfold sI2 at N2 ⊢
    rw [kS 8 (by decide) (by decide) (by decide) (by decide), kS 9 (by decide) (by decide) (by decide) (by decide), kS 11 (by decide) (by decide) (by decide) (by decide), kS 13 (by decide) (by decide) (by decide) (by decide), kS 26 (by decide) (by decide) (by decide) (by decide), kS 27 (by decide) (by decide) (by decide) (by decide), kS 35 (by decide) (by decide) (by decide) (by decide)]
    exact N2
  · unfold rRm cRm mRm at M ⊢
    rw [kS 0 (by decide) (by decide) (by decide) (by decide), kS 8 (by decide) (by decide) (by decide) (by decide), kS 42 (by decide) (by decide) (by decide) (by decide), d2 9 (by decide) (by decide) (by decide), d2 10 (by decide) (by decide) (by decide), d2 15 (by decide) (by decide) (by decide), d2 56 (by decide) (by decide) (by decide)]
    exact M
  · exact ⟨by rw [kS 1 (by decide) (by decide) (by decide) (by decide)]; exact B.1, by rw [kT 134 (by decide) (by decide) (by decide) (by decide)]; exact B.2.1, B.2.2.mv (fun a q => kT a (by omega) (by omega) (by omega) (by omega)) (d2 56 (by decide) (by decide) (by decide))⟩
  · exact hb.up (fun a q => kS a (by omega) (by omega) (by omega) (by omega)) (by rw [kS 8 (by decide) (by decide) (by decide) (by decide)]) (by rw [kS 52 (by decide) (by decide) (by decide) (by decide)]) (by rw [kS 52 (by decide) (by decide) (by decide) (by decide)]) (fun a q => kT a (by omega) (by omega) (by omega) (by omega)) (d2 55 (by decide) (by decide) (by decide)) (d2 104 (by decide) (by decide) (by decide)) fun i i0 i1 => by
      rw [kT 200 (by decide) (by decide) (by decide) (by decide), kT 201 (by decide) (by decide) (by decide) (by decide), kT 202 (by decide) (by decide) (by decide) (by decide), kS 58 (by decide) (by decide) (by decide) (by decide), kS 59 (by decide) (by decide) (by decide) (by decide), kS 60 (by decide) (by decide) (by decide) (by decide)]
      have g := hb.2.2.2 i i0 i1
      exact ⟨g.2.2.2.2.1, g.2.2.2.2.2.1, g.2.2.2.2.2.2.1⟩
  · exact ha.mv (fun a q => kS a (by omega) (by omega) (by omega) (by omega)) e19 (by rw [kS 8 (by decide) (by decide) (by decide) (by decide)]) (by rw [kS 52 (by decide) (by decide) (by decide) (by decide)]) (fun a q => kT a (by omega) (by omega) (by omega) (by omega)) (d2 121 (by decide) (by decide) (by decide)) (d2 123 (by decide) (by decide) (by decide))
  · exact hcp.mv' (fun a q => kS a (by omega) (by omega) (by omega) (by omega)) (by rw [kS 52 (by decide) (by decide) (by decide) (by decide)]) (by rw [kS 52 (by decide) (by decide) (by decide) (by decide)])
  · intro k k0 k1
    rw [e19] at k1
    have a := hap k k0 k1
    unfold pcT pcA at *
    rw [e21, kS 28 (by decide) (by decide) (by decide) (by decide), kS 29 (by decide) (by decide) (by decide) (by decide), kS 54 (by decide) (by decide) (by decide) (by decide), kS 65 (by decide) (by decide) (by decide) (by decide), kS 90 (by decide) (by decide) (by decide) (by decide), kS 91 (by decide) (by decide) (by decide) (by decide), kS 93 (by decide) (by decide) (by decide) (by decide), kS 94 (by decide) (by decide) (by decide) (by decide)]
    by_cases z : k = σ 87 21
    · rw [if_pos z, z, updF_at]
      exact pc
    · rw [if_neg z] at a ⊢
      rw [updF_ne z]
      exact a
  · unfold rTo at htt ⊢
    rw [kT 224 (by decide) (by decide) (by decide) (by decide), c2 36 (by decide) (by decide) (by decide), c2 37 (by decide) (by decide) (by decide), c2 38 (by decide) (by decide) (by decide), c2 39 (by decide) (by decide) (by decide), c2 40 (by decide) (by decide) (by decide), c2 41 (by decide) (by decide) (by decide), c2 42 (by decide) (by decide) (by decide)]
    exact htt
  · rw [e19, e21]; exact ⟨hm, hc⟩
  · rw [e19, d2 123 (by decide) (by decide) (by decide), ccN_eq (S := S) (σ := σ) _ fun j _ _ => by rw [kS 93 (by decide) (by decide) (by decide) (by decide)]]; exact hf
  · intro k l k0 k1 l0 l1
    rw [e19] at k1
    rw [kS 31 (by decide) (by decide) (by decide) (by decide), kS 90 (by decide) (by decide) (by decide) (by decide)] at l1
    rw [kS 97 (by decide) (by decide) (by decide) (by decide), kS 98 (by decide) (by decide) (by decide) (by decide), kS 99 (by decide) (by decide) (by decide) (by decide), kT 215 (by decide) (by decide) (by decide) (by decide), kT 216 (by decide) (by decide) (by decide) (by decide), kT 217 (by decide) (by decide) (by decide) (by decide), rv]
    exact V2 k l k0 k1 l0 l1
  · unfold rOb at V3 ⊢
    rw [c2 31 (by decide) (by decide) (by decide), d2 95 (by decide) (by decide) (by decide), kS 100 (by decide) (by decide) (by decide) (by decide), kS 101 (by decide) (by decide) (by decide) (by decide), kS 102 (by decide) (by decide) (by decide) (by decide), kS 42 (by decide) (by decide) (by decide) (by decide), kS 47 (by decide) (by decide) (by decide) (by decide), kT 193 (by decide) (by decide) (by decide) (by decide), kT 194 (by decide) (by decide) (by decide) (by decide), kT 195 (by decide) (by decide) (by decide) (by decide)]
    simp only [rv]
    exact V3
  · rw [e21]
    exact K1.fr (fun k q1 q2 => (ha.2.2 k q1 (by omega)).2.1) (fun k q1 q2 => ⟨updF_ne (by omega), updF_ne (by omega)⟩) (fun k _ _ => by rw [kS 90 (by decide) (by decide) (by decide) (by decide)]) (fun k _ _ => by rw [kS 92 (by decide) (by decide) (by decide) (by decide)]) (fun k _ _ => by rw [kT 212 (by decide) (by decide) (by decide) (by decide)]) (fun a r q1 q2 _ _ => by rw [kS a (by omega) (by omega) (by omega) (by omega)]) (fun r _ _ => ⟨fun a n q _ _ => by rw [kT a (by omega) (by omega) (by omega) (by omega)], fun n _ _ => by rw [kS 14 (by decide) (by decide) (by decide) (by decide)], fun p _ _ => ⟨by rw [kS 20 (by decide) (by decide) (by decide) (by decide)], by rw [kS 21 (by decide) (by decide) (by decide) (by decide)], by rw [kS 22 (by decide) (by decide) (by decide) (by decide)]⟩⟩) d3 K1.mon
  · unfold rCt at C ⊢
    rw [c2 23 (by decide) (by decide) (by decide), c2 24 (by decide) (by decide) (by decide), c2 20 (by decide) (by decide) (by decide), c2 34 (by decide) (by decide) (by decide), c2 5 (by decide) (by decide) (by decide), kS 103 (by decide) (by decide) (by decide) (by decide), kS 0 (by decide) (by decide) (by decide) (by decide), kT 223 (by decide) (by decide) (by decide) (by decide), d2 117 (by decide) (by decide) (by decide), d2 118 (by decide) (by decide) (by decide), d2 122 (by decide) (by decide) (by decide), d2 126 (by decide) (by decide) (by decide), d2 11 (by decide) (by decide) (by decide), d2 1 (by decide) (by decide) (by decide), d2 127 (by decide) (by decide) (by decide), d2 12 (by decide) (by decide) (by decide), d2 13 (by decide) (by decide) (by decide)]
    exact C
theorem RQm.toQ (R : RQm σ τ pT hT) (F : rFa σ) : RQ σ τ pT hT := ⟨R.1, R.2.1, R.2.2.1, R.2.2.2.1, R.2.2.2.2, F⟩
/-- what calls of the given functions keep -/
def kq (σ τ Z X : gM) (f : Int) : Prop := ((∀ n, n < σ 8 12 → Z 14 n = σ 14 n) ∧ (∀ a p, 20 ≤ a → a ≤ 22 → p < σ 8 16 → Z a p = σ a p) ∧ (∀ a r, 26 ≤ a → a ≤ 29 → r < σ 8 31 → Z a r = σ a r)) ∧ (∀ a, (88 ≤ a ∧ a ≤ 90) ∨ a = 92 → Z a = σ a) ∧ (∀ i, i = 19 ∨ i = 21 ∨ i = 24 → Z 87 i = σ 87 i) ∧ (∀ a n, a = 168 ∨ (170 ≤ a ∧ a ≤ 173) → n < σ 8 12 → X a n = τ a n) ∧ (∀ a, (212 ≤ a ∧ a ≤ 213) ∨ (221 ≤ a ∧ a ≤ 222) → X a = τ a) ∧ (∀ a j, 218 ≤ a → a ≤ 220 → j ≤ f → X a j = τ a j) ∧ (∀ i, i = 119 ∨ i = 120 ∨ i = 124 ∨ i = 125 → X 119 i = τ 119 i) ∧ X 119 123 + ccN Z (σ 87 19).toNat = τ 119 123 + ccN σ (σ 87 19).toNat ∧ ∀ k x t y, rVal σ τ k x t y → rVal Z X k x t y
/-- the value takes the place of what was given -/
theorem kq_fin {E h' br' co' k x t y b0 b1 θ' : Int} (R : RR σ τ pT hT (m + 1) br co θ) (st : St σ τ (σ 26 (σ 90 (σ 87 21))) (σ 26 (σ 90 (σ 87 21)) + σ 27 (σ 90 (σ 87 21))) (σ 28 (σ 90 (σ 87 21))) (σ 28 (σ 90 (σ 87 21)) + σ 29 (σ 90 (σ 87 21)) - 2) (τ 212 (σ 87 21)) m E h' br' co') (Q : RQm Z X pT hT) (K : kq σ τ Z X (τ 212 (σ 87 21) + m)) (hb0 : b0 = σ 92 (σ 87 21) + (h' - 1)) (hb1 : 1 ≤ h' ∧ h' ≤ 400) (hb2 : b0 < σ 87 8) (hb3 : b1 - b0 = τ 119 125 - σ 87 8) (hE : E = pT (σ 87 21) + 1) (op : σ 20 (pT (σ 87 21)) ≠ 10 ∧ σ 20 (pT (σ 87 21)) ≠ 13) (v : rVal Z X k x t y) (th1 : θ' < θ) (th2 : θ ≤ θ' + 8 + 7 * (σ 87 8 - b0 - 1)) (th3 : Z 87 34 + 14 * θ' ≤ σ 87 34 + 14 * θ) :
    mc_push (gW Z 87 8 b0) k x = some (puC (gW Z 87 8 b0) k x, 0) ∧ md_push (gW X 119 125 b1) t y = some (puM (gW X 119 125 b1) t y, 0) ∧ (0 ≤ Z 87 22 ∧ Z 87 22 < 164000) ∧ X 119 124 = τ 119 124 ∧ (0 ≤ τ 119 124 ∧ τ 119 124 ≤ 42000) ∧ RQm (gW (puC (gW Z 87 8 b0) k x) 87 22 (Z 87 22 + 1)) (gW (puM (gW X 119 125 b1) t y) 119 124 (τ 119 124 - 1)) (updF pT (σ 87 21) E) (updF hT (σ 87 21) h') ∧ ∀ S T, RQ S T (updF pT (σ 87 21) E) (updF hT (σ 87 21) h') → ndX (gW (puC (gW Z 87 8 b0) k x) 87 22 (Z 87 22 + 1)) (gW (puM (gW X 119 125 b1) t y) 119 124 (τ 119 124 - 1)) S T → RR S T (updF pT (σ 87 21) E) (updF hT (σ 87 21) h') m br' co' θ' ∧ T 119 119 = τ 119 119 ∧ T 119 120 = τ 119 120 := by
  obtain ⟨-, -, -, -, ⟨t1, t2⟩, t3, -, -, -, t6⟩ := R.top
  obtain ⟨q1, -, c2, pc, c5, c6, c7, c8, c9⟩ := R.cur
  obtain ⟨o, p1, p2, p3, p4, p5, p6⟩ := R.pl
  have H := R.2.2.2
  have pi := R.2.1
  have a2 := R.2.2.1.1.2.1
  have a3 := R.2.2.1.1.2.2.1
  have hin := R.1.1.1.1.2.2.2.2.2.2.2.2.2.2.1
  have hir := hin.2 (σ 90 (σ 87 21)) c2.1 c2.2
  have hm := R.1.2.1.2.2.2.2.2.1
  have hl := St.le _ _ _ _ _ st
  have nl : ∀ n, n < σ 26 (σ 90 (σ 87 21)) + σ 27 (σ 90 (σ 87 21)) → n < σ 8 12 := fun n q => by
    by_cases w : σ 26 (σ 90 (σ 87 21)) ≤ n
    · exact (c9 n w q).2.2
    · have w2 := R.1.1.1.1.2.2.2.2.2.2.2.2.1.2.1 _ c2.1 c2.2
      omega
  have aS : ∀ k, 0 ≤ k → k ≤ σ 87 21 → 4 ≤ σ 90 k ∧ σ 90 k < σ 8 31 := fun k q1 q2 => (R.1.2.1.2.1.2.2 k q1 (by omega)).2.1
  obtain ⟨⟨x14, x20, x26⟩, x90, x87, x168, x212, x218, x119, xcc, xrv⟩ := K
  have s21 : Z 87 21 = σ 87 21 := x87 21 (by decide)
  have s19 : Z 87 19 = σ 87 19 := x87 19 (by decide)
  have f124 : X 119 124 = τ 119 124 := x119 124 (by decide)
  have pS := Q.2.1.2.2.2.1 (σ 87 21) q1.1 (by omega)
  unfold pcA at pS
  rw [s21, if_pos rfl] at pS
  have hI2 := Q.1.1.1.2.2.2.2.2.2.2.2.2.2.1
  obtain ⟨w1, -⟩ := Q.2.1.op (P := pT (σ 87 21)) (by rw [s21]) (show cI Z (pT (σ 87 21)) (Z 20 (pT (σ 87 21))) (Z 21 (pT (σ 87 21))) (Z 22 (pT (σ 87 21))) from ⟨rfl, rfl, rfl⟩) hI2 hI2.1.2
  have g8 : gW Z 87 8 b0 87 8 = b0 := gW_at ..
  have g125 : gW X 119 125 b1 119 125 = b1 := gW_at ..
  have pn := puC_n (σ := gW Z 87 8 b0) (k := k) (x := x)
  rw [g8] at pn
  have pm := puM_n (τ := gW X 119 125 b1) (t := t) (y := y)
  rw [g125] at pm
  have sC : ∀ a j, (a ≠ 87 ∧ a ≠ 88 ∧ a ≠ 89) ∨ (a ≠ 87 ∧ j ≠ b0) ∨ (a = 87 ∧ j ≠ 8 ∧ j ≠ 22) → gW (puC (gW Z 87 8 b0) k x) 87 22 (Z 87 22 + 1) a j = Z a j := fun a j q => by
    rcases q with q | q | q
    · rw [gW_c q.1, puC_o (Or.inl q), gW_c q.1]
    · rw [gW_c q.1, puC_o (Or.inr (Or.inl ⟨q.1, by rw [g8]; exact q.2⟩)), gW_c q.1]
    · rw [q.1, gW_i q.2.2, puC_o (Or.inr (Or.inr ⟨rfl, q.2.1⟩)), gW_i q.2.1]
  have sM : ∀ a j, (a ≠ 119 ∧ a ≠ 221 ∧ a ≠ 222) ∨ (a ≠ 119 ∧ j ≠ b1) ∨ (a = 119 ∧ j ≠ 124 ∧ j ≠ 125) → gW (puM (gW X 119 125 b1) t y) 119 124 (τ 119 124 - 1) a j = X a j := fun a j q => by
    rcases q with q | q | q
    · rw [gW_c q.1, puM_o (Or.inl q), gW_c q.1]
    · rw [gW_c q.1, puM_o (Or.inr (Or.inl ⟨q.1, by rw [g125]; exact q.2⟩)), gW_c q.1]
    · rw [q.1, gW_i q.2.1, puM_o (Or.inr (Or.inr ⟨rfl, q.2.2⟩)), gW_i q.2.2]
  have s8 : gW (puC (gW Z 87 8 b0) k x) 87 22 (Z 87 22 + 1) 87 8 = b0 + 1 := by rw [gW_i (by decide), pn.2.2]
  have s22 : gW (puC (gW Z 87 8 b0) k x) 87 22 (Z 87 22 + 1) 87 22 = Z 87 22 + 1 := gW_at ..
  have s88 : gW (puC (gW Z 87 8 b0) k x) 87 22 (Z 87 22 + 1) 88 b0 = k := by rw [gW_c (by decide), pn.1]
  have s89 : gW (puC (gW Z 87 8 b0) k x) 87 22 (Z 87 22 + 1) 89 b0 = x := by rw [gW_c (by decide), pn.2.1]
  have t125 : gW (puM (gW X 119 125 b1) t y) 119 124 (τ 119 124 - 1) 119 125 = b1 + 1 := by rw [gW_i (by decide), pm.2.2]
  have t124 : gW (puM (gW X 119 125 b1) t y) 119 124 (τ 119 124 - 1) 119 124 = τ 119 124 - 1 := gW_at ..
  have t221 : gW (puM (gW X 119 125 b1) t y) 119 124 (τ 119 124 - 1) 221 b1 = t := by rw [gW_c (by decide), pm.1]
  have t222 : gW (puM (gW X 119 125 b1) t y) 119 124 (τ 119 124 - 1) 222 b1 = y := by rw [gW_c (by decide), pm.2.1]
  have ePC := mc_push_s (σ := gW Z 87 8 b0) (k := k) (x := x) (by rw [g8]; omega)
  have ePM := md_push_s (τ := gW X 119 125 b1) (t := t) (y := y) (by rw [g125]; omega)
  generalize gW (puC (gW Z 87 8 b0) k x) 87 22 (Z 87 22 + 1) = S1 at sC s8 s22 s88 s89 ⊢
  generalize gW (puM (gW X 119 125 b1) t y) 119 124 (τ 119 124 - 1) = T1 at sM t125 t124 t221 t222 ⊢
  have cz : smC Z S1 := ⟨fun a j q1 q2 q3 _ => sC a j (by omega), fun j q1 q2 _ => sC 87 j (by omega)⟩
  have dz : smM X T1 (X 212 (Z 87 21)) := ⟨fun a j q1 q2 _ _ => sM a j (by omega), fun j q1 q2 _ => sM 119 j (by omega), fun a j q1 q2 q3 => sM a j (by omega)⟩
  have z90 : Z 90 = σ 90 := x90 90 (by decide)
  have Q3 := Q.sm (h' := h') (P' := E) cz dz (by
    rw [s22, s21, hE]
    refine pS.next ?_
    rw [z90, x26 28 _ (by decide) (by decide) c2.2, x26 29 _ (by decide) (by decide) c2.2]
    omega)
  rw [s21] at Q3
  refine ⟨ePC, ePM, w1, f124, by omega, Q3, fun S T Q4 nd => ?_⟩
  obtain ⟨⟨y1, y2, y3, y4⟩, y5, y6, y7, y8, y9⟩ := nd
  have k90 : ∀ a j, a = 90 ∨ a = 92 → S a j = σ a j := fun a j q => by rw [y1 a (by omega), sC a j (by omega), x90 a (by omega)]
  have k26 : ∀ a r, 26 ≤ a → a ≤ 29 → r < σ 8 31 → S a r = σ a r := fun a r q1 q2 q3 => by rw [y1 a (by omega), sC a r (by omega), x26 a r q1 q2 q3]
  have k20 : ∀ a p, 20 ≤ a → a ≤ 22 → p < σ 8 16 → S a p = σ a p := fun a p q1 q2 q3 => by rw [y1 a (by omega), sC a p (by omega), x20 a p q1 q2 q3]
  have k14 : ∀ j, j < σ 8 12 → S 14 j = σ 14 j := fun j q => by rw [y1 14 (by decide), sC 14 j (by omega), x14 j q]
  have k168 : ∀ a j, a = 168 ∨ (170 ≤ a ∧ a ≤ 173) → j < σ 8 12 → T a j = τ a j := fun a j q1 q2 => by rw [y3 a (by omega), sM a j (by omega), x168 a j q1 q2]
  have k212 : ∀ a j, 212 ≤ a → a ≤ 213 → T a j = τ a j := fun a j q1 q2 => by rw [y3 a (by omega), sM a j (by omega), x212 a (by omega)]
  have k218 : ∀ a j, 218 ≤ a → a ≤ 220 → j ≤ τ 212 (σ 87 21) + m → T a j = τ a j := fun a j q1 q2 q3 => by rw [y7 a q1 (by omega), sM a j (by omega), x218 a j q1 q2 q3]
  have z21 : S 87 21 = σ 87 21 := by rw [y2 21 (by decide), sC 87 21 (by omega), s21]
  have z19 : S 87 19 = σ 87 19 := by rw [y2 19 (by decide), sC 87 19 (by omega), s19]
  have z24 : S 87 24 = σ 87 24 := by rw [y2 24 (by decide), sC 87 24 (by omega), x87 24 (by decide)]
  have z34 : S 87 34 = Z 87 34 := by rw [y2 34 (by decide), sC 87 34 (by omega)]
  have z8 : S 87 8 = b0 + 1 := by rw [y6, s8]
  have u119 : ∀ i, i = 119 ∨ i = 120 → T 119 i = τ 119 i := fun i q => by rw [y8 i (by omega), sM 119 i (by omega), x119 i (by omega)]
  have u124 : T 119 124 = τ 119 124 - 1 := by rw [y8 124 (by decide), t124]
  have u125 : T 119 125 = b1 + 1 := by rw [y8 125 (by decide), t125]
  have urv : ∀ k x t y, rVal Z X k x t y → rVal S T k x t y := fun k x t y q => y9 _ _ _ _ ((smC.rv cz dz).mpr q)
  refine ⟨⟨Q4, ?_, ⟨⟨?_, ?_, ?_, ?_⟩, ?_, ?_⟩, ?_, ?_, ?_⟩, u119 119 (by decide), u119 120 (by decide)⟩
  · refine pi.mk' p1 (by omega) z21 (fun j _ => k90 92 j (by decide)) (fun j _ => k212 213 j (by decide) (by decide)) (fun a j q1 q2 => ?_) (fun a j q1 q2 => ?_) (fun k x t y q => urv _ _ _ _ (xrv _ _ _ _ q)) (by omega) (fun j j0 j1 => ?_)
    · rw [y5 a q1, sC a j (by omega), x90 a (by omega)]
    · rw [y7 a (by omega) (by omega), sM a j (by omega), x212 a (by omega)]
    · rw [z8] at j1
      rw [y5 88 (by decide), y5 89 (by decide), y7 221 (by decide) (by decide), y7 222 (by decide) (by decide)]
      by_cases w : j = b0
      · rw [w, show b0 + o = b1 by omega, s88, s89, t221, t222]
        exact urv _ _ _ _ v
      · rw [sC 88 j (by omega), sC 89 j (by omega), sM 221 _ (by omega), sM 222 _ (by omega), x90 88 (by decide), x90 89 (by decide), x212 221 (by decide), x212 222 (by decide)]
        exact urv _ _ _ _ (xrv _ _ _ _ (p2 j j0 (by omega)))
  · rw [z21, updF_at, updF_at, k90 90 _ (by decide), k26 26 _ (by decide) (by decide) c2.2, k26 27 _ (by decide) (by decide) c2.2, k26 28 _ (by decide) (by decide) c2.2, k26 29 _ (by decide) (by decide) c2.2, k212 212 _ (by decide) (by decide)]
    exact St.fr (fun a j q _ q2 => k168 a j q (nl j q2)) (fun j _ q2 => k14 j (nl j q2)) (fun p _ q2 => ⟨k20 20 p (by decide) (by decide) (by omega), k20 21 p (by decide) (by decide) (by omega), k20 22 p (by decide) (by decide) (by omega)⟩) m _ _ _ _ (fun a j q1 q2 _ q4 => k218 a j q1 q2 q4) st
  · rw [z21, k212 212 _ (by decide) (by decide)]; exact a2
  · rw [z21, k90 92 _ (by decide)]; exact a3
  · rw [z21, updF_at]; omega
  · rw [z21, k212 212 _ (by decide) (by decide), u124]; omega
  · rw [z21, k90 92 _ (by decide), updF_at, z8]; omega
  · have h1 := H.1
    rw [z21, z19, z24, z8, updF_at, wSs_eq (S := S) (σ := σ) (pT := pT) _ fun k q1 q2 => ⟨updF_ne (by omega), by
      have w := aS k q1 (by omega)
      rw [k90 90 _ (by decide), k26 28 _ (by decide) (by decide) w.2, k26 29 _ (by decide) (by decide) w.2]⟩]
    have w : wT S (σ 87 21) E = wT σ (σ 87 21) E := by
      unfold wT
      rw [k90 90 _ (by decide), k26 28 _ (by decide) (by decide) c2.2, k26 29 _ (by decide) (by decide) c2.2, k20 20 E (by decide) (by decide) (by omega)]
    have w1 := wT_le (σ := σ) (k := σ 87 21) (P := E) (by omega)
    have w2 := wT_eq (k := σ 87 21) op
    rw [w]
    omega
  · have := H.2.1
    rw [z34]
    omega
  · have := H.2.2
    rw [sC 87 19 (by omega), s19] at y4
    rw [z19]
    have e : T1 119 123 = X 119 123 := sM 119 123 (by omega)
    have e2 : ccN S1 (σ 87 19).toNat = ccN Z (σ 87 19).toNat := ccN_eq _ fun j _ _ => sC 93 j (by omega)
    omega
/-- then the codes are looked at -/
theorem there_fin {E h' br' co' k x t y b0 b1 θ' : Int} (R : RR σ τ pT hT (m + 1) br co θ) (st : St σ τ (σ 26 (σ 90 (σ 87 21))) (σ 26 (σ 90 (σ 87 21)) + σ 27 (σ 90 (σ 87 21))) (σ 28 (σ 90 (σ 87 21))) (σ 28 (σ 90 (σ 87 21)) + σ 29 (σ 90 (σ 87 21)) - 2) (τ 212 (σ 87 21)) m E h' br' co') (Q : RQm Z X pT hT) (K : kq σ τ Z X (τ 212 (σ 87 21) + m)) (hb0 : b0 = σ 92 (σ 87 21) + (h' - 1)) (hb1 : 1 ≤ h' ∧ h' ≤ 400) (hb2 : b0 < σ 87 8) (hb3 : b1 - b0 = τ 119 125 - σ 87 8) (hE : E = pT (σ 87 21) + 1) (op : σ 20 (pT (σ 87 21)) ≠ 10 ∧ σ 20 (pT (σ 87 21)) ≠ 13) (v : rVal Z X k x t y) (th1 : θ' < θ) (th2 : θ ≤ θ' + 8 + 7 * (σ 87 8 - b0 - 1)) (th3 : Z 87 34 + 14 * θ' ≤ σ 87 34 + 14 * θ) :
    ∃ S T, mc_there_b154 Z b0 k x = some (S, 0) ∧ md_calls_b416 X b1 t y = some (T, some 0) ∧ RR S T (updF pT (σ 87 21) E) (updF hT (σ 87 21) h') m br' co' θ' ∧ T 119 119 = τ 119 119 ∧ T 119 120 = τ 119 120 := by
  obtain ⟨a1, a2, a3, a4, a5, a6, a7⟩ := kq_fin R st Q K hb0 hb1 hb2 hb3 hE op v th1 th2 th3
  obtain ⟨S, T, f1, f2, Q4, nd⟩ := fall_RQm a6
  obtain ⟨b1', b2, b3⟩ := a7 S T Q4 nd
  refine ⟨S, T, ?_, ?_, b1', b2, b3⟩
  · rw [mc_there_b154_e, a1]
    simp only [Option.bind_some]
    rw [puC_o (Or.inr (Or.inr ⟨rfl, by decide⟩)), gW_i (show (22 : Int) ≠ 8 by decide), w32_e (by omega) (by omega), f1]
    rfl
  · rw [md_calls_b416_e, a2]
    simp only [Option.bind_some]
    rw [puM_o (Or.inr (Or.inr ⟨rfl, by decide⟩)), gW_i (show (124 : Int) ≠ 125 by decide), a4, w32_e (by omega) (by omega), f2]
    rfl
/-- nothing more is looked at -/
theorem val_fin {E h' br' co' k x t y b0 b1 θ' : Int} (R : RR σ τ pT hT (m + 1) br co θ) (st : St σ τ (σ 26 (σ 90 (σ 87 21))) (σ 26 (σ 90 (σ 87 21)) + σ 27 (σ 90 (σ 87 21))) (σ 28 (σ 90 (σ 87 21))) (σ 28 (σ 90 (σ 87 21)) + σ 29 (σ 90 (σ 87 21)) - 2) (τ 212 (σ 87 21)) m E h' br' co') (Q : RQ Z X pT hT) (K : kq σ τ Z X (τ 212 (σ 87 21) + m)) (hb0 : b0 = σ 92 (σ 87 21) + (h' - 1)) (hb1 : 1 ≤ h' ∧ h' ≤ 400) (hb2 : b0 < σ 87 8) (hb3 : b1 - b0 = τ 119 125 - σ 87 8) (hE : E = pT (σ 87 21) + 1) (op : σ 20 (pT (σ 87 21)) ≠ 10 ∧ σ 20 (pT (σ 87 21)) ≠ 13) (v : rVal Z X k x t y) (th1 : θ' < θ) (th2 : θ ≤ θ' + 8 + 7 * (σ 87 8 - b0 - 1)) (th3 : Z 87 34 + 14 * θ' ≤ σ 87 34 + 14 * θ) :
    mc_push (gW Z 87 8 b0) k x = some (puC (gW Z 87 8 b0) k x, 0) ∧ md_push (gW X 119 125 b1) t y = some (puM (gW X 119 125 b1) t y, 0) ∧ (0 ≤ Z 87 22 ∧ Z 87 22 < 164000) ∧ X 119 124 = τ 119 124 ∧ (0 ≤ τ 119 124 ∧ τ 119 124 ≤ 42000) ∧ RR (gW (puC (gW Z 87 8 b0) k x) 87 22 (Z 87 22 + 1)) (gW (puM (gW X 119 125 b1) t y) 119 124 (τ 119 124 - 1)) (updF pT (σ 87 21) E) (updF hT (σ 87 21) h') m br' co' θ' := by
  obtain ⟨a1, a2, a3, a4, a5, a6, a7⟩ := kq_fin R st Q.toM K hb0 hb1 hb2 hb3 hE op v th1 th2 th3
  refine ⟨a1, a2, a3, a4, a5, (a7 _ _ (RQm.toQ a6 ?_) ndX.rf).1⟩
  have F := Q.2.2.2.2.2
  have c : ∀ a, a ≠ 87 → a ≠ 88 → a ≠ 89 → gW (puC (gW Z 87 8 b0) k x) 87 22 (Z 87 22 + 1) a = Z a := fun a q1 q2 q3 => by
    funext j
    rw [gW_c q1, puC_o (Or.inl ⟨q1, q2, q3⟩), gW_c q1]
  have c21 : gW (puC (gW Z 87 8 b0) k x) 87 22 (Z 87 22 + 1) 87 21 = Z 87 21 := by rw [gW_i (by decide), puC_o (Or.inr (Or.inr ⟨rfl, by decide⟩)), gW_i (by decide)]
  unfold rFa cFa at F ⊢
  rw [c21, c 93 (by decide) (by decide) (by decide), c 9 (by decide) (by decide) (by decide), c 11 (by decide) (by decide) (by decide), c 18 (by decide) (by decide) (by decide), c 19 (by decide) (by decide) (by decide), c 20 (by decide) (by decide) (by decide), c 22 (by decide) (by decide) (by decide), c 29 (by decide) (by decide) (by decide), c 54 (by decide) (by decide) (by decide), c 55 (by decide) (by decide) (by decide), c 62 (by decide) (by decide) (by decide), c 64 (by decide) (by decide) (by decide), c 65 (by decide) (by decide) (by decide)]
  exact F
end TF
