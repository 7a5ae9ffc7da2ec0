/-! between calls: what is related stays where its cells stay -/
def lwC (σ S : gM) : Prop := (∀ a, (1 ≤ a ∧ a ≤ 7) ∨ (9 ≤ a ∧ a ≤ 35) ∨ a = 40 ∨ (43 ≤ a ∧ a ≤ 50) ∨ (53 ≤ a ∧ a ≤ 67) ∨ (88 ≤ a ∧ a ≤ 104) → S a = σ a) ∧ (∀ i, 0 ≤ i → i < 14 → S 0 i = σ 0 i) ∧ (∀ i, 0 ≤ i → i < 42 → S 8 i = σ 8 i) ∧ (∀ i, 0 ≤ i → i < 12 → S 42 i = σ 42 i) ∧ (∀ i, 0 ≤ i → i < 20 → S 52 i = σ 52 i) ∧ ∀ i, 0 ≤ i → i < 47 → S 87 i = σ 87 i
def lwT (τ T : gM) : Prop := (∀ a, (121 ≤ a ∧ a ≤ 128) ∨ (155 ≤ a ∧ a ≤ 224) → T a = τ a) ∧ (∀ i, i = 1 ∨ (9 ≤ i ∧ i ≤ 16) ∨ (55 ≤ i ∧ i ≤ 57) ∨ (89 ≤ i ∧ i ≤ 95) ∨ i = 104 ∨ (117 ≤ i ∧ i ≤ 118) ∨ (121 ≤ i ∧ i ≤ 126) ∨ (128 ≤ i ∧ i ≤ 130) ∨ i = 148 ∨ i = 149 → T 119 i = τ 119 i) ∧ ∀ i, i8 (T 134 i)
/-- the given functions' rows -/
def gvX (σ τ : gM) : Prop := (∀ r, 0 ≤ r → r < 4 → σ 27 r = 0 ∧ τ 159 r = 0 ∧ σ 31 r = 0 ∧ τ 161 r = 0 ∧ τ 166 r = 0) ∧ (σ 43 0 = -1 ∧ τ 188 0 = -1 ∧ σ 45 0 = -1)
section LW
variable {σ τ S T Z X : gM} {pT hT : Int → Int} {m : Nat} {br co θ n : Int}
theorem lwC.s (kc : lwC σ S) : sameC σ S := by
  obtain ⟨c, k0, k8, k42, k52, k87⟩ := kc
  exact ⟨fun a q => c a (by omega), k0 7 (by decide) (by decide), k0 8 (by decide) (by decide), k0 9 (by decide) (by decide), k0 10 (by decide) (by decide), k0 11 (by decide) (by decide), k0 12 (by decide) (by decide), k0 13 (by decide) (by decide), k8 12 (by decide) (by decide), k8 16 (by decide) (by decide), k8 19 (by decide) (by decide), k8 31 (by decide) (by decide), k42 6 (by decide) (by decide), k42 10 (by decide) (by decide), k42 11 (by decide) (by decide), k52 10 (by decide) (by decide), k52 11 (by decide) (by decide), k52 12 (by decide) (by decide), k52 19 (by decide) (by decide), k87 31 (by decide) (by decide)⟩
theorem lwT.s (kt : lwT τ T) : sameT τ T := by
  obtain ⟨d, t, -⟩ := kt
  exact ⟨fun a q => d a (by omega), t 9 (by decide), t 10 (by decide), t 12 (by decide), t 13 (by decide), t 15 (by decide), t 16 (by decide), t 55 (by decide), t 56 (by decide), t 57 (by decide), t 89 (by decide), t 92 (by decide), t 93 (by decide), t 94 (by decide), t 104 (by decide)⟩
/-- the four parts that hold whatever the state of a run -/
theorem lw_four0 (R : rPr σ τ ∧ rNo σ τ ∧ rRm σ τ ∧ rBy0 σ τ) (kc : lwC σ S) (kt : lwT τ T) : rPr S T ∧ rNo S T ∧ rRm S T ∧ rBy0 S T := by
  obtain ⟨⟨P1, P2⟩, ⟨N1, N2⟩, M, B⟩ := R
  have s1 := kc.s
  have s2 := kt.s
  obtain ⟨c, k0, k8, k42, k52, k87⟩ := kc
  obtain ⟨d, t, i1⟩ := kt
  refine ⟨⟨P1.mv s1 s2, ?_⟩, ⟨?_, ?_⟩, ?_, ⟨by rw [c 1 (by decide)]; exact B.1, i1⟩⟩
  · unfold rRp at P2 ⊢
    rw [k8 31 (by decide) (by decide), c 24 (by decide), c 25 (by decide)]
    exact P2
  · unfold nIv at N1 ⊢
    rw [k8 12 (by decide) (by decide), c 9 (by decide), c 11 (by decide), c 18 (by decide), d 179 (by decide)]
    exact N1
  · unfold sI2 at N2 ⊢
    rw [k8 31 (by decide) (by decide), c 9 (by decide), c 11 (by decide), c 13 (by decide), c 26 (by decide), c 27 (by decide), c 35 (by decide)]
    exact N2
  · unfold rRm cRm mRm at M ⊢
    rw [k0 7 (by decide) (by decide), k0 8 (by decide) (by decide), k0 9 (by decide) (by decide), k8 12 (by decide) (by decide), k8 16 (by decide) (by decide), k8 19 (by decide) (by decide), k8 31 (by decide) (by decide), k42 6 (by decide) (by decide), t 9 (by decide), t 10 (by decide), t 15 (by decide), t 56 (by decide)]
    exact M
theorem lw_four (R : rPr σ τ ∧ rNo σ τ ∧ rRm σ τ ∧ rBy σ τ) (kc : lwC σ S) (kt : lwT τ T) : rPr S T ∧ rNo S T ∧ rRm S T ∧ rBy S T := by
  obtain ⟨a, b, c, d1, d2, d3⟩ := R
  obtain ⟨a', b', c', e1, e2⟩ := lw_four0 ⟨a, b, c, d1, d2⟩ kc kt
  exact ⟨a', b', c', e1, e2, d3.mv (fun x q => kt.1 x (by omega)) (kt.2.1 56 (by decide))⟩
theorem rTo.lw (ht : rTo σ τ) (kc : lwC σ S) (kt : lwT τ T) : rTo S T := by
  obtain ⟨c, k0, k8, k42, k52, k87⟩ := kc
  unfold rTo at ht ⊢
  rw [kt.1 224 (by decide), k87 36 (by decide) (by decide), k87 37 (by decide) (by decide), k87 38 (by decide) (by decide), k87 39 (by decide) (by decide), k87 40 (by decide) (by decide), k87 41 (by decide) (by decide), k87 42 (by decide) (by decide)]
  exact ht
theorem RB.lw (R : RB σ τ) (kc : lwC σ S) (kt : lwT τ T) : RB S T := by
  obtain ⟨R1, R2, R3, R4, R5, R6, R7, R8, R9, R10⟩ := R
  refine ⟨lw_four R1 kc kt, R2.lw kc kt, ?_⟩
  obtain ⟨c, k0, k8, k42, k52, k87⟩ := kc
  obtain ⟨d, t, i1⟩ := kt
  rw [t 117 (by decide), t 118 (by decide), t 121 (by decide), t 122 (by decide), t 95 (by decide), t 126 (by decide), t 1 (by decide), d 223 (by decide), c 103 (by decide), k87 23 (by decide) (by decide), k87 24 (by decide) (by decide), k87 19 (by decide) (by decide), k87 20 (by decide) (by decide), k87 31 (by decide) (by decide), k87 34 (by decide) (by decide), k87 5 (by decide) (by decide)]
  exact ⟨R3, R4, R5, R6, R7, R8, R9, R10⟩
/-- what holds between calls, also where no run has begun -/
def RB0 (σ τ : gM) : Prop := (rPr σ τ ∧ rNo σ τ ∧ rRm σ τ ∧ rBy0 σ τ) ∧ rTo σ τ ∧ τ 119 117 = σ 87 23 ∧ τ 119 118 = σ 87 24 ∧ τ 119 121 = σ 87 19 ∧ τ 119 122 = σ 87 20 ∧ τ 119 95 = σ 87 31 ∧ (τ 119 126 = σ 87 34 ∧ 0 ≤ σ 87 34) ∧ (∀ i, 0 ≤ i → i < 2000 → i < σ 87 34 → τ 223 i = σ 103 i) ∧ τ 119 1 = σ 87 5
theorem RB.b0 (R : RB σ τ) : RB0 σ τ := ⟨⟨R.1.1, R.1.2.1, R.1.2.2.1, R.1.2.2.2.1, R.1.2.2.2.2.1⟩, R.2⟩
theorem RB0.lw (R : RB0 σ τ) (kc : lwC σ S) (kt : lwT τ T) : RB0 S T := by
  obtain ⟨R1, R2, R3, R4, R5, R6, R7, R8, R9, R10⟩ := R
  refine ⟨lw_four0 R1 kc kt, R2.lw kc kt, ?_⟩
  obtain ⟨c, k0, k8, k42, k52, k87⟩ := kc
  obtain ⟨d, t, i1⟩ := kt
  rw [t 117 (by decide), t 118 (by decide), t 121 (by decide), t 122 (by decide), t 95 (by decide), t 126 (by decide), t 1 (by decide), d 223 (by decide), c 103 (by decide), k87 23 (by decide) (by decide), k87 24 (by decide) (by decide), k87 19 (by decide) (by decide), k87 20 (by decide) (by decide), k87 31 (by decide) (by decide), k87 34 (by decide) (by decide), k87 5 (by decide) (by decide)]
  exact ⟨R3, R4, R5, R6, R7, R8, R9, R10⟩
/-- room for one name more -/
def slk (σ τ : gM) : Prop := 2 * τ 119 10 + 2 + 200 * (61 - σ 8 31) + 2 * (200 - σ 42 6) ≤ 18000 ∧ τ 119 9 + 4 + 200 * (61 - σ 8 31) + 200 * (200 - σ 42 6) ≤ 60000 ∧ 2 * τ 119 56 + 2 + 200 * (61 - σ 8 31) ≤ 18000
/-- no run has begun -/
def RN0 (σ τ : gM) : Prop := RB0 σ τ ∧ σ 87 19 = 0 ∧ σ 87 23 = 0 ∧ σ 87 34 = 0 ∧ (mnK τ ∨ slk σ τ)
theorem RN0.lw (R : RN0 σ τ) (kc : lwC σ S) (kt : lwT τ T) : RN0 S T := by
  obtain ⟨w1, w2, w3, w4, w5⟩ := R
  refine ⟨w1.lw kc kt, by rw [kc.2.2.2.2.2 19 (by decide) (by decide)]; exact w2, by rw [kc.2.2.2.2.2 23 (by decide) (by decide)]; exact w3, by rw [kc.2.2.2.2.2 34 (by decide) (by decide)]; exact w4, ?_⟩
  rcases w5 with w | w
  · exact Or.inl (w.mv (fun x q => kt.1 x (by omega)) (kt.2.1 56 (by decide)))
  · refine Or.inr ?_
    unfold slk at w ⊢
    rw [kt.2.1 10 (by decide), kt.2.1 9 (by decide), kt.2.1 56 (by decide), kc.2.2.1 31 (by decide) (by decide), kc.2.2.2.1 6 (by decide) (by decide)]
    exact w
theorem RE.lw (R : RE σ τ) (kc : lwC σ S) (kt : lwT τ T) : RE S T := by
  obtain ⟨R1, R2, R3⟩ := R
  refine ⟨R1.lw kc kt, ?_⟩
  obtain ⟨c, k0, k8, k42, k52, k87⟩ := kc
  obtain ⟨d, t, i1⟩ := kt
  rw [k87 19 (by decide) (by decide), k87 23 (by decide) (by decide), k87 25 (by decide) (by decide), k87 26 (by decide) (by decide), k87 27 (by decide) (by decide), t 128 (by decide), t 129 (by decide), t 130 (by decide)]
  refine ⟨R2, ?_⟩
  rcases R3 with w | ⟨w1, L, w2, w3, w4, w5⟩
  · exact Or.inl w
  · refine Or.inr ⟨w1, L, fun τ' q1 q2 q3 => ?_, by rw [k87 35 (by decide) (by decide)]; exact w3, w4, fun i q => by rw [c 104 (by decide)]; exact w5 i q⟩
    rw [t 148 (by decide), t 149 (by decide)]
    exact w2 τ' (fun a q => by rw [q1 a q, d a (by omega)]) (fun i q => by rw [q2 i q, t i (by omega)]) q3
theorem RQ.lw (R : RQ σ τ pT hT) (kc : lwC σ S) (kt : lwT τ T) (t127 : T 119 127 = τ 119 127) : RQ S T pT hT := by
  have R' := R
  obtain ⟨R1, A, ⟨V2, V3⟩, K1, C, F⟩ := R'
  have ht := A.2.2.2.2.1
  obtain ⟨P, N, M, B⟩ := lw_four R1 kc kt
  have HT := ht.lw kc kt
  have rv : ∀ k x t y, rVal S T k x t y ↔ rVal σ τ k x t y := (rVal_mv kc.s kt.s).1
  obtain ⟨c, k0, k8, k42, k52, k87⟩ := kc
  obtain ⟨d, t, i1⟩ := kt
  refine RQm.toQ (R.toM.hq P N M B ?_ ?_ HT (fun k x t y q => (rv k x t y).mpr q) (fun a q => c a (by omega)) (k52 10 (by decide) (by decide)) (by rw [k8 31 (by decide) (by decide)]; exact Int.le_refl _) (fun a r q1 q2 _ => by rw [c a (by omega)]) (fun a p q1 q2 _ => by rw [c a (by omega)]) (fun j _ => by rw [c 14 (by decide)]) (fun i q => k87 i (by omega) (by omega)) (fun a q1 q2 => d a (by omega)) (fun a j q _ => by rw [d a (by omega)]) (fun i q => t i (by omega))) ?_
  · unfold rOb at V3 ⊢
    rw [k87 31 (by decide) (by decide), t 95 (by decide), c 100 (by decide), c 101 (by decide), c 102 (by decide), k42 6 (by decide) (by decide), c 47 (by decide), d 193 (by decide), d 194 (by decide), d 195 (by decide)]
    simp only [rv]
    exact V3
  · unfold rCt at C ⊢
    rw [k87 23 (by decide) (by decide), k87 24 (by decide) (by decide), k87 20 (by decide) (by decide), k87 34 (by decide) (by decide), k87 5 (by decide) (by decide), c 103 (by decide), k0 13 (by decide) (by decide), d 223 (by decide), t 117 (by decide), t 118 (by decide), t 122 (by decide), t 126 (by decide), t 11 (by decide), t 1 (by decide), t127, t 12 (by decide), t 13 (by decide)]
    exact C
  · unfold rFa cFa at F ⊢
    rw [k87 21 (by decide) (by decide), c 93 (by decide), c 9 (by decide), c 11 (by decide), c 18 (by decide), c 19 (by decide), c 20 (by decide), c 22 (by decide), c 29 (by decide), c 54 (by decide), c 55 (by decide), c 62 (by decide), c 64 (by decide), c 65 (by decide)]
    exact F
theorem RR.lw (R : RR σ τ pT hT m br co θ) (kc : lwC σ S) (kt : lwT τ T) (t127 : T 119 127 = τ 119 127) : RR S T pT hT m br co θ := by
  obtain ⟨o, p1, p2, p3, p4, p5, p6⟩ := R.pl
  obtain ⟨c1, c1', c2, pc, c5, c6, c7, c8, c9⟩ := R.cur
  have R' := R
  obtain ⟨Q, pi, ⟨⟨st, a2, a3, a4⟩, a5, a6⟩, H⟩ := R'
  have rv : ∀ k x t y, rVal S T k x t y ↔ rVal σ τ k x t y := (rVal_mv kc.s kt.s).1
  have Q' := Q.lw kc kt t127
  obtain ⟨c, k0, k8, k42, k52, k87⟩ := kc
  obtain ⟨d, t, i1⟩ := kt
  refine ⟨Q', ?_, ⟨⟨?_, ?_, ?_, by rw [k87 21 (by decide) (by decide)]; exact a4⟩, ?_, ?_⟩, ?_⟩
  · refine pi.mk' p1 c1.1 (k87 21 (by decide) (by decide)) (fun j _ => by rw [c 92 (by decide)]) (fun j _ => by rw [d 213 (by decide)]) (fun a j q _ => by rw [c a (by omega)]) (fun a j q _ => by rw [d a (by omega)]) (fun k x t y q => (rv k x t y).mpr q) (by rw [t 125 (by decide), k87 8 (by decide) (by decide)]; exact p1) (fun i i0 i1' => ?_)
    rw [k87 8 (by decide) (by decide)] at i1'
    rw [c 88 (by decide), c 89 (by decide), d 221 (by decide), d 222 (by decide)]
    exact (rv _ _ _ _).mpr (p2 i i0 i1')
  · rw [k87 21 (by decide) (by decide), c 90 (by decide), c 26 (by decide), c 27 (by decide), c 28 (by decide), c 29 (by decide), d 212 (by decide)]
    exact St.fr (fun a j q _ _ => by rw [d a (by omega)]) (fun j _ _ => by rw [c 14 (by decide)]) (fun p _ _ => ⟨by rw [c 20 (by decide)], by rw [c 21 (by decide)], by rw [c 22 (by decide)]⟩) m _ _ _ _ (fun a j q1 q2 _ _ => by rw [d a (by omega)]) st
  · rw [k87 21 (by decide) (by decide), d 212 (by decide)]; exact a2
  · rw [k87 21 (by decide) (by decide), c 92 (by decide)]; exact a3
  · rw [k87 21 (by decide) (by decide), d 212 (by decide), t 124 (by decide)]; exact a5
  · rw [k87 21 (by decide) (by decide), k87 8 (by decide) (by decide), c 92 (by decide)]; exact a6
  · obtain ⟨h1, h2, h3⟩ := H
    refine ⟨?_, by rw [k87 34 (by decide) (by decide)]; exact h2, ?_⟩
    · rw [k87 21 (by decide) (by decide), k87 8 (by decide) (by decide), k87 19 (by decide) (by decide), k87 24 (by decide) (by decide), wSs_eq (S := S) (σ := σ) (pT := pT) _ fun k _ _ => ⟨rfl, by rw [c 28 (by decide), c 29 (by decide), c 90 (by decide)]⟩]
      unfold wT at h1 ⊢
      rw [c 20 (by decide), c 28 (by decide), c 29 (by decide), c 90 (by decide)]
      exact h1
    · rw [k87 19 (by decide) (by decide), t 123 (by decide), ccN_eq (S := S) (σ := σ) _ fun j _ _ => by rw [c 93 (by decide)]]
      exact h3
/-- what was fed -/
def fdR (σ τ : gM) : Prop := (0 ≤ σ 117 7 ∧ σ 117 7 ≤ 4000 ∧ τ 119 153 = σ 117 7) ∧ (∀ i, 0 ≤ i → i < σ 117 7 → τ 226 i = σ 118 i) ∧ ((∀ i, i8 (σ 118 i)) ∧ ∀ i, i8 (τ 226 i)) ∧ τ 119 154 = σ 117 8 ∧ τ 119 155 = σ 117 9
/-- both systems between two calls -/
def RW (σ τ : gM) : Prop := fdR σ τ ∧ gb8 119 σ ∧ (RN0 σ τ ∨ RE σ τ ∨ ∃ (pT hT : Int → Int) (m : Nat) (br co θ : Int), RR σ (gW τ 119 127 0) pT hT m br co θ)
theorem lwT.w (kt : lwT τ T) : lwT (gW τ 119 127 0) (gW T 119 127 0) := by
  obtain ⟨d, t, i1⟩ := kt
  refine ⟨fun a q => by rw [gW_cell (by omega), gW_cell (by omega)]; exact d a q, fun i q => ?_, fun i => by rw [gW_c (by decide)]; exact i1 i⟩
  rw [gW_if, gW_if]
  by_cases z : i = 127
  · rw [if_pos z, if_pos z]
  · rw [if_neg z, if_neg z]; exact t i q
theorem RW.lw (R : RW σ τ) (F : fdR S T) (g : gb8 119 S) (kc : lwC σ S) (kt : lwT τ T) : RW S T := by
  obtain ⟨-, -, R⟩ := R
  refine ⟨F, g, ?_⟩
  rcases R with w | w | ⟨pT, hT, m, br, co, θ, w⟩
  · exact Or.inl (w.lw kc kt)
  · exact Or.inr (Or.inl (w.lw kc kt))
  · exact Or.inr (Or.inr ⟨pT, hT, m, br, co, θ, w.lw kc kt.w (by rw [gW_at, gW_at])⟩)
/-- what holds between calls whatever the state of a run -/
theorem RW.b (R : RW σ τ) : RB0 σ τ := by
  obtain ⟨-, -, R⟩ := R
  rcases R with ⟨w1, -⟩ | w | ⟨pT, hT, m, br, co, θ, w⟩
  · exact w1
  · exact w.1.b0
  · have Q := w.1
    obtain ⟨R1, A, ⟨V2, V3⟩, K1, C, F⟩ := Q
    have B : RB σ (gW τ 119 127 0) := ⟨R1, A.2.2.2.2.1, by rw [C.1.1, C.1.2], C.2.1.1, A.2.1.1.2.2, C.2.2.1, V3.1.2.2, C.2.2.2.1, C.2.2.2.2.1, C.2.2.2.2.2.2.1⟩
    exact B.b0.lw ⟨fun _ _ => rfl, fun _ _ _ => rfl, fun _ _ _ => rfl, fun _ _ _ => rfl, fun _ _ _ => rfl, fun _ _ _ => rfl⟩ ⟨fun a q => by rw [gW_cell (by omega)], fun i q => by rw [gW_i (by omega)], fun i => by have := R1.2.2.2.2.1 i; rw [gW_c (by decide)] at this; exact this⟩
/-- the state of a run, on both sides -/
theorem RW.st (R : RW σ τ) : τ 119 117 = σ 87 23 ∧ (σ 87 23 ≠ 1 → σ 87 19 = 0) := by
  have B := R.b
  refine ⟨B.2.2.1, fun q => ?_⟩
  obtain ⟨-, -, R⟩ := R
  rcases R with ⟨-, w, -⟩ | w | ⟨pT, hT, m, br, co, θ, w⟩
  · exact w
  · exact w.2.1
  · exact absurd w.1.2.2.2.2.1.1.1 q
theorem RW.o34 (R : RW σ τ) (q : σ 87 23 = 0) : σ 87 34 = 0 := by
  obtain ⟨-, -, R⟩ := R
  rcases R with ⟨-, -, -, w, -⟩ | ⟨-, -, ⟨w, -⟩ | ⟨w, -⟩⟩ | ⟨pT, hT, m, br, co, θ, w⟩
  · exact w
  · omega
  · omega
  · have := w.1.2.2.2.2.1.1.1
    omega
theorem RW.gv (R : RW σ τ) : gvX σ τ := by
  have P := R.b.1.1.1
  have g := P.2.2.2.2.2.2.2.2.2.2.2.2.2.2.1.2
  have c := P.2.2.2.2.2.2.2.2.2.2.2.2.2.2.2.2
  have s := P.2.2.2.2.2.1.2.2.2.1
  have m := R.b.1.2.2.1.2.2.2.2
  refine ⟨fun r q0 q1 => ?_, s.2.2.1, s.2.2.2.1, s.2.2.2.2⟩
  obtain ⟨g1, g2, g3, g4⟩ := g.1 r q0 q1
  refine ⟨g1, g2, g3, g4, ?_⟩
  rw [c r q0 (by omega), g1]
  rfl
end LW
