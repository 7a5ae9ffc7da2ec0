/-! compile between calls: both sides -/
section CPL2
variable {σ τ S T : gM} {pT hT : Int → Int} {m : Nat} {br co θ : Int}
theorem mkO.c (o : mkO σ S) : ∀ a, (0 ≤ a ∧ a ≤ 19) ∨ (23 ≤ a ∧ a ≤ 32) ∨ (35 ≤ a ∧ a ≤ 51) ∨ 68 ≤ a → S a = σ a := fun a q => o.1 a (by omega) (by omega) (by omega)
theorem mkP.d (p : mkP τ T) : ∀ a, (120 ≤ a ∧ a ≤ 163) ∨ (166 ≤ a ∧ a ≤ 184) ∨ (186 ≤ a ∧ a ≤ 195) ∨ 208 ≤ a → T a = τ a := fun a q => p.1 a (by omega) (by omega) (by omega) (by omega)
theorem cp_four0 (R : rPr σ τ ∧ rNo σ τ ∧ rRm σ τ ∧ rBy0 σ τ) (H : rCc S T) (Q : rQu S T) (o : mkO σ S) (p : mkP τ T) : rPr S T ∧ rNo S T ∧ rRm S T ∧ rBy0 S T := by
  obtain ⟨⟨P1, P2⟩, ⟨N1, N2⟩, M, B⟩ := R
  have c := o.c
  have d := p.d
  have t := p.2
  refine ⟨⟨(P1.cp H Q o p).1, ?_⟩, ⟨?_, ?_⟩, ?_, ?_⟩
  · unfold rRp at P2 ⊢
    rw [c 8 (by decide), c 24 (by decide), c 25 (by decide)]
    exact P2
  · unfold nIv at N1 ⊢
    rw [c 8 (by decide), c 9 (by decide), c 11 (by decide), c 18 (by decide), d 179 (by decide)]
    exact N1
  · unfold sI2 at N2 ⊢
    rw [c 8 (by decide), c 9 (by decide), c 11 (by decide), c 13 (by decide), c 26 (by decide), c 27 (by decide), c 35 (by decide)]
    exact N2
  · unfold rRm cRm mRm at M ⊢
    rw [c 0 (by decide), c 8 (by decide), c 42 (by decide), t 9 (by decide) (by decide), t 10 (by decide) (by decide), t 15 (by decide) (by decide), t 56 (by decide) (by decide)]
    exact M
  · unfold rBy0 at B ⊢
    rw [c 1 (by decide), d 134 (by decide)]
    exact B
theorem cp_four (R : rPr σ τ ∧ rNo σ τ ∧ rRm σ τ ∧ rBy σ τ) (H : rCc S T) (Q : rQu S T) (o : mkO σ S) (p : mkP τ T) : rPr S T ∧ rNo S T ∧ rRm S T ∧ rBy S T := by
  obtain ⟨a, b, c, d1, d2, d3⟩ := R
  obtain ⟨a', b', c', e1, e2⟩ := cp_four0 ⟨a, b, c, d1, d2⟩ H Q o p
  exact ⟨a', b', c', e1, e2, d3.mv (fun x q => p.d x (by omega)) (p.2 56 (by decide) (by decide))⟩
theorem RB.cp (R : RB σ τ) (H : rCc S T) (Q : rQu S T) (o : mkO σ S) (p : mkP τ T) : RB S T := by
  obtain ⟨R1, R2, R3, R4, R5, R6, R7, R8, R9, R10⟩ := R
  have c := o.c
  have d := p.d
  have t := p.2
  refine ⟨cp_four R1 H Q o p, ?_, ?_⟩
  · unfold rTo at R2 ⊢
    rw [d 224 (by decide), c 87 (by decide)]
    exact R2
  · rw [t 117 (by decide) (by decide), t 118 (by decide) (by decide), t 121 (by decide) (by decide), t 122 (by decide) (by decide), t 95 (by decide) (by decide), t 126 (by decide) (by decide), t 1 (by decide) (by decide), d 223 (by decide), c 103 (by decide), c 87 (by decide)]
    exact ⟨R3, R4, R5, R6, R7, R8, R9, R10⟩
theorem RB0.cp (R : RB0 σ τ) (H : rCc S T) (Q : rQu S T) (o : mkO σ S) (p : mkP τ T) : RB0 S T := by
  obtain ⟨R1, R2, R3, R4, R5, R6, R7, R8, R9, R10⟩ := R
  have c := o.c
  have d := p.d
  have t := p.2
  refine ⟨cp_four0 R1 H Q o p, ?_, ?_⟩
  · unfold rTo at R2 ⊢
    rw [d 224 (by decide), c 87 (by decide)]
    exact R2
  · rw [t 117 (by decide) (by decide), t 118 (by decide) (by decide), t 121 (by decide) (by decide), t 122 (by decide) (by decide), t 95 (by decide) (by decide), t 126 (by decide) (by decide), t 1 (by decide) (by decide), d 223 (by decide), c 103 (by decide), c 87 (by decide)]
    exact ⟨R3, R4, R5, R6, R7, R8, R9, R10⟩
theorem RE.cp (R : RE σ τ) (H : rCc S T) (Q : rQu S T) (o : mkO σ S) (p : mkP τ T) : RE S T := by
  obtain ⟨R1, R2, R3⟩ := R
  have c := o.c
  have d := p.d
  have t := p.2
  refine ⟨R1.cp H Q o p, by rw [c 87 (by decide)]; exact R2, ?_⟩
  rw [c 87 (by decide), t 128 (by decide) (by decide), t 129 (by decide) (by decide), t 130 (by decide) (by decide)]
  rcases R3 with w | ⟨w1, L, w2, w3, w4, w5⟩
  · exact Or.inl w
  · refine Or.inr ⟨w1, L, fun τ' q1 q2 q3 => ?_, by rw [c 87 (by decide)]; exact w3, w4, fun i q => by rw [c 104 (by decide)]; exact w5 i q⟩
    rw [t 148 (by decide) (by decide), t 149 (by decide) (by decide)]
    exact w2 τ' (fun a q => by rw [q1 a q, d a (by omega)]) (fun i q => by rw [q2 i q, t i (by omega) (by omega)]) q3
theorem RQ.cp (R : RQ σ τ pT hT) (H : rCc S T) (Q : rQu S T) (o : mkO σ S) (p : mkP τ T) : RQ S T pT hT := by
  have rv := (R.1.1.1.cp H Q o p).2
  have R' := R
  obtain ⟨R1, ⟨hb, ha, hcp, hap, ht, ⟨hm, hc⟩, hf⟩, ⟨V2, V3⟩, K1, C, F⟩ := R'
  have P1 := R1.1.1
  have c := o.c
  have d := p.d
  have t := p.2
  have m59 := ha.1
  have r4 : ∀ k, 0 ≤ k → k < σ 87 19 → 4 ≤ σ 90 k ∧ σ 90 k < σ 8 31 := fun k q1 q2 => (ha.2.2 k q1 q2).2.1
  have hN := P1.2.2.2.2.2.2.2.2.1
  have hin := P1.2.2.2.2.2.2.2.2.2.2.1
  have hco := P1.2.2.2.2.2.2.2.1.2
  have c12 := hcp.1
  have cd : ∀ k, 0 ≤ k → k < σ 52 10 → S 54 k = σ 54 k ∧ S 55 k = σ 55 k ∧ ∀ u, 0 ≤ u → u < σ 55 k → S 62 (σ 54 k + u) = σ 62 (σ 54 k + u) ∧ S 64 (σ 54 k + u) = σ 64 (σ 54 k + u) ∧ S 65 (σ 54 k + u) = σ 65 (σ 54 k + u) := fun k k0 k1 => by
    have a := o.2.2.1 k k1
    obtain ⟨-, -, -, -, -, -, -, -, b, -⟩ := hco.2.2 k k0 k1
    exact ⟨a.2.1, a.2.2.1, fun u u0 u1 => by have w := o.2.2.2.1 (σ 54 k + u) (by omega); exact ⟨w.1, w.2.2.1, w.2.2.2⟩⟩
  have ac : ∀ k, 0 ≤ k → k < σ 87 19 → 0 ≤ σ 93 k → σ 93 k < σ 52 10 ∧ 0 ≤ σ 94 k ∧ σ 94 k < σ 55 (σ 93 k) := fun k k0 k1 q => by
    rcases (ha.2.2 k k0 k1).2.2.1 with w | ⟨w1, w2, -⟩
    · omega
    · exact ⟨w1.2, w2⟩
  refine ⟨cp_four R1 H Q o p, ⟨H.1, ⟨by rw [c 87 (by decide), t 121 (by decide) (by decide)]; exact m59, by rw [t 123 (by decide) (by decide)]; exact ha.2.1, fun k k0 k1 => ?_⟩, H.2.2.2.2.2.1, fun k k0 k1 => ?_, ?_, by rw [c 87 (by decide)]; exact ⟨hm, hc⟩, ?_⟩, ⟨fun k l k0 k1 l0 l1 => ?_, ?_⟩, ?_, ?_, ?_⟩
  · rw [c 87 (by decide)] at k1
    have q := ha.2.2 k k0 k1
    unfold aR1 acC at q ⊢
    rw [c 90 (by decide), c 92 (by decide), c 93 (by decide), c 94 (by decide), c 95 (by decide), c 96 (by decide), d 208 (by decide), d 209 (by decide), d 210 (by decide), d 211 (by decide), d 213 (by decide), d 214 (by decide), t 123 (by decide) (by decide), c 8 (by decide)]
    obtain ⟨q1, q2, q3, q4⟩ := q
    refine ⟨q1, q2, ?_, q4⟩
    rcases q3 with w | ⟨w1, w2, w3, w4⟩
    · exact Or.inl w
    · have e := cd _ w1.1 w1.2
      exact Or.inr ⟨⟨w1.1, by have := o.2.2.2.2.2; omega⟩, by rw [e.2.1]; exact w2, by rw [e.1, (e.2.2 _ w2.1 w2.2).1]; exact w3, w4⟩
  · rw [c 87 (by decide)] at k1
    have a := hap k k0 k1
    unfold pcT pcA at a ⊢
    rw [c 87 (by decide), c 90 (by decide), c 91 (by decide), c 93 (by decide), c 94 (by decide), c 28 (by decide), c 29 (by decide)]
    refine ⟨a.1, a.2.1, fun q => ?_⟩
    obtain ⟨w1, w2, w3⟩ := ac k k0 k1 q
    have e := cd _ q w1
    rw [e.1, (e.2.2 _ w2 w3).2.2]
    exact a.2.2 q
  · unfold rTo at ht ⊢
    rw [d 224 (by decide), c 87 (by decide)]
    exact ht
  · rw [c 87 (by decide), t 123 (by decide) (by decide), ccN_eq (S := S) (σ := σ) _ fun j _ _ => by rw [c 93 (by decide)]]
    exact hf
  · rw [c 87 (by decide)] at k1
    rw [c 90 (by decide), c 31 (by decide)] at l1
    have q := V2 k l k0 k1 l0 l1
    rw [c 97 (by decide), c 98 (by decide), c 99 (by decide), d 215 (by decide), d 216 (by decide), d 217 (by decide)]
    exact ⟨q.1, q.2.1, (rv _ _ _ _).mpr q.2.2⟩
  · unfold rOb at V3 ⊢
    simp only [rv]
    rw [c 87 (by decide), t 95 (by decide) (by decide), c 100 (by decide), c 101 (by decide), c 102 (by decide), c 42 (by decide), c 47 (by decide), d 193 (by decide), d 194 (by decide), d 195 (by decide)]
    exact V3
  · rw [c 87 (by decide)]
    exact K1.fr (fun k q1 q2 => r4 k q1 (by omega)) (fun k _ _ => ⟨rfl, rfl⟩) (fun k _ _ => by rw [c 90 (by decide)]) (fun k _ _ => by rw [c 92 (by decide)]) (fun k _ _ => by rw [d 212 (by decide)]) (fun a r q1 q2 _ q4 => by rw [c a (by omega)]) (fun r q1 q2 => ⟨fun a n q _ q3 => by rw [d a (by omega)], fun n _ q3 => by rw [c 14 (by decide)], fun x _ q3 => by
      have w := hin.2 r q1 q2
      have w2 := hin.1
      exact o.2.1 x (by omega)⟩) (fun a i q1 q2 _ => by rw [d a (by omega)]) K1.mon
  · unfold rCt at C ⊢
    rw [c 87 (by decide), c 103 (by decide), c 0 (by decide), d 223 (by decide), t 117 (by decide) (by decide), t 118 (by decide) (by decide), t 122 (by decide) (by decide), t 126 (by decide) (by decide), t 11 (by decide) (by decide), t 1 (by decide) (by decide), t 127 (by decide) (by decide), t 12 (by decide) (by decide), t 13 (by decide) (by decide)]
    exact C
  · intro q
    rw [c 87 (by decide), c 93 (by decide)] at q ⊢
    obtain ⟨w1, -, -⟩ := ac (σ 87 21) (by omega) (by omega) q
    have e := cd _ q w1
    intro u u0 u1
    rw [e.2.1] at u1
    have f := F q u u0 u1
    have w := e.2.2 u u0 u1
    have cp := (hcp.2 _ u q w1 u0 u1).1
    rw [e.1, w.1, w.2.1, w.2.2]
    refine ⟨fun j j0 j1 => ?_, ?_⟩
    · rw [c 29 (by decide)] at j1
      have z := o.2.1 (σ 65 (σ 54 (σ 93 (σ 87 21)) + u) + j) (by omega)
      rw [z.1, z.2.2, c 11 (by decide)]
      exact f.1 j j0 j1
    · rw [c 9 (by decide), c 18 (by decide), c 19 (by decide)]
      exact f.2
theorem RR.cp (R : RR σ τ pT hT m br co θ) (H : rCc S T) (Q : rQu S T) (o : mkO σ S) (p : mkP τ T) : RR S T pT hT m br co θ := by
  obtain ⟨o', p1, p2, p3, p4, p5, p6⟩ := R.pl
  obtain ⟨c1, c1', c2, pc, c5, c6, c7, c8, c9⟩ := R.cur
  have R' := R
  obtain ⟨Q0, pi, ⟨⟨st, a2, a3, a4⟩, a5, a6⟩, h1, h2, h3⟩ := R'
  have rv := (Q0.1.1.1.cp H Q o p).2
  have hin := Q0.1.1.1.2.2.2.2.2.2.2.2.2.2.1
  have c12 := Q0.2.1.2.2.1.1
  have Q' := Q0.cp H Q o p
  have c := o.c
  have d := p.d
  have t := p.2
  have w := hin.2 _ c2.1 c2.2
  have w2 := hin.1
  refine ⟨Q', ?_, ⟨⟨?_, ?_, ?_, ?_⟩, ?_, ?_⟩, ?_, ?_, ?_⟩
  · refine pi.mk' p1 c1.1 (by rw [c 87 (by decide)]) (fun j _ => by rw [c 92 (by decide)]) (fun j _ => by rw [d 213 (by decide)]) (fun a j q _ => by rw [c a (by omega)]) (fun a j q _ => by rw [d a (by omega)]) (fun k x t y q => (rv k x t y).mpr q) (by rw [t 125 (by decide) (by decide), c 87 (by decide)]; exact p1) (fun i i0 i1 => ?_)
    rw [c 87 (by decide)] at i1
    rw [c 88 (by decide), c 89 (by decide), d 221 (by decide), d 222 (by decide)]
    exact (rv _ _ _ _).mpr (p2 i i0 i1)
  · rw [c 87 (by decide), c 90 (by decide), c 26 (by decide), c 27 (by decide), c 28 (by decide), c 29 (by decide), d 212 (by decide)]
    exact St.fr (fun a j q _ _ => by rw [d a (by omega)]) (fun j _ _ => by rw [c 14 (by decide)]) (fun x _ q => o.2.1 x (by omega)) m _ _ _ _ (fun a j q1 q2 _ _ => by rw [d a (by omega)]) st
  · rw [c 87 (by decide), d 212 (by decide)]; exact a2
  · rw [c 87 (by decide), c 92 (by decide)]; exact a3
  · rw [c 87 (by decide)]; exact a4
  · rw [c 87 (by decide), d 212 (by decide), t 124 (by decide) (by decide)]; exact a5
  · rw [c 87 (by decide), c 92 (by decide)]; exact a6
  · have hl := St.le _ _ _ _ _ st
    rw [c 87 (by decide), wSs_eq (S := S) (σ := σ) (pT := pT) _ fun k _ _ => ⟨rfl, by rw [c 28 (by decide), c 29 (by decide), c 90 (by decide)]⟩]
    unfold wT at h1 ⊢
    rw [(o.2.1 (pT (σ 87 21)) (by omega)).1, c 28 (by decide), c 29 (by decide), c 90 (by decide)]
    exact h1
  · rw [c 87 (by decide)]; exact h2
  · rw [c 87 (by decide), t 123 (by decide) (by decide), ccN_eq (S := S) (σ := σ) _ fun j _ _ => by rw [c 93 (by decide)]]
    exact h3
/-- compile -/
theorem compile_pair (R : RW σ τ) : ∃ S T r, gt_compile σ = some (S, r) ∧ md_compile τ = some (T, r) ∧ RW S T := by
  have B := R.b
  have P1 := B.1.1.1
  have hC : rCc σ τ := ⟨P1.2.2.2.2.2.2.2.1, P1.2.2.2.2.2.2.2.2.1, P1.2.2.2.2.2.2.2.2.2.1, P1.2.2.2.2.2.2.2.2.2.2.1, P1.2.2.2.2.2.2.2.2.2.2.2.1.1, P1.2.2.2.2.2.2.2.2.2.2.2.1.2.1, P1.2.2.2.2.2.2.2.2.2.2.2.1.2.2⟩
  obtain ⟨S, T, x, e1, e2, H, Q, o, p⟩ := cd_compile_s hC P1.2.2.2.2.2.2.2.2.2.2.2.2.1
  have eC : gt_compile σ = some (S, x) := by rw [gt_compile_e, e1]; rfl
  have c := o.c
  refine ⟨S, T, x, eC, e2, R.1.mv (fun i _ _ => by rw [c 117 (by decide)]) (c 118 (by decide)) (fun i _ _ => p.2 i (by omega) (by omega)) (p.d 226 (by decide)), b8_inl bm_gt_compile (gt_compile_l σ) eC R.2.1, ?_⟩
  obtain ⟨-, -, R3⟩ := R
  rcases R3 with ⟨w1, w2, w3, w4, w5⟩ | w | ⟨pT, hT, m, br, co, θ, w⟩
  · refine Or.inl ⟨w1.cp H Q o p, by rw [c 87 (by decide)]; exact w2, by rw [c 87 (by decide)]; exact w3, by rw [c 87 (by decide)]; exact w4, ?_⟩
    rcases w5 with w | w
    · exact Or.inl (w.mv (fun x q => p.d x (by omega)) (p.2 56 (by decide) (by decide)))
    · refine Or.inr ?_
      unfold slk at w ⊢
      rw [p.2 10 (by decide) (by decide), p.2 9 (by decide) (by decide), p.2 56 (by decide) (by decide), c 8 (by decide), c 42 (by decide)]
      exact w
  · exact Or.inr (Or.inl (w.cp H Q o p))
  · refine Or.inr (Or.inr ⟨pT, hT, m, br, co, θ, ?_⟩)
    have P' := (P1.cp H Q o p).1.mv (σ' := S) (τ' := gW T 119 127 0) ⟨fun _ _ => rfl, rfl, rfl, rfl, rfl, rfl, rfl, rfl, rfl, rfl, rfl, rfl, rfl, rfl, rfl, rfl, rfl, rfl, rfl, rfl⟩ ⟨fun a q => gW_cell (by omega), gW_i (by decide), gW_i (by decide), gW_i (by decide), gW_i (by decide), gW_i (by decide), gW_i (by decide), gW_i (by decide), gW_i (by decide), gW_i (by decide), gW_i (by decide), gW_i (by decide), gW_i (by decide), gW_i (by decide), gW_i (by decide)⟩
    refine w.cp ⟨P'.2.2.2.2.2.2.2.1, P'.2.2.2.2.2.2.2.2.1, P'.2.2.2.2.2.2.2.2.2.1, P'.2.2.2.2.2.2.2.2.2.2.1, P'.2.2.2.2.2.2.2.2.2.2.2.1.1, P'.2.2.2.2.2.2.2.2.2.2.2.1.2.1, P'.2.2.2.2.2.2.2.2.2.2.2.1.2.2⟩ P'.2.2.2.2.2.2.2.2.2.2.2.2.1 o ⟨fun a q1 q2 q3 q4 => by rw [gW_cell q1, gW_cell q1]; exact p.1 a q1 q2 q3 q4, fun i q1 q2 => ?_⟩
    rw [gW_if, gW_if]
    by_cases z : i = 127
    · rw [if_pos z, if_pos z]
    · rw [if_neg z, if_neg z]; exact p.2 i q1 q2
end CPL2
