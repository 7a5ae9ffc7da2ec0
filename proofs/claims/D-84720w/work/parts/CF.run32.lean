/-! a statement begins: a step on both sides -/
section SS
variable {σ τ S T : gM} {pT hT : Int → Int} {m : Nat} {br co θ n : Int}
/-- a run after a step -/
theorem RR.asmS {E h' br' co' : Int} {m' : Nat} {f : Int → Int} (R : RR σ τ pT hT m br co θ) (Q : RQ S T (updF pT (σ 87 21) E) f) (hf : f (σ 87 21) = h') (k1 : ∀ a, a = 14 ∨ (20 ≤ a ∧ a ≤ 22) ∨ (26 ≤ a ∧ a ≤ 29) ∨ a = 90 ∨ a = 92 → S a = σ a) (k2 : ∀ i, i = 19 ∨ i = 21 ∨ i = 34 → S 87 i = σ 87 i) (k24 : S 87 24 = σ 87 24 + 1) (k3 : ∀ a, a = 168 ∨ (170 ≤ a ∧ a ≤ 173) ∨ (212 ≤ a ∧ a ≤ 213) → T a = τ a) (k4 : T 119 123 + ccN S (σ 87 19).toNat ≤ τ 119 123 + ccN σ (σ 87 19).toNat + 1) (pi : rPi S T) (st : St S T (σ 26 (σ 90 (σ 87 21))) (σ 26 (σ 90 (σ 87 21)) + σ 27 (σ 90 (σ 87 21))) (σ 28 (σ 90 (σ 87 21))) (σ 28 (σ 90 (σ 87 21)) + σ 29 (σ 90 (σ 87 21)) - 2) (τ 212 (σ 87 21)) m' E h' br' co') (tk : T 119 124 = τ 212 (σ 87 21) + m' + 1) (ht : S 87 8 = σ 92 (σ 87 21) + h') (h0 : 0 ≤ h') (e8 : S 87 8 = σ 87 8) : RR S T (updF pT (σ 87 21) E) f m' br' co' (θ - 1) := by
  obtain ⟨c1, -, c2, pc, -⟩ := R.cur
  have R' := R
  obtain ⟨⟨⟨⟨P1, -⟩, -⟩, -⟩, -, ⟨⟨k, a2, a3, -⟩, -⟩, H⟩ := R'
  have hIn := P1.2.2.2.2.2.2.2.2.2.2.1
  have hN := P1.2.2.2.2.2.2.2.2.1
  have l29 := (hIn.2 _ c2.1 c2.2).2.1
  have l27 := (hN.2.1 _ c2.1 c2.2).2.2.2.1
  have hl0 := St.le _ _ _ _ _ k
  have hl := St.le _ _ _ _ _ st
  have e21 := k2 21 (by decide)
  have e19 := k2 19 (by decide)
  refine ⟨Q, pi, ⟨⟨?_, ?_, ?_, ?_⟩, ?_, ?_⟩, ?_, ?_, ?_⟩
  · rw [e21, k1 26 (by decide), k1 27 (by decide), k1 28 (by decide), k1 29 (by decide), k1 90 (by decide), k3 212 (by decide), updF_at, hf]
    exact st
  · rw [e21, k3 212 (by decide)]; exact a2
  · rw [e21, k1 92 (by decide)]; exact a3
  · rw [e21, hf]; exact h0
  · rw [e21, k3 212 (by decide)]; exact tk
  · rw [e21, k1 92 (by decide), hf]; exact ht
  · have := H.1
    rw [e21, e19, k24, updF_at, wSs_eq (S := S) (σ := σ) (pT := pT) _ fun k q1 q2 => ⟨updF_ne (by omega), by rw [k1 28 (by decide), k1 29 (by decide), k1 90 (by decide)]⟩, e8]
    have w : wT S (σ 87 21) E = wT σ (σ 87 21) E := by
      unfold wT
      rw [k1 20 (by decide), k1 28 (by decide), k1 29 (by decide), k1 90 (by decide)]
    have w1 := wT_le (σ := σ) (k := σ 87 21) (P := E) (by omega)
    have w2 := wT_le (σ := σ) (k := σ 87 21) (P := pT (σ 87 21)) (by omega)
    rw [w]
    omega
  · have := H.2.1
    rw [k2 34 (by decide)]
    omega
  · have := H.2.2
    rw [e19]
    omega
/-- what may come of a step -/
def stpX (σ τ : gM) (θ x1 x2 : Int) : Prop := (x2 = x1 ∧ mc_go_b2 σ x1 x2 = some (σ, x2) ∧ md_goOn_b15 τ = some (gW τ 119 127 1, 0)) ∨ (∃ S T, mc_go_b2 σ x1 x2 = some (S, x2) ∧ md_goOn_b15 τ = some (T, 0) ∧ RE S T ∧ T 119 119 = τ 119 119) ∨ (∃ (S T : gM) (pT hT : Int → Int) (m : Nat) (br co : Int), (mc_go_b2 σ x1 x2 = mc_go_b2 S x1 (x2 + 1) ∧ (gb8 119 σ → gb8 119 S)) ∧ mG τ T ∧ RR S T pT hT m br co (θ - 1) ∧ T 119 119 = x2 + 1 ∧ T 119 120 = x1 ∧ S 87 24 = σ 87 24 + 1)
theorem mG_pause (h1 : τ 119 117 = 1) (h2 : τ 119 127 = 0) (e : md_work τ = some (gW τ 119 127 1, some 0)) : md_goOn_b15 τ = some (gW τ 119 127 1, 0) := by
  rw [md_goOn_b15_e, if_pos h1, if_pos h2, e]
  show md_goOn_b15 (gW τ 119 127 1) = _
  rw [md_goOn_b15_e, gW_i (by decide), if_pos h1, gW_at, if_neg (by decide), md_goOn_b37_e, md_goOn_b46_e, gW_i (by decide), if_pos h1]
/-- a row's next statement begins -/
theorem op_step {x F x1 x2 : Int} (R : RR σ τ pT hT m br co θ) (en : τ 218 (τ 212 (σ 87 21) + m) = -2) (ex : τ 220 (τ 212 (σ 87 21) + m) = x) (hx : x ≠ -1) (rx : RX σ τ (σ 26 (σ 90 (σ 87 21))) (σ 26 (σ 90 (σ 87 21)) + σ 27 (σ 90 (σ 87 21))) br co 2 x 0 (pT (σ 87 21)) F) (hF : F ≤ σ 28 (σ 90 (σ 87 21)) + σ 29 (σ 90 (σ 87 21)) - 2) (hh : hT (σ 87 21) = 0) (jb : (m : Int) ≤ 2 * (x - σ 26 (σ 90 (σ 87 21))))
    (low : ∀ (S T : gM) (x' M : Int), kpX (gW σ 87 24 (σ 87 24 + 1)) (gW (gW τ 119 118 (τ 119 118 + 1)) 119 119 (τ 119 119 + 1)) S T → (∀ a j, 218 ≤ a → a ≤ 220 → j ≤ τ 212 (σ 87 21) + m → (a ≠ 220 ∨ j ≠ τ 212 (σ 87 21) + m) → T a j = τ a j) → T 220 (τ 212 (σ 87 21) + m) = x' → (x' = -1 ∨ x < x') → pT (σ 87 21) ≤ M → RX σ τ (σ 26 (σ 90 (σ 87 21))) (σ 26 (σ 90 (σ 87 21)) + σ 27 (σ 90 (σ 87 21))) br co 2 x' 0 M F → St S T (σ 26 (σ 90 (σ 87 21))) (σ 26 (σ 90 (σ 87 21)) + σ 27 (σ 90 (σ 87 21))) (σ 28 (σ 90 (σ 87 21))) (σ 28 (σ 90 (σ 87 21)) + σ 29 (σ 90 (σ 87 21)) - 2) (τ 212 (σ 87 21)) m M 0 br co)
    (m1 : τ 119 119 = x2) (m2 : τ 119 120 = x1) (xb : 0 ≤ x2 ∧ x2 ≤ 1000000000) : stpX σ τ θ x1 x2 := by
  obtain ⟨c1, -, c2, pc, c5, c6, c7, c8, c9⟩ := R.cur
  obtain ⟨o, p1, p2, p3, p4, p5, p6⟩ := R.pl
  have R' := R
  obtain ⟨Q, -, ⟨⟨k1, k2, k3, k4⟩, k5, k6⟩, -⟩ := R'
  have Q' := Q
  obtain ⟨⟨⟨P1, -⟩, -⟩, A, -, -, C, -⟩ := Q'
  have hIn := P1.2.2.2.2.2.2.2.2.2.2.1
  have hl := St.le _ _ _ _ _ k1
  rcases rx.x2 with ⟨z, -⟩ | ⟨x0, xn, M, y1, y2⟩
  · exact absurd z hx
  obtain ⟨g1, g2, g3⟩ := y1.x3 (be := σ 28 (σ 90 (σ 87 21)))
  have y2l := y2.le
  obtain ⟨o1, o2, o3, o4, -⟩ := A.op rfl g2 hIn hIn.1.2
  have o4 : σ 20 (σ 87 22) = 10 := by
    rcases o4 with z | z | z
    · exact z
    · omega
    · omega
  have n2 : 0 ≤ x ∧ x < 20000 := by omega
  have t2 : 0 ≤ τ 212 (σ 87 21) + m ∧ τ 212 (σ 87 21) + m < 42000 := by omega
  have hxm : m < 1000 := by omega
  have eg : mc_go_b2 σ x1 x2 = mc_go_b35 σ x1 x2 10 := by rw [mc_go_b2_e, if_pos C.1.1, if_pos o1, if_pos o4, o4]
  have ew : md_work τ = ((md_row τ (τ 212 (σ 87 21) + m)).bind fun p3 => gtry p3.2 (fun _ => some (p3.1, some 0)) (some (p3.1, none))) := by
    rw [md_work_e, w32_e (x := τ 119 124 - 1) (by omega) (by omega), show τ 119 124 - 1 = τ 212 (σ 87 21) + m by omega, if_pos t2, en, if_neg (by decide), if_pos rfl]
  have er : md_row τ (τ 212 (σ 87 21) + m) = ((md_step τ x).bind fun p1 => gtry p1.2 (fun v2 => if v2 = 0 then some (p1.1, some 0) else ((md_falls p1.1).bind fun p3 => if 0 ≤ x ∧ x < 20000 then (if 0 ≤ τ 212 (σ 87 21) + m ∧ τ 212 (σ 87 21) + m < 42000 then (if 0 ≤ x ∧ x < 20000 then (if p3.1 168 x < 24 then ((md_task (gW p3.1 220 (τ 212 (σ 87 21) + m) (p3.1 173 x)) (-1) (-1)).bind fun p4 => md_row_b84 p4.1 x) else md_row_b84 (gW p3.1 220 (τ 212 (σ 87 21) + m) (p3.1 173 x)) x) else none) else none) else none)) (some (p1.1, none))) := by
    rw [md_row_e, if_pos t2, ex, if_neg hx]
  by_cases z1 : x2 = x1
  · refine Or.inl ⟨z1, ?_, ?_⟩
    · rw [eg, mc_go_b35_e, if_pos z1]
    · refine mG_pause C.1.2 C.2.2.2.2.2.2.2 ?_
      rw [ew, er, md_step_e, if_pos (by rw [m1, m2]; exact z1)]
      rfl
  by_cases z2 : σ 87 24 = 20000
  · refine Or.inr (Or.inl ?_)
    obtain ⟨f1, f2, f3, f4⟩ := Q.fail (n := x) (e := 10) ⟨g1.2.1, g1.2.2⟩
    refine ⟨_, _, ?_, ?_, f3, ?_⟩
    · rw [eg, mc_go_b35_e, if_neg z1, if_pos z2, if_pos o1, o3, f1]
      rfl
    · refine mG_fail C.1.2 C.2.2.2.2.2.2.2 ?_
      rw [ew, er, md_step_e, if_neg (by rw [m1, m2]; exact z1), if_pos (by rw [C.2.1.1]; exact z2), f2]
      rfl
    · rw [gW_i (by decide), gW_i (by decide), erM_o (by omega)]
  · refine Or.inr (Or.inr ?_)
    have Q1 := Q.stp z2
    obtain ⟨S, T, s1, s2, s3, nd, s5, s6⟩ := fall_RQ Q1
    have nd' := nd
    obtain ⟨⟨x1', x2', x3', x4'⟩, x5, x6, x7, x8, x9⟩ := nd'
    have kσ : ∀ a, a ≠ 87 → gW σ 87 24 (σ 87 24 + 1) a = σ a := fun a q => gW_cell q
    have kτ : ∀ a, a ≠ 119 → gW (gW τ 119 118 (τ 119 118 + 1)) 119 119 (τ 119 119 + 1) a = τ a := fun a q => by rw [gW_cell q, gW_cell q]
    have tτ : ∀ i, i ≠ 118 → i ≠ 119 → gW (gW τ 119 118 (τ 119 118 + 1)) 119 119 (τ 119 119 + 1) 119 i = τ 119 i := fun i q1 q2 => by rw [gW_i q2, gW_i q1]
    have kS : ∀ a, a = 14 ∨ (20 ≤ a ∧ a ≤ 22) ∨ (26 ≤ a ∧ a ≤ 29) ∨ a = 90 ∨ a = 92 → S a = σ a := fun a q => by rw [x1' a q, kσ a (by omega)]
    have kT : ∀ a, a = 168 ∨ (170 ≤ a ∧ a ≤ 173) ∨ (212 ≤ a ∧ a ≤ 213) → T a = τ a := fun a q => by rw [x3' a q, kτ a (by omega)]
    have s21 : S 87 21 = σ 87 21 := by rw [x2' 21 (by decide), gW_i (by decide)]
    have gt : ∀ a j, 218 ≤ a → a ≤ 222 → T a j = τ a j := fun a j q1 q2 => by rw [x7 a q1 q2, kτ a (by omega)]
    have f119 : ∀ j, j ≠ 118 → j ≠ 119 → j ≠ 123 → T 119 j = τ 119 j := fun j q1 q2 q3 => by rw [x8 j q3, tτ j q1 q2]
    have f124 : T 119 124 = τ 212 (σ 87 21) + m + 1 := by rw [f119 124 (by decide) (by decide) (by decide)]; exact k5
    have A2 := s3.2.1
    have hIn2 := s3.1.1.1.2.2.2.2.2.2.2.2.2.2.1
    obtain ⟨w1, w2, -⟩ := A2.op (P := pT (σ 87 21)) (by rw [s21]) (show cI S (pT (σ 87 21)) 10 0 x by unfold cI; rw [kS 20 (by decide), kS 21 (by decide), kS 22 (by decide)]; exact g2) hIn2 hIn2.1.2
    rw [s21] at w2
    have c2' : smC S (gW S 87 22 (S 87 22 + 1)) := ⟨fun a j q1 _ _ _ => gW_c q1, fun j _ q _ => gW_i q⟩
    have eC : mc_go_b2 σ x1 x2 = mc_go_b2 (gW S 87 22 (S 87 22 + 1)) x1 (x2 + 1) := by
      rw [eg, mc_go_b35_e, if_neg z1, if_neg z2, w32_e (x := σ 87 24 + 1) (by have := C.2.1; omega) (by have := C.2.1; omega), s1]
      simp only [Option.bind_some]
      rw [if_neg (show ¬ (10 : Int) = 13 by decide), w32_e (x := S 87 22 + 1) (by omega) (by omega), w32_e (x := x2 + 1) (by have := C.2.1; omega) (by have := C.2.1; omega), mc_go_b135_e]
    have eS : md_step τ x = some (gW (gW τ 119 118 (τ 119 118 + 1)) 119 119 (τ 119 119 + 1), some 1) := by
      rw [md_step_e, if_neg (by rw [m1, m2]; exact z1), if_neg (by rw [C.2.1.1]; exact z2), w32_e (x := τ 119 118 + 1) (by have := C.2.1; omega) (by have := C.2.1; omega), w32_e (x := τ 119 119 + 1) (by have := C.2.1; omega) (by have := C.2.1; omega)]
    have eR : md_row τ (τ 212 (σ 87 21) + m) = if τ 168 x < 24 then ((md_task (gW T 220 (τ 212 (σ 87 21) + m) (τ 173 x)) (-1) (-1)).bind fun p4 => md_row_b84 p4.1 x) else md_row_b84 (gW T 220 (τ 212 (σ 87 21) + m) (τ 173 x)) x := by
      rw [er, eS]
      simp only [Option.bind_some, gtry]
      rw [if_neg (show ¬ (1 : Int) = 0 by decide), s2]
      simp only [Option.bind_some]
      rw [if_pos n2, if_pos t2, if_pos n2, kT 168 (by decide), kT 173 (by decide)]
    -- what is left of the row, and the pile
    have e8 : gW S 87 22 (S 87 22 + 1) 87 8 = σ 87 8 := by rw [gW_i (by decide), x6, gW_i (by decide)]
    have fin : ∀ (T2 : gM) (m' : Nat), smM T T2 (τ 212 (σ 87 21)) → (∀ a j, 221 ≤ a → a ≤ 222 → T2 a j = T a j) → T2 119 125 = T 119 125 → T2 119 124 = τ 212 (σ 87 21) + m' + 1 → T2 119 127 = T 119 127 → md_row τ (τ 212 (σ 87 21) + m) = some (T2, some 0) → (kpX (gW σ 87 24 (σ 87 24 + 1)) (gW (gW τ 119 118 (τ 119 118 + 1)) 119 119 (τ 119 119 + 1)) (gW S 87 22 (S 87 22 + 1)) T2 → ∃ br' co', St (gW S 87 22 (S 87 22 + 1)) T2 (σ 26 (σ 90 (σ 87 21))) (σ 26 (σ 90 (σ 87 21)) + σ 27 (σ 90 (σ 87 21))) (σ 28 (σ 90 (σ 87 21))) (σ 28 (σ 90 (σ 87 21)) + σ 29 (σ 90 (σ 87 21)) - 2) (τ 212 (σ 87 21)) m' (pT (σ 87 21) + 1) 0 br' co') → ∃ (S T : gM) (pT hT : Int → Int) (m : Nat) (br co : Int), (mc_go_b2 σ x1 x2 = mc_go_b2 S x1 (x2 + 1) ∧ (gb8 119 σ → gb8 119 S)) ∧ mG τ T ∧ RR S T pT hT m br co (θ - 1) ∧ T 119 119 = x2 + 1 ∧ T 119 120 = x1 ∧ S 87 24 = σ 87 24 + 1 := fun T2 m' d2 dp e125 tk e127 we st' => by
      obtain ⟨kx, rv⟩ := chn (σ := gW σ 87 24 (σ 87 24 + 1)) (τ := gW (gW τ 119 118 (τ 119 118 + 1)) 119 119 (τ 119 119 + 1)) ⟨fun _ _ _ _ _ _ => rfl, fun _ _ _ _ => rfl⟩ ⟨fun _ _ _ _ _ _ => rfl, fun _ _ _ _ => rfl, fun _ _ _ _ _ => rfl⟩ nd c2' d2
      obtain ⟨br', co', st'⟩ := st' kx
      have Q3 := s3.sm (h' := 0) (P' := pT (σ 87 21) + 1) c2' (by rw [s21, kT 212 (by decide)]; exact d2) (by rw [gW_at, s21]; exact w2.next (by rw [kS 28 (by decide), kS 29 (by decide), kS 90 (by decide)]; omega))
      rw [s21] at Q3
      have rv2 : ∀ k y t z, rVal σ τ k y t z → rVal (gW S 87 22 (S 87 22 + 1)) T2 k y t z := fun k y t z v => by
        have e1 : rVal (gW σ 87 24 (σ 87 24 + 1)) (gW (gW τ 119 118 (τ 119 118 + 1)) 119 119 (τ 119 119 + 1)) k y t z := by
          have sa : sameC σ (gW σ 87 24 (σ 87 24 + 1)) := by
            refine ⟨fun a q => kσ a (by omega), ?_⟩
            rw [kσ 0 (by decide), kσ 8 (by decide), kσ 42 (by decide), kσ 52 (by decide)]
            exact ⟨rfl, rfl, rfl, rfl, rfl, rfl, rfl, rfl, rfl, rfl, rfl, rfl, rfl, rfl, rfl, rfl, rfl, rfl, gW_i (by decide)⟩
          have sb : sameT τ (gW (gW τ 119 118 (τ 119 118 + 1)) 119 119 (τ 119 119 + 1)) := ⟨fun a q => kτ a (by omega), tτ 9 (by decide) (by decide), tτ 10 (by decide) (by decide), tτ 12 (by decide) (by decide), tτ 13 (by decide) (by decide), tτ 15 (by decide) (by decide), tτ 16 (by decide) (by decide), tτ 55 (by decide) (by decide), tτ 56 (by decide) (by decide), tτ 57 (by decide) (by decide), tτ 89 (by decide) (by decide), tτ 92 (by decide) (by decide), tτ 93 (by decide) (by decide), tτ 94 (by decide) (by decide), tτ 104 (by decide) (by decide)⟩
          exact ((rVal_mv sa sb).1 _ _ _ _).mpr v
        exact rv _ _ _ _ e1
      refine ⟨_, T2, _, _, m', br', co', ⟨eC, fun q => gb8.w (b8_inl bm_mc_falls (mc_falls_l _) s1 (q.w (by decide +kernel))) (by decide +kernel)⟩, mG_of (v := 0) C.1.2 C.2.2.2.2.2.2.2 ?_, R.asmS Q3 (updF_at ..) (fun a q => by rw [gW_cell (by omega), kS a q]) (fun i q => by rw [gW_i (by omega), x2' i (by omega), gW_i (by omega)]) (by rw [gW_i (by decide), x2' 24 (by decide), gW_at]) (fun a q => by funext j; rw [d2.1 a j (by omega) (by omega) (by omega) (by omega), kT a q]) ?_ (R.2.1.mk' p1 (by omega) (by rw [gW_i (by decide)]; exact s21) (fun j _ => by rw [gW_c (by decide), kS 92 (by decide)]) (fun j _ => by rw [d2.1 213 j (by decide) (by decide) (by decide) (by decide), kT 213 (by decide)]) (fun a j q _ => by rw [gW_c (show a ≠ 87 by omega), x5 a q, kσ a (by omega)]) (fun a j q _ => by rw [dp a j (by omega) (by omega), gt a j (by omega) (by omega)]) rv2 ?_ fun j j0 j1 => ?_) st' tk (by rw [e8]; omega) (by omega) e8, ?_, ?_, by rw [gW_i (by decide), x2' 24 (by decide), gW_at]⟩
      · rw [ew, we]
        rfl
      · have := kx.2.2.2
        rw [gW_i (show (19 : Int) ≠ 24 by decide), tτ 123 (by decide) (by decide), ccN_eq (S := gW σ 87 24 (σ 87 24 + 1)) (σ := σ) _ fun j _ _ => by rw [kσ 93 (by decide)]] at this
        omega
      · rw [e8, e125, f119 125 (by decide) (by decide) (by decide)]; exact p1
      · rw [e8] at j1
        have q := rv2 _ _ _ _ (p2 j j0 j1)
        rw [gW_c (show (88 : Int) ≠ 87 by decide), gW_c (show (89 : Int) ≠ 87 by decide), x5 88 (by decide), x5 89 (by decide), kσ 88 (by decide), kσ 89 (by decide), dp 221 _ (by decide) (by decide), dp 222 _ (by decide) (by decide), gt 221 _ (by decide) (by decide), gt 222 _ (by decide) (by decide)]
        exact q
      · rw [d2.2.1 119 (by decide) (by decide) (by decide), x8 119 (by decide), gW_at, m1]
      · rw [d2.2.1 120 (by decide) (by decide) (by decide), f119 120 (by decide) (by decide) (by decide), m2]
    have g124 : gW T 220 (τ 212 (σ 87 21) + m) (τ 173 x) 119 124 = τ 212 (σ 87 21) + m + 1 := by rw [gW_c (by decide)]; exact f124
    have g220 : ∀ a j, a ≠ 220 ∨ j ≠ τ 212 (σ 87 21) + m → gW T 220 (τ 212 (σ 87 21) + m) (τ 173 x) a j = T a j := fun a j q => by
      rcases q with q | q
      · exact gW_c q
      · exact gW_j q
    rcases g3 with ⟨kd, ts⟩ | ⟨kd, rx0, ci⟩
    · -- a statement
      obtain ⟨u1, u2, u3, u4⟩ := tkW_n (τ := gW T 220 (τ 212 (σ 87 21) + m) (τ 173 x)) (n := x) (x := -1) g124
      have uo : ∀ a j, (a < 218 ∧ a ≠ 119) ∨ 220 < a ∨ (a ≠ 119 ∧ j ≠ τ 212 (σ 87 21) + m + 1) ∨ (a = 119 ∧ j ≠ 124) → tkW (gW T 220 (τ 212 (σ 87 21) + m) (τ 173 x)) x (-1) a j = gW T 220 (τ 212 (σ 87 21) + m) (τ 173 x) a j := fun a j q => tkW_o (by rw [g124]; omega)
      refine fin (tkW (gW T 220 (τ 212 (σ 87 21) + m) (τ 173 x)) x (-1)) (m + 1) ⟨fun a j q1 q2 _ _ => by rw [uo a j (by omega), g220 a j (by omega)], fun j q1 _ _ => by rw [uo 119 j (by omega), g220 119 j (by omega)], fun a j q1 q2 q3 => by rw [uo a j (by omega), g220 a j (by omega)]⟩ (fun a j q1 q2 => by rw [uo a j (by omega), g220 a j (by omega)]) (by rw [uo 119 125 (by omega), g220 119 125 (by omega)]) (by rw [u4]; omega) (by rw [uo 119 127 (by omega), g220 119 127 (by omega)]) ?_ (fun kx => ⟨br, co, ?_⟩)
      · rw [eR, if_neg (by omega), md_row_b84_e, md_task_s (by rw [g124]; omega)]
        rfl
      · have l0 := low (gW S 87 22 (S 87 22 + 1)) (tkW (gW T 220 (τ 212 (σ 87 21) + m) (τ 173 x)) x (-1)) (τ 173 x) M kx (fun a j q1 q2 q3 q4 => by rw [uo a j (by omega), g220 a j q4, gt a j q1 (by omega)]) (by rw [uo 220 _ (by omega), gW_at]) xn (by omega) y2
        have e168 : ∀ j, tkW (gW T 220 (τ 212 (σ 87 21) + m) (τ 173 x)) x (-1) 168 j = τ 168 j := fun j => by rw [uo 168 j (by omega), g220 168 j (by omega), kT 168 (by decide)]
        refine ⟨⟨by omega, by omega⟩, ?_, M, 0, br, co, ?_, l0⟩
        · unfold rwO
          rw [u1]
          refine ⟨fun q => by omega, fun _ _ => ?_⟩
          rw [uo 218 _ (by omega), g220 218 _ (by omega), gt 218 _ (by decide) (by decide)]
          exact en
        · rw [u1, u2, u3]
          refine Or.inr (Or.inr ⟨⟨x0, g1.2.1, g1.2.2, by omega⟩, Or.inr ⟨?_, rfl⟩⟩)
          exact Ts.fr (la := σ 28 (σ 90 (σ 87 21)) + σ 29 (σ 90 (σ 87 21)) - 2) (fun a j q _ _ => by rw [kx.2.2.1 a (by omega), kτ a (by omega)]) (fun j _ _ => by rw [kx.1 14 (by decide), kσ 14 (by decide)]) (fun p _ _ => ⟨by rw [kx.1 20 (by decide), kσ 20 (by decide)], by rw [kx.1 21 (by decide), kσ 21 (by decide)], by rw [kx.1 22 (by decide), kσ 22 (by decide)]⟩) ts g1.2.1 g1.2.2 (by omega) (by omega)
    · -- what is worked out, then dropped
      obtain ⟨v1, v2, v3, v4⟩ := tkW_n (τ := gW T 220 (τ 212 (σ 87 21) + m) (τ 173 x)) (n := -1) (x := -1) g124
      have vo : ∀ a j, (a < 218 ∧ a ≠ 119) ∨ 220 < a ∨ (a ≠ 119 ∧ j ≠ τ 212 (σ 87 21) + m + 1) ∨ (a = 119 ∧ j ≠ 124) → tkW (gW T 220 (τ 212 (σ 87 21) + m) (τ 173 x)) (-1) (-1) a j = gW T 220 (τ 212 (σ 87 21) + m) (τ 173 x) a j := fun a j q => tkW_o (by rw [g124]; omega)
      obtain ⟨u1, u2, u3, u4⟩ := tkW_n (τ := tkW (gW T 220 (τ 212 (σ 87 21) + m) (τ 173 x)) (-1) (-1)) (n := x) (x := -1) v4
      have uo : ∀ a j, (a < 218 ∧ a ≠ 119) ∨ 220 < a ∨ (a ≠ 119 ∧ j ≠ τ 212 (σ 87 21) + m + 1 ∧ j ≠ τ 212 (σ 87 21) + m + 1 + 1) ∨ (a = 119 ∧ j ≠ 124) → tkW (tkW (gW T 220 (τ 212 (σ 87 21) + m) (τ 173 x)) (-1) (-1)) x (-1) a j = gW T 220 (τ 212 (σ 87 21) + m) (τ 173 x) a j := fun a j q => by rw [tkW_o (by rw [v4]; omega), vo a j (by omega)]
      have px := rx0.pos
      have pk := rx0.k0
      refine fin (tkW (tkW (gW T 220 (τ 212 (σ 87 21) + m) (τ 173 x)) (-1) (-1)) x (-1)) (m + 2) ⟨fun a j q1 q2 _ _ => by rw [uo a j (by omega), g220 a j (by omega)], fun j q1 _ _ => by rw [uo 119 j (by omega), g220 119 j (by omega)], fun a j q1 q2 q3 => by rw [uo a j (by omega), g220 a j (by omega)]⟩ (fun a j q1 q2 => by rw [uo a j (by omega), g220 a j (by omega)]) (by rw [uo 119 125 (by omega), g220 119 125 (by omega)]) (by rw [u4]; omega) (by rw [uo 119 127 (by omega), g220 119 127 (by omega)]) ?_ (fun kx => ⟨br, co, ?_⟩)
      · rw [eR, if_pos kd, md_task_s (by rw [g124]; omega)]
        simp only [Option.bind_some]
        rw [md_row_b84_e, md_task_s (by rw [v4]; omega)]
        rfl
      · have l0 := low (gW S 87 22 (S 87 22 + 1)) (tkW (tkW (gW T 220 (τ 212 (σ 87 21) + m) (τ 173 x)) (-1) (-1)) x (-1)) (τ 173 x) M kx (fun a j q1 q2 q3 q4 => by rw [uo a j (by omega), g220 a j q4, gt a j q1 (by omega)]) (by rw [uo 220 _ (by omega), gW_at]) xn (by omega) y2
        have e168 : ∀ j, tkW (tkW (gW T 220 (τ 212 (σ 87 21) + m) (τ 173 x)) (-1) (-1)) x (-1) 168 j = τ 168 j := fun j => by rw [uo 168 j (by omega), g220 168 j (by omega), kT 168 (by decide)]
        have d218 : tkW (tkW (gW T 220 (τ 212 (σ 87 21) + m) (τ 173 x)) (-1) (-1)) x (-1) 218 (τ 212 (σ 87 21) + m + 1) = -1 := by rw [tkW_o (by rw [v4]; omega)]; exact v1
        refine ⟨⟨by omega, by omega⟩, ?_, M - 1, 1, br, co, ?_, ⟨by omega, by omega⟩, ?_, M, 0, br, co, ?_, l0⟩
        · unfold rwO
          rw [show τ 212 (σ 87 21) + ((m + 1 : Nat) : Int) + 1 = τ 212 (σ 87 21) + m + 1 + 1 by omega, u1]
          refine ⟨fun q => by omega, fun _ q => ?_⟩
          rw [e168] at q
          omega
        · rw [show τ 212 (σ 87 21) + ((m + 1 : Nat) : Int) + 1 = τ 212 (σ 87 21) + m + 1 + 1 by omega, u1, u2, u3]
          refine Or.inr (Or.inr ⟨⟨x0, g1.2.1, g1.2.2, by omega⟩, Or.inl ⟨⟨⟨by rw [e168]; exact kd, by omega, by omega, by omega⟩, Or.inl ⟨rfl, by omega, ?_⟩⟩, rfl, rfl⟩⟩)
          obtain ⟨d, rx0⟩ := rx0
          exact ⟨d, RT_fr (fun a j q _ _ => by rw [kx.2.2.1 a (by omega), kτ a (by omega)]) (fun j _ _ => by rw [kx.1 14 (by decide), kσ 14 (by decide)]) d _ _ _ _ _ _ _ (fun p _ _ => ⟨by rw [kx.1 20 (by decide), kσ 20 (by decide)], by rw [kx.1 21 (by decide), kσ 21 (by decide)], by rw [kx.1 22 (by decide), kσ 22 (by decide)]⟩) rx0⟩
        · unfold rwO
          rw [d218]
          exact ⟨fun q => by omega, fun q => by omega⟩
        · rw [d218]
          refine Or.inl ⟨rfl, rfl, rfl, by omega, ?_, rfl, rfl⟩
          unfold cI at ci ⊢
          rw [kx.1 20 (by decide), kx.1 21 (by decide), kx.1 22 (by decide), kσ 20 (by decide), kσ 21 (by decide), kσ 22 (by decide)]
          exact ci
end SS
