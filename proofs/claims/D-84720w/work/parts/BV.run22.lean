/-! ways that are taken: both sides -/
section CH
variable {σ τ S T : gM} {pT hT : Int → Int} {m : Nat} {br co θ n : Int}
/-- the truth on top decides: the component's test and the model's choice -/
theorem choice_pair {τ0 : gM} {x q0 : Int} (Q : RQ σ τ0 pT hT) (hn : σ 26 (σ 90 (σ 87 21)) ≤ n ∧ n < σ 26 (σ 90 (σ 87 21)) + σ 27 (σ 90 (σ 87 21))) (kd : τ0 168 n = 24 ∨ τ0 168 n = 25) (h8 : 0 < σ 87 8 ∧ σ 87 8 ≤ 18240) (e125 : τ0 119 125 = q0) (hq0 : 0 < q0 ∧ q0 ≤ 24000) (k3 : σ 88 (σ 87 8 - 1) = 3) (ex : σ 89 (σ 87 8 - 1) = x) (t1 : τ0 221 (q0 - 1) = 1) (ey : τ0 222 (q0 - 1) = x) (x01 : x = 0 ∨ x = 1) :
    ∃ S T, (0 ≤ S 87 22 ∧ S 87 22 < 164000 → mc_test σ n = some (gW S 87 22 (if x = 1 then S 87 22 + 1 else S 21 (S 87 22)), 0)) ∧ md_choice τ0 n = some (T, some x) ∧ RQ S T pT hT ∧ ndX (gW σ 87 8 (σ 87 8 - 1)) (gW τ0 119 125 (q0 - 1)) S T := by
  have cu := Q.cu.1
  have pc := Q.2.1.2.2.2.1 (σ 87 21) (by omega) (by have := Q.2.1.2.2.2.2.2.1; omega)
  unfold pcA at pc
  rw [if_pos rfl] at pc
  have sC : ∀ a j, a ≠ 87 ∨ j ≠ 8 → gW σ 87 8 (σ 87 8 - 1) a j = σ a j := fun a j q => by
    rcases q with q | q
    · exact gW_c q
    · exact gW_j q
  have sM : ∀ a j, a ≠ 119 ∨ j ≠ 125 → gW τ0 119 125 (q0 - 1) a j = τ0 a j := fun a j q => by
    rcases q with q | q
    · exact gW_c q
    · exact gW_j q
  have Q1 := Q.sm (S := gW σ 87 8 (σ 87 8 - 1)) (T := gW τ0 119 125 (q0 - 1)) (P' := pT (σ 87 21)) (h' := hT (σ 87 21)) ⟨fun a j q1 _ _ _ => sC a j (Or.inl q1), fun j q1 _ _ => sC 87 j (Or.inr q1)⟩ ⟨fun a j q1 _ _ _ => sM a j (Or.inl q1), fun j _ q2 _ => sM 119 j (Or.inr q2), fun a j q1 q2 _ => sM a j (by omega)⟩ (by rw [sC 87 22 (by omega)]; exact pc)
  rw [updF_same, updF_same] at Q1
  have e90 : gW σ 87 8 (σ 87 8 - 1) 90 (gW σ 87 8 (σ 87 8 - 1) 87 21) = σ 90 (σ 87 21) := by rw [sC 87 21 (by omega), sC 90 _ (by omega)]
  obtain ⟨S, T, s1, s2, s3, s4⟩ := took_pair (n := n) (w := if x = 1 then 1 else 2) Q1 (by rw [e90, sC 26 _ (by omega), sC 27 _ (by omega)]; exact hn) (by rw [sM 168 n (by omega)]; omega) (by split <;> omega)
  refine ⟨S, T, fun hp => ?_, ?_, s3, s4⟩
  · rw [mc_test_e, mc_isTruth_y h8 k3]
    simp only [Option.bind_some]
    rw [if_neg (show ¬ (1 : Int) = 0 by decide), w32_e (x := σ 87 8 - 1) (by omega) (by omega), if_pos (by omega), ex, mc_test_b30_e, mc_test_b30_e, w32_e (x := σ 87 8 - 1) (by omega) (by omega)]
    by_cases z : x = 1
    · rw [if_pos z] at s1 ⊢
      rw [if_pos (l_cmp_0.mpr z), if_neg (show ¬ (1 : Int) = 0 by decide), mc_test_b52_e, s1]
      simp only [Option.bind_some]
      rw [if_neg (show ¬ (1 : Int) = 0 by decide), mc_test_b81_e, w32_e (by omega) (by omega)]
    · rw [if_neg z] at s1 ⊢
      rw [if_neg (fun q => z (l_cmp_0.mp q)), if_pos (show (0 : Int) = 0 from rfl), mc_test_b52_e, s1]
      simp only [Option.bind_some, if_true]
      rw [if_pos hp, mc_test_b81_e]
  · rw [md_choice_e, md_truth_e, e125, w32_e (x := q0 - 1) (by omega) (by omega), if_pos (by omega), if_pos t1, if_pos (by omega), ey]
    by_cases z : x = 1
    · rw [if_pos z] at s2
      rw [if_pos (l_cmp_0.mpr z)]
      show (if (1 : Int) = 0 then md_choice_b15 (gW τ0 119 125 (q0 - 1)) n 1 2 else md_choice_b15 (gW τ0 119 125 (q0 - 1)) n 1 1) = _
      rw [if_neg (by decide), md_choice_b15_e, s2 (fun T => g01 1 (some (T, some 1))), z]
      rfl
    · have x0 : x = 0 := by omega
      rw [if_neg z] at s2
      rw [if_neg (fun q => z (l_cmp_0.mp q))]
      show (if (0 : Int) = 0 then md_choice_b15 (gW τ0 119 125 (q0 - 1)) n 0 2 else md_choice_b15 (gW τ0 119 125 (q0 - 1)) n 0 1) = _
      rw [if_pos rfl, md_choice_b15_e, s2 (fun T => g01 0 (some (T, some 0))), x0]
      rfl
theorem choice_fail {τ0 : gM} {q0 : Int} (h8 : 0 < σ 87 8 ∧ σ 87 8 ≤ 18240) (e125 : τ0 119 125 = q0) (hq0 : 0 < q0 ∧ q0 ≤ 24000) (k3 : σ 88 (σ 87 8 - 1) ≠ 3) (t1 : τ0 221 (q0 - 1) ≠ 1) (f1 : mc_fails σ 1 n = some (S, 0)) (f2 : ((md_error τ0 1 n).bind fun p => gthr p.1 p.2) = some (T, none)) : mc_test σ n = some (S, 0) ∧ mc_left σ n = some (S, 0) ∧ md_truth τ0 n = some (T, none) ∧ md_choice τ0 n = some (T, none) := by
  have t : md_truth τ0 n = some (T, none) := by
    rw [md_truth_e, e125, w32_e (x := q0 - 1) (by omega) (by omega), if_pos (by omega), if_neg t1]
    exact f2
  refine ⟨?_, ?_, t, ?_⟩
  · rw [mc_test_e, mc_isTruth_n h8 k3 f1]; rfl
  · rw [mc_left_e, mc_isTruth_n h8 k3 f1]; rfl
  · rw [md_choice_e, t]; rfl
theorem mc_work_11 {o : Int} (h : o = 11 ∨ o = 12) (e : mc_test σ n = some (S, 0)) : mc_work σ o n = some (S, 0) := by
  rcases h with h | h
  · rw [h]
    have : mc_work σ 11 n = ((mc_test σ n).bind fun p => some (p.1, 0)) := by rw [mc_work_e]; rfl
    rw [this, e]; rfl
  · rw [h]
    have : mc_work σ 12 n = ((mc_test σ n).bind fun p => some (p.1, 0)) := by rw [mc_work_e]; rfl
    rw [this, e]; rfl
theorem begun1 {i p : Int} (h : 0 ≤ i ∧ i < 42000) (e : τ 219 i = 1) : md_begun τ i p = some (gW τ 219 i 2, 1) := by
  rw [md_begun_e, if_pos h, if_pos h, if_pos h, e, gW_at, w32_e (by decide) (by decide), if_pos (by decide)]
  rfl
theorem smM.g219 {v i f : Int} (h : f ≤ i) : smM τ (gW τ 219 i v) f := ⟨fun a j _ q _ _ => gW_c (by omega), fun j _ _ _ => gW_c (by decide), fun a j q1 q2 q3 => gW_j (by omega)⟩
/-- an if's condition is there -/
theorem op_if {E : Int} (R : RR σ τ pT hT (m + 1) br co θ) (en : τ 218 (τ 212 (σ 87 21) + m + 1) = n) (es : τ 219 (τ 212 (σ 87 21) + m + 1) = 1) (hn : 0 ≤ n ∧ σ 26 (σ 90 (σ 87 21)) ≤ n ∧ n < σ 26 (σ 90 (σ 87 21)) + σ 27 (σ 90 (σ 87 21)) ∧ ((m : Int) + 1) ≤ 2 * (n - σ 26 (σ 90 (σ 87 21))) + 2) (hh : hT (σ 87 21) = 1) (kd : τ 168 n = 24) (ti : tIf σ τ (σ 26 (σ 90 (σ 87 21))) (σ 26 (σ 90 (σ 87 21)) + σ 27 (σ 90 (σ 87 21))) br co n (pT (σ 87 21)) E) (st : St σ τ (σ 26 (σ 90 (σ 87 21))) (σ 26 (σ 90 (σ 87 21)) + σ 27 (σ 90 (σ 87 21))) (σ 28 (σ 90 (σ 87 21))) (σ 28 (σ 90 (σ 87 21)) + σ 29 (σ 90 (σ 87 21)) - 2) (τ 212 (σ 87 21)) m E 0 br co) : goX σ τ θ ∨ endX σ τ := by
  obtain ⟨-, -, -, -, ⟨t1, t2⟩, t3, -, -, hw, t6⟩ := R.top
  obtain ⟨c1, -, -, pc, c5, c6, c7, -, c9⟩ := R.cur
  obtain ⟨o, p1, p2, p3, p4, p5, p6⟩ := R.pl
  have R' := R
  obtain ⟨Q, -, ⟨⟨k1, -⟩, -⟩, -⟩ := R'
  have Q' := Q
  obtain ⟨⟨⟨P1, -⟩, -⟩, A, -⟩ := Q'
  have hIn := P1.2.2.2.2.2.2.2.2.2.2.1
  have hl := St.le _ _ _ _ _ st
  have tle := ti.le
  obtain ⟨ord, N, i0, i1, i2, i3, i4⟩ := ti
  have l2 := i2.le
  obtain ⟨o1, o2, o3, o4, -⟩ := A.op rfl i1 hIn hIn.1.2
  have o4 : σ 20 (σ 87 22) = 11 := by
    rcases o4 with z | z | z
    · exact z
    · omega
    · omega
  have n2 : 0 ≤ n ∧ n < 20000 := by omega
  have v := p2 (σ 87 8 - 1) (by omega) (by omega)
  rw [show σ 87 8 - 1 + o = τ 119 125 - 1 by omega] at v
  have vk := v.kt
  have gs : ∀ a j, a ≠ 219 ∨ j ≠ τ 212 (σ 87 21) + m + 1 → gW τ 219 (τ 212 (σ 87 21) + m + 1) 2 a j = τ a j := fun a j q => by
    rcases q with q | q
    · exact gW_c q
    · exact gW_j q
  have Q0 : RQ σ (gW τ 219 (τ 212 (σ 87 21) + m + 1) 2) pT hT := by
    have := Q.sm (S := σ) (P' := pT (σ 87 21)) (h' := hT (σ 87 21)) ⟨fun _ _ _ _ _ _ => rfl, fun _ _ _ _ => rfl⟩ (smM.g219 (τ := τ) (v := 2) (i := τ 212 (σ 87 21) + m + 1) (f := τ 212 (σ 87 21)) (by omega)) pc
    rw [updF_same, updF_same] at this
    exact this
  have wk : md_works τ (τ 212 (σ 87 21) + m + 1) n (τ 168 n) = ((md_choice (gW τ 219 (τ 212 (σ 87 21) + m + 1) 2) n).bind fun p18 => gtry p18.2 (fun v19 => if v19 = 0 then (if 0 ≤ n ∧ n < 20000 then md_works_b415 p18.1 (p18.1 172 n) else none) else (if 0 ≤ n ∧ n < 20000 then md_works_b415 p18.1 (p18.1 171 n) else none)) (some (p18.1, none))) := by
    rw [md_works_e, kd, if_neg (by decide), if_pos (by decide), md_works_b109_e, if_neg (by decide), if_neg (by decide), if_neg (by decide), if_neg (by decide), if_neg (by decide), if_neg (by decide), if_neg (by decide), if_neg (by decide), if_pos rfl, if_pos n2, begun1 t2 es]
    rfl
  by_cases z : σ 88 (σ 87 8 - 1) = 3
  · left
    obtain ⟨y1, y2, y3⟩ := v.tru z
    obtain ⟨S, T, s1, s2, s3, ⟨⟨x1, x2, x3, x4⟩, x5, x6, x7, x8, x9⟩⟩ := choice_pair (τ0 := gW τ 219 (τ 212 (σ 87 21) + m + 1) 2) (n := n) Q0 ⟨hn.2.1, hn.2.2.1⟩ (by rw [gs 168 n (by omega)]; omega) (by omega) (gs 119 125 (by omega)) (by omega) z rfl (by rw [gs 221 _ (by omega)]; exact y1) (by rw [gs 222 _ (by omega)]; exact y2.symm) y3
    have gc : ∀ a, a ≠ 87 → gW σ 87 8 (σ 87 8 - 1) a = σ a := fun a q => gW_cell q
    have g87 : ∀ j, j ≠ 8 → gW σ 87 8 (σ 87 8 - 1) 87 j = σ 87 j := fun j q => gW_i q
    have gm : ∀ a j, (a ≠ 119 ∧ a ≠ 219) ∨ (a = 119 ∧ j ≠ 125) ∨ (a = 219 ∧ j ≠ τ 212 (σ 87 21) + m + 1) → gW (gW τ 219 (τ 212 (σ 87 21) + m + 1) 2) 119 125 (τ 119 125 - 1) a j = τ a j := fun a j q => by
      rcases q with q | q | q
      · rw [gW_c q.1, gW_c q.2]
      · rw [q.1, gW_i q.2, gW_c (by decide)]
      · rw [q.1, gW_c (by decide), gW_i q.2]
    have s21 : S 87 21 = σ 87 21 := by rw [x2 21 (by decide), g87 21 (by decide)]
    have kS : ∀ a, (a = 14 ∨ (20 ≤ a ∧ a ≤ 22) ∨ (26 ≤ a ∧ a ≤ 29) ∨ a = 90 ∨ a = 92) → S a = σ a := fun a q => by rw [x1 a q, gc a (by omega)]
    have kT : ∀ a, (a = 168 ∨ (170 ≤ a ∧ a ≤ 173) ∨ (212 ≤ a ∧ a ≤ 213)) → T a = τ a := fun a q => by
      rw [x3 a q]
      funext j
      exact gm a j (by omega)
    -- where the component goes on
    have A2 := s3.2.1
    have hIn2 := s3.1.1.1.2.2.2.2.2.2.2.2.2.2.1
    obtain ⟨w1, w2, w3, w4, w5⟩ := A2.op (P := pT (σ 87 21)) (by rw [s21]) (show cI S (pT (σ 87 21)) 11 (N + 1) n by unfold cI; rw [kS 20 (by decide), kS 21 (by decide), kS 22 (by decide)]; exact i1) hIn2 hIn2.1.2
    rw [s21] at w2 w5
    have s1 := s1 w1
    -- the two ways
    have way : ∀ (y P' F : Int), (y = τ 171 n ∨ y = τ 172 n) → RX σ τ (σ 26 (σ 90 (σ 87 21))) (σ 26 (σ 90 (σ 87 21)) + σ 27 (σ 90 (σ 87 21))) br co 2 y 0 P' F → (E = F ∨ (F < E ∧ cI σ F 14 E (-1))) → pT (σ 87 21) < P' → P' ≤ E → pcT S (σ 87 21) (if σ 89 (σ 87 8 - 1) = 1 then S 87 22 + 1 else S 21 (S 87 22)) P' → md_works τ (τ 212 (σ 87 21) + m + 1) n (τ 168 n) = md_works_b415 T y → goX σ τ θ := fun y P' F hy rx hF hP hP2 pc' we => by
      have f124 : T 119 124 = τ 212 (σ 87 21) + m + 1 + 1 := by rw [x8 124 (by decide), gm 119 124 (by omega)]; exact t1
      have f124' : gW T 119 124 (τ 212 (σ 87 21) + m + 1) 119 124 = τ 212 (σ 87 21) + m + 1 := gW_at ..
      obtain ⟨u1, u2, u3, u4⟩ := tkW_n (τ := gW T 119 124 (τ 212 (σ 87 21) + m + 1)) (n := -2) (x := y) f124'
      have uo : ∀ a j, (a < 218 ∧ a ≠ 119) ∨ 220 < a ∨ (a ≠ 119 ∧ j ≠ τ 212 (σ 87 21) + m + 1) ∨ (a = 119 ∧ j ≠ 124) → tkW (gW T 119 124 (τ 212 (σ 87 21) + m + 1)) (-2) y a j = T a j := fun a j q => by
        rw [tkW_o (by rw [f124']; omega)]
        by_cases e : a = 119
        · rw [e, gW_i (by omega)]
        · exact gW_c e
      have gt : ∀ a j, 218 ≤ a → a ≤ 220 → j ≠ τ 212 (σ 87 21) + m + 1 → T a j = τ a j := fun a j q1 q2 q3 => by rw [x7 a q1 (by omega)]; exact gm a j (by omega)
      have gC : ∀ a j, a ≠ 87 ∨ j ≠ 22 → ∀ v, gW S 87 22 v a j = S a j := fun a j q v => by
        rcases q with q | q
        · exact gW_c q
        · exact gW_j q
      have Q3 := s3.sm (S := gW S 87 22 (if σ 89 (σ 87 8 - 1) = 1 then S 87 22 + 1 else S 21 (S 87 22))) (T := tkW (gW T 119 124 (τ 212 (σ 87 21) + m + 1)) (-2) y) (P' := P') (h' := 0) ⟨fun a j q1 _ _ _ => gC a j (Or.inl q1) _, fun j _ q _ => gC 87 j (Or.inr q) _⟩ ⟨fun a j q1 q2 _ _ => uo a j (by omega), fun j q1 _ _ => uo 119 j (by omega), fun a j q1 q2 q3 => uo a j (by rw [kT 212 (by decide), s21] at q3; omega)⟩ (by rw [gW_at, s21]; exact pc')
      rw [s21] at Q3
      have kx : kpX σ τ (gW S 87 22 (if σ 89 (σ 87 8 - 1) = 1 then S 87 22 + 1 else S 21 (S 87 22))) (tkW (gW T 119 124 (τ 212 (σ 87 21) + m + 1)) (-2) y) := by
        refine ⟨fun a q => ?_, fun j q => ?_, fun a q => ?_, ?_⟩
        · rw [gW_cell (by omega), kS a q]
        · rw [gC 87 j (by omega), x2 j q, g87 j (by omega)]
        · funext j
          rw [uo a j (by omega), kT a q]
        · rw [uo 119 123 (by omega), ccN_eq (S := gW S 87 22 (if σ 89 (σ 87 8 - 1) = 1 then S 87 22 + 1 else S 21 (S 87 22))) (σ := S) _ fun j _ _ => gC 93 j (by omega) _]
          rw [g87 19 (by decide)] at x4
          rw [x4, gm 119 123 (by omega), ccN_eq (S := gW σ 87 8 (σ 87 8 - 1)) (σ := σ) _ fun j _ _ => by rw [gc 93 (by decide)]]
      have e8 : gW S 87 22 (if σ 89 (σ 87 8 - 1) = 1 then S 87 22 + 1 else S 21 (S 87 22)) 87 8 = σ 87 8 - 1 := by rw [gC 87 8 (by omega), x6, gW_at]
      have e125 : tkW (gW T 119 124 (τ 212 (σ 87 21) + m + 1)) (-2) y 119 125 = τ 119 125 - 1 := by rw [uo 119 125 (by omega), x8 125 (by decide), gW_at]
      have rvv : ∀ k x t y', rVal σ τ k x t y' → rVal (gW S 87 22 (if σ 89 (σ 87 8 - 1) = 1 then S 87 22 + 1 else S 21 (S 87 22))) (tkW (gW T 119 124 (τ 212 (σ 87 21) + m + 1)) (-2) y) k x t y' := fun k x t y' q0 => by
        have q := x9 _ _ _ _ ((smC.rv (σ := σ) (S := gW σ 87 8 (σ 87 8 - 1)) (τ := τ) (T := gW (gW τ 219 (τ 212 (σ 87 21) + m + 1) 2) 119 125 (τ 119 125 - 1)) (f := τ 212 (σ 87 21)) ⟨fun a j q1 _ _ _ => gW_c q1, fun j q1 _ _ => gW_i q1⟩ ⟨fun a j q1 q2 _ _ => gm a j (by omega), fun j q1 q2 _ => gm 119 j (by omega), fun a j q1 q2 q3 => gm a j (by omega)⟩).mpr q0)
        have q2 := (smC.rv (σ := S) (S := gW S 87 22 (if σ 89 (σ 87 8 - 1) = 1 then S 87 22 + 1 else S 21 (S 87 22))) (τ := T) (T := tkW (gW T 119 124 (τ 212 (σ 87 21) + m + 1)) (-2) y) (f := τ 212 (σ 87 21)) ⟨fun a j q1 _ _ _ => gC a j (Or.inl q1) _, fun j _ q _ => gC 87 j (Or.inr q) _⟩ ⟨fun a j q1 q2 _ _ => uo a j (by omega), fun j q1 _ _ => uo 119 j (by omega), fun a j q1 q2 q3 => uo a j (by omega)⟩).mpr q
        exact q2
      refine ⟨_, _, _, _, m + 1, br, co, θ - 1, cG_of t6.1 o1 o4 o3 (by decide) (mc_work_11 (Or.inl rfl) s1), mG_of t6.2.1 t6.2.2 (work_n (v := 0) t1 t2 en n2 ?_), R.asm Q3 (updF_at ..) kx (R.pk2 p1 kx rvv (fun a j q _ => by rw [gC a j (by omega), x5 a q, gc a (by omega)]) (fun a j q _ => by rw [uo a j (by omega), x7 a (by omega) (by omega), gm a j (by omega)]) (by rw [e8, e125]; omega) fun j j0 j1 => ?_) ?_ (by rw [u4]; omega) (by rw [e8]; omega) (by omega) ⟨by rw [i1.1]; decide, by rw [i1.1]; decide⟩ hP (by rw [e8]; omega), Or.inl (by omega), ?_, ?_⟩
      · rw [we, md_works_b415_e, f124, show τ 212 (σ 87 21) + m + 1 + 1 - 1 = τ 212 (σ 87 21) + m + 1 by omega, w32_e (by omega) (by omega), md_task_s (by rw [f124']; omega)]
        rfl
      · rw [e8] at j1
        have q2 := rvv _ _ _ _ (p2 j j0 (by omega))
        rw [gC 88 j (by omega), gC 89 j (by omega), x5 88 (by decide), x5 89 (by decide), gc 88 (by decide), gc 89 (by decide), uo 221 _ (by omega), uo 222 _ (by omega), x7 221 (by decide) (by decide), x7 222 (by decide) (by decide), gm 221 _ (by omega), gm 222 _ (by omega)]
        exact q2
      · have lo0 := k1.1
        have y0 := rx.x2
        refine ⟨⟨by omega, k1.1.2⟩, ?_, E, 0, br, co, ?_, kx.st (fun a j q1 q2 q3 => by rw [uo a j (by omega), gt a j q1 q2 (by omega)]) st⟩
        · unfold rwO
          rw [u1]
          refine ⟨fun _ => Or.inl ?_, fun q => by omega⟩
          rw [uo 218 _ (by omega), gt 218 _ (by decide) (by decide) (by omega)]
          have h2 := hw.2
          rw [en] at h2
          exact h2 hn.1 (by omega)
        · rw [u1, u2, u3]
          refine Or.inr (Or.inl ⟨rfl, rfl, rfl, rfl, ⟨rfl, rfl⟩, ?_, F, kx.rx rx, ?_⟩)
          · rcases hy with q | q <;> rw [q] <;> omega
          · rcases hF with q | ⟨q1, q2⟩
            · exact Or.inl q
            · exact Or.inr ⟨q1, kx.ci q2⟩
      · rw [uo 119 119 (by omega), x8 119 (by decide), gm 119 119 (by omega)]
      · rw [uo 119 120 (by omega), x8 120 (by decide), gm 119 120 (by omega)]
    have s28 : S 28 = σ 28 := kS 28 (by decide)
    have s29 : S 29 = σ 29 := kS 29 (by decide)
    have s90 : S 90 = σ 90 := kS 90 (by decide)
    by_cases x1' : σ 89 (σ 87 8 - 1) = 1
    · refine way (τ 171 n) (pT (σ 87 21) + 1) N (Or.inl rfl) i2 (Or.inr ⟨i0, i3⟩) (by omega) (by omega) (by rw [if_pos x1']; exact w2.next (by rw [s28, s29, s90]; omega)) ?_
      rw [wk, s2]
      show (if σ 89 (σ 87 8 - 1) = 0 then _ else (if 0 ≤ n ∧ n < 20000 then md_works_b415 T (T 171 n) else none)) = _
      rw [if_neg (by omega), if_pos n2, kT 171 (by decide)]
    · have x0 : σ 89 (σ 87 8 - 1) = 0 := by omega
      refine way (τ 172 n) (N + 1) E (Or.inr rfl) i4 (Or.inl rfl) (by omega) (by omega) (by rw [if_neg x1']; exact w5 (by unfold isJ; omega) (by rw [s28, s90]; omega) (by rw [s28, s29, s90]; omega)) ?_
      rw [wk, s2]
      show (if σ 89 (σ 87 8 - 1) = 0 then (if 0 ≤ n ∧ n < 20000 then md_works_b415 T (T 172 n) else none) else _) = _
      rw [if_pos x0, if_pos n2, kT 172 (by decide)]
  · right
    have tz : τ 221 (τ 119 125 - 1) ≠ 1 := fun q => z ((kT_1 vk.2).mp (by rw [← vk.1]; exact q))
    refine Q0.failX (e := 1) ⟨hn.2.1, hn.2.2.1⟩ t6.1 o1 o4 o3 (by decide) (fun f => ?_) t6.2.1 t6.2.2 t1 t2 en (fun f => ?_) (gs 119 119 (by omega))
    · exact mc_work_11 (Or.inl rfl) (choice_fail (τ0 := gW τ 219 (τ 212 (σ 87 21) + m + 1) 2) (T := erM (gW τ 219 (τ 212 (σ 87 21) + m + 1) 2) 1 n) (by omega) (gs 119 125 (by omega)) (by omega) z (by rw [gs 221 _ (by omega)]; exact tz) f (Q0.fail (e := 1) ⟨hn.2.1, hn.2.2.1⟩).2.1).1
    · rw [wk, (choice_fail (σ := σ) (S := flS σ 1 n) (by omega) (gs 119 125 (by omega)) (by omega) z (by rw [gs 221 _ (by omega)]; exact tz) (Q0.fail (e := 1) ⟨hn.2.1, hn.2.2.1⟩).1 f).2.2.2]
      rfl
end CH
