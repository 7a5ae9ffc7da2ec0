/-! a while's condition, both and either: both sides -/
section WH
variable {σ τ σ1 τ1 S T S2 T2 : gM} {pT hT : Int → Int} {m : Nat} {br co θ n : Int}
/-- moves, a change of a node, moves: what stays -/
theorem chn {f : Int} (c1 : smC σ σ1) (d1 : smM τ τ1 f) (nd : ndX σ1 τ1 S T) (c2 : smC S S2) (d2 : smM T T2 f) : kpX σ τ S2 T2 ∧ (∀ k x t y, rVal σ τ k x t y → rVal S2 T2 k x t y) := by
  obtain ⟨⟨x1, x2, x3, x4⟩, x5, x6, x7, x8, x9⟩ := nd
  have rv1 := fun k x t y => (smC.rv (k := k) (x := x) (t := t) (y := y) c1 d1).mpr
  have rv2 := fun k x t y => (smC.rv (k := k) (x := x) (t := t) (y := y) c2 d2).mpr
  obtain ⟨a1, a2⟩ := c1
  obtain ⟨b1, b2, -⟩ := d1
  obtain ⟨e1, e2⟩ := c2
  obtain ⟨g1, g2, -⟩ := d2
  have cS : ∀ j, S2 93 j = S 93 j := fun j => e1 93 j (by decide) (by decide) (by decide) (by decide)
  have cσ : ∀ j, σ1 93 j = σ 93 j := fun j => a1 93 j (by decide) (by decide) (by decide) (by decide)
  refine ⟨⟨fun a q => ?_, fun i q => ?_, fun a q => ?_, ?_⟩, fun k x t y q => rv2 k x t y (x9 k x t y (rv1 k x t y q))⟩
  · funext j
    rw [e1 a j (by omega) (by omega) (by omega) (by omega), x1 a q, a1 a j (by omega) (by omega) (by omega) (by omega)]
  · rw [e2 i (by omega) (by omega) (by omega), x2 i q, a2 i (by omega) (by omega) (by omega)]
  · funext j
    rw [g1 a j (by omega) (by omega) (by omega) (by omega), x3 a q, b1 a j (by omega) (by omega) (by omega) (by omega)]
  · rw [g2 123 (by decide) (by decide) (by decide), ccN_eq (S := S2) (σ := S) _ fun j _ _ => cS j]
    rw [a2 19 (by decide) (by decide) (by decide)] at x4
    rw [x4, b2 123 (by decide) (by decide) (by decide), ccN_eq (S := σ1) (σ := σ) _ fun j _ _ => cσ j]
/-- a while's condition is there -/
theorem op_while {E A0 br' co' : Int} (R : RR σ τ pT hT (m + 1) br co θ) (en : τ 218 (τ 212 (σ 87 21) + m + 1) = n) (es : τ 219 (τ 212 (σ 87 21) + m + 1) = 1) (hn : 0 ≤ n ∧ σ 26 (σ 90 (σ 87 21)) ≤ n ∧ n < σ 26 (σ 90 (σ 87 21)) + σ 27 (σ 90 (σ 87 21)) ∧ ((m : Int) + 1) ≤ 2 * (n - σ 26 (σ 90 (σ 87 21))) + 2) (hh : hT (σ 87 21) = 1) (kd : τ 168 n = 25) (hA : σ 28 (σ 90 (σ 87 21)) ≤ A0) (ti : tWh σ τ (σ 26 (σ 90 (σ 87 21))) (σ 26 (σ 90 (σ 87 21)) + σ 27 (σ 90 (σ 87 21))) br' co' n A0 (pT (σ 87 21)) E) (st : St σ τ (σ 26 (σ 90 (σ 87 21))) (σ 26 (σ 90 (σ 87 21)) + σ 27 (σ 90 (σ 87 21))) (σ 28 (σ 90 (σ 87 21))) (σ 28 (σ 90 (σ 87 21)) + σ 29 (σ 90 (σ 87 21)) - 2) (τ 212 (σ 87 21)) m E 0 br' co') : goX σ τ θ ∨ endX σ τ := by
  obtain ⟨-, -, -, -, ⟨t1, t2⟩, t3, -, -, hw, t6⟩ := R.top
  obtain ⟨c1, -, -, pc, c5, c6, c7, c8, c9⟩ := R.cur
  obtain ⟨o, p1, p2, p3, p4, p5, p6⟩ := R.pl
  have R' := R
  obtain ⟨Q, -, ⟨⟨k1, -⟩, -⟩, -⟩ := R'
  have Q' := Q
  obtain ⟨⟨⟨P1, -⟩, -⟩, A, -⟩ := Q'
  have hIn := P1.2.2.2.2.2.2.2.2.2.2.1
  have hl := St.le _ _ _ _ _ st
  have tle := ti.le
  have ti' := ti
  obtain ⟨ord, i0, i1, i2, i3⟩ := ti
  obtain ⟨o1, o2, o3, o4, -⟩ := A.op rfl i1 hIn hIn.1.2
  have o4 : σ 20 (σ 87 22) = 12 := by
    rcases o4 with z | z | z
    · exact z
    · omega
    · omega
  have n2 : 0 ≤ n ∧ n < 20000 := by omega
  have v := p2 (σ 87 8 - 1) (by omega) (by omega)
  rw [show σ 87 8 - 1 + o = τ 119 125 - 1 by omega] at v
  have vk := v.kt
  have wk : md_works τ (τ 212 (σ 87 21) + m + 1) n (τ 168 n) = ((md_choice τ n).bind fun p1 => gtry p1.2 (fun v2 => if v2 = 0 then some (gW p1.1 119 124 (w32 (p1.1 119 124 - 1)), some 0) else (if 0 ≤ τ 212 (σ 87 21) + m + 1 ∧ τ 212 (σ 87 21) + m + 1 < 42000 then (if 0 ≤ n ∧ n < 20000 then ((md_task (gW p1.1 219 (τ 212 (σ 87 21) + m + 1) 2) (-2) (p1.1 171 n)).bind fun p3 => some (p3.1, some 0)) else none) else none)) (some (p1.1, none))).bind fun p20 => gtry p20.2 (fun _ => some (p20.1, some 0)) (some (p20.1, none)) := by
    rw [md_works_e, kd, if_neg (by decide), if_pos (by decide), md_works_b109_e, if_neg (by decide), if_neg (by decide), if_neg (by decide), if_neg (by decide), if_neg (by decide), if_neg (by decide), if_neg (by decide), if_neg (by decide), if_neg (by decide), if_pos rfl, md_repeats_e, if_pos t2, es, if_neg (by decide), md_repeats_b54_e, if_pos t2, if_pos es]
  by_cases z : σ 88 (σ 87 8 - 1) = 3
  · left
    obtain ⟨y1, y2, y3⟩ := v.tru z
    obtain ⟨S, T, s1, s2, s3, nd⟩ := choice_pair (τ0 := τ) (n := n) Q ⟨hn.2.1, hn.2.2.1⟩ (by omega) (by omega) rfl (by omega) z rfl y1 y2.symm y3
    have nd' := nd
    obtain ⟨⟨x1, x2, x3, x4⟩, x5, x6, x7, x8, x9⟩ := nd'
    have cc1 : smC σ (gW σ 87 8 (σ 87 8 - 1)) := ⟨fun a j q1 _ _ _ => gW_c q1, fun j q1 _ _ => gW_i q1⟩
    have dd1 : smM τ (gW τ 119 125 (τ 119 125 - 1)) (τ 212 (σ 87 21)) := ⟨fun a j q1 _ _ _ => gW_c q1, fun j _ q2 _ => gW_i q2, fun a j q1 q2 _ => gW_c (by omega)⟩
    have s21 : S 87 21 = σ 87 21 := by rw [x2 21 (by decide), gW_i (by decide)]
    have kS : ∀ a, (a = 14 ∨ (20 ≤ a ∧ a ≤ 22) ∨ (26 ≤ a ∧ a ≤ 29) ∨ a = 90 ∨ a = 92) → S a = σ a := fun a q => by rw [x1 a q, gW_cell (by omega)]
    have kT : ∀ a, (a = 168 ∨ (170 ≤ a ∧ a ≤ 173) ∨ (212 ≤ a ∧ a ≤ 213)) → T a = τ a := fun a q => by rw [x3 a q, gW_cell (by omega)]
    have gt : ∀ a j, 218 ≤ a → a ≤ 222 → T a j = τ a j := fun a j q1 q2 => by rw [x7 a q1 q2, gW_c (by omega)]
    have f119 : ∀ j, j ≠ 123 → j ≠ 125 → T 119 j = τ 119 j := fun j q1 q2 => by rw [x8 j q1, gW_i q2]
    have A2 := s3.2.1
    have hIn2 := s3.1.1.1.2.2.2.2.2.2.2.2.2.2.1
    obtain ⟨w1, w2, w3, w4, w5⟩ := A2.op (P := pT (σ 87 21)) (by rw [s21]) (show cI S (pT (σ 87 21)) 12 E n by unfold cI; rw [kS 20 (by decide), kS 21 (by decide), kS 22 (by decide)]; exact i1) hIn2 hIn2.1.2
    rw [s21] at w2 w5
    have s1 := s1 w1
    have s28 : S 28 = σ 28 := kS 28 (by decide)
    have s29 : S 29 = σ 29 := kS 29 (by decide)
    have s90 : S 90 = σ 90 := kS 90 (by decide)
    have f124 : T 119 124 = τ 212 (σ 87 21) + m + 1 + 1 := by rw [f119 124 (by decide) (by decide)]; exact t1
    -- both ways
    have way : ∀ (T2 : gM) (P' br2 co2 : Int) (m' : Nat), smM T T2 (τ 212 (σ 87 21)) → (∀ a j, 221 ≤ a → a ≤ 222 → T2 a j = T a j) → T2 119 125 = T 119 125 → T2 119 124 = τ 212 (σ 87 21) + m' + 1 → pT (σ 87 21) < P' → pcT S (σ 87 21) (if σ 89 (σ 87 8 - 1) = 1 then S 87 22 + 1 else S 21 (S 87 22)) P' → (kpX σ τ (gW S 87 22 (if σ 89 (σ 87 8 - 1) = 1 then S 87 22 + 1 else S 21 (S 87 22))) T2 → St (gW S 87 22 (if σ 89 (σ 87 8 - 1) = 1 then S 87 22 + 1 else S 21 (S 87 22))) T2 (σ 26 (σ 90 (σ 87 21))) (σ 26 (σ 90 (σ 87 21)) + σ 27 (σ 90 (σ 87 21))) (σ 28 (σ 90 (σ 87 21))) (σ 28 (σ 90 (σ 87 21)) + σ 29 (σ 90 (σ 87 21)) - 2) (τ 212 (σ 87 21)) m' P' 0 br2 co2) → md_works τ (τ 212 (σ 87 21) + m + 1) n (τ 168 n) = some (T2, some 0) → goX σ τ θ := fun T2 P' br2 co2 m' dd2 dp e125' tk hP pc' st' we => by
      have cc2 : smC S (gW S 87 22 (if σ 89 (σ 87 8 - 1) = 1 then S 87 22 + 1 else S 21 (S 87 22))) := ⟨fun a j q1 _ _ _ => gW_c q1, fun j _ q _ => gW_i q⟩
      obtain ⟨kx, rv⟩ := chn cc1 dd1 nd cc2 dd2
      have Q3 := s3.sm (h' := 0) cc2 (by rw [s21, kT 212 (by decide)]; exact dd2) (by rw [gW_at, s21]; exact pc')
      rw [s21] at Q3
      have e8 : gW S 87 22 (if σ 89 (σ 87 8 - 1) = 1 then S 87 22 + 1 else S 21 (S 87 22)) 87 8 = σ 87 8 - 1 := by rw [gW_i (by decide), x6, gW_at]
      have e125 : T2 119 125 = τ 119 125 - 1 := by rw [e125', x8 125 (by decide), gW_at]
      refine ⟨_, T2, _, _, m', br2, co2, θ - 1, cG_of t6.1 o1 o4 o3 (by decide) (mc_work_11 (Or.inr rfl) s1), mG_of t6.2.1 t6.2.2 (work_n (v := 0) t1 t2 en n2 we), R.asm Q3 (updF_at ..) kx (R.pk2 p1 kx rv (fun a j q _ => by rw [gW_c (show a ≠ 87 by omega), x5 a q, gW_c (show a ≠ 87 by omega)]) (fun a j q _ => by rw [dp a j (by omega) (by omega), gt a j (by omega) (by omega)]) (by rw [e8, e125]; omega) fun j j0 j1 => ?_) (st' kx) tk (by rw [e8]; omega) (by omega) ⟨by rw [i1.1]; decide, by rw [i1.1]; decide⟩ hP (by rw [e8]; omega), Or.inl (by omega), ?_, ?_⟩
      · rw [e8] at j1
        have q := rv _ _ _ _ (p2 j j0 (by omega))
        rw [gW_c (show (88 : Int) ≠ 87 by decide), gW_c (show (89 : Int) ≠ 87 by decide), x5 88 (by decide), x5 89 (by decide), gW_c (show (88 : Int) ≠ 87 by decide), gW_c (show (89 : Int) ≠ 87 by decide), dp 221 _ (by decide) (by decide), dp 222 _ (by decide) (by decide), gt 221 _ (by decide) (by decide), gt 222 _ (by decide) (by decide)]
        exact q
      · rw [dd2.2.1 119 (by decide) (by decide) (by decide), f119 119 (by decide) (by decide)]
      · rw [dd2.2.1 120 (by decide) (by decide) (by decide), f119 120 (by decide) (by decide)]
    by_cases x1' : σ 89 (σ 87 8 - 1) = 1
    · have f124' : gW T 219 (τ 212 (σ 87 21) + m + 1) 2 119 124 = τ 212 (σ 87 21) + m + 1 + 1 := by rw [gW_c (by decide)]; exact f124
      obtain ⟨u1, u2, u3, u4⟩ := tkW_n (τ := gW T 219 (τ 212 (σ 87 21) + m + 1) 2) (n := -2) (x := τ 171 n) f124'
      have uo : ∀ a j, (a < 218 ∧ a ≠ 119) ∨ 220 < a ∨ (a ≠ 119 ∧ j ≠ τ 212 (σ 87 21) + m + 1 ∧ j ≠ τ 212 (σ 87 21) + m + 1 + 1) ∨ (a = 119 ∧ j ≠ 124) ∨ (a = 218 ∨ a = 220) ∧ j = τ 212 (σ 87 21) + m + 1 → tkW (gW T 219 (τ 212 (σ 87 21) + m + 1) 2) (-2) (τ 171 n) a j = T a j := fun a j q => by
        rw [tkW_o (by rw [f124']; omega)]
        by_cases e : a = 219
        · rw [e, gW_i (by omega)]
        · exact gW_c e
      have u5 : tkW (gW T 219 (τ 212 (σ 87 21) + m + 1) 2) (-2) (τ 171 n) 219 (τ 212 (σ 87 21) + m + 1) = 2 := by rw [tkW_o (by rw [f124']; omega), gW_at]
      refine way (tkW (gW T 219 (τ 212 (σ 87 21) + m + 1) 2) (-2) (τ 171 n)) (pT (σ 87 21) + 1) E (E - 1) (m + 2) ⟨fun a j q1 q2 _ _ => uo a j (by omega), fun j q1 _ _ => uo 119 j (by omega), fun a j q1 q2 q3 => uo a j (by omega)⟩ (fun a j q1 q2 => uo a j (by omega)) (uo 119 125 (by omega)) (by rw [u4]; omega) (by omega) (by rw [if_pos x1']; exact w2.next (by rw [s28, s29, s90]; omega)) (fun kx => ?_) ?_
      · have lo0 := k1.1
        refine ⟨⟨by omega, by omega⟩, ?_, E - 1, 0, E, E - 1, ?_, ⟨by omega, k1.1.2⟩, ?_, E, 0, br', co', ?_, kx.st (fun a j q1 q2 q3 => by rw [uo a j (by omega), gt a j q1 (by omega)]) st⟩
        · unfold rwO
          rw [show τ 212 (σ 87 21) + ((m + 1 : Nat) : Int) + 1 = τ 212 (σ 87 21) + m + 1 + 1 by omega, show τ 212 (σ 87 21) + ((m + 1 : Nat) : Int) = τ 212 (σ 87 21) + m + 1 by omega, u1, u5, uo 218 _ (by omega), gt 218 _ (by decide) (by decide), en]
          refine ⟨fun _ => Or.inr ⟨hn.1, ?_, rfl⟩, fun q => by omega⟩
          rw [uo 168 n (by omega), kT 168 (by decide)]
          exact kd
        · rw [show τ 212 (σ 87 21) + ((m + 1 : Nat) : Int) + 1 = τ 212 (σ 87 21) + m + 1 + 1 by omega, u1, u2, u3]
          refine Or.inr (Or.inl ⟨rfl, rfl, rfl, rfl, ⟨rfl, rfl⟩, ?_, E - 1, kx.rx i2, Or.inl rfl⟩)
          omega
        · have hw' := hw
          unfold rwO at hw' ⊢
          rw [uo 218 _ (by omega), gt 218 _ (by decide) (by decide), uo 218 _ (by omega), gt 218 _ (by decide) (by decide), uo 219 (τ 212 (σ 87 21) + m) (by omega), gt 219 (τ 212 (σ 87 21) + m) (by decide) (by decide)]
          have e168 : ∀ j, tkW (gW T 219 (τ 212 (σ 87 21) + m + 1) 2) (-2) (τ 171 n) 168 j = τ 168 j := fun j => by rw [uo 168 j (by omega), kT 168 (by decide)]
          simp only [e168]
          exact hw'
        · rw [uo 218 _ (by omega), gt 218 _ (by decide) (by decide), en, u5]
          refine Or.inr (Or.inr ⟨hn, Or.inr ⟨Or.inr (Or.inl ⟨by rw [uo 168 n (by omega), kT 168 (by decide)]; exact kd, Or.inr (Or.inr ⟨rfl, rfl, ⟨rfl, rfl, rfl⟩, A0, pT (σ 87 21), hA, ?_⟩)⟩), rfl⟩⟩)
          exact tWh.fr (fun a j q _ _ => by rw [uo a j (by omega), kT a (by omega)]) (fun j _ _ => by rw [gW_c (by decide), kS 14 (by decide)]) (fun p _ _ => ⟨by rw [gW_c (by decide), kS 20 (by decide)], by rw [gW_c (by decide), kS 21 (by decide)], by rw [gW_c (by decide), kS 22 (by decide)]⟩) ti' hn.2.1 hn.2.2.1 hA hl.2
      · rw [wk, s2, x1']
        simp only [Option.bind_some, gtry]
        rw [if_neg (show ¬ (1 : Int) = 0 by decide), if_pos t2, if_pos n2, kT 171 (by decide), md_task_s (by rw [f124']; have := k1.1.2; omega)]
        rfl
    · have x0 : σ 89 (σ 87 8 - 1) = 0 := by omega
      have uo : ∀ a j, a ≠ 119 ∨ j ≠ 124 → gW T 119 124 (τ 212 (σ 87 21) + m + 1) a j = T a j := fun a j q => by
        rcases q with q | q
        · exact gW_c q
        · exact gW_j q
      refine way (gW T 119 124 (τ 212 (σ 87 21) + m + 1)) E br' co' m ⟨fun a j q1 _ _ _ => gW_c q1, fun j q1 _ _ => gW_i q1, fun a j q1 q2 _ => gW_c (by omega)⟩ (fun a j q1 q2 => gW_c (by omega)) (gW_i (by decide)) (gW_at ..) (by omega) (by rw [if_neg x1']; exact w5 (by unfold isJ; omega) (by rw [s28, s90]; omega) (by rw [s28, s29, s90]; omega)) (fun kx => kx.st (fun a j q1 q2 q3 => by rw [uo a j (by omega), gt a j q1 (by omega)]) st) ?_
      rw [wk, s2, x0]
      simp only [Option.bind_some, gtry, if_true]
      rw [f124, show τ 212 (σ 87 21) + m + 1 + 1 - 1 = τ 212 (σ 87 21) + m + 1 by omega, w32_e (by omega) (by omega)]
  · right
    have tz : τ 221 (τ 119 125 - 1) ≠ 1 := fun q => z ((kT_1 vk.2).mp (by rw [← vk.1]; exact q))
    refine Q.failX (e := 1) ⟨hn.2.1, hn.2.2.1⟩ t6.1 o1 o4 o3 (by decide) (fun f => ?_) t6.2.1 t6.2.2 t1 t2 en (fun f => ?_) rfl
    · exact mc_work_11 (Or.inr rfl) (choice_fail (τ0 := τ) (T := erM τ 1 n) (by omega) rfl (by omega) z tz f (Q.fail (e := 1) ⟨hn.2.1, hn.2.2.1⟩).2.1).1
    · rw [wk, (choice_fail (σ := σ) (S := flS σ 1 n) (by omega) rfl (by omega) z tz (Q.fail (e := 1) ⟨hn.2.1, hn.2.2.1⟩).1 f).2.2.2]
      rfl
end WH
