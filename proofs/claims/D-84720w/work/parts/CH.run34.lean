/-! a while goes on: a step on both sides -/
section AO
variable {σ τ S T : gM} {pT hT : Int → Int} {m : Nat} {br co θ n : Int}
theorem wSs_nn : ∀ c : Nat, (∀ k, 0 ≤ k → k < (c : Int) → pT k ≤ σ 28 (σ 90 k) + σ 29 (σ 90 k) - 1) → 0 ≤ wSs σ pT c
  | 0, _ => Int.le_refl 0
  | c + 1, h => by
    have := wSs_nn c fun k q1 q2 => h k q1 (by omega)
    have := h c (by omega) (by omega)
    show 0 ≤ wSs σ pT c + 8 * (σ 28 (σ 90 c) + σ 29 (σ 90 c) - 1 - pT c)
    omega
/-- something is left to do -/
theorem RR.th0 (R : RR σ τ pT hT m br co θ) : 0 ≤ θ ∧ τ 119 123 + ccN σ (σ 87 19).toNat ≤ 200000000 ∧ σ 87 34 ≤ 2047000000 := by
  obtain ⟨c1, c1', c2, pc, c5, c6, -⟩ := R.cur
  obtain ⟨o, p1, p2, p3, p4, p5, p6⟩ := R.pl
  obtain ⟨Q, -, -, H⟩ := R
  have hap := Q.2.1.2.2.2.1
  have C := Q.2.2.2.2.1
  have hm := Q.2.1.2.2.2.2.2.1
  have w := wSs_nn (σ := σ) (pT := pT) (σ 87 21).toNat fun k q1 q2 => by have := (hap k q1 (by omega)).1; omega
  have w2 := wT_le (σ := σ) (k := σ 87 21) (P := pT (σ 87 21)) (by have := pc.1; omega)
  have := H.1
  have := H.2
  have := C.2.1
  omega
theorem op_again {E A0 M br' co' x1 x2 : Int} (R : RR σ τ pT hT (m + 1) br co θ) (en : τ 218 (τ 212 (σ 87 21) + m + 1) = n) (es : τ 219 (τ 212 (σ 87 21) + m + 1) = 2) (hn : 0 ≤ n ∧ σ 26 (σ 90 (σ 87 21)) ≤ n ∧ n < σ 26 (σ 90 (σ 87 21)) + σ 27 (σ 90 (σ 87 21)) ∧ ((m : Int) + 1) ≤ 2 * (n - σ 26 (σ 90 (σ 87 21))) + 2) (hh : hT (σ 87 21) = 0) (kd : τ 168 n = 25) (hP : pT (σ 87 21) = E - 1) (hA : σ 28 (σ 90 (σ 87 21)) ≤ A0) (ti : tWh σ τ (σ 26 (σ 90 (σ 87 21))) (σ 26 (σ 90 (σ 87 21)) + σ 27 (σ 90 (σ 87 21))) br' co' n A0 M E) (st : St σ τ (σ 26 (σ 90 (σ 87 21))) (σ 26 (σ 90 (σ 87 21)) + σ 27 (σ 90 (σ 87 21))) (σ 28 (σ 90 (σ 87 21))) (σ 28 (σ 90 (σ 87 21)) + σ 29 (σ 90 (σ 87 21)) - 2) (τ 212 (σ 87 21)) m E 0 br' co') (m1 : τ 119 119 = x2) (m2 : τ 119 120 = x1) (xb : 0 ≤ x2 ∧ x2 ≤ 1000000000) : stpX σ τ θ x1 x2 := by
  obtain ⟨-, -, -, -, ⟨t1, t2⟩, t3, -, -, hw, t6⟩ := R.top
  obtain ⟨c1, -, c2, pc, c5, c6, c7, c8, c9⟩ := R.cur
  obtain ⟨o, p1, p2, p3, p4, p5, p6⟩ := R.pl
  have R' := R
  obtain ⟨Q, -, ⟨⟨k1, -⟩, -⟩, H⟩ := R'
  have Q' := Q
  obtain ⟨⟨⟨P1, -⟩, -⟩, A, -, -, C, -⟩ := Q'
  have hIn := P1.2.2.2.2.2.2.2.2.2.2.1
  have hl := St.le _ _ _ _ _ st
  have tle := ti.le
  have ti' := ti
  obtain ⟨ord, i0, i1, i2, i3⟩ := ti
  rw [← hP] at i3
  obtain ⟨o1, o2, o3, o4, -⟩ := A.op rfl i3 hIn hIn.1.2
  have o4 : σ 20 (σ 87 22) = 13 := by
    rcases o4 with z | z | z
    · exact z
    · omega
    · omega
  have n2 : 0 ≤ n ∧ n < 20000 := by omega
  have px := i0.pos
  have pk := i0.k0
  have eg : mc_go_b2 σ x1 x2 = mc_go_b35 σ x1 x2 13 := by rw [mc_go_b2_e, if_pos C.1.1, if_pos o1, o4, if_neg (by decide), if_pos rfl]
  have wk : md_works τ (τ 212 (σ 87 21) + m + 1) n (τ 168 n) = ((md_step τ n).bind fun p1 => gtry p1.2 (fun v2 => if v2 = 0 then some (p1.1, some 0) else ((md_falls p1.1).bind fun p3 => if 0 ≤ w32 ((p3.1 119 121) - 1) ∧ w32 ((p3.1 119 121) - 1) < 60 then (if p3.1 209 (w32 ((p3.1 119 121) - 1)) < 0 then (if 0 ≤ w32 ((p3.1 119 121) - 1) ∧ w32 ((p3.1 119 121) - 1) < 60 then ((md_heat p3.1 (p3.1 208 (w32 ((p3.1 119 121) - 1)))).bind fun p4 => (md_enterCode p4.1 (w32 ((p3.1 119 121) - 1))).bind fun p5 => md_repeats_b54 p5.1 (τ 212 (σ 87 21) + m + 1) n) else none) else md_repeats_b54 p3.1 (τ 212 (σ 87 21) + m + 1) n) else none)) (some (p1.1, none))).bind fun p20 => gtry p20.2 (fun _ => some (p20.1, some 0)) (some (p20.1, none)) := by
    rw [md_works_e, kd, if_neg (by decide), if_pos (by decide), md_works_b109_e, if_neg (by decide), if_neg (by decide), if_neg (by decide), if_neg (by decide), if_neg (by decide), if_neg (by decide), if_neg (by decide), if_neg (by decide), if_neg (by decide), if_pos rfl, md_repeats_e, if_pos t2, if_pos es]
  by_cases z1 : x2 = x1
  · refine Or.inl ⟨z1, ?_, ?_⟩
    · rw [eg, mc_go_b35_e, if_pos z1]
    · refine mG_pause C.1.2 C.2.2.2.2.2.2.2 (work_n (v := 0) t1 t2 en n2 ?_)
      rw [wk, md_step_e, if_pos (by rw [m1, m2]; exact z1)]
      rfl
  by_cases z2 : σ 87 24 = 20000
  · refine Or.inr (Or.inl ?_)
    obtain ⟨f1, f2, f3, f4⟩ := Q.fail (n := n) (e := 10) ⟨hn.2.1, hn.2.2.1⟩
    refine ⟨_, _, ?_, ?_, f3, ?_⟩
    · rw [eg, mc_go_b35_e, if_neg z1, if_pos z2, if_pos o1, o3, f1]
      rfl
    · refine mG_fail C.1.2 C.2.2.2.2.2.2.2 (work_nf t1 t2 en n2 ?_)
      rw [wk, md_step_e, if_neg (by rw [m1, m2]; exact z1), if_pos (by rw [C.2.1.1]; exact z2), f2]
      rfl
    · rw [gW_i (by decide), gW_i (by decide), erM_o (by omega)]
  · refine Or.inr (Or.inr ?_)
    have Q1 := Q.stp z2
    obtain ⟨S, T, s1, s2, s3, nd, s5, s6⟩ := fall_RQ Q1
    have nd' := nd
    obtain ⟨⟨x1', x2', x3', x4'⟩, x5, x6, x7, x8, x9⟩ := nd'
    have kσ : ∀ a, a ≠ 87 → gW σ 87 24 (σ 87 24 + 1) a = σ a := fun a q => gW_cell q
    have kτ : ∀ a, a ≠ 119 → gW (gW τ 119 118 (τ 119 118 + 1)) 119 119 (τ 119 119 + 1) a = τ a := fun a q => by rw [gW_cell q, gW_cell q]
    have tτ : ∀ i, i ≠ 118 → i ≠ 119 → gW (gW τ 119 118 (τ 119 118 + 1)) 119 119 (τ 119 119 + 1) 119 i = τ 119 i := fun i q1 q2 => by rw [gW_i q2, gW_i q1]
    have kS : ∀ a, a = 14 ∨ (20 ≤ a ∧ a ≤ 22) ∨ (26 ≤ a ∧ a ≤ 29) ∨ a = 90 ∨ a = 92 → S a = σ a := fun a q => by rw [x1' a q, kσ a (by omega)]
    have kT : ∀ a, a = 168 ∨ (170 ≤ a ∧ a ≤ 173) ∨ (212 ≤ a ∧ a ≤ 213) → T a = τ a := fun a q => by rw [x3' a q, kτ a (by omega)]
    have s21 : S 87 21 = σ 87 21 := by rw [x2' 21 (by decide), gW_i (by decide)]
    have s19 : S 87 19 = σ 87 19 := by rw [x2' 19 (by decide), gW_i (by decide)]
    have gt : ∀ a j, 218 ≤ a → a ≤ 222 → T a j = τ a j := fun a j q1 q2 => by rw [x7 a q1 q2, kτ a (by omega)]
    have f119 : ∀ j, j ≠ 118 → j ≠ 119 → j ≠ 123 → T 119 j = τ 119 j := fun j q1 q2 q3 => by rw [x8 j q3, tτ j q1 q2]
    have cc0 : T 119 123 + ccN S (σ 87 19).toNat = τ 119 123 + ccN σ (σ 87 19).toNat := by
      have := x4'
      rw [gW_i (show (19 : Int) ≠ 24 by decide), tτ 123 (by decide) (by decide), ccN_eq (S := gW σ 87 24 (σ 87 24 + 1)) (σ := σ) _ fun j _ _ => by rw [kσ 93 (by decide)]] at this
      exact this
    have hT123 : T 119 123 ≤ 2000000000 := by
      have := R.th0
      have := ccN_rg (σ := S) (σ 87 19).toNat
      omega
    obtain ⟨S2, T2, a1, a2, a3, ⟨y1, y2, y3, y4, y5, y6⟩⟩ := again_pair (P' := A0) (n := n) s3 hT123 (by rw [s21, kS 28 (by decide), kS 29 (by decide), kS 90 (by decide)]; omega) (by unfold cI; rw [s21, kS 20 (by decide), kS 21 (by decide), kS 22 (by decide)]; exact i3)
    rw [s21] at a3
    have eC : mc_go_b2 σ x1 x2 = mc_go_b2 S2 x1 (x2 + 1) := by
      rw [eg, mc_go_b35_e, if_neg z1, if_neg z2, w32_e (x := σ 87 24 + 1) (by have := C.2.1; omega) (by have := C.2.1; omega), s1]
      simp only [Option.bind_some, if_true]
      rw [a1]
      simp only [Option.bind_some]
      rw [w32_e (x := x2 + 1) (by have := C.2.1; omega) (by have := C.2.1; omega), mc_go_b135_e]
    have eS : md_step τ n = some (gW (gW τ 119 118 (τ 119 118 + 1)) 119 119 (τ 119 119 + 1), some 1) := by
      rw [md_step_e, if_neg (by rw [m1, m2]; exact z1), if_neg (by rw [C.2.1.1]; exact z2), w32_e (x := τ 119 118 + 1) (by have := C.2.1; omega) (by have := C.2.1; omega), w32_e (x := τ 119 119 + 1) (by have := C.2.1; omega) (by have := C.2.1; omega)]
    have g2 : ∀ a j, 218 ≤ a → a ≤ 222 → T2 a j = τ a j := fun a j q1 q2 => by rw [y3 a (by omega), gt a j q1 q2]
    have kT2 : ∀ a, a = 168 ∨ (170 ≤ a ∧ a ≤ 173) ∨ (212 ≤ a ∧ a ≤ 213) → T2 a = τ a := fun a q => by rw [y3 a (by omega), kT a q]
    have kS2 : ∀ a, a = 14 ∨ (20 ≤ a ∧ a ≤ 22) ∨ (26 ≤ a ∧ a ≤ 29) ∨ a = 90 ∨ a = 92 → S2 a = σ a := fun a q => by rw [y1 a (by omega), kS a q]
    have h119 : ∀ j, j ≠ 89 → j ≠ 118 → j ≠ 119 → j ≠ 123 → T2 119 j = τ 119 j := fun j q0 q1 q2 q3 => by rw [y4 j q0, f119 j q1 q2 q3]
    have f124 : gW T2 219 (τ 212 (σ 87 21) + m + 1) 1 119 124 = τ 212 (σ 87 21) + m + 1 + 1 := by rw [gW_c (by decide), h119 124 (by decide) (by decide) (by decide) (by decide)]; exact t1
    have mb := k1.1.2
    obtain ⟨u1, u2, u3, u4⟩ := tkW_n (τ := gW T2 219 (τ 212 (σ 87 21) + m + 1) 1) (n := τ 170 n) (x := -1) f124
    have uo : ∀ a j, (a < 218 ∧ a ≠ 119) ∨ 220 < a ∨ (a ≠ 119 ∧ j ≠ τ 212 (σ 87 21) + m + 1 ∧ j ≠ τ 212 (σ 87 21) + m + 1 + 1) ∨ (a = 119 ∧ j ≠ 124) ∨ ((a = 218 ∨ a = 220) ∧ j = τ 212 (σ 87 21) + m + 1) → tkW (gW T2 219 (τ 212 (σ 87 21) + m + 1) 1) (τ 170 n) (-1) a j = T2 a j := fun a j q => by
      rw [tkW_o (by rw [f124]; omega)]
      by_cases e : a = 219
      · rw [e, gW_i (by omega)]
      · exact gW_c e
    have u5 : tkW (gW T2 219 (τ 212 (σ 87 21) + m + 1) 1) (τ 170 n) (-1) 219 (τ 212 (σ 87 21) + m + 1) = 1 := by rw [tkW_o (by rw [f124]; omega), gW_at]
    have d2 : smM T2 (tkW (gW T2 219 (τ 212 (σ 87 21) + m + 1) 1) (τ 170 n) (-1)) (τ 212 (σ 87 21)) := ⟨fun a j q1 q2 _ _ => uo a j (by omega), fun j q1 _ _ => uo 119 j (by omega), fun a j q1 q2 q3 => uo a j (by omega)⟩
    have we : md_works τ (τ 212 (σ 87 21) + m + 1) n (τ 168 n) = some (tkW (gW T2 219 (τ 212 (σ 87 21) + m + 1) 1) (τ 170 n) (-1), some 0) := by
      rw [wk, eS]
      simp only [Option.bind_some, gtry]
      rw [if_neg (show ¬ (1 : Int) = 0 by decide), s2]
      simp only [Option.bind_some]
      rw [a2 fun T => md_repeats_b54 T (τ 212 (σ 87 21) + m + 1) n, md_repeats_b54_e, if_pos t2, g2 219 _ (by decide) (by decide), es, if_neg (by decide), if_pos t2, if_pos n2, kT2 170 (by decide), md_task_s (by rw [f124]; omega)]
      rfl
    have hZ : updF hT (σ 87 21) 0 = hT := by
      have := updF_same hT (σ 87 21)
      rw [hh] at this
      exact this
    have Q3 := a3.sm (S := S2) (T := tkW (gW T2 219 (τ 212 (σ 87 21) + m + 1) 1) (τ 170 n) (-1)) (P' := A0) (h' := 0) ⟨fun _ _ _ _ _ _ => rfl, fun _ _ _ _ => rfl⟩ (by rw [y2 21 (by decide) (by decide), s21, kT2 212 (by decide)]; exact d2) (by
      have p := a3.2.1.2.2.2.1 (σ 87 21) c1.1 (by have := a3.2.1.2.2.2.2.2.1; rw [y2 21 (by decide) (by decide), s21] at this; omega)
      unfold pcA at p
      rw [y2 21 (by decide) (by decide), s21, if_pos rfl, updF_at] at p
      rw [y2 21 (by decide) (by decide), s21]
      exact p)
    rw [y2 21 (by decide) (by decide), s21] at Q3
    have eP : updF (updF pT (σ 87 21) A0) (σ 87 21) A0 = updF pT (σ 87 21) A0 := by
      funext k
      by_cases e : k = σ 87 21
      · rw [e, updF_at, updF_at]
      · rw [updF_ne e]
    rw [eP, hZ] at Q3
    have e8 : S2 87 8 = σ 87 8 := by rw [y2 8 (by decide) (by decide), x6, gW_i (by decide)]
    have rv2 : ∀ k y t z, rVal σ τ k y t z → rVal S2 (tkW (gW T2 219 (τ 212 (σ 87 21) + m + 1) 1) (τ 170 n) (-1)) k y t z := fun k y t z v => by
      have e1 : rVal (gW σ 87 24 (σ 87 24 + 1)) (gW (gW τ 119 118 (τ 119 118 + 1)) 119 119 (τ 119 119 + 1)) k y t z := by
        have sa : sameC σ (gW σ 87 24 (σ 87 24 + 1)) := by
          refine ⟨fun a q => kσ a (by omega), ?_⟩
          rw [kσ 0 (by decide), kσ 8 (by decide), kσ 42 (by decide), kσ 52 (by decide)]
          exact ⟨rfl, rfl, rfl, rfl, rfl, rfl, rfl, rfl, rfl, rfl, rfl, rfl, rfl, rfl, rfl, rfl, rfl, rfl, gW_i (by decide)⟩
        have sb : sameT τ (gW (gW τ 119 118 (τ 119 118 + 1)) 119 119 (τ 119 119 + 1)) := ⟨fun a q => kτ a (by omega), tτ 9 (by decide) (by decide), tτ 10 (by decide) (by decide), tτ 12 (by decide) (by decide), tτ 13 (by decide) (by decide), tτ 15 (by decide) (by decide), tτ 16 (by decide) (by decide), tτ 55 (by decide) (by decide), tτ 56 (by decide) (by decide), tτ 57 (by decide) (by decide), tτ 89 (by decide) (by decide), tτ 92 (by decide) (by decide), tτ 93 (by decide) (by decide), tτ 94 (by decide) (by decide), tτ 104 (by decide) (by decide)⟩
        exact ((rVal_mv sa sb).1 _ _ _ _).mpr v
      exact (smC.rv (σ := S2) (S := S2) ⟨fun _ _ _ _ _ _ => rfl, fun _ _ _ _ => rfl⟩ d2).mpr (y6 _ _ _ _ (x9 _ _ _ _ e1))
    refine ⟨S2, tkW (gW T2 219 (τ 212 (σ 87 21) + m + 1) 1) (τ 170 n) (-1), _, _, m + 2, br', co', ⟨eC, fun q => b8_inl bm_mc_again (mc_again_l _) a1 (b8_inl bm_mc_falls (mc_falls_l _) s1 (q.w (by decide +kernel)))⟩, mG_of (v := 0) C.1.2 C.2.2.2.2.2.2.2 (work_n (v := 0) t1 t2 en n2 we), R.asmS Q3 hh kS2 (fun i q => by rw [y2 i (by omega) (by omega), x2' i (by omega), gW_i (by omega)]) (by rw [y2 24 (by decide) (by decide), x2' 24 (by decide), gW_at]) (fun a q => by funext j; rw [uo a j (by omega), kT2 a q]) ?_ (R.2.1.mk' p1 (by omega) (by rw [y2 21 (by decide) (by decide)]; exact s21) (fun j _ => by rw [kS2 92 (by decide)]) (fun j _ => by rw [uo 213 j (by omega), kT2 213 (by decide)]) (fun a j q _ => by rw [y1 a (by omega), x5 a q, kσ a (by omega)]) (fun a j q _ => by rw [uo a j (by omega), g2 a j (by omega) (by omega)]) rv2 ?_ fun j j0 j1 => ?_) ?_ (by rw [u4]; omega) (by rw [e8]; omega) (by omega) e8, ?_, ?_, by rw [y2 24 (by decide) (by decide), x2' 24 (by decide), gW_at]⟩
    · rw [uo 119 123 (by omega), y4 123 (by decide)]
      rw [s19] at y5
      omega
    · rw [e8, uo 119 125 (by omega), h119 125 (by decide) (by decide) (by decide) (by decide)]; exact p1
    · rw [e8] at j1
      have q := rv2 _ _ _ _ (p2 j j0 j1)
      rw [y1 88 (by decide), y1 89 (by decide), x5 88 (by decide), x5 89 (by decide), kσ 88 (by decide), kσ 89 (by decide), uo 221 _ (by omega), uo 222 _ (by omega), g2 221 _ (by decide) (by decide), g2 222 _ (by decide) (by decide)]
      exact q
    · have e168 : ∀ j, tkW (gW T2 219 (τ 212 (σ 87 21) + m + 1) 1) (τ 170 n) (-1) 168 j = τ 168 j := fun j => by rw [uo 168 j (by omega), kT2 168 (by decide)]
      have fc : ∀ a n', (a = 168 ∨ (170 ≤ a ∧ a ≤ 173)) → σ 26 (σ 90 (σ 87 21)) ≤ n' → n' < σ 26 (σ 90 (σ 87 21)) + σ 27 (σ 90 (σ 87 21)) → tkW (gW T2 219 (τ 212 (σ 87 21) + m + 1) 1) (τ 170 n) (-1) a n' = τ a n' := fun a n' q _ _ => by rw [uo a n' (by omega), kT2 a (by omega)]
      have f14 : ∀ n', σ 26 (σ 90 (σ 87 21)) ≤ n' → n' < σ 26 (σ 90 (σ 87 21)) + σ 27 (σ 90 (σ 87 21)) → S2 14 n' = σ 14 n' := fun n' _ _ => by rw [kS2 14 (by decide)]
      have fs : ∀ P Q, sI σ S2 P Q := fun P Q p _ _ => ⟨by rw [kS2 20 (by decide)], by rw [kS2 21 (by decide)], by rw [kS2 22 (by decide)]⟩
      refine ⟨⟨by omega, by omega⟩, ?_, M, 1, br', co', ?_, ⟨by omega, k1.1.2⟩, ?_, E, 0, br', co', ?_, St.fr fc f14 (fs _ _) m _ _ _ _ (fun a j q1 q2 _ q4 => by rw [uo a j (by omega), g2 a j q1 (by omega)]) st⟩
      · unfold rwO
        rw [show τ 212 (σ 87 21) + ((m + 1 : Nat) : Int) + 1 = τ 212 (σ 87 21) + m + 1 + 1 by omega, u1]
        refine ⟨fun q => by omega, fun _ q => ?_⟩
        rw [e168] at q
        omega
      · rw [show τ 212 (σ 87 21) + ((m + 1 : Nat) : Int) + 1 = τ 212 (σ 87 21) + m + 1 + 1 by omega, u1, u2, u3]
        refine Or.inr (Or.inr ⟨⟨by omega, px.2.1, px.2.2, by omega⟩, Or.inl ⟨⟨⟨by rw [e168]; exact pk.2, by omega, by omega, px.1⟩, Or.inl ⟨rfl, by omega, ?_⟩⟩, rfl, rfl⟩⟩)
        exact RX.st fc f14 (fs (σ 28 (σ 90 (σ 87 21))) (σ 28 (σ 90 (σ 87 21)) + σ 29 (σ 90 (σ 87 21)) - 2)) i0 hA (by omega)
      · have hw' := hw
        unfold rwO at hw' ⊢
        rw [uo 218 _ (by omega), g2 218 _ (by decide) (by decide), uo 218 _ (by omega), g2 218 _ (by decide) (by decide), uo 219 (τ 212 (σ 87 21) + m) (by omega), g2 219 (τ 212 (σ 87 21) + m) (by decide) (by decide)]
        simp only [e168]
        exact hw'
      · rw [uo 218 _ (by omega), g2 218 _ (by decide) (by decide), en, u5]
        refine Or.inr (Or.inr ⟨hn, Or.inr ⟨Or.inr (Or.inl ⟨by rw [e168]; exact kd, Or.inr (Or.inl ⟨rfl, rfl, ⟨rfl, rfl⟩, A0, hA, ?_⟩)⟩), rfl⟩⟩)
        exact tWh.fr fc f14 (fs _ (σ 28 (σ 90 (σ 87 21)) + σ 29 (σ 90 (σ 87 21)) - 2)) ti' hn.2.1 hn.2.2.1 hA hl.2
    · rw [uo 119 119 (by omega), y4 119 (by decide), x8 119 (by decide), gW_at, m1]
    · rw [uo 119 120 (by omega), h119 120 (by decide) (by decide) (by decide) (by decide), m2]
end AO
