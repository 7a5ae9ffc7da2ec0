/-! nots, statements that begin, breaks and continues: both sides -/
section NO
variable {σ τ S T : gM} {pT hT : Int → Int} {m : Nat} {br co θ n : Int}
theorem gW_gW {a i v w : Int} : gW (gW τ a i v) a i w = gW τ a i w := by
  funext b j
  by_cases z : b = a
  · by_cases y : j = i
    · rw [z, y, gW_at, gW_at]
    · rw [gW_j y, gW_j y, gW_j y]
  · rw [gW_c z, gW_c z, gW_c z]
/-- a truth is turned -/
theorem op_not {E h' br' co' : Int} (R : RR σ τ pT hT (m + 1) br co θ) (en : τ 218 (τ 212 (σ 87 21) + m + 1) = n) (es : τ 219 (τ 212 (σ 87 21) + m + 1) = 1) (hn : 0 ≤ n ∧ σ 26 (σ 90 (σ 87 21)) ≤ n ∧ n < σ 26 (σ 90 (σ 87 21)) + σ 27 (σ 90 (σ 87 21))) (st : St σ τ (σ 26 (σ 90 (σ 87 21))) (σ 26 (σ 90 (σ 87 21)) + σ 27 (σ 90 (σ 87 21))) (σ 28 (σ 90 (σ 87 21))) (σ 28 (σ 90 (σ 87 21)) + σ 29 (σ 90 (σ 87 21)) - 2) (τ 212 (σ 87 21)) m E h' br' co') (hh : hT (σ 87 21) = h') (h1 : 1 ≤ h') (hb : h' ≤ 400) (hE : E = pT (σ 87 21) + 1) (kd : τ 168 n = 20) (i : cI σ (pT (σ 87 21)) 6 0 n) : goX σ τ θ ∨ endX σ τ := by
  obtain ⟨-, -, -, -, ⟨t1, t2⟩, t3, -, -, -, t6⟩ := R.top
  obtain ⟨c1, -, -, pc, c5, c6, c7, -, c9⟩ := R.cur
  obtain ⟨o, p1, p2, p3, p4, p5, p6⟩ := R.pl
  have R' := R
  obtain ⟨Q, -⟩ := R'
  have Q' := Q
  obtain ⟨⟨⟨P1, -⟩, -⟩, A, -⟩ := Q'
  have hIn := P1.2.2.2.2.2.2.2.2.2.2.1
  have hl := St.le _ _ _ _ _ st
  obtain ⟨o1, o2, o3, o4, -⟩ := A.op rfl i hIn hIn.1.2
  have o4 : σ 20 (σ 87 22) = 6 := by
    rcases o4 with z | z | z
    · exact z
    · omega
    · omega
  have n2 : 0 ≤ n ∧ n < 20000 := by omega
  have v := p2 (σ 87 8 - 1) (by omega) (by omega)
  rw [show σ 87 8 - 1 + o = τ 119 125 - 1 by omega] at v
  have vk := v.kt
  have gs : ∀ a j, a ≠ 219 ∨ j ≠ τ 212 (σ 87 21) + m + 1 → gW τ 219 (τ 212 (σ 87 21) + m + 1) 2 a j = τ a j := fun a j q => by
    rcases q with q | q
    · exact gW_c q
    · exact gW_j q
  have g125 : gW τ 219 (τ 212 (σ 87 21) + m + 1) 2 119 125 = τ 119 125 := gs 119 125 (by omega)
  have wk : md_works τ (τ 212 (σ 87 21) + m + 1) n (τ 168 n) = ((md_truth (gW τ 219 (τ 212 (σ 87 21) + m + 1) 2) n).bind fun p9 => gtry p9.2 (fun v10 => if v10 = 0 then md_works_b335 p9.1 1 1 else md_works_b335 p9.1 0 1) (some (p9.1, none))) := by
    rw [md_works_e, kd, if_neg (by decide), if_pos (by decide), md_works_b109_e, if_neg (by decide), if_neg (by decide), if_neg (by decide), if_neg (by decide), if_pos rfl, if_pos n2, begun1 t2 es]
    rfl
  by_cases z : σ 88 (σ 87 8 - 1) = 3
  · left
    obtain ⟨y1, y2, y3⟩ := v.tru z
    have tr : md_truth (gW τ 219 (τ 212 (σ 87 21) + m + 1) 2) n = some (gW (gW τ 219 (τ 212 (σ 87 21) + m + 1) 2) 119 125 (τ 119 125 - 1), some (σ 89 (σ 87 8 - 1))) := by
      rw [md_truth_e, g125, w32_e (x := τ 119 125 - 1) (by omega) (by omega), if_pos (by omega), gs 221 _ (by omega), if_pos y1, if_pos (by omega), gs 222 _ (by omega), ← y2]
      rcases y3 with y | y
      · rw [if_neg (fun q => by have := l_cmp_0.mp q; omega), y]
      · rw [if_pos (l_cmp_0.mpr y), y]
    have f124 : gW (gW τ 219 (τ 212 (σ 87 21) + m + 1) 2) 119 125 (τ 119 125 - 1) 119 124 = τ 212 (σ 87 21) + m + 1 + 1 := by rw [gW_i (by decide), gs 119 124 (by omega)]; exact t1
    have f125 : gW (gW τ 219 (τ 212 (σ 87 21) + m + 1) 2) 119 125 (τ 119 125 - 1) 119 125 = τ 119 125 - 1 := gW_at ..
    have e335 : ∀ y, md_works_b335 (gW (gW τ 219 (τ 212 (σ 87 21) + m + 1) 2) 119 125 (τ 119 125 - 1)) y 1 = some (gW (puM (gW (gW τ 219 (τ 212 (σ 87 21) + m + 1) 2) 119 125 (τ 119 125 - 1)) 1 y) 119 124 (τ 212 (σ 87 21) + m + 1), some 0) := fun y => by
      rw [md_works_b335_e, md_push_s (by rw [f125]; omega)]
      simp only [Option.bind_some]
      rw [puM_o (Or.inr (Or.inr ⟨rfl, by decide⟩)), f124, show τ 212 (σ 87 21) + m + 1 + 1 - 1 = τ 212 (σ 87 21) + m + 1 by omega, w32_e (by omega) (by omega)]
    have we : md_works τ (τ 212 (σ 87 21) + m + 1) n (τ 168 n) = some (gW (puM (gW (gW τ 219 (τ 212 (σ 87 21) + m + 1) 2) 119 125 (τ 119 125 - 1)) 1 (1 - σ 89 (σ 87 8 - 1))) 119 124 (τ 212 (σ 87 21) + m + 1), some 0) := by
      rw [wk, tr]
      simp only [Option.bind_some, gtry]
      rw [e335, e335]
      rcases y3 with y | y
      · rw [if_pos y, y]; rfl
      · rw [if_neg (by omega), y]; rfl
    have pn := puM_n (τ := gW (gW τ 219 (τ 212 (σ 87 21) + m + 1) 2) 119 125 (τ 119 125 - 1)) (t := 1) (y := 1 - σ 89 (σ 87 8 - 1))
    rw [f125] at pn
    have uo : ∀ a j, (a ≠ 119 ∧ a ≠ 219 ∧ a ≠ 221 ∧ a ≠ 222) ∨ (a ≠ 119 ∧ a ≠ 219 ∧ j ≠ τ 119 125 - 1) ∨ (a = 219 ∧ j ≠ τ 212 (σ 87 21) + m + 1) ∨ (a = 119 ∧ j ≠ 124 ∧ j ≠ 125) → gW (puM (gW (gW τ 219 (τ 212 (σ 87 21) + m + 1) 2) 119 125 (τ 119 125 - 1)) 1 (1 - σ 89 (σ 87 8 - 1))) 119 124 (τ 212 (σ 87 21) + m + 1) a j = τ a j := fun a j q => by
      rcases q with q | q | q | q
      · rw [gW_c q.1, puM_o (Or.inl ⟨q.1, q.2.2⟩), gW_c q.1, gW_c q.2.1]
      · rw [gW_c q.1, puM_o (Or.inr (Or.inl ⟨q.1, by rw [f125]; exact q.2.2⟩)), gW_c q.1, gW_c q.2.1]
      · rw [q.1, gW_c (by decide), puM_o (Or.inl (by decide)), gW_c (by decide), gW_i q.2]
      · rw [q.1, gW_i q.2.1, puM_o (Or.inr (Or.inr ⟨rfl, q.2.2⟩)), gW_i q.2.2, gW_c (by decide)]
    have sC : ∀ a j, (a ≠ 87 ∧ a ≠ 89) ∨ (a = 87 ∧ j ≠ 22) ∨ (a = 89 ∧ j ≠ σ 87 8 - 1) → gW (gW σ 89 (σ 87 8 - 1) (1 - σ 89 (σ 87 8 - 1))) 87 22 (σ 87 22 + 1) a j = σ a j := fun a j q => by
      rcases q with q | q | q
      · rw [gW_c q.1, gW_c q.2]
      · rw [q.1, gW_i q.2, gW_c (by decide)]
      · rw [q.1, gW_c (by decide), gW_i q.2]
    have cc : smC σ (gW (gW σ 89 (σ 87 8 - 1) (1 - σ 89 (σ 87 8 - 1))) 87 22 (σ 87 22 + 1)) := ⟨fun a j q1 _ q3 _ => sC a j (by omega), fun j _ q _ => sC 87 j (by omega)⟩
    have dd : smM τ (gW (puM (gW (gW τ 219 (τ 212 (σ 87 21) + m + 1) 2) 119 125 (τ 119 125 - 1)) 1 (1 - σ 89 (σ 87 8 - 1))) 119 124 (τ 212 (σ 87 21) + m + 1)) (τ 212 (σ 87 21)) := ⟨fun a j q1 q2 _ _ => uo a j (by omega), fun j q1 q2 _ => uo 119 j (by omega), fun a j q1 q2 q3 => uo a j (by omega)⟩
    have e8 : gW (gW σ 89 (σ 87 8 - 1) (1 - σ 89 (σ 87 8 - 1))) 87 22 (σ 87 22 + 1) 87 8 = σ 87 8 := sC 87 8 (by omega)
    have e125 : gW (puM (gW (gW τ 219 (τ 212 (σ 87 21) + m + 1) 2) 119 125 (τ 119 125 - 1)) 1 (1 - σ 89 (σ 87 8 - 1))) 119 124 (τ 212 (σ 87 21) + m + 1) 119 125 = τ 119 125 := by rw [gW_i (by decide), pn.2.2]; omega
    refine ⟨_, _, _, _, _, _, _, θ - 1, cG_of t6.1 o1 o4 o3 (by decide) ?_, mG_of t6.2.1 t6.2.2 (work_n (v := 0) t1 t2 en n2 we), R.pop1 st cc dd (fun a j q1 q2 q3 => uo a j (by omega)) (R.pk p1 cc dd (fun a j q _ => sC a j (by omega)) (fun a j q _ => uo a j (by omega)) (by rw [e8, e125]; omega) fun j j0 j1 => ?_) (by rw [gW_at, hE]; exact pc.next (by omega)) (by rw [gW_at]; omega) (by rw [e8]; omega) (by omega) ⟨by rw [i.1]; decide, by rw [i.1]; decide⟩ (by omega) (by rw [e8]; omega), Or.inl (by omega), uo 119 119 (by omega), uo 119 120 (by omega)⟩
    · rw [mc_work_6, mc_isTruth_y (by omega) z]
      simp only [Option.bind_some]
      rw [if_neg (show ¬ (1 : Int) = 0 by decide), w32_e (x := σ 87 8 - 1) (by omega) (by omega), if_pos (by omega), if_pos (by omega), w32_e (x := σ 87 22 + 1) (by omega) (by omega), w64_e (by omega) (by omega)]
    · rw [e8] at j1
      apply (smC.rv cc dd).mpr
      by_cases jj : j = σ 87 8 - 1
      · rw [jj, show σ 87 8 - 1 + o = τ 119 125 - 1 by omega, sC 88 _ (by omega), z, gW_c (show (89 : Int) ≠ 87 by decide), gW_at, gW_c (show (221 : Int) ≠ 119 by decide), gW_c (show (222 : Int) ≠ 119 by decide), pn.1, pn.2.1]
        exact rVal.tr0 (by omega)
      · rw [sC 88 j (by omega), sC 89 j (by omega), uo 221 _ (by omega), uo 222 _ (by omega)]
        exact p2 j j0 j1
  · right
    have tz : τ 221 (τ 119 125 - 1) ≠ 1 := fun q => z ((kT_1 vk.2).mp (by rw [← vk.1]; exact q))
    have Q0 : RQ σ (gW τ 219 (τ 212 (σ 87 21) + m + 1) 2) pT hT := by
      have := Q.sm (S := σ) (P' := pT (σ 87 21)) (h' := hT (σ 87 21)) ⟨fun _ _ _ _ _ _ => rfl, fun _ _ _ _ => rfl⟩ (smM.g219 (τ := τ) (v := 2) (i := τ 212 (σ 87 21) + m + 1) (f := τ 212 (σ 87 21)) (by omega)) pc
      rw [updF_same, updF_same] at this
      exact this
    refine Q0.failX (e := 1) ⟨hn.2.1, hn.2.2⟩ t6.1 o1 o4 o3 (by decide) (fun f => ?_) t6.2.1 t6.2.2 t1 t2 en (fun f => ?_) (gs 119 119 (by omega))
    · rw [mc_work_6, mc_isTruth_n (by omega) z f]
      rfl
    · rw [wk, (choice_fail (σ := σ) (S := flS σ 1 n) (by omega) g125 (by omega) z (by rw [gs 221 _ (by omega)]; exact tz) (Q0.fail (e := 1) ⟨hn.2.1, hn.2.2⟩).1 f).2.2.1]
      rfl
/-- a statement begins with a part -/
theorem sil_s {E h' br' co' : Int} (R : RR σ τ pT hT (m + 1) br co θ) (en : τ 218 (τ 212 (σ 87 21) + m + 1) = n) (es : τ 219 (τ 212 (σ 87 21) + m + 1) = 0) (hn : 0 ≤ n ∧ σ 26 (σ 90 (σ 87 21)) ≤ n ∧ n < σ 26 (σ 90 (σ 87 21)) + σ 27 (σ 90 (σ 87 21)) ∧ ((m : Int) + 1) ≤ 2 * (n - σ 26 (σ 90 (σ 87 21))) + 2)
    (ts : Ts σ τ (σ 26 (σ 90 (σ 87 21))) (σ 26 (σ 90 (σ 87 21)) + σ 27 (σ 90 (σ 87 21))) (σ 28 (σ 90 (σ 87 21))) br co n 0 (pT (σ 87 21)) (hT (σ 87 21)) E br' co') (h0 : h' = 0) (st : St σ τ (σ 26 (σ 90 (σ 87 21))) (σ 26 (σ 90 (σ 87 21)) + σ 27 (σ 90 (σ 87 21))) (σ 28 (σ 90 (σ 87 21))) (σ 28 (σ 90 (σ 87 21)) + σ 29 (σ 90 (σ 87 21)) - 2) (τ 212 (σ 87 21)) m E h' br' co') : goX σ τ θ ∨ (τ 168 n = 26 ∧ τ 170 n = -1 ∧ cI σ (pT (σ 87 21)) 17 0 (-1) ∧ cI σ (pT (σ 87 21) + 1) 16 0 n) ∨ ((br' = br ∧ co' = co) ∧ br ≠ -1 ∧ E = pT (σ 87 21) + 1 ∧ ((τ 168 n = 27 ∧ cI σ (pT (σ 87 21)) 14 br (-1)) ∨ (τ 168 n = 28 ∧ cI σ (pT (σ 87 21)) 14 co (-1)))) := by
  obtain ⟨-, -, -, -, ⟨t1, t2⟩, t3, -, -, -, -⟩ := R.top
  obtain ⟨-, -, -, -, -, -, c7, c8, -⟩ := R.cur
  have n2 : 0 ≤ n ∧ n < 20000 := by omega
  rcases ts with ⟨a1, a2, a3⟩ | ⟨a1, a3⟩ | ⟨a1, a2, a3, a4⟩ | ⟨a1, a2, a3, a4, a5, a6⟩
  · rcases a3 with ⟨-, z2, z3, M, z4, z5⟩ | ⟨z1, -⟩
    · refine Or.inl (R.bg (τ1 := gW τ 219 (τ 212 (σ 87 21) + m + 1) 1) (p := τ 170 n) (M := M) en (st1 (by omega)) (s' := 1) (gW_at ..) rfl n2.1 z3 z4 (by omega) (Or.inr (Or.inr ⟨hn, Or.inr ⟨Or.inl ⟨a1, a2, Or.inr ⟨rfl, by omega, z5⟩⟩, h0⟩⟩)) st fun t => ?_)
      rw [md_works_e, a1, if_neg (by decide), if_pos (by decide), md_works_b109_e, if_neg (by decide), if_neg (by decide), if_neg (by decide), if_neg (by decide), if_neg (by decide), if_neg (by decide), if_neg (by decide), if_neg (by decide), if_pos rfl, if_pos n2, begun0 t2 es t]
      rfl
    · omega
  · rcases a3 with ⟨-, z2, ⟨z3, z3'⟩, M, z4⟩ | ⟨z1, -⟩ | ⟨z1, -⟩
    · have z5 := z4.2.1
      rw [z3, z3'] at z5
      refine Or.inl (R.bg (τ1 := gW τ 219 (τ 212 (σ 87 21) + m + 1) 1) (p := τ 170 n) (M := M) en (st1 (by omega)) (s' := 1) (gW_at ..) rfl n2.1 z4.1.1 z5 (by have := z4.1.1; omega) (Or.inr (Or.inr ⟨hn, Or.inr ⟨Or.inr (Or.inl ⟨a1, Or.inr (Or.inl ⟨rfl, by omega, ⟨z3, z3'⟩, pT (σ 87 21), t3.1, z4⟩)⟩), h0⟩⟩)) st fun t => ?_)
      rw [md_works_e, a1, if_neg (by decide), if_pos (by decide), md_works_b109_e, if_neg (by decide), if_neg (by decide), if_neg (by decide), if_neg (by decide), if_neg (by decide), if_neg (by decide), if_neg (by decide), if_neg (by decide), if_neg (by decide), if_pos rfl, md_repeats_e, if_pos t2, es, if_neg (by decide), md_repeats_b54_e, if_pos t2, es, if_neg (by decide), if_pos t2, if_pos n2, t]
      rfl
    · omega
    · omega
  · rcases a4 with ⟨-, z2, z3⟩ | ⟨z1, -⟩
    · rcases z3 with ⟨y1, y2, y3⟩ | ⟨y1, y2⟩
      · refine Or.inr (Or.inl ⟨a1, y1, y3, ?_⟩)
        rw [show E - 1 = pT (σ 87 21) + 1 by omega] at a3
        exact a3
      · refine Or.inl (R.bg (τ1 := gW τ 219 (τ 212 (σ 87 21) + m + 1) 1) (p := τ 170 n) (M := E - 1) en (st1 (by omega)) (s' := 1) (gW_at ..) rfl n2.1 y1 y2 (by omega) (Or.inr (Or.inr ⟨hn, Or.inr ⟨Or.inr (Or.inr (Or.inl ⟨a1, a2, a3, Or.inr ⟨rfl, by omega, y1, rfl⟩⟩)), h0⟩⟩)) st fun t => ?_)
        rw [md_works_e, a1, if_neg (by decide), if_pos (by decide), md_works_b109_e, if_neg (by decide), if_neg (by decide), if_neg (by decide), if_neg (by decide), if_neg (by decide), if_neg (by decide), if_neg (by decide), if_neg (by decide), if_neg (by decide), if_neg (by decide), if_pos rfl, if_pos n2, if_neg (by omega), if_pos n2, begun0 t2 es t]
        rfl
    · omega
  · exact Or.inr (Or.inr ⟨a1, a4, a5, a6⟩)
/-- the tasks go down to the next while -/
theorem brk {lo hi be la fl x3 : Int} (h20 : 0 ≤ lo ∧ hi ≤ 20000) (hf : 0 ≤ fl) : ∀ (m : Nat) (P h br co : Int), St σ τ lo hi be la fl m P h br co → br ≠ -1 → (τ 218 (fl + m) = -2 ∨ (0 ≤ τ 218 (fl + m) ∧ τ 168 (τ 218 (fl + m)) = 25 ∧ τ 219 (fl + m) = 2)) → fl + (m : Int) ≤ 41000 → ∃ (k : Nat) (b' c' : Int), k ≤ m ∧ md_works_b509 (gW τ 119 124 (fl + m + 1)) x3 = some (gW τ 119 124 (if x3 = 27 then fl + k + 1 else fl + k + 2), some 0) ∧ St σ τ lo hi be la fl (k + 1) co 0 br co ∧ St σ τ lo hi be la fl k br 0 b' c'
  | 0, P, h, br, co, k, hb, ht, hm => absurd k.1.2.2.2.2.1 hb
  | m + 1, P, h, br, co, k, hb, ht, hm => by
    have k0 := k
    obtain ⟨h1, hw, E, h', br', co', h3, h4⟩ := k
    have ti : 0 ≤ fl + ((m + 1 : Nat) : Int) ∧ fl + ((m + 1 : Nat) : Int) < 42000 := by omega
    have g218 : ∀ v j, gW τ 119 124 v 218 j = τ 218 j := fun v j => gW_c (by decide)
    have g168 : ∀ v j, gW τ 119 124 v 168 j = τ 168 j := fun v j => gW_c (by decide)
    rw [md_works_b509_e, gW_at, show fl + ((m + 1 : Nat) : Int) + 1 - 1 = fl + ((m + 1 : Nat) : Int) by omega, w32_e (by omega) (by omega), if_pos ti, g218]
    rcases ht with z | ⟨z1, z2, z3⟩
    · rw [if_pos (by omega), md_works_b544_e, gW_at, show fl + ((m + 1 : Nat) : Int) + 1 - 1 = fl + m + 1 by omega, w32_e (by omega) (by omega), gW_gW]
      have z' : τ 218 (fl + m + 1) = -2 := by rw [show fl + ((m + 1 : Nat) : Int) = fl + m + 1 by omega] at z; exact z
      have e : br' = br ∧ co' = co := by
        rcases h3 with ⟨q, -⟩ | ⟨-, -, -, -, q, -⟩ | ⟨q, -⟩
        · omega
        · exact q
        · omega
      rw [e.1, e.2] at h4
      obtain ⟨k, b', c', i1, i2, i3, i4⟩ := brk h20 hf m E h' br co h4 hb (hw.1 z') (by omega)
      exact ⟨k, b', c', by omega, i2, i3, i4⟩
    · have z1' : 0 ≤ τ 218 (fl + m + 1) := by rw [show fl + ((m + 1 : Nat) : Int) = fl + m + 1 by omega] at z1; exact z1
      have rg : τ 218 (fl + ((m + 1 : Nat) : Int)) < 20000 := by
        rw [show fl + ((m + 1 : Nat) : Int) = fl + m + 1 by omega]
        rcases h3.rg with q | q | q <;> omega
      rw [if_neg (by omega), if_pos ti, if_pos ⟨z1, rg⟩, g168, if_pos z2, gW_gW]
      rw [show fl + ((m + 1 : Nat) : Int) = fl + m + 1 by omega] at z2 z3
      rcases h3 with ⟨q, -⟩ | ⟨q, -⟩ | ⟨-, ⟨q, -⟩ | ⟨q, q'⟩⟩
      · omega
      · omega
      · have := q.1.1
        omega
      · rcases q with ⟨q, -⟩ | ⟨-, ⟨q, -⟩ | ⟨q, -⟩ | ⟨-, qh, ⟨q1, q2, q3⟩, -⟩⟩ | ⟨q, -⟩ | ⟨-, q, -⟩
        · omega
        · omega
        · omega
        · refine ⟨m, br', co', by omega, ?_, by
            have e1 : P = co := by omega
            rw [e1, qh] at k0
            exact k0, by rw [q1, ← q']; exact h4⟩
          by_cases e : x3 = 27
          · rw [if_pos e, if_pos e, show fl + ((m + 1 : Nat) : Int) = fl + m + 1 by omega]
          · rw [if_neg e, if_neg e, show fl + ((m + 1 : Nat) : Int) + 1 = fl + m + 2 by omega]
        · omega
        · omega
/-- a break or a continue -/
theorem op_brk {E : Int} (R : RR σ τ pT hT (m + 1) br co θ) (en : τ 218 (τ 212 (σ 87 21) + m + 1) = n) (hn : 0 ≤ n ∧ σ 26 (σ 90 (σ 87 21)) ≤ n ∧ n < σ 26 (σ 90 (σ 87 21)) + σ 27 (σ 90 (σ 87 21))) (hh : hT (σ 87 21) = 0) (hb : br ≠ -1) (hE : E = pT (σ 87 21) + 1) (kd : (τ 168 n = 27 ∧ cI σ (pT (σ 87 21)) 14 br (-1)) ∨ (τ 168 n = 28 ∧ cI σ (pT (σ 87 21)) 14 co (-1))) (st : St σ τ (σ 26 (σ 90 (σ 87 21))) (σ 26 (σ 90 (σ 87 21)) + σ 27 (σ 90 (σ 87 21))) (σ 28 (σ 90 (σ 87 21))) (σ 28 (σ 90 (σ 87 21)) + σ 29 (σ 90 (σ 87 21)) - 2) (τ 212 (σ 87 21)) m E 0 br co) : goX σ τ θ := by
  obtain ⟨-, -, -, -, ⟨t1, t2⟩, t3, -, -, hw, t6⟩ := R.top
  obtain ⟨c1, -, -, pc, c5, c6, c7, c8, c9⟩ := R.cur
  have R' := R
  obtain ⟨-, -, ⟨⟨k1, -⟩, -⟩, -⟩ := R'
  have hb2 := St.br _ _ _ _ _ st hb
  have n2 : 0 ≤ n ∧ n < 20000 := by omega
  have k6 := k1.1.2
  have top : τ 218 (τ 212 (σ 87 21) + m) = -2 := by
    have h2 := hw.2
    rw [en] at h2
    exact h2 hn.1 (by omega)
  obtain ⟨k, b', c', i1, i2, i3, i4⟩ := brk (x3 := τ 168 n) ⟨c7.1, by omega⟩ c5.1 m E 0 br co st hb (Or.inl top) (by omega)
  have e0 : md_works τ (τ 212 (σ 87 21) + m + 1) n (τ 168 n) = md_works_b509 (gW τ 119 124 (τ 212 (σ 87 21) + m + 1)) (τ 168 n) := by
    have e1 : md_works τ (τ 212 (σ 87 21) + m + 1) n (τ 168 n) = md_works_b509 τ (τ 168 n) := by
      rw [md_works_e, if_neg (by omega), if_pos (by omega), md_works_b109_e]
      rcases kd with ⟨e, -⟩ | ⟨e, -⟩
      · rw [e, if_neg (by decide), if_neg (by decide), if_neg (by decide), if_neg (by decide), if_neg (by decide), if_neg (by decide), if_neg (by decide), if_neg (by decide), if_neg (by decide), if_neg (by decide), if_neg (by decide), if_pos rfl]
      · rw [e, if_neg (by decide), if_neg (by decide), if_neg (by decide), if_neg (by decide), if_neg (by decide), if_neg (by decide), if_neg (by decide), if_neg (by decide), if_neg (by decide), if_neg (by decide), if_neg (by decide), if_neg (by decide), if_pos rfl]
    rw [e1, md_works_b509_e, t1, show τ 212 (σ 87 21) + m + 1 + 1 - 1 = τ 212 (σ 87 21) + m + 1 by omega, w32_e (by omega) (by omega), if_pos t2, en, if_neg (by omega), if_pos t2, if_pos n2, if_neg (by omega), md_works_b544_e, t1, show τ 212 (σ 87 21) + m + 1 + 1 - 1 = τ 212 (σ 87 21) + m + 1 by omega, w32_e (by omega) (by omega)]
  rw [i2] at e0
  have fr : ∀ (v : Int) (k' : Nat) (P h b c : Int), St σ τ (σ 26 (σ 90 (σ 87 21))) (σ 26 (σ 90 (σ 87 21)) + σ 27 (σ 90 (σ 87 21))) (σ 28 (σ 90 (σ 87 21))) (σ 28 (σ 90 (σ 87 21)) + σ 29 (σ 90 (σ 87 21)) - 2) (τ 212 (σ 87 21)) k' P h b c → St σ (gW τ 119 124 v) (σ 26 (σ 90 (σ 87 21))) (σ 26 (σ 90 (σ 87 21)) + σ 27 (σ 90 (σ 87 21))) (σ 28 (σ 90 (σ 87 21))) (σ 28 (σ 90 (σ 87 21)) + σ 29 (σ 90 (σ 87 21)) - 2) (τ 212 (σ 87 21)) k' P h b c := fun v k' P h b c q => St.fr (fun a n q _ _ => gW_c (by omega)) (fun _ _ _ => rfl) (fun _ _ _ => ⟨rfl, rfl, rfl⟩) k' _ _ _ _ (fun a i q1 q2 _ _ => gW_c (by omega)) q
  rcases kd with ⟨e, i⟩ | ⟨e, i⟩
  · rw [if_pos e] at e0
    obtain ⟨S, s1, s2⟩ := op_jump (T := gW τ 119 124 (τ 212 (σ 87 21) + k + 1)) (m' := k) (br' := b') (co' := c') R i (by omega) hb2.2.2 smM.g124 (fun a j q1 q2 => gW_c (by omega)) (gW_i (by decide)) (by rw [hh]; exact fr _ _ _ _ _ _ i4) (gW_at ..)
    exact ⟨S, _, _, _, _, _, _, θ - 1, s1, mG_of t6.2.1 t6.2.2 (work_n (v := 0) t1 t2 en n2 e0), s2, Or.inl (by omega), gW_i (by decide), gW_i (by decide)⟩
  · rw [if_neg (by omega)] at e0
    obtain ⟨S, s1, s2⟩ := op_jump (T := gW τ 119 124 (τ 212 (σ 87 21) + k + 2)) (m' := k + 1) (br' := br) (co' := co) R i (by omega) (by omega) smM.g124 (fun a j q1 q2 => gW_c (by omega)) (gW_i (by decide)) (by rw [hh]; exact fr _ _ _ _ _ _ i3) (by rw [gW_at]; omega)
    exact ⟨S, _, _, _, _, _, _, θ - 1, s1, mG_of t6.2.1 t6.2.2 (work_n (v := 0) t1 t2 en n2 e0), s2, Or.inl (by omega), gW_i (by decide), gW_i (by decide)⟩
end NO
