/-! truths, jumps, rows that are done, statements that begin: both sides -/
section JU
variable {σ τ S T : gM} {pT hT : Int → Int} {m : Nat} {br co θ n : Int}
theorem mc_work_14 (h : 0 ≤ σ 87 22 ∧ σ 87 22 < 164000) : mc_work σ 14 n = some (gW σ 87 22 (σ 21 (σ 87 22)), 0) := by
  have : mc_work σ 14 n = (if 0 ≤ σ 87 22 ∧ σ 87 22 < 164000 then some (gW σ 87 22 (σ 21 (σ 87 22)), 0) else none) := by
    rw [mc_work_e]; rfl
  rw [this, if_pos h]
theorem mc_work_6 : mc_work σ 6 n = ((mc_isTruth σ n).bind fun p7 => if p7.2 = 0 then some (p7.1, 0) else (if 0 ≤ w32 (p7.1 87 8 - 1) ∧ w32 (p7.1 87 8 - 1) < 18240 then (if 0 ≤ w32 (p7.1 87 8 - 1) ∧ w32 (p7.1 87 8 - 1) < 18240 then some (gW (gW p7.1 89 (w32 (p7.1 87 8 - 1)) (w64 (1 - p7.1 89 (w32 (p7.1 87 8 - 1))))) 87 22 (w32 (p7.1 87 22 + 1)), 0) else none) else none)) := by
  rw [mc_work_e]; rfl
/-- the component jumps, the model's tasks stay -/
theorem op_jump {E : Int} (R : RR σ τ pT hT m br co θ) (i : cI σ (pT (σ 87 21)) 14 E (-1)) (hE : pT (σ 87 21) < E) (hl : E ≤ σ 28 (σ 90 (σ 87 21)) + σ 29 (σ 90 (σ 87 21)) - 2) {m' : Nat} {br' co' : Int} {T : gM} (d : smM τ T (τ 212 (σ 87 21))) (dp : ∀ a j, 221 ≤ a → a ≤ 222 → T a j = τ a j) (d125 : T 119 125 = τ 119 125) (st : St σ T (σ 26 (σ 90 (σ 87 21))) (σ 26 (σ 90 (σ 87 21)) + σ 27 (σ 90 (σ 87 21))) (σ 28 (σ 90 (σ 87 21))) (σ 28 (σ 90 (σ 87 21)) + σ 29 (σ 90 (σ 87 21)) - 2) (τ 212 (σ 87 21)) m' E (hT (σ 87 21)) br' co') (tk : T 119 124 = τ 212 (σ 87 21) + m' + 1) : ∃ S, cG σ S ∧ RR S T (updF pT (σ 87 21) E) (updF hT (σ 87 21) (hT (σ 87 21))) m' br' co' (θ - 1) := by
  obtain ⟨c1, -, -, pc, c5, c6, c7, -, c9⟩ := R.cur
  obtain ⟨o, p1, p2, p3, p4, p5, p6⟩ := R.pl
  have R' := R
  obtain ⟨⟨⟨⟨P1, -⟩, -⟩, A, -, -, C, -⟩, -, ⟨⟨k1, k2, k3, k4⟩, k5, k6⟩, -⟩ := R'
  have hIn := P1.2.2.2.2.2.2.2.2.2.2.1
  have hl0 := St.le _ _ _ _ _ k1
  obtain ⟨o1, o2, o3, o4, o5⟩ := A.op rfl i hIn hIn.1.2
  have o4 : σ 20 (σ 87 22) = 14 := by
    rcases o4 with z | z | z
    · exact z
    · omega
    · omega
  have cc : smC σ (gW σ 87 22 (σ 21 (σ 87 22))) := ⟨fun a j q1 _ _ _ => gW_c q1, fun j _ q _ => gW_i q⟩
  have e8 : gW σ 87 22 (σ 21 (σ 87 22)) 87 8 = σ 87 8 := gW_i (by decide)
  have gc : ∀ a j, a ≠ 87 → gW σ 87 22 (σ 21 (σ 87 22)) a j = σ a j := fun a j q => gW_c q
  refine ⟨_, cG_of C.1.1 o1 o4 o3 (by decide) (mc_work_14 o1), R.sm cc d (R.pk p1 cc d (fun a j q _ => gc a j (by omega)) (fun a j q _ => dp a j (by omega) (by omega)) (by rw [e8, d125]; exact p1) fun j j0 j1 => ?_) (by rw [gW_at]; exact o5 (by unfold isJ; omega) (by omega) (by omega)) ⟨?_, ?_, ?_, p4⟩ tk (by rw [e8]; exact p3) ?_ (by omega)⟩
  · rw [e8] at j1
    rw [gc 88 j (by decide), gc 89 j (by decide), dp 221 _ (by decide) (by decide), dp 222 _ (by decide) (by decide)]
    exact (smC.rv cc d).mpr (p2 j j0 j1)
  · rw [gc 26 _ (by decide), gc 27 _ (by decide), gc 28 _ (by decide), gc 29 _ (by decide), gc 90 _ (by decide), d.1 212 _ (by decide) (by decide) (by decide) (by decide)]
    exact St.fr (fun a n _ _ _ => rfl) (fun n _ _ => gc 14 n (by decide)) (fun p _ _ => ⟨gc 20 p (by decide), gc 21 p (by decide), gc 22 p (by decide)⟩) m' _ _ _ _ (fun a i _ _ _ _ => rfl) st
  · rw [d.1 212 _ (by decide) (by decide) (by decide) (by decide)]; exact k2
  · rw [gc 92 _ (by decide)]; exact k3
  · have w1 := wT_le (σ := σ) (k := σ 87 21) (P := E) (by omega)
    have w2 := wT_eq (k := σ 87 21) (σ := σ) (P := pT (σ 87 21)) ⟨by rw [i.1]; decide, by rw [i.1]; decide⟩
    rw [e8]
    omega
/-- the model's tasks alone change -/
theorem RR.tsk {m' : Nat} {br' co' : Int} (R : RR σ τ pT hT m br co θ) (d : smM τ T (τ 212 (σ 87 21))) (dp : ∀ a j, 221 ≤ a → a ≤ 222 → T a j = τ a j) (d125 : T 119 125 = τ 119 125) (st : St σ T (σ 26 (σ 90 (σ 87 21))) (σ 26 (σ 90 (σ 87 21)) + σ 27 (σ 90 (σ 87 21))) (σ 28 (σ 90 (σ 87 21))) (σ 28 (σ 90 (σ 87 21)) + σ 29 (σ 90 (σ 87 21)) - 2) (τ 212 (σ 87 21)) m' (pT (σ 87 21)) (hT (σ 87 21)) br' co') (tk : T 119 124 = τ 212 (σ 87 21) + m' + 1) : RR σ T (updF pT (σ 87 21) (pT (σ 87 21))) (updF hT (σ 87 21) (hT (σ 87 21))) m' br' co' θ := by
  obtain ⟨c1, -, -, pc, c5, c6, c7, -, c9⟩ := R.cur
  obtain ⟨o, p1, p2, p3, p4, p5, p6⟩ := R.pl
  have R' := R
  obtain ⟨-, -, ⟨⟨k1, k2, k3, k4⟩, k5, k6⟩, -⟩ := R'
  have cc : smC σ σ := ⟨fun _ _ _ _ _ _ => rfl, fun _ _ _ _ => rfl⟩
  refine R.sm cc d (R.pk p1 cc d (fun _ _ _ _ => rfl) (fun a j q _ => dp a j (by omega) (by omega)) (by rw [d125]; exact p1) fun j j0 j1 => ?_) pc ⟨?_, ?_, k3, p4⟩ tk p3 (by omega) (Int.le_refl _)
  · rw [dp 221 _ (by decide) (by decide), dp 222 _ (by decide) (by decide)]
    exact (smC.rv cc d).mpr (p2 j j0 j1)
  · rw [d.1 212 _ (by decide) (by decide) (by decide) (by decide)]; exact st
  · rw [d.1 212 _ (by decide) (by decide) (by decide) (by decide)]; exact k2
theorem smM.g124 {v f : Int} : smM τ (gW τ 119 124 v) f := ⟨fun a j q _ _ _ => gW_c q, fun j q _ _ => gW_i q, fun a j q1 q2 _ => gW_c (by omega)⟩
/-- a row is done: the component jumps behind an if, or the model goes on below -/
theorem op_rowend {E br' co' : Int} (R : RR σ τ pT hT (m + 1) br co θ) (en : τ 218 (τ 212 (σ 87 21) + m + 1) = -2) (es : τ 219 (τ 212 (σ 87 21) + m + 1) = 0) (ex : τ 220 (τ 212 (σ 87 21) + m + 1) = -1) (hh : hT (σ 87 21) = 0) (st : St σ τ (σ 26 (σ 90 (σ 87 21))) (σ 26 (σ 90 (σ 87 21)) + σ 27 (σ 90 (σ 87 21))) (σ 28 (σ 90 (σ 87 21))) (σ 28 (σ 90 (σ 87 21)) + σ 29 (σ 90 (σ 87 21)) - 2) (τ 212 (σ 87 21)) m E 0 br' co') (bb : br' = br ∧ co' = co) (hE : E = pT (σ 87 21) ∨ (pT (σ 87 21) < E ∧ cI σ (pT (σ 87 21)) 14 E (-1))) : goX σ τ θ := by
  obtain ⟨-, -, -, -, ⟨t1, t2⟩, t3, -, -, hw, t6⟩ := R.top
  obtain ⟨c1, -, -, pc, c5, c6, c7, -, c9⟩ := R.cur
  have R' := R
  obtain ⟨-, -, ⟨⟨k1, k2, k3, k4⟩, k5, k6⟩, -⟩ := R'
  have hl := St.le _ _ _ _ _ st
  rcases hE with e | ⟨e1, e2⟩
  · have fc := smM.g124 (τ := τ) (v := τ 119 124 - 1) (f := τ 212 (σ 87 21))
    refine ⟨σ, gW τ 119 124 (τ 119 124 - 1), _, _, m, br', co', θ, cG.rf, mG_of (v := 0) t6.2.1 t6.2.2 ?_, R.tsk fc (fun a j q1 q2 => gW_c (by omega)) (gW_i (by decide)) ?_ (by rw [gW_at]; omega), Or.inr ⟨rfl, ?_⟩, gW_i (by decide), gW_i (by decide)⟩
    · rw [md_work_e, w32_e (x := τ 119 124 - 1) (by omega) (by omega), show τ 119 124 - 1 = τ 212 (σ 87 21) + m + 1 by omega, if_pos t2, en, if_neg (by decide), if_pos rfl, md_row_e, if_pos t2, if_pos ex, if_pos t2, if_neg (by omega), w32_e (by omega) (by omega), show τ 119 124 - 1 = τ 212 (σ 87 21) + m + 1 by omega]
      rfl
    · rw [hh, ← e]
      exact St.fr (fun a n q _ _ => gW_c (by omega)) (fun _ _ _ => rfl) (fun _ _ _ => ⟨rfl, rfl, rfl⟩) m _ _ _ _ (fun a i q1 q2 _ _ => gW_c (by omega)) st
    · have w1 : wM τ = 100000 + τ 119 124 := by
        unfold wM
        rw [show τ 119 124 - 1 = τ 212 (σ 87 21) + m + 1 by omega, en, if_pos (by decide)]
      have w2 : wM (gW τ 119 124 (τ 119 124 - 1)) ≤ 100000 + (τ 119 124 - 1) := by
        have e218 : ∀ j, gW τ 119 124 (τ 119 124 - 1) 218 j = τ 218 j := fun j => gW_c (by decide)
        by_cases z : τ 218 (τ 119 124 - 1 - 1) < 0
        · unfold wM
          rw [gW_at, e218, if_pos z]
          exact Int.le_refl _
        · have b := wM_b (τ := gW τ 119 124 (τ 119 124 - 1)) (i := τ 119 124 - 1 - 1) (by rw [gW_at]; omega) (e218 _) rfl (by omega)
          omega
      omega
  · obtain ⟨S, s1, s2⟩ := op_jump (T := τ) (m' := m + 1) (br' := br) (co' := co) R e2 e1 hl.2 ⟨fun _ _ _ _ _ _ => rfl, fun _ _ _ _ => rfl, fun _ _ _ _ _ => rfl⟩ (fun _ _ _ _ => rfl) rfl (by
      refine ⟨⟨by omega, k1.1.2⟩, k1.2.1, E, 0, br, co, ?_, by rw [← bb.1, ← bb.2]; exact st⟩
      rw [en, es, ex]
      exact Or.inr (Or.inl ⟨rfl, rfl, hh, rfl, ⟨rfl, rfl⟩, Or.inl rfl, E, RX.n2, Or.inl rfl⟩)) k5
    exact ⟨S, τ, _, _, _, _, _, θ - 1, s1, rfl, s2, Or.inl (by omega), rfl, rfl⟩
/-- a truth is what it must be -/
theorem op_truth {E h' br' co' : Int} (R : RR σ τ pT hT (m + 1) br co θ) (en : τ 218 (τ 212 (σ 87 21) + m + 1) = n) (es : τ 219 (τ 212 (σ 87 21) + m + 1) = 2) (hn : 0 ≤ n ∧ σ 26 (σ 90 (σ 87 21)) ≤ n ∧ n < σ 26 (σ 90 (σ 87 21)) + σ 27 (σ 90 (σ 87 21))) (st : St σ τ (σ 26 (σ 90 (σ 87 21))) (σ 26 (σ 90 (σ 87 21)) + σ 27 (σ 90 (σ 87 21))) (σ 28 (σ 90 (σ 87 21))) (σ 28 (σ 90 (σ 87 21)) + σ 29 (σ 90 (σ 87 21)) - 2) (τ 212 (σ 87 21)) m E h' br' co') (hh : hT (σ 87 21) = h') (h1 : 1 ≤ h') (hb : h' ≤ 400) (hE : E = pT (σ 87 21) + 1) (kd : τ 168 n = 18 ∨ τ 168 n = 19) (i : cI σ (pT (σ 87 21)) 5 0 n) : goX σ τ θ ∨ endX σ τ := by
  obtain ⟨-, -, -, -, ⟨t1, t2⟩, t3, -, -, -, t6⟩ := R.top
  obtain ⟨c1, -, -, pc, c5, c6, c7, -, c9⟩ := R.cur
  obtain ⟨o, p1, p2, p3, p4, p5, p6⟩ := R.pl
  have R' := R
  obtain ⟨RQ1, -⟩ := R'
  obtain ⟨⟨⟨P1, -⟩, -⟩, A, -⟩ := RQ1
  have hIn := P1.2.2.2.2.2.2.2.2.2.2.1
  have hl := St.le _ _ _ _ _ st
  obtain ⟨o1, o2, o3, o4, -⟩ := A.op rfl i hIn hIn.1.2
  have o4 : σ 20 (σ 87 22) = 5 := by
    rcases o4 with z | z | z
    · exact z
    · omega
    · omega
  have n2 : 0 ≤ n ∧ n < 20000 := by omega
  have v := p2 (σ 87 8 - 1) (by omega) (by omega)
  rw [show σ 87 8 - 1 + o = τ 119 125 - 1 by omega] at v
  have vk := v.kt
  have tb : 0 ≤ τ 119 125 - 1 ∧ τ 119 125 - 1 < 24000 := by omega
  have wk : ∀ X, md_eitherOrBoth τ (τ 212 (σ 87 21) + m + 1) n (τ 168 n) = X → md_works τ (τ 212 (σ 87 21) + m + 1) n (τ 168 n) = (X.bind fun p => gtry p.2 (fun _ => some (p.1, some 0)) (some (p.1, none))) := fun X q => by
    rw [md_works_e, if_neg (by omega), if_pos (by omega), md_works_b109_e]
    rcases kd with e | e
    · rw [e] at q ⊢
      rw [if_neg (by decide), if_neg (by decide), if_pos rfl, q]
    · rw [e] at q ⊢
      rw [if_neg (by decide), if_neg (by decide), if_neg (by decide), if_pos rfl, q]
  have sM : ∀ (T' : gM) (v' : Int) a j, (a ≠ 119 ∧ a ≠ 219) ∨ (a = 119 ∧ j ≠ 124) ∨ (a = 219 ∧ j ≠ τ 212 (σ 87 21) + m + 1) → gW (gW T' 219 (τ 212 (σ 87 21) + m + 1) v') 119 124 (T' 119 124 - 1) a j = T' a j := fun T' v' a j q => by
    rcases q with q | q | q
    · rw [gW_c q.1, gW_c q.2]
    · rw [q.1, gW_i q.2, gW_c (by decide)]
    · rw [q.1, gW_c (by decide), gW_i q.2]
  by_cases z : σ 88 (σ 87 8 - 1) = 3
  · left
    have t1' := (v.tru z).1
    have cc : smC σ (gW σ 87 22 (σ 87 22 + 1)) := ⟨fun a j q1 _ _ _ => gW_c q1, fun j _ q _ => gW_i q⟩
    have dd : smM τ (gW (gW τ 219 (τ 212 (σ 87 21) + m + 1) 3) 119 124 (τ 119 124 - 1)) (τ 212 (σ 87 21)) := ⟨fun a j q1 q2 _ _ => sM τ 3 a j (by omega), fun j q1 q2 _ => sM τ 3 119 j (by omega), fun a j q1 q2 q3 => sM τ 3 a j (by omega)⟩
    have e8 : gW σ 87 22 (σ 87 22 + 1) 87 8 = σ 87 8 := gW_i (by decide)
    refine ⟨_, _, _, _, _, _, _, θ - 1, cG_of t6.1 o1 o4 o3 (by decide) ?_, mG_of (v := 0) t6.2.1 t6.2.2 (work_n (v := 0) t1 t2 en n2 ?_), R.pop1 st cc dd (fun a j q1 q2 q3 => sM τ 3 a j (by omega)) (R.pk p1 cc dd (fun a j q _ => gW_c (by omega)) (fun a j q _ => sM τ 3 a j (by omega)) (by rw [e8, sM τ 3 119 125 (by omega)]; exact p1) fun j j0 j1 => ?_) (by rw [gW_at, hE]; exact pc.next (by omega)) (gW_at ..) (by rw [e8]; omega) (by omega) ⟨by rw [i.1]; decide, by rw [i.1]; decide⟩ (by omega) (by rw [e8]; omega), Or.inl (by omega), sM τ 3 119 119 (by omega), sM τ 3 119 120 (by omega)⟩
    · rw [mc_work_5, mc_isTruth_y (by omega) z]
      simp only [Option.bind_some]
      rw [if_neg (show ¬ (1 : Int) = 0 by decide), w32_e (by omega) (by omega)]
    · have : md_eitherOrBoth τ (τ 212 (σ 87 21) + m + 1) n (τ 168 n) = some (gW (gW τ 219 (τ 212 (σ 87 21) + m + 1) 3) 119 124 (τ 119 124 - 1), some 0) := by
        rw [md_eitherOrBoth_e, if_pos t2, if_pos t2, if_pos t2, es, if_neg (by decide), if_neg (by decide), w32_e (x := τ 119 125 - 1) (by omega) (by omega), if_pos tb, if_pos t1', w32_e (x := τ 119 124 - 1) (by omega) (by omega), w32_e (by decide) (by decide)]
        rfl
      rw [wk _ this]
      rfl
    · rw [e8] at j1
      rw [gW_c (by decide), gW_c (by decide), sM τ 3 221 _ (by omega), sM τ 3 222 _ (by omega)]
      exact (smC.rv cc dd).mpr (p2 j j0 j1)
  · right
    have tz : τ 221 (τ 119 125 - 1) ≠ 1 := fun q => z ((kT_1 vk.2).mp (by rw [← vk.1]; exact q))
    have gs : ∀ a j, a ≠ 219 ∨ j ≠ τ 212 (σ 87 21) + m + 1 → gW τ 219 (τ 212 (σ 87 21) + m + 1) 3 a j = τ a j := fun a j q => by
      rcases q with q | q
      · exact gW_c q
      · exact gW_j q
    have Q1 : RQ σ (gW τ 219 (τ 212 (σ 87 21) + m + 1) 3) (updF pT (σ 87 21) (pT (σ 87 21))) (updF hT (σ 87 21) 0) := RQ.sm R.1 ⟨fun _ _ _ _ _ _ => rfl, fun _ _ _ _ => rfl⟩ ⟨fun a j q1 q2 _ _ => gs a j (by omega), fun j _ _ _ => gs 119 j (by omega), fun a j q1 q2 q3 => gs a j (by omega)⟩ pc
    refine Q1.failX (e := 1) ⟨hn.2.1, hn.2.2⟩ t6.1 o1 o4 o3 (by decide) (fun f => ?_) t6.2.1 t6.2.2 t1 t2 en (fun f => ?_) (gs 119 119 (by omega))
    · rw [mc_work_5, mc_isTruth_n (by omega) z f]
      rfl
    · have : md_eitherOrBoth τ (τ 212 (σ 87 21) + m + 1) n (τ 168 n) = some (erM (gW τ 219 (τ 212 (σ 87 21) + m + 1) 3) 1 n, none) := by
        rw [md_eitherOrBoth_e, if_pos t2, if_pos t2, if_pos t2, es, if_neg (by decide), if_neg (by decide), w32_e (x := τ 119 125 - 1) (by omega) (by omega), if_pos tb, if_neg tz, w32_e (by decide) (by decide)]
        exact f
      rw [wk _ this]
      rfl
end JU
