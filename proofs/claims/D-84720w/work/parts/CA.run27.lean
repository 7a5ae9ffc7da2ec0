/-! a node comes to a value: both sides -/
section FV
variable {σ τ σ1 τ1 S T : gM} {pT hT : Int → Int} {m : Nat} {br co θ n : Int}
/-- the value of a node whose task goes -/
theorem RR.fval {E h' br' co' k x t y b0 b1 : Int} (R : RR σ τ pT hT (m + 1) br co θ) (st : St σ τ (σ 26 (σ 90 (σ 87 21))) (σ 26 (σ 90 (σ 87 21)) + σ 27 (σ 90 (σ 87 21))) (σ 28 (σ 90 (σ 87 21))) (σ 28 (σ 90 (σ 87 21)) + σ 29 (σ 90 (σ 87 21)) - 2) (τ 212 (σ 87 21)) m E h' br' co') (Q : RQ S T pT hT) (nd : ndX σ1 τ1 S T) (c1 : smC σ σ1) (d1 : smM τ τ1 (τ 212 (σ 87 21))) (p88 : ∀ a j, a = 88 ∨ a = 89 → σ1 a j = σ a j) (p221 : ∀ a j, a = 221 ∨ a = 222 → τ1 a j = τ a j) (dt : ∀ a j, 218 ≤ a → a ≤ 220 → j ≤ τ 212 (σ 87 21) + m → τ1 a j = τ a j) (e124 : τ1 119 124 = τ 119 124) (hb0 : b0 = σ 92 (σ 87 21) + (h' - 1)) (hb1 : 1 ≤ h' ∧ h' ≤ 400) (hb2 : b0 ≤ σ 87 8) (hb3 : b1 - b0 = τ 119 125 - σ 87 8) (hE : E = pT (σ 87 21) + 1) (op : σ 20 (pT (σ 87 21)) ≠ 10 ∧ σ 20 (pT (σ 87 21)) ≠ 13) (rv : rVal S T k x t y) :
    mc_push (gW S 87 8 b0) k x = some (puC (gW S 87 8 b0) k x, 0) ∧ md_push (gW T 119 125 b1) t y = some (puM (gW T 119 125 b1) t y, 0) ∧ (0 ≤ S 87 22 ∧ S 87 22 < 164000) ∧ T 119 124 = τ 119 124 ∧ RR (gW (puC (gW S 87 8 b0) k x) 87 22 (S 87 22 + 1)) (gW (puM (gW T 119 125 b1) t y) 119 124 (τ 119 124 - 1)) (updF pT (σ 87 21) E) (updF hT (σ 87 21) h') m br' co' (θ - 1) := by
  obtain ⟨-, -, -, -, ⟨t1, t2⟩, t3, -, -, -, t6⟩ := R.top
  obtain ⟨q1, -, -, pc, c5, c6, -⟩ := R.cur
  obtain ⟨o, p1, p2, p3, p4, p5, p6⟩ := R.pl
  have R' := R
  obtain ⟨-, -, ⟨⟨k1, k2, k3, k4⟩, k5, k6⟩, -⟩ := R'
  have hl := St.le _ _ _ _ _ st
  have nd' := nd
  obtain ⟨⟨x1, x2, x3, x4⟩, x5, x6, x7, x8, x9⟩ := nd'
  have s21 : S 87 21 = σ 87 21 := by rw [x2 21 (by decide), c1.2 21 (by decide) (by decide) (by decide)]
  have kS : ∀ a, (a = 14 ∨ (20 ≤ a ∧ a ≤ 22) ∨ (26 ≤ a ∧ a ≤ 29) ∨ a = 90 ∨ a = 92) → S a = σ a := fun a q => by
    rw [x1 a q]
    funext j
    exact c1.1 a j (by omega) (by omega) (by omega) (by omega)
  have kT : ∀ a, (a = 168 ∨ (170 ≤ a ∧ a ≤ 173) ∨ (212 ≤ a ∧ a ≤ 213)) → T a = τ a := fun a q => by
    rw [x3 a q]
    funext j
    exact d1.1 a j (by omega) (by omega) (by omega) (by omega)
  have f124 : T 119 124 = τ 119 124 := by rw [x8 124 (by decide), e124]
  -- where the component stands
  have pS := Q.2.1.2.2.2.1 (σ 87 21) q1.1 (by have := Q.2.1.2.2.2.2.2.1; rw [s21] at this; omega)
  unfold pcA at pS
  rw [s21, if_pos rfl] at pS
  have s28 : S 28 = σ 28 := kS 28 (by decide)
  have s29 : S 29 = σ 29 := kS 29 (by decide)
  have s90 : S 90 = σ 90 := kS 90 (by decide)
  have A2 := Q.2.1
  have hIn2 := Q.1.1.1.2.2.2.2.2.2.2.2.2.2.1
  obtain ⟨w1, -⟩ := A2.op (P := pT (σ 87 21)) (by rw [s21]) (show cI S (pT (σ 87 21)) (S 20 (pT (σ 87 21))) (S 21 (pT (σ 87 21))) (S 22 (pT (σ 87 21))) from ⟨rfl, rfl, rfl⟩) hIn2 hIn2.1.2
  have g8 : gW S 87 8 b0 87 8 = b0 := gW_at ..
  have g125 : gW T 119 125 b1 119 125 = b1 := gW_at ..
  have pn := puC_n (σ := gW S 87 8 b0) (k := k) (x := x)
  rw [g8] at pn
  have pm := puM_n (τ := gW T 119 125 b1) (t := t) (y := y)
  rw [g125] at pm
  have sC : ∀ a j, (a ≠ 87 ∧ a ≠ 88 ∧ a ≠ 89) ∨ (a ≠ 87 ∧ j ≠ b0) ∨ (a = 87 ∧ j ≠ 8 ∧ j ≠ 22) → gW (puC (gW S 87 8 b0) k x) 87 22 (S 87 22 + 1) a j = S a j := fun a j q => by
    rcases q with q | q | q
    · rw [gW_c q.1, puC_o (Or.inl q), gW_c q.1]
    · rw [gW_c q.1, puC_o (Or.inr (Or.inl ⟨q.1, by rw [g8]; exact q.2⟩)), gW_c q.1]
    · rw [q.1, gW_i q.2.2, puC_o (Or.inr (Or.inr ⟨rfl, q.2.1⟩)), gW_i q.2.1]
  have sM : ∀ a j, (a ≠ 119 ∧ a ≠ 221 ∧ a ≠ 222) ∨ (a ≠ 119 ∧ j ≠ b1) ∨ (a = 119 ∧ j ≠ 124 ∧ j ≠ 125) → gW (puM (gW T 119 125 b1) t y) 119 124 (τ 119 124 - 1) a j = T a j := fun a j q => by
    rcases q with q | q | q
    · rw [gW_c q.1, puM_o (Or.inl q), gW_c q.1]
    · rw [gW_c q.1, puM_o (Or.inr (Or.inl ⟨q.1, by rw [g125]; exact q.2⟩)), gW_c q.1]
    · rw [q.1, gW_i q.2.1, puM_o (Or.inr (Or.inr ⟨rfl, q.2.2⟩)), gW_i q.2.2]
  have c2 : smC S (gW (puC (gW S 87 8 b0) k x) 87 22 (S 87 22 + 1)) := ⟨fun a j q1 q2 q3 _ => sC a j (by omega), fun j q1 q2 _ => sC 87 j (by omega)⟩
  have d2 : smM T (gW (puM (gW T 119 125 b1) t y) 119 124 (τ 119 124 - 1)) (τ 212 (σ 87 21)) := ⟨fun a j q1 q2 _ _ => sM a j (by omega), fun j q1 q2 _ => sM 119 j (by omega), fun a j q1 q2 q3 => sM a j (by omega)⟩
  obtain ⟨kx, rvv⟩ := chn c1 d1 nd c2 d2
  have Q3 := Q.sm (h' := h') (P' := E) c2 (by rw [s21, kT 212 (by decide)]; exact d2) (by rw [gW_at, s21, hE]; exact pS.next (by rw [s28, s29, s90]; omega))
  rw [s21] at Q3
  have e8 : gW (puC (gW S 87 8 b0) k x) 87 22 (S 87 22 + 1) 87 8 = b0 + 1 := by rw [gW_i (by decide), pn.2.2]
  have e125 : gW (puM (gW T 119 125 b1) t y) 119 124 (τ 119 124 - 1) 119 125 = b1 + 1 := by rw [gW_i (by decide), pm.2.2]
  refine ⟨mc_push_s (by rw [g8]; omega), md_push_s (by rw [g125]; omega), w1, f124, R.asm Q3 (updF_at ..) kx (R.pk2 p1 kx rvv (fun a j q _ => by rw [sC a j (by omega), x5 a q, p88 a j q]) (fun a j q _ => by rw [sM a j (by omega), x7 a (by omega) (by omega), p221 a j q]) (by rw [e8, e125]; omega) fun j j0 j1 => ?_) (kx.st (fun a j q1 q2 q3 => by rw [sM a j (by omega), x7 a q1 (by omega), dt a j q1 q2 q3]) st) (by rw [gW_at]; omega) (by rw [e8]; omega) (by omega) op (by omega) (by rw [e8]; omega)⟩
  rw [e8] at j1
  by_cases z : j = b0
  · rw [z, show b0 + o = b1 by omega, gW_c (show (88 : Int) ≠ 87 by decide), gW_c (show (89 : Int) ≠ 87 by decide), gW_c (show (221 : Int) ≠ 119 by decide), gW_c (show (222 : Int) ≠ 119 by decide), pn.1, pn.2.1, pm.1, pm.2.1]
    exact (smC.rv c2 d2).mpr rv
  · rw [sC 88 j (by omega), sC 89 j (by omega), sM 221 _ (by omega), sM 222 _ (by omega), x5 88 (by decide), x5 89 (by decide), x7 221 (by decide) (by decide), x7 222 (by decide) (by decide), p88 88 j (by decide), p88 89 j (by decide), p221 221 _ (by decide), p221 222 _ (by decide)]
    exact rvv _ _ _ _ (p2 j j0 (by omega))
theorem mc_work_1 {o : Int} (h : o = 1 ∨ o = 19) : mc_work σ o n = ((mc_read σ n).bind fun p => some (gW p.1 87 22 (w32 (p.1 87 22 + 1)), 0)) := by
  rcases h with h | h
  · rw [h, mc_work_e]; rfl
  · rw [h, mc_work_e]; rfl
/-- a local is read -/
theorem op_read {E h' br' co' : Int} (R : RR σ τ pT hT (m + 1) br co θ) (en : τ 218 (τ 212 (σ 87 21) + m + 1) = n) (hn : 0 ≤ n ∧ σ 26 (σ 90 (σ 87 21)) ≤ n ∧ n < σ 26 (σ 90 (σ 87 21)) + σ 27 (σ 90 (σ 87 21))) (st : St σ τ (σ 26 (σ 90 (σ 87 21))) (σ 26 (σ 90 (σ 87 21)) + σ 27 (σ 90 (σ 87 21))) (σ 28 (σ 90 (σ 87 21))) (σ 28 (σ 90 (σ 87 21)) + σ 29 (σ 90 (σ 87 21)) - 2) (τ 212 (σ 87 21)) m E h' br' co') (hh : hT (σ 87 21) = h' - 1) (h1 : 1 ≤ h') (hb : h' ≤ 400) (hE : E = pT (σ 87 21) + 1) (kd : τ 168 n = 5) (i : cI σ (pT (σ 87 21)) 1 0 n) : goX σ τ θ := by
  obtain ⟨-, -, -, -, ⟨t1, t2⟩, t3, -, -, -, t6⟩ := R.top
  obtain ⟨c1, -, -, pc, c5, c6, c7, -, c9⟩ := R.cur
  obtain ⟨o, p1, p2, p3, p4, p5, p6⟩ := R.pl
  have R' := R
  obtain ⟨Q, -⟩ := R'
  have Q' := Q
  obtain ⟨⟨⟨P1, -⟩, -⟩, A, -⟩ := Q'
  have hIn := P1.2.2.2.2.2.2.2.2.2.2.1
  obtain ⟨o1, o2, o3, o4, -⟩ := A.op rfl i hIn hIn.1.2
  have o4 : σ 20 (σ 87 22) = 1 ∨ σ 20 (σ 87 22) = 19 := by omega
  have n2 : 0 ≤ n ∧ n < 20000 := by omega
  obtain ⟨S, T, r1, r2, r3, r4, r5, r6⟩ := read_pair Q ⟨hn.2.1, hn.2.2⟩ kd
  obtain ⟨f1, f2, f3, f4, f5⟩ := R.fval (σ1 := σ) (τ1 := τ) (b0 := σ 87 8) (b1 := τ 119 125) st r3 r4 ⟨fun _ _ _ _ _ _ => rfl, fun _ _ _ _ => rfl⟩ ⟨fun _ _ _ _ _ _ => rfl, fun _ _ _ _ => rfl, fun _ _ _ _ _ => rfl⟩ (fun _ _ _ => rfl) (fun _ _ _ => rfl) (fun _ _ _ _ _ => rfl) rfl (by omega) (by omega) (by omega) (by omega) hE ⟨by rw [i.1]; decide, by rw [i.1]; decide⟩ r6
  have s8 : S 87 8 = σ 87 8 := r4.2.2.1
  have t125 : T 119 125 = τ 119 125 := by rw [r4.2.2.2.2.1 125 (by decide)]
  rw [gW_same s8] at f1 f5
  rw [gW_same t125] at f2 f5
  refine ⟨_, _, _, _, _, _, _, θ - 1, cG_of t6.1 o1 rfl o3 (by omega) ?_, mG_of t6.2.1 t6.2.2 (work_n (v := 0) t1 t2 en n2 ?_), f5, Or.inl (by omega), ?_, ?_⟩
  · rw [mc_work_1 o4, r1, mc_read_b102_e, if_pos r5, if_pos r5, f1]
    simp only [Option.bind_some]
    rw [puC_o (Or.inr (Or.inr ⟨rfl, by decide⟩)), w32_e (by omega) (by omega)]
  · rw [md_works_e, kd, if_pos (by decide), md_works_b109_e, if_pos rfl, r2, md_reads_b88_e, if_pos r5, if_pos r5, f2]
    simp only [Option.bind_some]
    rw [puM_o (Or.inr (Or.inr ⟨rfl, by decide⟩)), f4, w32_e (by omega) (by omega)]
  · rw [gW_i (by decide), puM_o (Or.inr (Or.inr ⟨rfl, by decide⟩)), r4.2.2.2.2.1 119 (by decide)]
  · rw [gW_i (by decide), puM_o (Or.inr (Or.inr ⟨rfl, by decide⟩)), r4.2.2.2.2.1 120 (by decide)]
end FV
