/-! simple instructions: both sides -/
section IN
variable {σ τ S T : gM} {pT hT : Int → Int} {m : Nat} {br co θ : Int}
/-- a value comes for a task that goes -/
theorem RR.val {E h' br' co' k x t y : Int} (R : RR σ τ pT hT (m + 1) br co θ) (st : St σ τ (σ 26 (σ 90 (σ 87 21))) (σ 26 (σ 90 (σ 87 21)) + σ 27 (σ 90 (σ 87 21))) (σ 28 (σ 90 (σ 87 21))) (σ 28 (σ 90 (σ 87 21)) + σ 29 (σ 90 (σ 87 21)) - 2) (τ 212 (σ 87 21)) m E h' br' co') (hh : hT (σ 87 21) = h' - 1) (hE : E = pT (σ 87 21) + 1) (op : σ 20 (pT (σ 87 21)) ≠ 10 ∧ σ 20 (pT (σ 87 21)) ≠ 13) (rv : rVal σ τ k x t y) (hb : hT (σ 87 21) ≤ 400) :
    mc_push σ k x = some (puC σ k x, 0) ∧ md_push τ t y = some (puM τ t y, 0) ∧ RR (gW (puC σ k x) 87 22 (σ 87 22 + 1)) (gW (puM τ t y) 119 124 (τ 119 124 - 1)) (updF pT (σ 87 21) E) (updF hT (σ 87 21) h') m br' co' (θ - 1) := by
  obtain ⟨-, -, -, -, ⟨t1, t2⟩, t3, -, -, -, t6⟩ := R.top
  obtain ⟨c1, -, -, pc, c5, c6, -⟩ := R.cur
  have R' := R
  obtain ⟨-, -, ⟨⟨k1, k2, k3, k4⟩, k5, k6⟩, -⟩ := R'
  obtain ⟨o, V1, V1', p3, p4, p5, p6⟩ := R.pl
  have hl := St.le _ _ _ _ _ st
  have sC : ∀ a i, (a ≠ 87 ∧ a ≠ 88 ∧ a ≠ 89) ∨ (a ≠ 87 ∧ i ≠ σ 87 8) ∨ (a = 87 ∧ i ≠ 8 ∧ i ≠ 22) → gW (puC σ k x) 87 22 (σ 87 22 + 1) a i = σ a i := fun a i q => by
    rcases q with q | q | q
    · rw [gW_c q.1, puC_o (Or.inl q)]
    · rw [gW_c q.1, puC_o (Or.inr (Or.inl q))]
    · rw [q.1, gW_i q.2.2, puC_o (Or.inr (Or.inr ⟨rfl, q.2.1⟩))]
  have sM : ∀ a i, (a ≠ 119 ∧ a ≠ 221 ∧ a ≠ 222) ∨ (a ≠ 119 ∧ i ≠ τ 119 125) ∨ (a = 119 ∧ i ≠ 124 ∧ i ≠ 125) → gW (puM τ t y) 119 124 (τ 119 124 - 1) a i = τ a i := fun a i q => by
    rcases q with q | q | q
    · rw [gW_c q.1, puM_o (Or.inl q)]
    · rw [gW_c q.1, puM_o (Or.inr (Or.inl q))]
    · rw [q.1, gW_i q.2.1, puM_o (Or.inr (Or.inr ⟨rfl, q.2.2⟩))]
  have cc : smC σ (gW (puC σ k x) 87 22 (σ 87 22 + 1)) := ⟨fun a i q1 q2 q3 _ => sC a i (by omega), fun i q1 q2 _ => sC 87 i (by omega)⟩
  have dd : smM τ (gW (puM τ t y) 119 124 (τ 119 124 - 1)) (τ 212 (σ 87 21)) := ⟨fun a i q1 q2 _ _ => sM a i (by omega), fun i q1 q2 _ => sM 119 i (by omega), fun a i q1 q2 q3 => sM a i (by omega)⟩
  have e8 : gW (puC σ k x) 87 22 (σ 87 22 + 1) 87 8 = σ 87 8 + 1 := by rw [gW_i (by decide)]; exact puC_n.2.2
  have e125 : gW (puM τ t y) 119 124 (τ 119 124 - 1) 119 125 = τ 119 125 + 1 := by rw [gW_i (by decide)]; exact puM_n.2.2
  have hp := St.le _ _ _ _ _ k1
  refine ⟨mc_push_s (by omega), md_push_s (by omega), R.sm cc dd (R.pk V1 cc dd (fun a j q _ => sC a j (by omega)) (fun a j q _ => sM a j (by omega)) (by rw [e8, e125]; omega) fun i i0 i1 => ?_) (by rw [gW_at, hE]; exact pc.next (by omega)) ⟨?_, ?_, ?_, by omega⟩ (by rw [gW_at]; omega) (by rw [e8]; omega) ?_ (by omega)⟩
  · rw [e8] at i1
    apply (smC.rv cc dd).mpr
    by_cases z : i = σ 87 8
    · rw [z, gW_c (by decide), gW_c (by decide), gW_c (by decide), gW_c (by decide), puC_n.1, puC_n.2.1, ← V1, puM_n.1, puM_n.2.1]
      exact rv
    · rw [sC 88 i (by omega), sC 89 i (by omega), sM 221 _ (by omega), sM 222 _ (by omega)]
      exact V1' i i0 (by omega)
  · rw [sC 26 _ (by omega), sC 27 _ (by omega), sC 28 _ (by omega), sC 29 _ (by omega), sC 90 _ (by omega), sM 212 _ (by omega)]
    exact St.fr (fun a n q _ _ => sM a n (by omega)) (fun n _ _ => sC 14 n (by omega)) (fun p _ _ => ⟨sC 20 p (by omega), sC 21 p (by omega), sC 22 p (by omega)⟩) m _ _ _ _ (fun a i q1 q2 q3 q4 => sM a i (by omega)) st
  · rw [sM 212 _ (by omega)]; exact k2
  · rw [sC 92 _ (by omega)]; exact k3
  · have w1 := wT_le (σ := σ) (k := σ 87 21) (P := E) (by omega)
    have w2 := wT_eq (k := σ 87 21) op
    rw [e8]
    omega
/-- a constant -/
theorem op_push {n E h' br' co' : Int} (R : RR σ τ pT hT (m + 1) br co θ) (en : τ 218 (τ 212 (σ 87 21) + m + 1) = n) (hn : 0 ≤ n ∧ σ 26 (σ 90 (σ 87 21)) ≤ n ∧ n < σ 26 (σ 90 (σ 87 21)) + σ 27 (σ 90 (σ 87 21))) (st : St σ τ (σ 26 (σ 90 (σ 87 21))) (σ 26 (σ 90 (σ 87 21)) + σ 27 (σ 90 (σ 87 21))) (σ 28 (σ 90 (σ 87 21))) (σ 28 (σ 90 (σ 87 21)) + σ 29 (σ 90 (σ 87 21)) - 2) (τ 212 (σ 87 21)) m E h' br' co') (hh : hT (σ 87 21) = h' - 1) (hb : hT (σ 87 21) ≤ 400) (hE : E = pT (σ 87 21) + 1) (kd : τ 168 n = 1 ∨ τ 168 n = 2 ∨ τ 168 n = 3 ∨ τ 168 n = 4 ∨ τ 168 n = 7) (i : cI σ (pT (σ 87 21)) 0 0 n) : goX σ τ θ := by
  obtain ⟨-, -, -, -, ⟨t1, t2⟩, t3, -, -, -, t6⟩ := R.top
  obtain ⟨c1, -, -, pc, c5, c6, c7, -, c9⟩ := R.cur
  have R' := R
  obtain ⟨⟨⟨⟨P1, -⟩, -⟩, A, -⟩, -⟩ := R'
  obtain ⟨n1, -, n8⟩ := c9 n hn.2.1 hn.2.2
  have hIn := P1.2.2.2.2.2.2.2.2.2.2.1
  have hKs := P1.2.2.2.2.2.2.2.2.2.2.2.2.2.2.1
  obtain ⟨o1, o2, o3, o4, -⟩ := A.op rfl i hIn hIn.1.2
  have o4 : σ 20 (σ 87 22) = 0 := by
    rcases o4 with z | z | z
    · exact z
    · omega
    · omega
  have ks := (((hKs.1 n hn.1 n8).1).1 (by rw [← n1.1]; exact kd)).1
  obtain ⟨v1, v2, v3⟩ := R.val st hh hE ⟨by rw [i.1]; decide, by rw [i.1]; decide⟩ ks hb
  have nb : 0 ≤ n ∧ n < 16000 := by omega
  have n2 : 0 ≤ n ∧ n < 20000 := by omega
  refine ⟨_, _, _, _, _, _, _, θ - 1, cG_of t6.1 o1 o4 o3 (by decide) ?_, mG_of t6.2.1 t6.2.2 (work_n (v := 0) t1 t2 en n2 ?_), v3, Or.inl (by omega), ?_, ?_⟩
  · rw [mc_work_e, if_pos rfl, if_pos nb, if_pos nb, v1]
    show some (gW (puC σ (σ 16 n) (σ 17 n)) 87 22 (w32 (puC σ (σ 16 n) (σ 17 n) 87 22 + 1)), (0 : Int)) = _
    rw [puC_o (Or.inr (Or.inr ⟨rfl, by decide⟩)), w32_e (by omega) (by omega)]
  · have fin : (md_push τ (τ 176 n) (τ 177 n)).bind (fun p25 => some (gW p25.1 119 124 (w32 ((p25.1 119 124) - 1)), some (0 : Int))) = some (gW (puM τ (τ 176 n) (τ 177 n)) 119 124 (τ 119 124 - 1), some 0) := by
      rw [v2]
      show some (gW (puM τ (τ 176 n) (τ 177 n)) 119 124 (w32 (puM τ (τ 176 n) (τ 177 n) 119 124 - 1)), some (0 : Int)) = _
      rw [puM_o (Or.inr (Or.inr ⟨rfl, by decide⟩)), w32_e (by omega) (by omega)]
    rw [md_works_e, if_pos (by omega), md_works_b109_e]
    rw [if_neg (by omega), if_neg (by omega), if_neg (by omega), if_neg (by omega), if_neg (by omega), if_neg (by omega), if_neg (by omega), if_neg (by omega), if_neg (by omega), if_neg (by omega), if_neg (by omega), if_neg (by omega), if_neg (by omega), if_pos n2, if_pos n2]
    exact fin
  · rw [gW_i (by decide), puM_o (Or.inr (Or.inr ⟨rfl, by decide⟩))]
  · rw [gW_i (by decide), puM_o (Or.inr (Or.inr ⟨rfl, by decide⟩))]
end IN
