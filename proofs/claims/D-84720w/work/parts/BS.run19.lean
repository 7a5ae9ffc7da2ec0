/-! values go, truths: both sides -/
section TR
variable {σ τ S T : gM} {pT hT : Int → Int} {m : Nat} {br co θ n : Int}
theorem rVal.kt {k x t y : Int} (h : rVal σ τ k x t y) : t = kT k ∧ 0 ≤ k ∧ k ≤ 6 := by
  unfold kT
  rcases h with h | h | h | h | h | h | h
  · rw [h.1, h.2.1]; decide
  · rw [h.1, h.2.1]; decide
  · rw [h.1, h.2.1]; decide
  · rw [h.1, h.2.1]; decide
  · rw [h.1, h.2.1]; decide
  · rw [h.1, h.2.1]; decide
  · rw [h.1, h.2.1]; decide
theorem kT_1 {k : Int} (h : 0 ≤ k ∧ k ≤ 6) : kT k = 1 ↔ k = 3 := by
  unfold kT
  constructor
  · intro q
    split at q
    · omega
    · split at q
      · omega
      · split at q <;> omega
  · intro q
    rw [q]; rfl
theorem rVal.tru {k x t y : Int} (h : rVal σ τ k x t y) (e : k = 3) : t = 1 ∧ x = y ∧ (x = 0 ∨ x = 1) := by
  rcases h with h | h | h | h | h | h | h
  · omega
  · omega
  · omega
  · exact ⟨h.2.1, h.2.2⟩
  · omega
  · omega
  · omega
theorem rVal.tr0 {x : Int} (h : x = 0 ∨ x = 1) : rVal σ τ 3 x 1 x := Or.inr (Or.inr (Or.inr (Or.inl ⟨rfl, rfl, rfl, h⟩)))
theorem mc_work_15 : mc_work σ 15 n = some (gW (gW σ 87 8 (w32 (σ 87 8 - 1))) 87 22 (w32 (σ 87 22 + 1)), 0) := by
  rw [mc_work_e]; rfl
theorem mc_work_5 : mc_work σ 5 n = ((mc_isTruth σ n).bind fun p6 => if p6.2 = 0 then some (p6.1, 0) else some (gW p6.1 87 22 (w32 (p6.1 87 22 + 1)), 0)) := by
  rw [mc_work_e]; rfl
theorem mc_isTruth_y (h : 0 < σ 87 8 ∧ σ 87 8 ≤ 18240) (e : σ 88 (σ 87 8 - 1) = 3) : mc_isTruth σ n = some (σ, 1) := by
  rw [mc_isTruth_e, w32_e (by omega) (by omega), if_pos (by omega), if_pos e, mc_isTruth_b24_e]
theorem mc_isTruth_n (h : 0 < σ 87 8 ∧ σ 87 8 ≤ 18240) (e : σ 88 (σ 87 8 - 1) ≠ 3) (f : mc_fails σ 1 n = some (S, 0)) : mc_isTruth σ n = some (S, 0) := by
  rw [mc_isTruth_e, w32_e (by omega) (by omega), if_pos (by omega), if_neg e, f]
  rfl
/-- an instruction that leaves the pile below alone -/
theorem RR.pop1 {E h' br' co' : Int} (R : RR σ τ pT hT (m + 1) br co θ) (st : St σ τ (σ 26 (σ 90 (σ 87 21))) (σ 26 (σ 90 (σ 87 21)) + σ 27 (σ 90 (σ 87 21))) (σ 28 (σ 90 (σ 87 21))) (σ 28 (σ 90 (σ 87 21)) + σ 29 (σ 90 (σ 87 21)) - 2) (τ 212 (σ 87 21)) m E h' br' co') (c : smC σ S) (d : smM τ T (τ 212 (σ 87 21))) (dt : ∀ a i, 218 ≤ a → a ≤ 220 → i ≤ τ 212 (σ 87 21) + m → T a i = τ a i) (pi : rPi S T) (pc : pcT σ (σ 87 21) (S 87 22) E) (tk : T 119 124 = τ 119 124 - 1) (ht : S 87 8 = σ 92 (σ 87 21) + h') (h0 : 0 ≤ h') (op : σ 20 (pT (σ 87 21)) ≠ 10 ∧ σ 20 (pT (σ 87 21)) ≠ 13) (hE : pT (σ 87 21) < E) (h7 : S 87 8 ≤ σ 87 8 + 1) : RR S T (updF pT (σ 87 21) E) (updF hT (σ 87 21) h') m br' co' (θ - 1) := by
  obtain ⟨-, -, -, -, ⟨t1, t2⟩, t3, -, -, -, t6⟩ := R.top
  have R' := R
  obtain ⟨-, -, ⟨⟨k1, k2, k3, k4⟩, k5, k6⟩, -⟩ := R'
  have hl := St.le _ _ _ _ _ st
  obtain ⟨c1, c2⟩ := c
  obtain ⟨d1, d2, d3⟩ := d
  refine R.sm ⟨c1, c2⟩ ⟨d1, d2, d3⟩ pi pc ⟨?_, ?_, ?_, h0⟩ (by omega) ht ?_ (by omega)
  · rw [c1 26 _ (by decide) (by decide) (by decide) (by decide), c1 27 _ (by decide) (by decide) (by decide) (by decide), c1 28 _ (by decide) (by decide) (by decide) (by decide), c1 29 _ (by decide) (by decide) (by decide) (by decide), c1 90 _ (by decide) (by decide) (by decide) (by decide), d1 212 _ (by decide) (by decide) (by decide) (by decide)]
    exact St.fr (fun a n q _ _ => d1 a n (by omega) (by omega) (by omega) (by omega)) (fun n _ _ => c1 14 n (by decide) (by decide) (by decide) (by decide)) (fun p _ _ => ⟨c1 20 p (by decide) (by decide) (by decide) (by decide), c1 21 p (by decide) (by decide) (by decide) (by decide), c1 22 p (by decide) (by decide) (by decide) (by decide)⟩) m _ _ _ _ (fun a i q1 q2 _ q4 => dt a i q1 q2 q4) st
  · rw [d1 212 _ (by decide) (by decide) (by decide) (by decide)]; exact k2
  · rw [c1 92 _ (by decide) (by decide) (by decide) (by decide)]; exact k3
  · have w1 := wT_le (σ := σ) (k := σ 87 21) (P := E) (by omega)
    have w2 := wT_eq (k := σ 87 21) op
    omega
/-- a value that isn't wanted goes -/
theorem op_drop {E br' co' : Int} (R : RR σ τ pT hT (m + 1) br co θ) (en : τ 218 (τ 212 (σ 87 21) + m + 1) = -1) (st : St σ τ (σ 26 (σ 90 (σ 87 21))) (σ 26 (σ 90 (σ 87 21)) + σ 27 (σ 90 (σ 87 21))) (σ 28 (σ 90 (σ 87 21))) (σ 28 (σ 90 (σ 87 21)) + σ 29 (σ 90 (σ 87 21)) - 2) (τ 212 (σ 87 21)) m E 0 br' co') (hh : hT (σ 87 21) = 1) (hE : E = pT (σ 87 21) + 1) (i : cI σ (pT (σ 87 21)) 15 0 (-1)) : goX σ τ θ := by
  obtain ⟨-, -, -, -, ⟨t1, t2⟩, t3, -, -, -, t6⟩ := R.top
  obtain ⟨c1, -, -, pc, c5, c6, c7, -, c9⟩ := R.cur
  obtain ⟨o, p1, p2, p3, p4, p5, p6⟩ := R.pl
  have R' := R
  obtain ⟨⟨⟨⟨P1, -⟩, -⟩, A, -⟩, -⟩ := R'
  have hIn := P1.2.2.2.2.2.2.2.2.2.2.1
  have hl := St.le _ _ _ _ _ st
  obtain ⟨o1, o2, o3, o4, -⟩ := A.op rfl i hIn hIn.1.2
  have o4 : σ 20 (σ 87 22) = 15 := by
    rcases o4 with z | z | z
    · exact z
    · omega
    · omega
  have sC : ∀ a j, a ≠ 87 ∨ (j ≠ 8 ∧ j ≠ 22) → gW (gW σ 87 8 (σ 87 8 - 1)) 87 22 (σ 87 22 + 1) a j = σ a j := fun a j q => by
    by_cases z : a = 87
    · rw [z, gW_i (by omega), gW_i (by omega)]
    · rw [gW_c z, gW_c z]
  have sM : ∀ a j, a ≠ 119 ∨ (j ≠ 124 ∧ j ≠ 125) → gW (gW τ 119 125 (τ 119 125 - 1)) 119 124 (τ 119 124 - 1) a j = τ a j := fun a j q => by
    by_cases z : a = 119
    · rw [z, gW_i (by omega), gW_i (by omega)]
    · rw [gW_c z, gW_c z]
  have cc : smC σ (gW (gW σ 87 8 (σ 87 8 - 1)) 87 22 (σ 87 22 + 1)) := ⟨fun a j q1 q2 q3 _ => sC a j (Or.inl q1), fun j q1 q2 _ => sC 87 j (Or.inr ⟨q1, q2⟩)⟩
  have dd : smM τ (gW (gW τ 119 125 (τ 119 125 - 1)) 119 124 (τ 119 124 - 1)) (τ 212 (σ 87 21)) := ⟨fun a j q1 q2 _ _ => sM a j (Or.inl q1), fun j q1 q2 _ => sM 119 j (Or.inr ⟨q1, q2⟩), fun a j q1 q2 q3 => sM a j (by omega)⟩
  have e8 : gW (gW σ 87 8 (σ 87 8 - 1)) 87 22 (σ 87 22 + 1) 87 8 = σ 87 8 - 1 := by rw [gW_i (by decide), gW_at]
  have e125 : gW (gW τ 119 125 (τ 119 125 - 1)) 119 124 (τ 119 124 - 1) 119 125 = τ 119 125 - 1 := by rw [gW_i (by decide), gW_at]
  refine ⟨_, _, _, _, _, _, _, θ - 1, cG_of t6.1 o1 o4 o3 (by decide) ?_, mG_of (v := 0) t6.2.1 t6.2.2 ?_, R.pop1 st cc dd (fun a j q1 q2 _ => sM a j (by omega)) (R.pk p1 cc dd (fun a j q _ => sC a j (by omega)) (fun a j q _ => sM a j (by omega)) (by rw [e8, e125]; omega) fun j j0 j1 => ?_) (by rw [gW_at, hE]; exact pc.next (by omega)) (gW_at ..) (by rw [e8]; omega) (by omega) ⟨by rw [i.1]; decide, by rw [i.1]; decide⟩ (by omega) (by rw [e8]; omega), Or.inl (by omega), sM 119 119 (by omega), sM 119 120 (by omega)⟩
  · rw [mc_work_15, w32_e (x := σ 87 8 - 1) (by omega) (by omega), w32_e (x := σ 87 22 + 1) (by omega) (by omega)]
  · rw [md_work_e, w32_e (x := τ 119 124 - 1) (by omega) (by omega), show τ 119 124 - 1 = τ 212 (σ 87 21) + m + 1 by omega, if_pos t2, if_pos en, w32_e (by omega) (by omega)]
  · rw [e8] at j1
    rw [sC 88 j (by omega), sC 89 j (by omega), sM 221 _ (by omega), sM 222 _ (by omega)]
    exact (smC.rv cc dd).mpr (p2 j j0 (by omega))
end TR
