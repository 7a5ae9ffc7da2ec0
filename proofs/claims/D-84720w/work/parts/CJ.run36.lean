/-! returns to a caller: both sides -/
section RE
variable {σ τ S T σ0 τ0 : gM} {pT hT : Int → Int} {m : Nat} {br co θ n : Int}
theorem mc_work_16 (e : mc_comesBack σ = some (S, 0)) : mc_work σ 16 n = some (S, 0) := by
  have : mc_work σ 16 n = ((mc_comesBack σ).bind fun p => some (p.1, 0)) := by rw [mc_work_e]; rfl
  rw [this, e]; rfl
theorem mc_work_17 : mc_work σ 17 n = ((mc_push σ 4 0).bind fun p => some (gW p.1 87 22 (w32 (p.1 87 22 + 1)), 0)) := by
  rw [mc_work_e]; rfl
/-- back to the caller: the run is related again -/
theorem ret_go {k x t y : Int} {pT' : Int → Int} (R : RR σ τ pT hT m br co θ) (Q : RQ σ0 τ0 pT' hT) (c : smC σ σ0) (d : smM τ τ0 (τ 212 (σ 87 21))) (dp : ∀ a j, a = 221 ∨ a = 222 → τ0 a j = τ a j) (hp : ∀ k, 0 ≤ k → k < σ 87 21 → pT' k = pT k) (h8 : σ 92 (σ 87 21) < σ0 87 8 ∧ σ0 87 8 ≤ 18240) (h8' : σ 92 (σ 87 21) + 1 ≤ σ 87 8 + 1) (m2 : 2 ≤ σ 87 19) (ek : σ0 88 (σ0 87 8 - 1) = k) (ex : σ0 89 (σ0 87 8 - 1) = x) (rv : rVal σ0 τ0 k x t y) (pl : ∀ i, i < σ 92 (σ 87 21) → σ0 88 i = σ 88 i ∧ σ0 89 i = σ 89 i) (th : 7 * (σ 92 (σ 87 21) + 1) ≤ wT σ (σ 87 21) (pT (σ 87 21)) + 7 * σ 87 8) : ∃ (S T : gM) (m' : Nat) (br' co' : Int), mc_comesBack σ0 = some (S, 0) ∧ md_comesBack τ0 t y = some (T, 0) ∧ RR S T pT' hT m' br' co' (θ - 1) ∧ T 119 119 = τ 119 119 ∧ T 119 120 = τ 119 120 := by
  obtain ⟨c1, -, c2, pc, c5, c6, -⟩ := R.cur
  obtain ⟨o, p1, p2, p3, p4, p5, p6⟩ := R.pl
  have H := R.2.2.2
  have hm := R.1.2.1.2.2.2.2.2.1
  have e21 := c.2 21 (by decide) (by decide) (by decide)
  have e19 := c.2 19 (by decide) (by decide) (by decide)
  have k90 : ∀ a, (a = 14 ∨ (20 ≤ a ∧ a ≤ 22) ∨ (26 ≤ a ∧ a ≤ 29) ∨ a = 90 ∨ a = 92) → σ0 a = σ a := fun a q => funext fun j => c.1 a j (by omega) (by omega) (by omega) (by omega)
  have e92 : σ0 92 (σ0 87 21) = σ 92 (σ 87 21) := by rw [e21, k90 92 (by decide)]
  obtain ⟨S, T, m', br', co', s1, s2, s3, s4, s5, s6, ⟨s7, s8, s9, s10, s11⟩, s12, s13⟩ := comes_pair (t := t) (y := y) Q (by rw [e92]; exact h8) (by rw [e19]; exact m2) ek ex rv R.2.1 e21.symm (k90 92 (by decide)).symm (funext fun j => (d.1 213 j (by decide) (by decide) (by decide) (by decide)).symm) (fun a j q r => by
    rw [e92] at r
    rcases q with q | q
    · rw [q]; exact (pl j r).1
    · rw [q]; exact (pl j r).2) dp (fun k x t y q => (smC.rv c d).mpr q) (by rw [e92]; omega) (by rw [e21, d.1 212 _ (by decide) (by decide) (by decide) (by decide)]; omega)
  refine ⟨S, T, m', br', co', s1, s2, ⟨s3, s4, s5, ?_, ?_, ?_⟩, by rw [s12 119 (by decide) (by decide) (by decide) (by decide), d.2.1 119 (by decide) (by decide) (by decide)], by rw [s12 120 (by decide) (by decide) (by decide) (by decide), d.2.1 120 (by decide) (by decide) (by decide)]⟩
  · have h1 := H.1
    have e24 := c.2 24 (by decide) (by decide) (by decide)
    rw [e21] at s7
    rw [e92] at s11
    rw [e19] at s8
    rw [e24] at s9
    rw [s7, s8, s9, s11]
    have w : wSs σ pT (σ 87 21).toNat = wSs σ pT (σ 87 21 - 1).toNat + 8 * (σ 28 (σ 90 (σ 87 21 - 1)) + σ 29 (σ 90 (σ 87 21 - 1)) - 1 - pT (σ 87 21 - 1)) := by
      rw [show (σ 87 21).toNat = (σ 87 21 - 1).toNat + 1 by omega]
      show _ + _ = _
      rw [show (((σ 87 21 - 1).toNat : Nat) : Int) = σ 87 21 - 1 by omega]
    have q : ∀ a, (a = 14 ∨ (20 ≤ a ∧ a ≤ 22) ∨ (26 ≤ a ∧ a ≤ 29) ∨ a = 90 ∨ a = 92) → S a = σ a := fun a q => by rw [s6 a q, k90 a q]
    rw [wSs_eq (S := S) (σ := σ) (pT := pT) _ fun k q1 q2 => ⟨hp k q1 (by omega), by rw [q 28 (by decide), q 29 (by decide), q 90 (by decide)]⟩, hp (σ 87 21 - 1) (by omega) (by omega)]
    have hap := R.1.2.1.2.2.2.1 (σ 87 21 - 1) (by omega) (by omega)
    have w1 : wT S (σ 87 21 - 1) (pT (σ 87 21 - 1)) = wT σ (σ 87 21 - 1) (pT (σ 87 21 - 1)) := by
      unfold wT
      rw [q 20 (by decide), q 28 (by decide), q 29 (by decide), q 90 (by decide)]
    have w2 := wT_le (σ := σ) (k := σ 87 21 - 1) (P := pT (σ 87 21 - 1)) (by have := hap.1; omega)
    rw [w1]
    omega
  · have := H.2.1
    have e34 := c.2 34 (by decide) (by decide) (by decide)
    rw [e34] at s10
    rw [s10]
    omega
  · have := H.2.2
    rw [e19] at s8 s13
    rw [s8]
    have e1 : ccN σ0 (σ 87 19).toNat = ccN σ (σ 87 19).toNat := ccN_eq _ fun j _ _ => c.1 93 j (by decide) (by decide) (by decide) (by decide)
    rw [e1, d.2.1 123 (by decide) (by decide) (by decide)] at s13
    omega
/-- a value is returned -/
theorem op_ret {E : Int} (R : RR σ τ pT hT (m + 1) br co θ) (en : τ 218 (τ 212 (σ 87 21) + m + 1) = n) (es : τ 219 (τ 212 (σ 87 21) + m + 1) = 1) (hn : 0 ≤ n ∧ σ 26 (σ 90 (σ 87 21)) ≤ n ∧ n < σ 26 (σ 90 (σ 87 21)) + σ 27 (σ 90 (σ 87 21))) (hh : hT (σ 87 21) = 1) (kd : τ 168 n = 26) (o170 : n < τ 170 n) (i : cI σ (pT (σ 87 21)) 16 0 n) (m2 : 2 ≤ σ 87 19) : goX σ τ θ := by
  obtain ⟨-, -, -, -, ⟨t1, t2⟩, t3, -, -, hw, t6⟩ := R.top
  obtain ⟨c1, -, c2, pc, c5, c6, c7, c8, c9⟩ := R.cur
  obtain ⟨o, p1, p2, p3, p4, p5, p6⟩ := R.pl
  have R' := R
  obtain ⟨Q, -, ⟨⟨k1, -⟩, -⟩, H⟩ := R'
  have Q' := Q
  obtain ⟨⟨⟨P1, -⟩, -⟩, A, -, -, C, -⟩ := Q'
  have hIn := P1.2.2.2.2.2.2.2.2.2.2.1
  obtain ⟨o1, o2, o3, o4, -⟩ := A.op rfl i hIn hIn.1.2
  have o4 : σ 20 (σ 87 22) = 16 := by
    rcases o4 with z | z | z
    · exact z
    · omega
    · omega
  have n2 : 0 ≤ n ∧ n < 20000 := by omega
  -- the model's stage is two
  have gs : ∀ a j, a ≠ 219 ∨ j ≠ τ 212 (σ 87 21) + m + 1 → gW τ 219 (τ 212 (σ 87 21) + m + 1) 2 a j = τ a j := fun a j q => by
    rcases q with q | q
    · exact gW_c q
    · exact gW_j q
  have dd := smM.g219 (τ := τ) (v := 2) (i := τ 212 (σ 87 21) + m + 1) (f := τ 212 (σ 87 21)) (by omega)
  have cc : smC σ σ := ⟨fun _ _ _ _ _ _ => rfl, fun _ _ _ _ => rfl⟩
  have Q0 : RQ σ (gW τ 219 (τ 212 (σ 87 21) + m + 1) 2) pT hT := by
    have := Q.sm (P' := pT (σ 87 21)) (h' := hT (σ 87 21)) cc dd pc
    rw [updF_same, updF_same] at this
    exact this
  have v := p2 (σ 87 8 - 1) (by omega) (by omega)
  rw [show σ 87 8 - 1 + o = τ 119 125 - 1 by omega] at v
  have hl := St.le _ _ _ _ _ k1
  have w2 := wT_le (σ := σ) (k := σ 87 21) (P := pT (σ 87 21)) (by omega)
  obtain ⟨S, T, m', br', co', s1, s2, s3, s4, s5⟩ := ret_go (t := τ 221 (τ 119 125 - 1)) (y := τ 222 (τ 119 125 - 1)) R Q0 cc dd (fun a j q => gs a j (by omega)) (fun _ _ _ => rfl) (by omega) (by omega) m2 rfl rfl ((smC.rv cc dd).mpr v) (fun _ _ => ⟨rfl, rfl⟩) (by omega)
  refine ⟨S, T, pT, hT, m', br', co', θ - 1, cG_of t6.1 o1 o4 o3 (by decide) (mc_work_16 s1), mG_of t6.2.1 t6.2.2 (work_n (v := 0) t1 t2 en n2 ?_), s3, Or.inl (by omega), s4, s5⟩
  rw [md_works_e, kd, if_neg (by decide), if_pos (by decide), md_works_b109_e, if_neg (by decide), if_neg (by decide), if_neg (by decide), if_neg (by decide), if_neg (by decide), if_neg (by decide), if_neg (by decide), if_neg (by decide), if_neg (by decide), if_neg (by decide), if_pos rfl, if_pos n2, if_neg (by omega), if_pos n2, begun1 t2 es]
  simp only [Option.bind_some]
  rw [if_neg (show ¬ (1 : Int) = 0 by decide), gs 119 125 (by omega), w32_e (x := τ 119 125 - 1) (by omega) (by omega), if_pos (by omega), if_pos (by omega), gs 221 _ (by omega), gs 222 _ (by omega), s2]
  rfl
/-- nothing is returned, or a body is done: the component lays a null first -/
theorem op_ret0 {n' : Int} (R : RR σ τ pT hT m br co θ) (hh : hT (σ 87 21) = 0) (i : cI σ (pT (σ 87 21)) 17 0 (-1)) (i2 : cI σ (pT (σ 87 21) + 1) 16 0 n') (hP : pT (σ 87 21) + 1 < σ 28 (σ 90 (σ 87 21)) + σ 29 (σ 90 (σ 87 21))) (m2 : 2 ≤ σ 87 19) (wk : ∀ T, md_comesBack τ 0 0 = some (T, 0) → md_work τ = some (T, some 0)) : goX σ τ θ := by
  obtain ⟨c1, -, c2, pc, c5, c6, c7, c8, c9⟩ := R.cur
  obtain ⟨o, p1, p2, p3, p4, p5, p6⟩ := R.pl
  have R' := R
  obtain ⟨Q, -, ⟨⟨k1, -⟩, -⟩, H⟩ := R'
  have Q' := Q
  obtain ⟨⟨⟨P1, -⟩, -⟩, A, -, -, C, -⟩ := Q'
  have hIn := P1.2.2.2.2.2.2.2.2.2.2.1
  obtain ⟨o1, o2, o3, o4, -⟩ := A.op rfl i hIn hIn.1.2
  have o4 : σ 20 (σ 87 22) = 17 := by
    rcases o4 with z | z | z
    · exact z
    · omega
    · omega
  have hl := St.le _ _ _ _ _ k1
  have sC : ∀ a j, (a ≠ 87 ∧ a ≠ 88 ∧ a ≠ 89) ∨ (a ≠ 87 ∧ j ≠ σ 87 8) ∨ (a = 87 ∧ j ≠ 8 ∧ j ≠ 22) → gW (puC σ 4 0) 87 22 (σ 87 22 + 1) a j = σ a j := fun a j q => by
    rcases q with q | q | q
    · rw [gW_c q.1, puC_o (Or.inl q)]
    · rw [gW_c q.1, puC_o (Or.inr (Or.inl q))]
    · rw [q.1, gW_i q.2.2, puC_o (Or.inr (Or.inr ⟨rfl, q.2.1⟩))]
  have cc : smC σ (gW (puC σ 4 0) 87 22 (σ 87 22 + 1)) := ⟨fun a j q1 q2 q3 _ => sC a j (by omega), fun j q1 q2 _ => sC 87 j (by omega)⟩
  have dd : smM τ τ (τ 212 (σ 87 21)) := ⟨fun _ _ _ _ _ _ => rfl, fun _ _ _ _ => rfl, fun _ _ _ _ _ => rfl⟩
  have Q0 := Q.sm (P' := pT (σ 87 21) + 1) (h' := hT (σ 87 21)) cc dd (by rw [gW_at]; exact pc.next hP)
  have eh : updF hT (σ 87 21) (hT (σ 87 21)) = hT := updF_same ..
  rw [eh] at Q0
  have e8 : gW (puC σ 4 0) 87 22 (σ 87 22 + 1) 87 8 = σ 87 8 + 1 := by rw [gW_i (by decide)]; exact puC_n.2.2
  have e88 : gW (puC σ 4 0) 87 22 (σ 87 22 + 1) 88 (σ 87 8) = 4 := by rw [gW_c (by decide)]; exact puC_n.1
  have e89 : gW (puC σ 4 0) 87 22 (σ 87 22 + 1) 89 (σ 87 8) = 0 := by rw [gW_c (by decide)]; exact puC_n.2.1
  have w2 := wT_eq (k := σ 87 21) (σ := σ) (P := pT (σ 87 21)) ⟨by rw [i.1]; decide, by rw [i.1]; decide⟩
  obtain ⟨S, T, m', br', co', s1, s2, s3, s4, s5⟩ := ret_go (k := 4) (x := 0) (t := 0) (y := 0) R Q0 cc dd (fun _ _ _ => rfl) (fun k q1 q2 => updF_ne (by omega)) (by rw [e8]; omega) (by omega) m2 (by rw [e8, show σ 87 8 + 1 - 1 = σ 87 8 by omega]; exact e88) (by rw [e8, show σ 87 8 + 1 - 1 = σ 87 8 by omega]; exact e89) (Or.inr (Or.inr (Or.inr (Or.inr (Or.inl ⟨rfl, rfl, rfl, rfl⟩))))) (fun j j1 => ⟨sC 88 j (by omega), sC 89 j (by omega)⟩) (by omega)
  -- the two instructions
  have g1 : cG σ (gW (puC σ 4 0) 87 22 (σ 87 22 + 1)) := cG_of C.1.1 o1 o4 o3 (by decide) (by
    rw [mc_work_17, mc_push_s (by omega)]
    simp only [Option.bind_some]
    rw [puC_o (Or.inr (Or.inr ⟨rfl, by decide⟩)), w32_e (by omega) (by omega)])
  have A0 := Q0.2.1
  have hIn0 := Q0.1.1.1.2.2.2.2.2.2.2.2.2.2.1
  obtain ⟨v1, -, v3, v4, -⟩ := A0.op (P := pT (σ 87 21) + 1) (by rw [sC 87 21 (by omega), updF_at]) (show cI (gW (puC σ 4 0) 87 22 (σ 87 22 + 1)) (pT (σ 87 21) + 1) 16 0 n' by unfold cI; rw [sC 20 _ (by omega), sC 21 _ (by omega), sC 22 _ (by omega)]; exact i2) hIn0 hIn0.1.2
  have v4 : gW (puC σ 4 0) 87 22 (σ 87 22 + 1) 20 (gW (puC σ 4 0) 87 22 (σ 87 22 + 1) 87 22) = 16 := by
    rcases v4 with z | z | z
    · exact z
    · omega
    · omega
  have g2 : cG (gW (puC σ 4 0) 87 22 (σ 87 22 + 1)) S := cG_of (by rw [sC 87 23 (by omega)]; exact C.1.1) v1 v4 v3 (by decide) (mc_work_16 s1)
  exact ⟨S, T, _, hT, m', br', co', θ - 1, g1.tr g2, mG_of C.1.2 C.2.2.2.2.2.2.2 (wk T s2), s3, Or.inl (by omega), s4, s5⟩
end RE
