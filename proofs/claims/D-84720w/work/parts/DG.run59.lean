/-! the program's last return: both sides -/
section RF
variable {σ τ S T : gM} {pT hT : Int → Int} {m : Nat} {br co θ n : Int}
theorem mG_endd {v : Int} (h1 : τ 119 117 = 1) (h2 : τ 119 127 = 0) (e : md_work τ = some (T, some v)) (h3 : T 119 117 = 2) : md_goOn_b15 τ = some (gW T 119 121 0, 0) := by
  have h := mG_of h1 h2 e
  unfold mG at h
  rw [h, md_goOn_b15_e, if_neg (by omega), md_goOn_b37_e, md_goOn_b46_e, if_neg (by omega)]
/-- a value is the program's answer -/
theorem op_retE (R : RR σ τ pT hT (m + 1) br co θ) (en : τ 218 (τ 212 (σ 87 21) + m + 1) = n) (es : τ 219 (τ 212 (σ 87 21) + m + 1) = 1) (hn : 0 ≤ n ∧ σ 26 (σ 90 (σ 87 21)) ≤ n ∧ n < σ 26 (σ 90 (σ 87 21)) + σ 27 (σ 90 (σ 87 21))) (hh : hT (σ 87 21) = 1) (kd : τ 168 n = 26) (o170 : n < τ 170 n) (i : cI σ (pT (σ 87 21)) 16 0 n) (m1 : σ 87 19 = 1) : endX σ τ := by
  obtain ⟨-, -, -, -, ⟨t1, t2⟩, t3, -, -, hw, t6⟩ := R.top
  obtain ⟨c1, -, c2, pc, c5, c6, c7, c8, c9⟩ := R.cur
  obtain ⟨o, p1, p2, p3, p4, p5, p6⟩ := R.pl
  have Q := R.1
  have hIn := Q.1.1.1.2.2.2.2.2.2.2.2.2.2.1
  obtain ⟨o1, o2, o3, o4, -⟩ := Q.2.1.op rfl i hIn hIn.1.2
  have o4 : σ 20 (σ 87 22) = 16 := by
    rcases o4 with z | z | z
    · exact z
    · omega
    · omega
  have n2 : 0 ≤ n ∧ n < 20000 := by omega
  have gs : ∀ a j, a ≠ 219 ∨ j ≠ τ 212 (σ 87 21) + m + 1 → gW τ 219 (τ 212 (σ 87 21) + m + 1) 2 a j = τ a j := fun a j q => by
    rcases q with q | q
    · exact gW_c q
    · exact gW_j q
  have dd := smM.g219 (τ := τ) (v := 2) (i := τ 212 (σ 87 21) + m + 1) (f := τ 212 (σ 87 21)) (by omega)
  have cc : smC σ σ := ⟨fun _ _ _ _ _ _ => rfl, fun _ _ _ _ => rfl⟩
  have Q0 : RQ σ (gW τ 219 (τ 212 (σ 87 21) + m + 1) 2) pT hT := by
    have := Q.sm (P' := pT (σ 87 21)) (h' := hT (σ 87 21)) cc dd pc
    rw [updF_same, updF_same] at this
    exact this
  have v := p2 (σ 87 8 - 1) (by omega) (by omega)
  rw [show σ 87 8 - 1 + o = τ 119 125 - 1 by omega] at v
  obtain ⟨S, T, s1, s2, s3, s4, s5, s6⟩ := end_pair (t := τ 221 (τ 119 125 - 1)) (y := τ 222 (τ 119 125 - 1)) Q0 (by omega) m1 rfl rfl ((smC.rv cc dd).mpr v) (by omega)
  refine ⟨S, gW T 119 121 0, cG_end t6.1 o1 o4 o3 (by decide) (mc_work_16 s1) (by omega), mG_endd t6.2.1 t6.2.2 (work_n (v := 0) t1 t2 en n2 ?_) s4, s5, by rw [gW_i (by decide), s6 119 (by decide) (by decide) (by decide) (by decide) (by decide) (by decide), gs 119 119 (by omega)]⟩
  rw [md_works_e, kd, if_neg (by decide), if_pos (by decide), md_works_b109_e, if_neg (by decide), if_neg (by decide), if_neg (by decide), if_neg (by decide), if_neg (by decide), if_neg (by decide), if_neg (by decide), if_neg (by decide), if_neg (by decide), if_neg (by decide), if_pos rfl, if_pos n2, if_neg (by omega), if_pos n2, begun1 t2 es]
  simp only [Option.bind_some]
  rw [if_neg (show ¬ (1 : Int) = 0 by decide), gs 119 125 (by omega), w32_e (x := τ 119 125 - 1) (by omega) (by omega), if_pos (by omega), if_pos (by omega), gs 221 _ (by omega), gs 222 _ (by omega), s2]
  rfl
/-- null is the program's answer -/
theorem op_ret0E {n' : Int} (R : RR σ τ pT hT m br co θ) (hh : hT (σ 87 21) = 0) (i : cI σ (pT (σ 87 21)) 17 0 (-1)) (i2 : cI σ (pT (σ 87 21) + 1) 16 0 n') (hP : pT (σ 87 21) + 1 < σ 28 (σ 90 (σ 87 21)) + σ 29 (σ 90 (σ 87 21))) (m1 : σ 87 19 = 1) (wk : ∀ T, md_comesBack τ 0 0 = some (T, 0) → md_work τ = some (T, some 0)) : endX σ τ := by
  obtain ⟨c1, -, c2, pc, c5, c6, c7, c8, c9⟩ := R.cur
  obtain ⟨o, p1, p2, p3, p4, p5, p6⟩ := R.pl
  have R' := R
  obtain ⟨Q, -, ⟨⟨k1, -⟩, -⟩, H⟩ := R'
  have Q' := Q
  obtain ⟨⟨⟨P1, -⟩, -⟩, A, -, -, C, -⟩ := Q'
  have hIn := P1.2.2.2.2.2.2.2.2.2.2.1
  obtain ⟨o1, o2, o3, o4, -⟩ := A.op rfl i hIn hIn.1.2
  have o4 : σ 20 (σ 87 22) = 17 := by
    rcases o4 with z | z | z
    · exact z
    · omega
    · omega
  have sC : ∀ a j, (a ≠ 87 ∧ a ≠ 88 ∧ a ≠ 89) ∨ (a ≠ 87 ∧ j ≠ σ 87 8) ∨ (a = 87 ∧ j ≠ 8 ∧ j ≠ 22) → gW (puC σ 4 0) 87 22 (σ 87 22 + 1) a j = σ a j := fun a j q => by
    rcases q with q | q | q
    · rw [gW_c q.1, puC_o (Or.inl q)]
    · rw [gW_c q.1, puC_o (Or.inr (Or.inl q))]
    · rw [q.1, gW_i q.2.2, puC_o (Or.inr (Or.inr ⟨rfl, q.2.1⟩))]
  have cc : smC σ (gW (puC σ 4 0) 87 22 (σ 87 22 + 1)) := ⟨fun a j q1 q2 q3 _ => sC a j (by omega), fun j q1 q2 _ => sC 87 j (by omega)⟩
  have dd : smM τ τ (τ 212 (σ 87 21)) := ⟨fun _ _ _ _ _ _ => rfl, fun _ _ _ _ => rfl, fun _ _ _ _ _ => rfl⟩
  have Q0 := Q.sm (P' := pT (σ 87 21) + 1) (h' := hT (σ 87 21)) cc dd (by rw [gW_at]; exact pc.next hP)
  have e8 : gW (puC σ 4 0) 87 22 (σ 87 22 + 1) 87 8 = σ 87 8 + 1 := by rw [gW_i (by decide)]; exact puC_n.2.2
  have e88 : gW (puC σ 4 0) 87 22 (σ 87 22 + 1) 88 (σ 87 8) = 4 := by rw [gW_c (by decide)]; exact puC_n.1
  have e89 : gW (puC σ 4 0) 87 22 (σ 87 22 + 1) 89 (σ 87 8) = 0 := by rw [gW_c (by decide)]; exact puC_n.2.1
  have e92 : gW (puC σ 4 0) 87 22 (σ 87 22 + 1) 92 (gW (puC σ 4 0) 87 22 (σ 87 22 + 1) 87 21) = σ 92 (σ 87 21) := by rw [sC 87 21 (by omega), sC 92 _ (by omega)]
  obtain ⟨S, T, s1, s2, s3, s4, s5, s6⟩ := end_pair (k := 4) (x := 0) (t := 0) (y := 0) Q0 (by rw [e8]; omega) (by rw [sC 87 19 (by omega)]; exact m1) (by rw [e8, show σ 87 8 + 1 - 1 = σ 87 8 by omega]; exact e88) (by rw [e8, show σ 87 8 + 1 - 1 = σ 87 8 by omega]; exact e89) (Or.inr (Or.inr (Or.inr (Or.inr (Or.inl ⟨rfl, rfl, rfl, rfl⟩))))) (by rw [e92]; omega)
  have g1 : cG σ (gW (puC σ 4 0) 87 22 (σ 87 22 + 1)) := cG_of C.1.1 o1 o4 o3 (by decide) (by
    rw [mc_work_17, mc_push_s (by omega)]
    simp only [Option.bind_some]
    rw [puC_o (Or.inr (Or.inr ⟨rfl, by decide⟩)), w32_e (by omega) (by omega)])
  have A0 := Q0.2.1
  have hIn0 := Q0.1.1.1.2.2.2.2.2.2.2.2.2.2.1
  obtain ⟨v1, -, v3, v4, -⟩ := A0.op (P := pT (σ 87 21) + 1) (by rw [sC 87 21 (by omega), updF_at]) (show cI (gW (puC σ 4 0) 87 22 (σ 87 22 + 1)) (pT (σ 87 21) + 1) 16 0 n' by unfold cI; rw [sC 20 _ (by omega), sC 21 _ (by omega), sC 22 _ (by omega)]; exact i2) hIn0 hIn0.1.2
  have v4 : gW (puC σ 4 0) 87 22 (σ 87 22 + 1) 20 (gW (puC σ 4 0) 87 22 (σ 87 22 + 1) 87 22) = 16 := by
    rcases v4 with z | z | z
    · exact z
    · omega
    · omega
  refine ⟨S, gW T 119 121 0, fun x1 x2 => ?_, mG_endd C.1.2 C.2.2.2.2.2.2.2 (wk T s2) s4, s5, by rw [gW_i (by decide), s6 119 (by decide) (by decide) (by decide) (by decide) (by decide) (by decide)]⟩
  rw [g1.1 x1 x2]
  exact cG_end (by rw [sC 87 23 (by omega)]; exact C.1.1) v1 v4 v3 (by decide) (mc_work_16 s1) (by omega) x1 x2
end RF
