/-! a new activation, whole: both sides -/
section AW
variable {σ τ S T : gM} {pT hT : Int → Int} {m : Nat} {br co θ n : Int}
def naY (σ τ S T : gM) (r a0 a1 : Int) : Prop := (∀ a, a = 88 ∨ a = 89 ∨ a = 14 ∨ (20 ≤ a ∧ a ≤ 22) ∨ (26 ≤ a ∧ a ≤ 29) → S a = σ a) ∧ (S 87 19 = σ 87 19 + 1 ∧ S 87 21 = σ 87 19 ∧ S 87 24 = σ 87 24 ∧ S 87 34 = σ 87 34) ∧ (S 90 (σ 87 19) = r ∧ S 92 (σ 87 19) = a0 ∧ T 212 (σ 87 19) = τ 119 124 ∧ T 213 (σ 87 19) = a1) ∧ (∀ j, j < σ 87 19 → S 90 j = σ 90 j ∧ S 92 j = σ 92 j ∧ T 212 j = τ 212 j ∧ T 213 j = τ 213 j) ∧ (∀ a, a = 168 ∨ (170 ≤ a ∧ a ≤ 173) ∨ (218 ≤ a ∧ a ≤ 222) → T a = τ a) ∧ (∀ i, i ≠ 89 → i ≠ 121 → i ≠ 122 → i ≠ 123 → T 119 i = τ 119 i) ∧ T 119 123 + ccN S (σ 87 19 + 1).toNat ≤ τ 119 123 + ccN σ (σ 87 19).toNat + 2
theorem act_all {r a0 a1 ar u P1 h1 : Int} (ha1 : a0 ≤ a1 ∧ a1 + 1 + ar ≤ 24000) (R : RQ σ τ pT hT) (m58 : σ 87 19 ≤ 58) (hr : 4 ≤ r ∧ r < σ 8 31) (hcc : τ 119 123 ≤ 2000000000) (hu : (σ 93 (σ 87 21) < 0 ∧ u = -1) ∨ (0 ≤ σ 93 (σ 87 21) ∧ (∀ T, rBk σ T → md_unitAt T (σ 93 (σ 87 21)) (σ 94 (σ 87 21)) n = some (T, u)) ∧ (u = -1 ∨ ((1 ≤ u ∧ u < σ 55 (σ 93 (σ 87 21))) ∧ σ 62 (σ 54 (σ 93 (σ 87 21)) + u) = r)))) (pcc : pcT σ (σ 87 21) (σ 87 22 + 1) P1)
    (low : ∃ (m : Nat) (br co : Int), aX σ τ (σ 87 21) m P1 h1 br co ∧ τ 119 124 = τ 212 (σ 87 21) + m + 2 ∧ a0 + 1 = σ 92 (σ 87 21) + h1) (h0 : 0 ≤ a0 ∧ a0 + 1 + ar ≤ 18240) (ha : 0 ≤ ar) (h124 : 0 ≤ τ 119 124 ∧ τ 119 124 < 42000) (pv : ∀ j, 0 ≤ j → j < ar → rVal σ τ (σ 88 (a0 + 1 + j)) (σ 89 (a0 + 1 + j)) (τ 221 (a1 + 1 + j)) (τ 222 (a1 + 1 + j))) : ∃ S T, mc_activate (gW (gW σ 87 41 (if σ 87 41 < 1000000000 then σ 87 41 + 1 else σ 87 41)) 91 (σ 87 21) (σ 87 22 + 1)) r a0 ar u = some (gW S 87 8 a0, 0) ∧ md_activate τ r a1 ar n = some (gW (tkW T (-2) (T 162 r)) 219 (τ 119 124) 1, 0) ∧ RQ S T (updF (updF pT (σ 87 21) P1) (σ 87 19) (σ 28 r)) (updF hT (σ 87 21) h1) ∧ (∀ k x t y, rVal σ τ k x t y → rVal S T k x t y) ∧ naY σ τ S T r a0 a1 := by
  have two : ∃ S T, mc_activate (gW (gW σ 87 41 (if σ 87 41 < 1000000000 then σ 87 41 + 1 else σ 87 41)) 91 (σ 87 21) (σ 87 22 + 1)) r a0 ar u = mc_activate_b313 S r a0 ar 0 ∧ md_activate τ r a1 ar n = md_activate_b317 T r a1 ar 0 ∧ RQ S T (updF (updF pT (σ 87 21) P1) (σ 87 19) (σ 28 r)) (updF hT (σ 87 21) h1) ∧ (∀ k x t y, rVal σ τ k x t y → rVal S T k x t y) ∧ naX σ τ S T r a0 a1 := by
    rcases hu with ⟨z1, z2⟩ | ⟨z1, z2, z3 | z3⟩
    · rw [z2]
      exact act_no ha1.1 R m58 hr hcc (Or.inl z1) pcc low
    · rw [z3] at z2 ⊢
      exact act_no ha1.1 R m58 hr hcc (Or.inr ⟨z1, z2⟩) pcc low
    · exact act_in ha1.1 R m58 hr hcc z1 z2 z3 pcc low
  obtain ⟨S5, T5, e1, e2, e3, e4, n1, n2, n3, n4, n5, n6, n7⟩ := two
  have hm := R.2.1.2.2.2.2.2.1
  have er : S5 90 (S5 87 21) = r := by rw [n2.2.1]; exact n3.1
  have h8 : r < S5 8 31 ∧ 4 ≤ r := by
    have := e3.cu.2.1
    rw [er] at this
    omega
  have rr := (e3.1.1.1.2.2.2.2.2.2.2.2.2.2.2.2.2.1 r h8.2 h8.1).1
  obtain ⟨S, T, s1, s2, s3, ⟨⟨x1, x2, x3, x4⟩, x5, x6, x7, x8, x9⟩⟩ := parm_pair (r := r) h0 (show 0 ≤ a1 ∧ a1 + 1 + ar ≤ 24000 by omega) ha (S5 30 r).toNat S5 T5 0 e3 er (by decide) (by omega) (fun j j0 j1 => by
    rw [n1 88 (by decide), n1 89 (by decide), n5 221 (by decide), n5 222 (by decide)]
    exact e4 _ _ _ _ (pv j j0 j1))
  have t124 : T 119 124 = τ 119 124 := by rw [x8 124 (by decide), n6 124 (by decide) (by decide) (by decide) (by decide)]
  refine ⟨S, T, by rw [e1]; exact s1, ?_, s3, fun k x t y q => x9 _ _ _ _ (e4 _ _ _ _ q), ⟨fun a q => ?_, ⟨by rw [x2 19 (by decide)]; exact n2.1, by rw [x2 21 (by decide)]; exact n2.2.1, by rw [x2 24 (by decide)]; exact n2.2.2.1, by rw [x2 34 (by decide)]; exact n2.2.2.2⟩, ⟨by rw [x1 90 (by decide)]; exact n3.1, by rw [x1 92 (by decide)]; exact n3.2.1, by rw [x3 212 (by decide)]; exact n3.2.2.1, by rw [x3 213 (by decide)]; exact n3.2.2.2⟩, fun j q => ?_, fun a q => ?_, fun i q1 q2 q3 q4 => by rw [x8 i q4, n6 i q1 q2 q3 q4], ?_⟩⟩
  · rw [e2, s2, md_task_s (by rw [t124]; exact h124)]
    simp only [Option.bind_some]
    have k := (tkW_n (τ := T) (n := -2) (x := T 162 r) t124).2.2.2
    rw [k, show τ 119 124 + 1 - 1 = τ 119 124 by omega, w32_e (by omega) (by omega), if_pos h124]
  · by_cases z : a = 88 ∨ a = 89
    · rw [x5 a z, n1 a (by omega)]
    · rw [x1 a (by omega), n1 a (by omega)]
  · rw [x1 90 (by decide), x1 92 (by decide), x3 212 (by decide), x3 213 (by decide)]
    exact n4 j q
  · by_cases z : 218 ≤ a
    · rw [x7 a z (by omega), n5 a (by omega)]
    · rw [x3 a (by omega), n5 a (by omega)]
  · rw [n2.1] at x4
    rw [x4]
    exact n7
end AW
