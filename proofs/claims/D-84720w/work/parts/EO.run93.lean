/-! a run begins: what was is given up, both sides -/
section NO
variable {σ τ S T : gM}
theorem none_s : ∃ S, mc_none σ = some (S, 0) ∧ (∀ a, a ≠ 0 → a ≠ 87 → S a = σ a) ∧ (∀ i, i < 10 ∨ 13 < i → S 0 i = σ 0 i) ∧ (S 0 10 = 8000 ∧ S 0 11 = 24000 ∧ S 0 12 = 8000 ∧ S 0 13 = 0) ∧ (∀ i, i ≠ 19 → i ≠ 20 → i ≠ 23 → i ≠ 24 → i ≠ 25 → i ≠ 31 → i ≠ 34 → i ≠ 35 → S 87 i = σ 87 i) ∧ ∀ i, i = 19 ∨ i = 20 ∨ i = 23 ∨ i = 24 ∨ i = 25 ∨ i = 31 ∨ i = 34 ∨ i = 35 → S 87 i = 0 := by
  rw [mc_none_e, hp_begin_e]
  simp only [Option.bind_some]
  refine ⟨_, rfl, fun a q1 q2 => ?_, fun i q => ?_, ⟨?_, ?_, ?_, ?_⟩, fun i q1 q2 q3 q4 q5 q6 q7 q8 => ?_, fun i q => ?_⟩
  · rw [gW_cell q1, gW_cell q1, gW_cell q1, gW_cell q1, gW_cell q2, gW_cell q2, gW_cell q2, gW_cell q2, gW_cell q2, gW_cell q2, gW_cell q2, gW_cell q2, gW_cell q2]
  · rw [gW_i (by omega), gW_i (by omega), gW_i (by omega), gW_i (by omega)]
    repeat rw [gW_c (by decide)]
  · rw [gW_i (by decide), gW_i (by decide), gW_i (by decide), gW_at]
  · rw [gW_i (by decide), gW_i (by decide), gW_at]
  · rw [gW_i (by decide), gW_at]
  · rw [gW_at]
  · rw [gW_c (by decide), gW_c (by decide), gW_c (by decide), gW_c (by decide), gW_i q8, gW_i q7, gW_i q5, gW_i q7, gW_i q6, gW_i q4, gW_i q2, gW_i q1, gW_i q3]
  · rw [gW_c (by decide), gW_c (by decide), gW_c (by decide), gW_c (by decide)]
    simp only [gW_if]
    rcases q with q | q | q | q | q | q | q | q <;> simp [q]
theorem noRun_s : ∃ T, md_noRun τ = some (T, 0) ∧ (∀ a, a ≠ 119 → T a = τ a) ∧ (∀ i, i ≠ 95 → i ≠ 117 → i ≠ 118 → i ≠ 121 → i ≠ 122 → i ≠ 126 → i ≠ 128 → i ≠ 129 → i ≠ 130 → T 119 i = τ 119 i) ∧ (∀ i, i = 95 ∨ i = 117 ∨ i = 118 ∨ i = 121 ∨ i = 122 ∨ i = 126 → T 119 i = 0) ∧ ∀ i, i = 128 ∨ i = 129 ∨ i = 130 → T 119 i = -1 := by
  rw [md_noRun_e]
  refine ⟨_, rfl, fun a q => ?_, fun i q1 q2 q3 q4 q5 q6 q7 q8 q9 => ?_, fun i q => ?_, fun i q => ?_⟩
  · rw [gW_cell q, gW_cell q, gW_cell q, gW_cell q, gW_cell q, gW_cell q, gW_cell q, gW_cell q, gW_cell q]
  · rw [gW_i q9, gW_i q8, gW_i q7, gW_i q6, gW_i q1, gW_i q5, gW_i q4, gW_i q3, gW_i q2]
  · simp only [gW_if]
    rcases q with q | q | q | q | q | q <;> simp [q]
  · simp only [gW_if]
    rcases q with q | q | q <;> simp [q]
theorem st127_s {x1 x3 x5 : Int} : ∀ (d : Nat) (k : Int) (U : gM), 0 ≤ k → k + d = 16384 → ∃ T, md_start_b68 U x1 x3 x5 k = md_start_b68 T x1 x3 x5 16384 ∧ (∀ a, a ≠ 127 → T a = U a) ∧ (∀ i, k ≤ i → i < 16384 → T 127 i = -1) ∧ ∀ i, i < k → T 127 i = U 127 i
  | 0, k, U, k0, hk => ⟨U, by rw [show k = 16384 by omega], fun _ _ => rfl, fun i q1 q2 => by omega, fun _ _ => rfl⟩
  | d + 1, k, U, k0, hk => by
    obtain ⟨T, e, t1, t2, t3⟩ := st127_s (x1 := x1) (x3 := x3) (x5 := x5) d (k + 1) (gW U 127 k (-1)) (by omega) (by omega)
    refine ⟨T, ?_, fun a q => by rw [t1 a q, gW_cell q], fun i q1 q2 => ?_, fun i q => by rw [t3 i (by omega), gW_i (by omega)]⟩
    · rw [md_start_b68_e, if_pos (by omega), if_pos (by omega), w32_e (by omega) (by omega), e]
    · by_cases z : i = k
      · rw [z, t3 k (by omega), gW_at]
      · exact t2 i (by omega) q2
end NO
