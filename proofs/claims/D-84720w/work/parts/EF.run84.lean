/-! what may be asked between calls: both sides -/
section OBS
variable {σ τ S T Z X : gM} {x y z : Int}
theorem obs_state (R : RW σ τ) : gt_state σ = some (σ, σ 87 23) ∧ md_state τ = some (τ, σ 87 23) := by
  rw [gt_state_e, md_state_e, R.st.1]
  exact ⟨rfl, rfl⟩
theorem obs_fault (R : RW σ τ) : ∃ r, gt_fault σ x = some (σ, r) ∧ md_fault τ x = some (τ, r) := by
  have F := R.1
  rw [gt_fault_e, md_fault_e, F.2.2.2.1, F.2.2.2.2]
  by_cases h0 : x = 0
  · rw [if_pos h0, if_pos h0]
    exact ⟨_, rfl, rfl⟩
  · rw [if_neg h0, if_neg h0]
    by_cases h1 : x = 1
    · rw [if_pos h1, if_pos h1]
      exact ⟨_, rfl, rfl⟩
    · rw [if_neg h1, if_neg h1]
      exact ⟨_, rfl, rfl⟩
theorem obs_error (R : RW σ τ) : ∃ r, gt_error σ x = some (σ, r) ∧ md_error_2 τ x = some (τ, r) := by
  rw [gt_error_e, md_error_2_e, R.st.1]
  by_cases h3 : σ 87 23 = 3
  · rw [if_pos h3, if_pos h3]
    have e : τ 119 128 = σ 87 25 ∧ τ 119 129 = σ 87 26 ∧ τ 119 130 = σ 87 27 := by
      obtain ⟨-, -, R⟩ := R
      rcases R with ⟨-, -, w, -⟩ | ⟨-, -, ⟨-, w⟩ | ⟨w, -⟩⟩ | ⟨pT, hT, m, br, co, θ, w⟩
      · omega
      · exact w
      · omega
      · have := w.1.2.2.2.2.1.1.1
        omega
    rw [e.1, e.2.1, e.2.2]
    by_cases h0 : x = 0
    · rw [if_pos h0, if_pos h0]
      exact ⟨_, rfl, rfl⟩
    · rw [if_neg h0, if_neg h0]
      by_cases h1 : x = 1
      · rw [if_pos h1, if_pos h1]
        exact ⟨_, rfl, rfl⟩
      · rw [if_neg h1, if_neg h1]
        by_cases h2 : x = 2
        · rw [if_pos h2, if_pos h2]
          exact ⟨_, rfl, rfl⟩
        · rw [if_neg h2, if_neg h2]
          exact ⟨_, rfl, rfl⟩
  · rw [if_neg h3, if_neg h3]
    exact ⟨_, rfl, rfl⟩
theorem obs_total (R : RW σ τ) : ∃ r, gt_total σ x = some (σ, r) ∧ md_total τ x = some (τ, r) := by
  obtain ⟨⟨⟨P1, -⟩, -⟩, ht, -, b1, b2, b3, b4, b5, -⟩ := R.b
  have e55 := P1.2.2.2.2.2.2.2.1.1.1.2.2
  have e94 := P1.2.2.2.2.2.1.1.2.2
  have e104 := P1.2.2.2.2.2.2.2.1.2.1.2.2
  have e89 := P1.2.2.2.2.2.2.2.2.2.2.2.2.1.1.2
  rw [gt_total_e, md_total_e, b1, b2, b3, b4, b5.1, e55, e94, e104, e89]
  by_cases h0 : x = 0
  · rw [if_pos h0, if_pos h0]; exact ⟨_, rfl, rfl⟩
  by_cases h1 : x = 1
  · rw [if_neg h0, if_neg h0, if_pos h1, if_pos h1]; exact ⟨_, rfl, rfl⟩
  by_cases h2 : x = 2
  · rw [if_neg h0, if_neg h0, if_neg h1, if_neg h1, if_pos h2, if_pos h2]; exact ⟨_, rfl, rfl⟩
  by_cases h3 : x = 3
  · rw [if_neg h0, if_neg h0, if_neg h1, if_neg h1, if_neg h2, if_neg h2, if_pos h3, if_pos h3]; exact ⟨_, rfl, rfl⟩
  by_cases h4 : x = 4
  · rw [if_neg h0, if_neg h0, if_neg h1, if_neg h1, if_neg h2, if_neg h2, if_neg h3, if_neg h3, if_pos h4, if_pos h4]; exact ⟨_, rfl, rfl⟩
  by_cases h5 : x = 5
  · rw [if_neg h0, if_neg h0, if_neg h1, if_neg h1, if_neg h2, if_neg h2, if_neg h3, if_neg h3, if_neg h4, if_neg h4, if_pos h5, if_pos h5]; exact ⟨_, rfl, rfl⟩
  by_cases h6 : x = 6
  · rw [if_neg h0, if_neg h0, if_neg h1, if_neg h1, if_neg h2, if_neg h2, if_neg h3, if_neg h3, if_neg h4, if_neg h4, if_neg h5, if_neg h5, if_pos h6, if_pos h6]; exact ⟨_, rfl, rfl⟩
  by_cases h7 : x = 7
  · rw [if_neg h0, if_neg h0, if_neg h1, if_neg h1, if_neg h2, if_neg h2, if_neg h3, if_neg h3, if_neg h4, if_neg h4, if_neg h5, if_neg h5, if_neg h6, if_neg h6, if_pos h7, if_pos h7]; exact ⟨_, rfl, rfl⟩
  by_cases h8 : x = 8
  · rw [if_neg h0, if_neg h0, if_neg h1, if_neg h1, if_neg h2, if_neg h2, if_neg h3, if_neg h3, if_neg h4, if_neg h4, if_neg h5, if_neg h5, if_neg h6, if_neg h6, if_neg h7, if_neg h7, if_pos h8, if_pos h8]; exact ⟨_, rfl, rfl⟩
  rw [if_neg h0, if_neg h0, if_neg h1, if_neg h1, if_neg h2, if_neg h2, if_neg h3, if_neg h3, if_neg h4, if_neg h4, if_neg h5, if_neg h5, if_neg h6, if_neg h6, if_neg h7, if_neg h7, if_neg h8, if_neg h8]
  obtain ⟨t1, t2, t3, t4, t5, t6, t7, -⟩ := ht
  by_cases k : 9 ≤ x ∧ x ≤ 15
  · rw [if_pos (show 8 < x by omega), if_pos (show x < 16 by omega), if_pos (show 0 ≤ x ∧ x < 16 by omega)]
    by_cases g9 : x = 9
    · rw [if_pos g9, g9, t1]; exact ⟨_, rfl, rfl⟩
    rw [if_neg g9]
    by_cases g10 : x = 10
    · rw [if_pos g10, g10, t2]; exact ⟨_, rfl, rfl⟩
    rw [if_neg g10]
    by_cases g11 : x = 11
    · rw [if_pos g11, g11, t3]; exact ⟨_, rfl, rfl⟩
    rw [if_neg g11]
    by_cases g12 : x = 12
    · rw [if_pos g12, g12, t4]; exact ⟨_, rfl, rfl⟩
    rw [if_neg g12]
    by_cases g13 : x = 13
    · rw [if_pos g13, g13, t5]; exact ⟨_, rfl, rfl⟩
    rw [if_neg g13]
    by_cases g14 : x = 14
    · rw [if_pos g14, g14, t6]; exact ⟨_, rfl, rfl⟩
    rw [if_neg g14, if_pos (by omega), show x = 15 by omega, t7]
    exact ⟨_, rfl, rfl⟩
  · rw [if_neg (by omega), if_neg (by omega), if_neg (by omega), if_neg (by omega), if_neg (by omega), if_neg (by omega), if_neg (by omega)]
    by_cases q : 8 < x
    · rw [if_pos q, if_neg (by omega)]; exact ⟨_, rfl, rfl⟩
    · rw [if_neg q]; exact ⟨_, rfl, rfl⟩
theorem obs_out (R : RW σ τ) (h0 : σ 87 23 = 0 → σ 87 34 = 0) : ∃ r, gt_out σ x = some (σ, r) ∧ md_out τ x = some (τ, r) := by
  obtain ⟨-, -, -, -, -, -, -, ⟨b5, b5'⟩, b6, -⟩ := R.b
  rw [gt_out_e, md_out_e, b5]
  by_cases s0 : σ 87 23 = 0
  · rw [if_pos s0, h0 s0]
    by_cases x0 : x < 0
    · rw [if_pos x0]; exact ⟨_, rfl, rfl⟩
    · rw [if_neg x0, if_neg x0]; exact ⟨_, rfl, rfl⟩
  · rw [if_neg s0]
    by_cases x0 : x < 0
    · rw [if_pos x0, if_pos x0]; exact ⟨_, rfl, rfl⟩
    · rw [if_neg x0, if_neg x0]
      have mn : jm_min σ 2000 (σ 87 34) = some (σ, if σ 87 34 < 2000 then σ 87 34 else 2000) := by
        rw [jm_min_e]
        by_cases q : σ 87 34 < 2000
        · rw [if_pos q, if_pos q]
        · rw [if_neg q, if_neg q]
      rw [mn]
      simp only [Option.bind_some]
      by_cases k : x < 2000 ∧ x < σ 87 34
      · rw [if_pos (by split <;> omega), if_pos (by omega), if_pos k.2, if_pos k.1, if_pos (by omega), b6 x (by omega) k.1 k.2]
        exact ⟨_, rfl, rfl⟩
      · rw [if_neg (by split <;> omega)]
        by_cases k2 : x < σ 87 34
        · rw [if_pos k2, if_neg (by omega)]; exact ⟨_, rfl, rfl⟩
        · rw [if_neg k2]; exact ⟨_, rfl, rfl⟩
end OBS
