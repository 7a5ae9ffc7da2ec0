/-! units that lie at a call: both sides -/
section UN
variable {σ τ S T : gM} {pT hT : Int → Int} {m : Nat} {br co θ n : Int}
/-- the unit of a code that lies in a unit at a node -/
theorem unit_b3 {c u r : Int} (hb : rBk σ τ) (c0 : 0 ≤ c ∧ c < σ 52 10) (u0 : 0 ≤ u) (hr : ∀ v, 1 ≤ v → v < σ 55 c → σ 63 (σ 54 c + v) = u → σ 64 (σ 54 c + v) = n → σ 62 (σ 54 c + v) = r) : ∀ (d : Nat) (v : Int), 1 ≤ v → v + d = σ 55 c → ∃ x, cd_unit_b3 σ c u n r v = some (σ, x) ∧ md_unitAt_b3 τ c u n v = some (τ, x) ∧ (x = -1 ∨ ((1 ≤ x ∧ x < σ 55 c) ∧ σ 62 (σ 54 c + x) = r))
  | 0, v, v1, hv => by
    have g := hb.2.2.2 c c0.1 c0.2
    have c100 : 0 ≤ c ∧ c < 100 := by have := hb.2.1; omega
    rw [cd_unit_b3_e, if_pos c100, if_neg (by omega), md_unitAt_b3_e, if_pos c100, g.2.1.1, if_neg (by omega)]
    exact ⟨-1, rfl, rfl, Or.inl rfl⟩
  | d + 1, v, v1, hv => by
    have g := hb.2.2.2 c c0.1 c0.2
    have c100 : 0 ≤ c ∧ c < 100 := by have := hb.2.1; omega
    have g9 := g.2.2.2.2.2.2.2.2.1
    have gu := g.2.2.2.2.2.2.2.2.2 v (by omega) (by omega)
    have b1 : 0 ≤ σ 54 c + v ∧ σ 54 c + v < 16000 := by have := hb.2.1; have := hb.2.2.1; omega
    have b2 : 0 ≤ 152 * c + v ∧ 152 * c + v < 15200 := by omega
    obtain ⟨x, i1, i2, i3⟩ := unit_b3 hb c0 u0 hr d (v + 1) (by omega) (by omega)
    have hlt : v < σ 55 c := by omega
    have n1 : cd_unit_b72 σ c u n r v = some (σ, x) := by rw [cd_unit_b72_e, w32_e (by omega) (by omega)]; exact i1
    have n2 : md_unitAt_b49 τ c u n v = some (τ, x) := by rw [md_unitAt_b49_e, w32_e (by omega) (by omega)]; exact i2
    have eC : cd_unit_b3 σ c u n r v = if σ 63 (σ 54 c + v) = u then (if σ 64 (σ 54 c + v) = n then (if σ 62 (σ 54 c + v) = r then some (σ, v) else some (σ, x)) else some (σ, x)) else some (σ, x) := by
      rw [cd_unit_b3_e, w32_e (x := σ 54 c + v) (by omega) (by omega), n1]
      simp only [c100, hlt, b1, and_self, if_true]
    have eM : md_unitAt_b3 τ c u n v = if σ 63 (σ 54 c + v) = u then (if σ 64 (σ 54 c + v) = n then some (τ, v) else some (τ, x)) else some (τ, x) := by
      rw [md_unitAt_b3_e, g.2.1.1, md_unit_s (by omega)]
      simp only [c100, hlt, b2, and_self, if_true, Option.bind_some, gu.2.1, gu.2.2, md_unit_s (τ := τ) (c := c) (u := v) (by omega), n2]
    rw [eC, eM]
    by_cases z1 : σ 63 (σ 54 c + v) = u
    · rw [if_pos z1, if_pos z1]
      by_cases z2 : σ 64 (σ 54 c + v) = n
      · have z3 := hr v v1 hlt z1 z2
        rw [if_pos z2, if_pos z2, if_pos z3]
        exact ⟨v, rfl, rfl, Or.inr ⟨⟨v1, hlt⟩, z3⟩⟩
      · rw [if_neg z2, if_neg z2]
        exact ⟨x, rfl, rfl, i3⟩
    · rw [if_neg z1, if_neg z1]
      exact ⟨x, rfl, rfl, i3⟩
theorem unit_pair {c u r : Int} (hb : rBk σ τ) (hU : rUn σ) (c0 : 0 ≤ c ∧ c < σ 52 10) (u0 : 0 ≤ u ∧ u < σ 55 c) (hf : cFa σ c) (hn : σ 11 n = 1 → σ 18 n = 0) (he : σ 11 n = 1 ∨ (σ 11 n = 0 ∧ (σ 18 n = 1 → σ 19 (9 * n) = r))) : ∃ x, cd_unit σ c u n r = some (σ, x) ∧ md_unitAt τ c u n = some (τ, x) ∧ (x = -1 ∨ ((1 ≤ x ∧ x < σ 55 c) ∧ σ 62 (σ 54 c + x) = r)) := by
  have g := hb.2.2.2 c c0.1 c0.2
  have c100 : 0 ≤ c ∧ c < 100 := by have := hb.2.1; omega
  have g9 := g.2.2.2.2.2.2.2.2.1
  have b1 : 0 ≤ σ 54 c ∧ σ 54 c < 16000 := by have := hb.2.1; have := hb.2.2.1; omega
  have hr : ∀ v, 1 ≤ v → v < σ 55 c → σ 63 (σ 54 c + v) = u → σ 64 (σ 54 c + v) = n → σ 62 (σ 54 c + v) = r := fun v v1 v2 q1 q2 => by
    obtain ⟨f1, f2, f3⟩ := (hf v (by omega) v2).2 v1
    rw [q2] at f2 f3
    rcases he with e | ⟨-, e⟩
    · have := hn e
      omega
    · rw [← f3]
      exact e f2
  obtain ⟨x, i1, i2, i3⟩ := unit_b3 hb c0 u0.1 hr (σ 55 c - 1).toNat 1 (by decide) (by omega)
  refine ⟨x, ?_, by rw [md_unitAt_e]; exact i2, i3⟩
  have u1 := ((hU c c0.1 c0.2).2 0 (by decide) (by omega)).1 rfl
  rw [Int.add_zero] at u1
  rw [cd_unit_e, cd_unit_b3_e, if_pos c100, if_pos (by omega), if_pos c100, Int.add_zero, w32_e (x := σ 54 c) (by omega) (by omega), if_pos b1, u1, if_neg (by omega), cd_unit_b72_e, show w32 (0 + 1) = 1 by decide]
  exact i1
end UN
