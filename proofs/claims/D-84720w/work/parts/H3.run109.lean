/-! both systems when they have just been made -/
section BRL
variable {M T : gM}
theorem base_RL (ag : agO M T) (C : CK 7 M) (K : MK T) (t16 : T 119 16 = 2000) (sp : M 42 6 = 1 ∧ M 42 10 = 0 ∧ M 42 11 = 0 ∧ M 43 0 = -1 ∧ M 45 0 = -1 ∧ M 46 0 = -1 ∧ M 47 0 = 0) (cd : M 52 10 = 0 ∧ M 52 11 = 0 ∧ M 52 12 = 0 ∧ M 52 19 = 0) (z87 : ∀ i, i = 19 ∨ i = 20 ∨ i = 23 ∨ i = 24 ∨ i = 31 ∨ i = 34 ∨ (36 ≤ i ∧ i ≤ 42) → M 87 i = 0) (tn : ∀ i, i = 95 ∨ i = 117 ∨ i = 118 ∨ i = 121 ∨ i = 122 ∨ i = 126 → T 119 i = 0) (t1 : T 119 1 = M 87 5) (fd : M 117 7 = 0 ∧ M 117 8 = 0 ∧ M 117 9 = -1) (td : T 119 153 = 0 ∧ T 119 154 = 0 ∧ T 119 155 = -1) (b : gb8 227 M) (h39 : ∀ k, 0 ≤ k → k < 7 → M 39 k = kX k) : RL M := by
  have P : rPr M T := base_pr C K t16 sp cd
  have bT := ag.b8 b
  obtain ⟨⟨k1, ⟨k2, k3, k4, k5⟩, k6, ⟨k10, k11, k12, k13⟩, -⟩, k16, -⟩ := id C
  obtain ⟨⟨-, ⟨m1, m2⟩, ⟨m3, m4⟩, -⟩, -, -, -, m10, ⟨m15, m57, -⟩, -, m224⟩ := id K
  have R : RN0 M T := by
    refine ⟨⟨⟨P, ⟨fun n n0 n1 => by omega, fun r n r0 r1 n0 n1 => by omega⟩, ?_, b 1 (by decide +kernel) (by decide), bT 134 (by decide +kernel) (by decide)⟩, ?_, by rw [tn 117 (by decide), z87 23 (by decide)], by rw [tn 118 (by decide), z87 24 (by decide)], by rw [tn 121 (by decide), z87 19 (by decide)], by rw [tn 122 (by decide), z87 20 (by decide)], by rw [tn 95 (by decide), z87 31 (by decide)], by rw [tn 126 (by decide), z87 34 (by decide)]; exact ⟨rfl, by decide⟩, fun i i0 i1 i2 => ?_, t1⟩, z87 19 (by decide), z87 23 (by decide), z87 34 (by decide), Or.inr ?_⟩
    · unfold rRm cRm mRm
      rw [sp.1, k13, k5, k10, k11, k12, m4, m15]
      exact ⟨⟨by omega, by omega, by omega, by omega, by omega⟩, ⟨by omega, by omega, by omega, by omega, by omega⟩, ⟨by omega, by omega⟩, ⟨by omega, by omega⟩, by omega⟩
    · unfold rTo
      rw [m224 9 (by decide) (by decide), m224 10 (by decide) (by decide), m224 11 (by decide) (by decide), m224 12 (by decide) (by decide), m224 13 (by decide) (by decide), m224 14 (by decide) (by decide), m224 15 (by decide) (by decide), z87 36 (by decide), z87 37 (by decide), z87 38 (by decide), z87 39 (by decide), z87 40 (by decide), z87 41 (by decide), z87 42 (by decide)]
      decide
    · rw [z87 34 (by decide)] at i2
      omega
    · unfold slk
      rw [sp.1, k13, m4]
      exact ⟨by omega, by omega, by omega⟩
  refine ⟨b, h39, Or.inr ⟨z87 23 (by decide), T, ag, ⟨⟨by omega, by omega, by omega⟩, fun i q1 q2 => by omega, ⟨b 118 (by decide +kernel) (by decide), bT 226 (by decide +kernel) (by decide)⟩, by rw [td.2.1, fd.2.1], by rw [td.2.2, fd.2.2]⟩, b.lo, Or.inl R⟩⟩
end BRL
