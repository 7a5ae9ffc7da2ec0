/-! what is related stays related: nodes, instructions, codes, shapes -/
section SH
variable {σ τ Z W X : gM} {f b fn g w hi r L x : Int}
theorem nwN.mvX (rt : rtM W X g) (h : nwN Z W hi r L x) : nwN Z X hi r L x := by
  obtain ⟨-, r2, -, -, r10, -⟩ := rt
  have c : ∀ a, a ≠ 119 → a ≠ 156 → a ≠ 157 → (a < 163 ∨ 167 < a) → X a = W a := fun a q1 q2 q3 q4 => funext fun i => r10 a i q1 q2 q3 q4
  unfold nwN rN1 rEn kst rVal rFn vM mS mB at h ⊢
  rw [c 168 (by decide) (by decide) (by decide) (by decide), c 169 (by decide) (by decide) (by decide) (by decide), c 170 (by decide) (by decide) (by decide) (by decide), c 171 (by decide) (by decide) (by decide) (by decide), c 174 (by decide) (by decide) (by decide) (by decide), c 175 (by decide) (by decide) (by decide) (by decide), c 176 (by decide) (by decide) (by decide) (by decide), c 177 (by decide) (by decide) (by decide) (by decide), c 178 (by decide) (by decide) (by decide) (by decide), c 179 (by decide) (by decide) (by decide) (by decide), c 180 (by decide) (by decide) (by decide) (by decide), c 181 (by decide) (by decide) (by decide) (by decide), c 182 (by decide) (by decide) (by decide) (by decide), c 183 (by decide) (by decide) (by decide) (by decide), c 184 (by decide) (by decide) (by decide) (by decide), c 121 (by decide) (by decide) (by decide) (by decide), c 122 (by decide) (by decide) (by decide) (by decide), c 123 (by decide) (by decide) (by decide) (by decide), c 128 (by decide) (by decide) (by decide) (by decide), c 155 (by decide) (by decide) (by decide) (by decide), r2 10 (by decide), r2 13 (by decide), r2 15 (by decide), r2 16 (by decide), r2 56 (by decide)]
  exact h
theorem rNd.fr (F : sFr σ τ Z X fn g) (h : rNd σ τ) (nw : ∀ x, σ 8 12 ≤ x → x < Z 8 12 → nwN Z X (Z 8 12) (σ 8 31) L x) (h12 : Z 8 12 ≤ 16000 ∧ X 119 57 = Z 8 12) (e : Z 26 (σ 8 31) = σ 8 12 ∧ Z 27 (σ 8 31) = Z 8 12 - σ 8 12) (ex : X 158 (σ 8 31) = σ 8 12 ∧ X 159 (σ 8 31) = Z 8 12 - σ 8 12) (h300 : Z 8 12 - σ 8 12 ≤ 300) : rNd Z X := by
  have F' := F
  obtain ⟨-, -, -, -, -, ⟨-, -, -, ⟨a4, -, a4'⟩, -, -, -, -, -, -, -, a12, -⟩, ⟨-, -, -, -, -, -, -, b8, -, b10⟩⟩ := F'
  obtain ⟨⟨h1, h2, h3⟩, h4, h5⟩ := h
  refine ⟨by omega, fun r r0 r1 => ?_, fun n n0 n1 => ?_⟩
  · by_cases z : r = σ 8 31
    · rw [z, e.1, e.2, ex.1, ex.2]
      exact ⟨rfl, rfl, by omega, by omega, by omega, fun n n0 n1 => (nw n n0 (by omega)).2.1⟩
    · obtain ⟨k1, k2, k3, k4, k5, k6⟩ := h4 r r0 (by omega)
      rw [a12 26 r (by decide) (by decide) (by omega), a12 27 r (by decide) (by decide) (by omega), b8 158 r (by decide) (by decide) z, b8 159 r (by decide) (by decide) z]
      exact ⟨k1, k2, k3, k4, by omega, fun n n0 n1 => by rw [b10 174 n (by decide) (by decide) (by omega)]; exact k6 n n0 n1⟩
  · by_cases z : n < σ 8 12
    · exact (h5 n n0 z).fr F z
    · exact (nw n (by omega) n1).1
theorem rCs.fr (F : sFr σ τ Z X fn g) (h : rCs σ τ) (ks : ∀ n, 0 ≤ n → n < Z 8 12 → kst Z X n) (nw : ∀ x, σ 8 12 ≤ x → x < Z 8 12 → nwN Z X (Z 8 12) (σ 8 31) L x) : rCs Z X := by
  obtain ⟨-, -, -, -, -, ⟨-, a2, -, ⟨a4, -⟩, -⟩, ⟨-, -, -, -, -, -, -, -, -, b10⟩⟩ := F
  intro n n0 n1
  have num : Z 9 n = 1 → (Z 16 n = 0 ↔ X 176 n = 2) := fun q => by
    rcases ((ks n n0 n1).1 (Or.inl q)).1 with z | ⟨z1, z2, -⟩ | ⟨z1, z2, -⟩ | ⟨z1, z2, -⟩ | ⟨z1, z2, -⟩ | ⟨z1, z2, -⟩ | ⟨z1, z2, -⟩ <;> omega
  by_cases z : n < σ 8 12
  · obtain ⟨k1, k2, k3⟩ := h n n0 z
    refine ⟨fun q1 q2 => ?_, fun q => ?_, num⟩
    · rw [a2 9 n (by decide) (by decide) z] at q1 q2
      obtain ⟨l1, l2, l3, l4, l5⟩ := k1 q1 q2
      rw [b10 170 n (by decide) (by decide) z, b10 171 n (by decide) (by decide) z, a2 15 _ (by decide) (by decide) l3]
      exact ⟨l1, l2, by omega, l4, by omega⟩
    · rw [a2 9 n (by decide) (by decide) z] at q
      obtain ⟨l1, l2⟩ := k2 q
      rw [b10 170 n (by decide) (by decide) z]
      exact ⟨l1, by omega⟩
  · obtain ⟨-, -, -, k1, k2, -⟩ := nw n (by omega) n1
    exact ⟨k1, k2, num⟩
theorem rIn.fr (F : sFr σ τ Z X fn g) (h : rIn σ) (hN : rNd σ τ) (h16 : Z 8 16 ≤ 64000) (e : Z 26 (σ 8 31) = σ 8 12 ∧ Z 27 (σ 8 31) = Z 8 12 - σ 8 12 ∧ Z 28 (σ 8 31) = σ 8 16 ∧ Z 29 (σ 8 31) = Z 8 16 - σ 8 16) (l : σ 8 16 + 2 ≤ Z 8 16 ∧ Z 8 16 ≤ σ 8 16 + 3 * (Z 8 12 - σ 8 12) + 2) (ip : ∀ p, σ 8 16 ≤ p → p < Z 8 16 → iP Z (σ 8 12) (Z 8 12) p) : rIn Z := by
  obtain ⟨-, -, -, -, -, ⟨-, -, a3, ⟨-, a4, a4'⟩, -, -, -, -, -, -, -, a12, -⟩, -⟩ := F
  obtain ⟨h1, h2⟩ := h
  refine ⟨by omega, fun r r0 r1 => ?_⟩
  by_cases z : r = σ 8 31
  · rw [z, e.1, e.2.1, e.2.2.1, e.2.2.2]
    refine ⟨h1.1, by omega, by omega, fun p p0 p1 => ?_⟩
    obtain ⟨i1, i2, i3⟩ := ip p p0 (by omega)
    exact ⟨i1, fun w => by have := i2 w; omega, i3⟩
  · obtain ⟨k1, k2, k3, k4⟩ := h2 r r0 (by omega)
    rw [a12 26 r (by decide) (by decide) (by omega), a12 27 r (by decide) (by decide) (by omega), a12 28 r (by decide) (by decide) (by omega), a12 29 r (by decide) (by decide) (by omega)]
    refine ⟨k1, k2, by omega, fun p p0 p1 => ?_⟩
    rw [a3 20 p (by decide) (by decide) (by omega), a3 21 p (by decide) (by decide) (by omega), a3 22 p (by decide) (by decide) (by omega)]
    exact k4 p p0 p1
theorem rUn.fr (F : sFr σ τ Z X fn g) (hC : rCo σ τ) (h : rUn σ) : rUn Z := by
  obtain ⟨-, -, -, -, -, ⟨a1, -, -, -, -, -, -, -, -, -, -, a12, -⟩, -⟩ := F
  unfold rUn at h ⊢
  rw [a1 52 (by decide), a1 53 (by decide), a1 54 (by decide), a1 55 (by decide), a1 62 (by decide), a1 63 (by decide), a1 64 (by decide)]
  intro c c0 c1
  obtain ⟨h1, h2⟩ := h c c0 c1
  refine ⟨h1, fun u u0 u1 => ?_⟩
  obtain ⟨k1, k2⟩ := h2 u u0 u1
  refine ⟨k1, fun w => ?_⟩
  obtain ⟨l1, l2⟩ := k2 w
  have hr := ((hC.2.2 c c0 c1).2.2.2.2.2.2.2.2.2 (σ 63 (σ 54 c + u)) l1.1 (by omega)).1
  rw [a12 26 _ (by decide) (by decide) (by omega), a12 27 _ (by decide) (by decide) (by omega)]
  exact ⟨l1, l2⟩
theorem rCp.fr (F : sFr σ τ Z X fn g) (hC : rCo σ τ) (hI' : rIn σ) (hN : rNd σ τ) (h16 : Z 8 16 ≤ 64000) (h : rCp σ) : rCp Z := by
  obtain ⟨-, -, -, -, -, ⟨a1, a2, a3, ⟨-, a4, -⟩, -, -, -, -, -, -, -, a12, -⟩, -⟩ := F
  unfold rCp at h ⊢
  rw [a1 52 (by decide), a1 54 (by decide), a1 55 (by decide)]
  refine ⟨h.1, fun c u c0 c1 u0 u1 => ?_⟩
  obtain ⟨k1, k2⟩ := h.2 c u c0 c1 u0 u1
  have hr := ((hC.2.2 c c0 c1).2.2.2.2.2.2.2.2.2 u u0 u1).1
  obtain ⟨i1, i2, i3, i4⟩ := hI'.2 (σ 62 (σ 54 c + u)) (by omega) (by omega)
  obtain ⟨-, -, n3, n4, n5, -⟩ := hN.2.1 (σ 62 (σ 54 c + u)) (by omega) (by omega)
  unfold cpC
  rw [a1 62 (by decide), a1 65 (by decide), a1 52 (by decide), a12 28 _ (by decide) (by decide) (by omega), a12 29 _ (by decide) (by decide) (by omega)]
  refine ⟨k1, fun j j0 j1 => ?_⟩
  obtain ⟨⟨l1, l2, l3⟩, l4⟩ := k2 j j0 j1
  have ii := i4 (σ 28 (σ 62 (σ 54 c + u)) + j) (by omega) (by omega)
  have q : ∀ a, 20 ≤ a → a ≤ 22 → Z a (σ 28 (σ 62 (σ 54 c + u)) + j) = σ a (σ 28 (σ 62 (σ 54 c + u)) + j) := fun a q1 q2 => a3 a _ q1 q2 (by omega)
  have q' : ∀ a, 20 ≤ a → a ≤ 22 → Z a (σ 65 (σ 54 c + u) + j) = σ a (σ 65 (σ 54 c + u) + j) := fun a q1 q2 => a3 a _ q1 q2 (by omega)
  unfold cp2
  rw [q 20 (by decide) (by decide), q 21 (by decide) (by decide), q 22 (by decide) (by decide), q' 20 (by decide) (by decide), q' 21 (by decide) (by decide), q' 22 (by decide) (by decide), a1 66 (by decide)]
  refine ⟨⟨l1, l2, ?_⟩, l4⟩
  rcases l3 with z | ⟨z1, z2, z3⟩ | z
  · exact Or.inl z
  · have := ii.2.1 (Or.inr z1)
    exact Or.inr (Or.inl ⟨z1, z2, by rw [a2 9 _ (by decide) (by decide) (by omega)]; exact z3⟩)
  · exact Or.inr (Or.inr z)
theorem rVc.fr (F : sFr σ τ Z X fn g) (hC : rCo σ τ) (hI' : rIn σ) (hN : rNd σ τ) (hU : rUn σ) (hP : rCp σ) (h16 : Z 8 16 ≤ 64000) (h : rVc σ) : rVc Z := by
  obtain ⟨-, -, -, -, -, ⟨a1, a2, a3, ⟨-, a4, -⟩, -, -, -, -, -, -, -, a12, -⟩, -⟩ := F
  unfold rVc at h ⊢
  rw [a1 52 (by decide), a1 61 (by decide)]
  intro c c0 c1 cv
  have k := h c c0 c1 cv
  unfold cFa at k ⊢
  rw [a1 54 (by decide), a1 55 (by decide), a1 62 (by decide), a1 64 (by decide), a1 65 (by decide), a1 19 (by decide)]
  intro u u0 u1
  obtain ⟨k1, k2⟩ := k u u0 u1
  have hr := ((hC.2.2 c c0 c1).2.2.2.2.2.2.2.2.2 u u0 u1).1
  obtain ⟨i1, i2, i3, i4⟩ := hI'.2 (σ 62 (σ 54 c + u)) (by omega) (by omega)
  obtain ⟨-, -, n3, n4, n5, -⟩ := hN.2.1 (σ 62 (σ 54 c + u)) (by omega) (by omega)
  obtain ⟨p1, p2⟩ := hP.2 c u c0 c1 u0 u1
  rw [a12 29 _ (by decide) (by decide) (by omega)]
  refine ⟨fun j j0 j1 => ?_, fun w => ?_⟩
  · obtain ⟨⟨l1, l2, l3⟩, l4⟩ := p2 j j0 j1
    have ii := i4 (σ 28 (σ 62 (σ 54 c + u)) + j) (by omega) (by omega)
    rw [a3 20 _ (by decide) (by decide) (by omega), a3 22 _ (by decide) (by decide) (by omega)]
    intro q
    have o3 : σ 20 (σ 28 (σ 62 (σ 54 c + u)) + j) = 3 := by
      rcases l3 with z | ⟨z1, z2, z3⟩ | ⟨z1, z2⟩
      · have := ii.1; omega
      · exact z1
      · omega
    have nr := ii.2.1 (Or.inr o3)
    rw [l2, a2 11 _ (by decide) (by decide) (by omega), ← l2]
    exact k1 j j0 j1 q
  · obtain ⟨m1, m2, m3⟩ := k2 w
    obtain ⟨-, u2⟩ := (hU c c0 c1).2 u u0 u1
    obtain ⟨v1, v2, v3⟩ := u2 w
    have hr' := ((hC.2.2 c c0 c1).2.2.2.2.2.2.2.2.2 (σ 63 (σ 54 c + u)) v1.1 (by omega)).1
    obtain ⟨-, -, n3', n4', n5', -⟩ := hN.2.1 (σ 62 (σ 54 c + σ 63 (σ 54 c + u))) (by omega) (by omega)
    rw [a2 9 _ (by decide) (by decide) (by omega), a2 18 _ (by decide) (by decide) (by omega)]
    exact ⟨m1, m2, m3⟩
end SH
