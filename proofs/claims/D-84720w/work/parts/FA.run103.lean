/-! an empty program: both sides -/
section BAS
variable {S T : gM}
theorem base_pr (C : CK 7 S) (M : MK T) (m16 : T 119 16 = 2000) (sp : S 42 6 = 1 ∧ S 42 10 = 0 ∧ S 42 11 = 0 ∧ S 43 0 = -1 ∧ S 45 0 = -1 ∧ S 46 0 = -1 ∧ S 47 0 = 0) (cd : S 52 10 = 0 ∧ S 52 11 = 0 ∧ S 52 12 = 0 ∧ S 52 19 = 0) : rPr S T := by
  obtain ⟨⟨c1, ⟨c2, c3, c4, c5⟩, ⟨c6, c7, c8, c9⟩, ⟨c10, c11, c12, c13⟩, c14, c15⟩, c16, c17⟩ := C
  obtain ⟨⟨⟨m1, m2, m3, m4⟩, m5, ⟨m6, m7⟩, m8⟩, m9, m10, m11, m12, ⟨n15, n57, n89, n94, n104⟩, ⟨n188, n190, n191⟩, -⟩ := M
  obtain ⟨s6, s10, s11, s43, s45, s46, s47⟩ := sp
  obtain ⟨d10, d11, d12, d19⟩ := cd
  have fn : ∀ f g, rFn S T f g ↔ (f = g ∧ 0 ≤ f ∧ f < 4) := fun f g => by
    unfold rFn
    constructor
    · intro ⟨q1, q2, q3⟩
      rw [c12] at q1
      rw [m7] at q2
      rw [(c15 f q1.1 q1.2).2.1.1, (c15 f q1.1 q1.2).1.1, (m8 g q2.1 q2.2).1.2.1, (m8 g q2.1 q2.2).1.1] at q3
      have := tx_inj (by omega) (by omega) q3
      exact ⟨by omega, q1⟩
    · intro ⟨q1, q2, q3⟩
      rw [← q1, c12, m7, (c15 f q2 q3).2.1.1, (c15 f q2 q3).1.1, (m8 f q2 q3).1.2.1, (m8 f q2 q3).1.1]
      exact ⟨⟨q2, q3⟩, ⟨q2, q3⟩, rfl⟩
  have vs : ∀ x, vS S x → 0 ≤ x ∧ x < S 0 7 := fun x q => by
    unfold vS at q
    rw [c6] at q
    rcases q with w | w
    · exact w
    · omega
  refine ⟨⟨⟨c1, m1, m3⟩, ⟨?_, m2, fun f g q => ?_, fun g g0 g1 q => ?_, fun f f0 f1 q => ?_⟩, fun r r0 r1 => ?_, ?_, ?_, ?_, fun x q => ?_, ⟨⟨by omega, fun r r0 r1 => ?_⟩, ⟨by omega, by omega, fun c q1 q2 => by omega⟩⟩, ⟨by omega, fun r q1 q2 => by omega, fun n q1 q2 => by omega⟩, fun n q1 q2 => by omega, ⟨by rw [c11]; decide, fun r q1 q2 => by omega⟩, ⟨fun c q1 q2 => by omega, ⟨⟨by omega, by omega⟩, fun c u q1 q2 => by omega⟩, fun c q1 q2 => by omega⟩, ⟨by omega, fun k q1 q2 => by omega, fun j k q1 q2 => by omega⟩, fun r q1 q2 => by omega, ⟨fun n q1 q2 => by omega, fun r r0 r1 => ?_, fun f f0 f1 q1 q2 => ?_⟩, fun r l r0 r1 l0 l1 => ?_, fun r r0 r1 => ?_⟩, fun r r0 r1 => ?_⟩
  · refine ⟨by omega, fun f f0 f1 => ?_, fun f f' f0 f1 g0 g1 q => ?_, by omega⟩
    · have w := c15 f f0 (by omega)
      rw [w.2.1.1, w.2.1.2.1]
      exact ⟨by omega, w.1.2, by omega⟩
    · rw [(c15 f f0 (by omega)).2.1.1, (c15 f' g0 (by omega)).2.1.1] at q
      exact q
  · obtain ⟨e, q1, q2⟩ := (fn f g).mp q
    rw [← e, (m8 f q1 q2).1.2.2.1, (c15 f q1 q2).2.1.2.1]
  · exact absurd ((fn g g).mpr ⟨rfl, g0, by omega⟩) (q g)
  · exact absurd ((fn f f).mpr ⟨rfl, f0, by omega⟩) (q f)
  · have r4 : r < 4 := by omega
    rw [(c15 r r0 r4).2.1.2.2.1, (m8 r r0 r4).1.2.2.2]
    exact (fn r r).mpr ⟨rfl, r0, r4⟩
  · refine ⟨fun k q1 q2 => ?_, ?_, ⟨m10.1, ?_⟩, ⟨m11.1, ?_⟩⟩
    · obtain ⟨w1, w2, w3⟩ := c17 k q1 q2
      obtain ⟨w4, w5⟩ := m9 k q1 q2
      exact ⟨w4, w1, by omega, by rw [w2, w5]⟩
    · have := (m9 4 (by decide) (by decide)).2
      rw [show kT 4 = 0 by decide, show kX 4 = 5 by decide] at this
      exact this
    · exact m10.2
    · exact m11.2
  · unfold rGr
    rw [c5, c8, c9]
    exact ⟨by decide, by rw [n15]; decide, by omega, by rw [m16]; decide, by rw [m16]; decide, by decide⟩
  · refine ⟨by omega, by omega, by omega, ⟨s47, n191, s43, n188, s45⟩, fun s q1 q2 => by omega, fun s q1 q2 => ?_, fun k q1 q2 => by omega, fun j k q1 q2 => by omega⟩
    have e : s = 0 := by omega
    rw [e, n190, s46]
    exact ⟨rfl, Or.inl rfl⟩
  · have w := vs x q
    have y := c14 x w.1 w.2
    rw [y.1, y.2, s10]
    exact ⟨by decide, Or.inl ⟨rfl, fun k q1 q2 => by omega⟩⟩
  · have r4 : r < 4 := by omega
    obtain ⟨-, ⟨w1, w2, w3, w4, w5⟩, ⟨w6, w7, w8⟩, -⟩ := c15 r r0 r4
    obtain ⟨⟨-, -, y1, y2⟩, ⟨-, -, y3, y4, y5, -⟩, -⟩ := m8 r r0 r4
    rw [w6, w7, w8, w3, w2, y2, y1, y3, y4, y5, d10]
    exact ⟨⟨rfl, by decide, by decide⟩, ⟨rfl, by decide, by decide, fun q => by omega⟩, ⟨rfl, by decide, by decide⟩, by omega, by omega, rfl⟩
  · obtain ⟨-, ⟨-, -, -, w4, w5⟩, -⟩ := c15 r r0 r1
    obtain ⟨-, ⟨y1, y2, -⟩, -⟩ := m8 r r0 r1
    exact ⟨w4, y1, w5, y2⟩
  · have w := c15 f f0 (by omega)
    rw [w.2.1.1, w.2.1.2.1]
    exact w.1.1
  · have r4 : r < 4 := by omega
    rw [(c15 r r0 r4).2.2.2 l l0 l1, (m8 r r0 r4).2.2 l l0 l1]
    exact ⟨rfl, by decide, by decide⟩
  · have r4 : r < 4 := by omega
    rw [(m8 r r0 r4).2.1.2.2.2.2.2, (c15 r r0 r4).2.1.2.2.2.1]
    rfl
  · have r4 : r < 4 := by omega
    rw [(c15 r r0 r4).2.1.2.2.1, (c15 r r0 r4).2.1.2.1]
    exact r0
end BAS
