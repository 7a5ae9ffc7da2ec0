/-! the model numbers a function: whole -/
/-- a function is numbered: T is the state behind, k the first number -/
def nFn (σ τ T : gM) (f b k : Int) : Prop := T 119 57 = k + (nd σ b - nd σ (σ 81 f)) ∧ nF τ T (nd σ (σ 81 f)) (nd σ b) ∧ (∀ i, 0 ≤ i → i < σ 83 f → T 144 (nd σ (σ 81 f + i)) = k + i) ∧ ∃ d, QT σ (fun i => T 144 (nd σ i)) d 2 (σ 81 f + σ 83 f) b (σ 82 f) (k + σ 83 f)
theorem b76_all {σ τ : gM} {f b u w : Int} (h : FN σ τ f b) (hf : 0 ≤ f ∧ f < 50) (h4 : nd σ b ≤ 4004) (c0 : 0 ≤ τ 119 57) (c1 : τ 119 57 ≤ 15600) : ∃ T, md_define_b76 τ f u w 0 = md_define_b146 T f u w (T 148 f) ∧ nFn σ τ T f b (τ 119 57) := by
  obtain ⟨fn, ⟨r1, r2, r3, r4, r5⟩, hL, ⟨t148, t149, t150, t151, t300⟩, ⟨d, px⟩, nb, ip⟩ := h
  have nz : ∀ i, 0 ≤ i → i ≤ σ 83 f → nd σ (σ 81 f + i) = nd σ (σ 81 f) + i := fun i i0 i1 => by
    have := nd_zero (σ := σ) (a := σ 81 f) r1 i.toNat (fun j q1 q2 => (ip j q1 (by omega)).1)
    rw [show ((i.toNat : Nat) : Int) = i by omega] at this
    exact this
  have nzp := nz (σ 83 f) r2 (Int.le_refl _)
  have mono := nd_r (σ := σ) (i := σ 81 f + σ 83 f) (j := b) (by omega) r5
  obtain ⟨T1, e1, e2, e3, e4⟩ := b76_s (u := u) (w := w) (b := b) (a := σ 81 f) (by omega : 0 ≤ f ∧ f < 51) r1 h4 (σ 83 f).toNat 0 τ (by decide) (by omega) r5 nb ip ⟨t148, t150⟩ (by omega)
  rw [show nd σ (σ 81 f) + 0 = nd σ (σ 81 f) by omega] at e3
  obtain ⟨T2, g1, g2, g3, g4⟩ := b114_s (u := u) (w := w) (by omega : 0 ≤ f ∧ f < 51) (by omega) (e3.pt (by omega) px) (e3.nb r1 nb) ⟨⟨r1, by omega, Int.le_refl _⟩, h4, by omega, by omega, by omega⟩
  rw [nzp] at g2 g3
  refine ⟨T2, ?_, by omega, e3.tr g3 (Int.le_refl _) (by omega) (by omega) (Int.le_refl _), fun i i0 i1 => ?_, d, ?_⟩
  · rw [e1, e3 151 f (by omega) (by omega), t151]
    exact g1
  · rw [nz i i0 (by omega), g3 144 _ (by omega) (by omega), e4 i i0 i1]; omega
  · rw [show τ 119 57 + σ 83 f = T1 119 57 by omega]
    exact g4
