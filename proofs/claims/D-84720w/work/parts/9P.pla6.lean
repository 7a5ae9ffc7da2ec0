/-! the model numbers a function -/
section NW
variable {σ τ : gM} {f b u w : Int}
/-- the body -/
theorem b114_s {d : Nat} {a n c : Int} (hf : 0 ≤ f ∧ f < 51) (a0 : 0 ≤ a) (h : PT σ τ d 2 a b n c) {A : Int} (nb : NB σ τ 1 f A b) (hs : nS σ τ A b 320 a b) : ∃ T, md_define_b114 τ f u w (ph σ n) = md_define_b146 T f u w (T 148 f) ∧ nR σ τ T d 2 a b n :=
  (nTL3 d).2 320 a b n c τ (fun τ x => md_define_b114 τ f u w x) (fun τ => md_define_b146 τ f u w (τ 148 f)) a0 h nb hs (fun τ => by
    show md_define_b114 τ f u w (-1) = _
    rw [md_define_b114_e, if_pos (by trivial), if_pos hf]) (fun τ T p hp hh => by
    show md_define_b114 τ f u w p = md_define_b114 T f u w (T 141 p)
    rw [md_define_b114_e, if_neg (by omega), hh]
    simp only [Option.bind_some]
    rw [if_pos hp])
/-- the things given to it -/
theorem b76_s {a : Int} (hf : 0 ≤ f ∧ f < 51) (a0 : 0 ≤ a) (h4 : nd σ b ≤ 4004) : ∀ (m : Nat) (x : Int) (τ : gM), 0 ≤ x → x + m = σ 83 f → a + σ 83 f ≤ b → NB σ τ 1 f a b → (∀ i, a ≤ i → i < a + σ 83 f → σ 70 i = 0 ∧ σ 76 i = i - a ∧ σ 72 i = -1 ∧ σ 73 i = -1 ∧ σ 74 i = -1) → (τ 148 f = nd σ a ∧ τ 150 f = σ 83 f) → (0 ≤ τ 119 57 ∧ τ 119 57 + m ≤ 16000) →
    ∃ T, md_define_b76 τ f u w x = md_define_b114 T f u w (T 151 f) ∧ T 119 57 = τ 119 57 + m ∧ nF τ T (nd σ a + x) (nd σ a + σ 83 f) ∧ ∀ i, x ≤ i → i < σ 83 f → T 144 (nd σ a + i) = τ 119 57 + (i - x)
  | 0, x, τ, x0, e, hb, nb, ip, c, hc => by
    refine ⟨τ, ?_, by omega, nF.rf, fun i i0 i1 => by omega⟩
    rw [md_define_b76_e, if_pos hf, if_neg (by omega), if_pos hf]
  | m + 1, x, τ, x0, e, hb, nb, ip, c, hc => by
    have nz := nd_zero (σ := σ) (a := a) a0 x.toNat (fun i q1 q2 => (ip i q1 (by omega)).1)
    rw [show a + (x.toNat : Int) = a + x by omega, show ((x.toNat : Nat) : Int) = x by omega] at nz
    obtain ⟨p1, -, p3, p4, p5⟩ := ip (a + x) (by omega) (by omega)
    have rn := ((nb (a + x) (by omega) (by omega)).1 (by omega)).cells
    obtain ⟨r135, r138, r139, r140⟩ := rn
    rw [nz] at r135 r138 r139 r140
    have nl := nd_lt (σ := σ) (i := a + x) (j := b) (by omega) (by omega) (by omega)
    have np := nd_pos (σ := σ) (i := a) a0
    rw [if_neg (by omega), p3, nh_m] at r138
    have r := r139 (by omega)
    rw [if_neg (by omega), p4, nh_m] at r
    rw [if_neg (by omega), if_neg (by omega), p5, nh_m] at r140
    have hj : 0 ≤ nd σ a + x ∧ nd σ a + x < 4004 := by omega
    have F0 : nF τ (n1 τ (nd σ a + x)) (nd σ a + x) (nd σ a + x + 1) := nF_n1
    obtain ⟨q1, q2⟩ := @n1_n τ (nd σ a + x)
    have num : md_number 320 τ (nd σ a + x) = some (n1 τ (nd σ a + x), 0) := num_g (D := 319) (T1 := n1 τ (nd σ a + x)) (T2 := n1 τ (nd σ a + x)) (y := 0) hj (by omega) (Or.inl ⟨r138, rfl⟩) (Or.inr ⟨by rw [F0 135 _ (by omega) (by omega)]; omega, by rw [F0 135 _ (by omega) (by omega)]; omega, by rw [F0 135 _ (by omega) (by omega)]; omega, rfl⟩) (Or.inr ⟨by rw [F0 135 _ (by omega) (by omega)]; omega, b96_no (by rw [F0 139 _ (by omega) (by omega), r])⟩) (by rw [F0 140 _ (by omega) (by omega), r140]; exact b131_no)
    generalize n1 τ (nd σ a + x) = T0 at *
    obtain ⟨T, g1, g2, g3, g4⟩ := b76_s hf a0 h4 m (x + 1) T0 (by omega) (by omega) hb (F0.nb a0 nb) ip ⟨by rw [F0 148 _ (by omega) (by omega)]; exact c.1, by rw [F0 150 _ (by omega) (by omega)]; exact c.2⟩ (by omega)
    refine ⟨T, ?_, by omega, F0.tr g3 (by omega) (by omega) (by omega) (Int.le_refl _), fun i i0 i1 => ?_⟩
    · rw [md_define_b76_e, if_pos hf, if_pos (show x < τ 150 f by omega), if_pos hf, c.1, w32_e (x := nd σ a + x) (by omega) (by omega), num]
      simp only [Option.bind_some]
      rw [w32_e (by omega) (by omega)]
      exact g1
    · by_cases z : i = x
      · rw [z, g3 144 (nd σ a + x) (by omega) (by omega), q1]; omega
      · rw [g4 i (by omega) i1]; omega
end NW
