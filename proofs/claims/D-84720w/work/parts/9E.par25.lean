/-! functions: all that is given to them -/
section PC
variable {σ τ S T : gM} {f a : Int}
theorem kF.nd {M N i : Int} (h : kF f M N σ S τ T) (hi : i ≤ M) : nd S i = nd σ i := nd_congr fun j _ j1 => by rw [h.2.1 70 j (by decide) (by decide) (by omega)]
theorem PI.rd (I : PI f a σ τ) (F : rdF σ S τ T) (G5 : pG 0 S T) (p : σ 69 5 ≤ S 69 5) : PI f a S T := by
  obtain ⟨G, i19, ⟨i84, i83⟩, ⟨i81, a0, i10, i20⟩, ip, nb, ⟨i21, i22⟩, fn, i148⟩ := I
  have c : ∀ x, x ≠ 69 → S x = σ x := F.1
  have ndS : ∀ i, nd S i = nd σ i := fun i => nd_congr fun j _ _ => by rw [c 70 (by decide)]
  refine ⟨G5, by rw [c 68 (by decide)]; exact i19, by rw [c 84 (by decide), c 83 (by decide)]; exact ⟨i84, i83⟩, by rw [c 81 (by decide), c 83 (by decide), c 68 (by decide)]; exact ⟨i81, a0, i10, i20⟩, by rw [c 68 (by decide), c 70 (by decide), c 76 (by decide), c 72 (by decide), c 73 (by decide), c 74 (by decide)]; exact ip, ?_, by rw [c 68 (by decide)]; exact ⟨i21, i22⟩, ?_, by rw [F.2.2.1 148 (by decide), ndS]; exact i148⟩
  · rw [c 68 (by decide)]
    exact nb.kE (kE.rd (M := σ 68 10) (N := nd σ (σ 68 10)) F p) (by omega) a0 (Int.le_refl _) (Int.le_refl _)
  · unfold fN at *
    rw [c 79 (by decide), c 80 (by decide), F.2.1 2 (by omega), F.2.2.1 146 (by decide), F.2.2.1 147 (by decide)]
    exact fn
theorem b307_b1 {k : Int} (b : bd k S T) (hf : 0 ≤ f ∧ f < 50) : ∃ S', ps_function_b307 S f 1 = some (S', 0) ∧ bx S' T := by
  rw [ps_function_b307_e, if_neg (by decide), ps_param_e, ps_good_b b.1]
  simp only [Option.bind_some]
  rw [if_pos (by trivial), b34_b b.1]
  simp only [Option.bind_some]
  rw [ps_good_b b.1]
  simp only [Option.bind_some]
  rw [if_pos (by trivial), ps_function_b339_e, ps_function_b340_e, if_pos (by trivial)]
  exact b307_b b hf
theorem params_s (hf : 0 ≤ f ∧ f < 50) : ∀ (mm : Nat) (σ τ : gM), PI f a σ τ → σ 69 2 - σ 69 5 ≤ mm →
    (∃ S T, ps_function_b307 σ f 1 = ps_function_b307 S f 0 ∧ md_function_b171 τ 1 = md_function_b171 T 0 ∧ PI f a S T ∧ kF f a (nd σ a) σ S τ T ∧ σ 69 5 ≤ S 69 5) ∨ (∃ S T, ps_function_b307 σ f 1 = some (S, 0) ∧ md_function_b171 τ 1 = some (T, none) ∧ bx S T)
  | mm, σ, τ, I, hm => by
    have e1 : md_function_b171 τ 1 = pM τ (fun T => if T 119 25 = 36 then md_function_b266 T 1 else md_function_b266 T 0) := by
      rw [md_function_b171_e, if_neg (by decide)]
      rfl
    rw [e1, ps_function_b307_e, if_neg (by decide)]
    rcases param_s I hf (fun T => if T 119 25 = 36 then md_function_b266 T 1 else md_function_b266 T 0) with ⟨S, T, r1, r2, I1, k1, p1⟩ | ⟨S, T, r1, r2, b⟩
    · have G1 := I1.1
      have kp := G1.2.1.1
      unfold tKp at kp
      have nda : nd S a = nd σ a := k1.nd (Int.le_refl _)
      have s2 : S 69 2 = σ 69 2 := k1.2.2.2.1 2 (by decide)
      rw [r1, r2]
      simp only [Option.bind_some]
      rw [ps_good_g G1.2.2.1]
      simp only [Option.bind_some]
      rw [if_neg (by decide), tk_is_s G1.2.1.2 G1.2.2.1 (c := 44) (t := 36) (by unfold sG; decide)]
      simp only [Option.bind_some]
      by_cases q : T 119 25 = 36
      · rw [if_pos q, if_pos q, if_neg (by decide), ps_function_b340_e, if_neg (by decide), md_function_b266_e, if_neg (by decide)]
        rcases rd_p G1 (by omega) with ⟨S2, T2, x1, x2, G2, F, p2⟩ | ⟨S2, T2, x1, x2, b, F⟩
        · rw [x1, x2]
          simp only [Option.bind_some, gtry]
          have I2 : PI f a S2 T2 := I1.rd F (G2.le (by decide)) (by omega)
          have k2 : kF f a (nd σ a) σ S2 τ T2 := k1.rd F
          have s22 : S2 69 2 = σ 69 2 := k2.2.2.2.1 2 (by decide)
          have nda2 : nd S2 a = nd σ a := k2.nd (Int.le_refl _)
          cases mm with
          | zero =>
            have kp2 := I2.1.2.1.1
            unfold tKp at kp2
            omega
          | succ mm =>
            rcases params_s hf mm S2 T2 I2 (by omega) with ⟨S3, T3, y1, y2, I3, k3, p3⟩ | h
            · left
              rw [nda2] at k3
              exact ⟨S3, T3, y1, y2, I3, k2.tr k3 (Int.le_refl _) (Int.le_refl _), by omega⟩
            · exact Or.inr h
        · right
          rw [x1, x2]
          simp only [Option.bind_some]
          obtain ⟨S', y1, y2⟩ := b307_b1 b hf
          exact ⟨S', T2, y1, rfl, y2⟩
      · left
        rw [if_neg q, if_neg q, if_pos (by trivial), ps_function_b339_e, ps_function_b340_e, if_pos (by trivial), md_function_b266_e, if_pos (by trivial)]
        exact ⟨S, T, rfl, rfl, I1, k1, by omega⟩
    · right
      rw [r1, r2]
      simp only [Option.bind_some]
      rw [ps_good_b b.1]
      simp only [Option.bind_some]
      rw [if_pos (by trivial), ps_function_b339_e, ps_function_b340_e, if_pos (by trivial)]
      obtain ⟨S', y1, y2⟩ := b307_b b hf
      exact ⟨S', T, y1, rfl, y2⟩
end PC
