/-! two numbers: the model -/
section MR
variable {σ τ S T : gM} {pT hT : Int → Int} {m : Nat} {br co θ n : Int}
theorem mIs.mv {c x : Int} (h : mIs τ c x) (e : T c = τ c) : mIs T c x := by
  unfold mIs mOk mm at h ⊢
  rw [e]
  exact h
theorem mIs.rng {c x : Int} (h : mIs τ c x) : -1000000000000000000000000000000000000 < x ∧ x < 1000000000000000000000000000000000000 := by
  have r := mm_rng h.1
  have := h.2
  omega
theorem mIs.z {c x : Int} (h : mIs τ c x) : mm τ c = 0 ↔ x = 0 := by
  have := h.2
  omega
theorem nuV.nu {k x t y z : Int} (h : nuV σ τ k x t y z) {W : gM} : md_isNumber W t = some (W, 1) ∧ t ≠ 4 ∧ (k = 0 ↔ t = 2) := by
  rcases h with ⟨h1, h2, -⟩ | ⟨h1, h2, -⟩
  · refine ⟨?_, by omega, by omega⟩
    rw [md_isNumber_e, if_pos h2, md_isNumber_b10_e]
  · refine ⟨?_, by omega, by omega⟩
    rw [md_isNumber_e, if_neg (by omega), if_pos h2, md_isNumber_b10_e]
/-- reckoned: the model, up to the question whether a long holds it -/
theorem reck_m {k1 x1 t1 y1 z1 k2 x2 t2 y2 z2 kd : Int} (h25 : 2 ≤ τ 119 125 ∧ τ 119 125 ≤ 24000) (et1 : τ 221 (τ 119 125 - 2) = t1) (ey1 : τ 222 (τ 119 125 - 2) = y1) (et2 : τ 221 (τ 119 125 - 1) = t2) (ey2 : τ 222 (τ 119 125 - 1) = y2) (h1 : nuV σ τ k1 x1 t1 y1 z1) (h2 : nuV σ τ k2 x2 t2 y2 z2) (hk : 8 ≤ kd ∧ kd ≤ 11) : ∃ T, (∀ a j, (a < 129 ∨ 133 < a) → T a j = τ a j) ∧ ((kd = 11 ∧ z2 = 0 ∧ md_reckons τ n kd = ((md_error T 2 n).bind fun p8 => gthr p8.1 p8.2)) ∨ (¬ (kd = 11 ∧ z2 = 0) ∧ ((zR kd z1 z2 ≤ -1000000000000000000000000000000000000 ∨ 1000000000000000000000000000000000000 ≤ zR kd z1 z2) ∧ md_reckons τ n kd = ((md_error T 8 n).bind fun p2 => gthr p2.1 p2.2)) ∨ (¬ (kd = 11 ∧ z2 = 0) ∧ mIs T 131 (zR kd z1 z2) ∧ (zR kd z1 z2 = 0 → T 131 0 = 0) ∧ md_reckons τ n kd = md_reckons_b215 T n t1 t2))) := by
  have g129 : gMc 129 := Or.inl rfl
  have g130 : gMc 130 := Or.inr rfl
  obtain ⟨T1, e1, w1, f1⟩ := sprd_s (σ := σ) (τ := τ) g129 h1
  have c1 : ∀ a, a ≠ 129 → T1 a = τ a := fun a q => funext fun j => f1 a j q
  obtain ⟨T2, e2, w2, f2⟩ := sprd_s (σ := σ) (τ := T1) g130 (h2.mv rfl rfl (c1 128 (by decide)))
  have v1 : mIs T2 129 z1 := w1.mv (funext fun j => f2 129 j (by decide))
  have kT : ∀ a j, a ≠ 129 → a ≠ 130 → T2 a j = τ a j := fun a j q1 q2 => by rw [f2 a j q2, f1 a j q1]
  have z0 : (0 : Int) ≤ 0 ∧ (0 : Int) < 5 := by decide
  have eq : md_reckons τ n kd = (if kd = 11 then ((md_isZero T2 130).bind fun p6 => if p6.2 = 0 then ((md_divides p6.1).bind fun p7 => md_reckons_b185 p7.1 n t1 t2 1) else ((md_error p6.1 2 n).bind fun p8 => gthr p8.1 p8.2)) else (if kd = 10 then ((md_multiplies T2).bind fun p5 => md_reckons_b185 p5.1 n t1 t2 p5.2) else (if kd = 8 then (md_reckons_b177 T2 n t1 t2 0 (T2 130 0) 0) else (md_reckons_b177 T2 n t1 t2 1 (T2 130 0) 0)))) := by
    have e48 : md_reckons τ n kd = md_reckons_b48 τ n kd t1 t2 := by
      rw [md_reckons_e, w32_e (x := τ 119 125 - 2) (by omega) (by omega), w32_e (x := τ 119 125 - 1) (by omega) (by omega), if_pos (by omega), if_pos (by omega), et1, et2]
      by_cases q : kd = 8
      · rw [if_pos q, if_neg (h1.nu (W := τ)).2.1, if_neg (h2.nu (W := τ)).2.1]
      · rw [if_neg q]
    rw [e48, md_reckons_b48_e, h1.nu.1]
    simp only [Option.bind_some]
    rw [if_neg (show ¬ (1 : Int) = 0 by decide), h2.nu.1]
    simp only [Option.bind_some]
    rw [if_neg (show ¬ (1 : Int) = 0 by decide), w32_e (x := τ 119 125 - 2) (by omega) (by omega), if_pos (by omega), ey1, e1]
    simp only [Option.bind_some]
    rw [c1 119 (by decide), c1 222 (by decide), w32_e (x := τ 119 125 - 1) (by omega) (by omega), if_pos (by omega), ey2, e2]
    simp only [Option.bind_some]
    rw [if_pos z0]
  -- the end of each way
  have fin : ∀ (T3 : gM) (r : Int), (∀ a j, (a < 129 ∨ 133 < a) → T3 a j = τ a j) → ¬ (kd = 11 ∧ z2 = 0) → md_reckons τ n kd = md_reckons_b185 T3 n t1 t2 r → ((r = 1 ∧ mIs T3 131 (zR kd z1 z2)) ∨ (r = 0 ∧ (zR kd z1 z2 ≤ -1000000000000000000000000000000000000 ∨ 1000000000000000000000000000000000000 ≤ zR kd z1 z2))) → ∃ T, (∀ a j, (a < 129 ∨ 133 < a) → T a j = τ a j) ∧ ((kd = 11 ∧ z2 = 0 ∧ md_reckons τ n kd = ((md_error T 2 n).bind fun p8 => gthr p8.1 p8.2)) ∨ (¬ (kd = 11 ∧ z2 = 0) ∧ ((zR kd z1 z2 ≤ -1000000000000000000000000000000000000 ∨ 1000000000000000000000000000000000000 ≤ zR kd z1 z2) ∧ md_reckons τ n kd = ((md_error T 8 n).bind fun p2 => gthr p2.1 p2.2)) ∨ (¬ (kd = 11 ∧ z2 = 0) ∧ mIs T 131 (zR kd z1 z2) ∧ (zR kd z1 z2 = 0 → T 131 0 = 0) ∧ md_reckons τ n kd = md_reckons_b215 T n t1 t2))) := fun T3 r k3 nz e h => by
    rcases h with ⟨hr, w3⟩ | ⟨hr, big⟩
    · have ez := md_isZero_s (σ := T3) (a := 131) ⟨rfl, by decide +kernel⟩ w3.1
      have eb : md_reckons τ n kd = (if (if mm T3 131 = 0 then (1 : Int) else 0) = 0 then md_reckons_b215 T3 n t1 t2 else md_reckons_b215 (gW T3 131 0 0) n t1 t2) := by
        rw [e, md_reckons_b185_e, hr, if_neg (show ¬ (1 : Int) = 0 by decide), ez]
        simp only [Option.bind_some]
        rw [if_pos z0]
      by_cases q : zR kd z1 z2 = 0
      · rw [if_pos (w3.z.mpr q), if_neg (by decide)] at eb
        refine ⟨gW T3 131 0 0, fun a j w => by rw [gW_c (by omega), k3 a j w], Or.inr (Or.inr ⟨nz, mIs_of w3.1 (Or.inr ⟨rfl, by rw [w3.z.mpr q, q]⟩), fun _ => gW_at .., eb⟩)⟩
      · rw [if_neg (fun w => q (w3.z.mp w)), if_pos rfl] at eb
        exact ⟨T3, k3, Or.inr (Or.inr ⟨nz, w3, fun w => absurd w q, eb⟩)⟩
    · refine ⟨T3, k3, Or.inr (Or.inl ⟨nz, big, ?_⟩)⟩
      rw [e, md_reckons_b185_e, hr, if_pos rfl]
  by_cases q11 : kd = 11
  · have ez := md_isZero_s (σ := T2) (a := 130) ⟨rfl, by decide +kernel⟩ w2.1
    by_cases qz : z2 = 0
    · refine ⟨T2, fun a j q => kT a j (by omega) (by omega), Or.inl ⟨q11, qz, ?_⟩⟩
      rw [eq, if_pos q11, ez]
      simp only [Option.bind_some]
      rw [if_pos (w2.z.mpr qz), if_neg (by decide)]
    · obtain ⟨T3, e3, w3, f3⟩ := md_divides_s v1 w2 qz
      refine fin T3 1 (fun a j q => by rw [f3 a j (by omega) (by omega), kT a j (by omega) (by omega)]) (fun q => qz q.2) ?_ (Or.inl ⟨rfl, ?_⟩)
      · rw [eq, if_pos q11, ez]
        simp only [Option.bind_some]
        rw [if_neg (fun w => qz (w2.z.mp w)), if_pos rfl, e3]
        rfl
      · unfold zR
        rw [if_neg (by omega), if_neg (by omega), if_neg (by omega)]
        exact w3
  · by_cases q10 : kd = 10
    · obtain ⟨T3, r, e3, f3, a1, a2⟩ := md_multiplies_s v1 w2
      have ez : zR kd z1 z2 = z1 * z2 := by unfold zR; rw [if_neg (by omega), if_neg (by omega), if_pos q10]
      refine fin T3 r (fun a j q => by rw [f3 a j (by omega) (by omega), kT a j (by omega) (by omega)]) (fun q => q11 q.1) ?_ ?_
      · rw [eq, if_neg q11, if_pos q10, e3]
        rfl
      · rw [ez]
        by_cases y : -1000000000000000000000000000000000000 < z1 * z2 ∧ z1 * z2 < 1000000000000000000000000000000000000
        · exact Or.inl (a1 y.1 y.2)
        · have y' : z1 * z2 ≤ -1000000000000000000000000000000000000 ∨ 1000000000000000000000000000000000000 ≤ z1 * z2 := by
            generalize z1 * z2 = p at y ⊢
            omega
          exact Or.inr ⟨a2 y', y'⟩
    · -- sums and differences
      have sg := w2.2
      have go : ∀ (b y : Int), (b = 0 ∧ y = z2) ∨ (b = 1 ∧ y = -z2) → md_reckons τ n kd = md_reckons_b177 T2 n t1 t2 b (T2 130 0) 0 → zR kd z1 z2 = z1 + y → ∃ T, (∀ a j, (a < 129 ∨ 133 < a) → T a j = τ a j) ∧ ((kd = 11 ∧ z2 = 0 ∧ md_reckons τ n kd = ((md_error T 2 n).bind fun p8 => gthr p8.1 p8.2)) ∨ (¬ (kd = 11 ∧ z2 = 0) ∧ ((zR kd z1 z2 ≤ -1000000000000000000000000000000000000 ∨ 1000000000000000000000000000000000000 ≤ zR kd z1 z2) ∧ md_reckons τ n kd = ((md_error T 8 n).bind fun p2 => gthr p2.1 p2.2)) ∨ (¬ (kd = 11 ∧ z2 = 0) ∧ mIs T 131 (zR kd z1 z2) ∧ (zR kd z1 z2 = 0 → T 131 0 = 0) ∧ md_reckons τ n kd = md_reckons_b215 T n t1 t2))) := fun b y hb e ez => by
        have w4 : mIs (gW T2 130 0 (i_xor (T2 130 0) b)) 130 y := by
          refine mIs_of w2.1 ?_
          rcases hb with ⟨b1, b2⟩ | ⟨b1, b2⟩
          · rcases sg with ⟨s1, s2⟩ | ⟨s1, s2⟩
            · rw [b1, b2, s1]; exact Or.inl ⟨by decide, s2⟩
            · rw [b1, b2, s1]; exact Or.inr ⟨by decide, s2⟩
          · rcases sg with ⟨s1, s2⟩ | ⟨s1, s2⟩
            · rw [b1, b2, s1]; exact Or.inr ⟨by decide, s2⟩
            · rw [b1, b2, s1]; exact Or.inl ⟨by decide, by omega⟩
        have v4 : mIs (gW T2 130 0 (i_xor (T2 130 0) b)) 129 z1 := v1.mv (gW_cell (by decide))
        obtain ⟨T3, r, e3, f3, a1, a2⟩ := md_adds_s v4 w4
        refine fin T3 r (fun a j q => by rw [f3 a j (by omega), gW_c (by omega), kT a j (by omega) (by omega)]) (fun q => q11 q.1) ?_ ?_
        · rw [e, md_reckons_b177_e, if_pos z0, e3]
          rfl
        · rw [ez]
          by_cases y0 : -1000000000000000000000000000000000000 < z1 + y ∧ z1 + y < 1000000000000000000000000000000000000
          · exact Or.inl (a1 y0.1 y0.2)
          · have y' : z1 + y ≤ -1000000000000000000000000000000000000 ∨ 1000000000000000000000000000000000000 ≤ z1 + y := by omega
            exact Or.inr ⟨a2 y', y'⟩
      by_cases q8 : kd = 8
      · exact go 0 z2 (Or.inl ⟨rfl, rfl⟩) (by rw [eq, if_neg q11, if_neg q10, if_pos q8]) (by unfold zR; rw [if_pos q8])
      · exact go 1 (-z2) (Or.inr ⟨rfl, rfl⟩) (by rw [eq, if_neg q11, if_neg q10, if_neg q8]) (by unfold zR; rw [if_neg q8, if_pos (by omega)]; omega)
end MR
