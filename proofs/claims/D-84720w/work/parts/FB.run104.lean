/-! load: both sides -/
section LD
variable {σ τ S T : gM} {x : Int}
/-- the letters that were fed become the text -/
theorem ld_22 (h8 : ∀ i, i8 (τ 226 i)) (hx : x ≤ 4000) : ∀ (d : Nat) (k : Int) (U : gM), 0 ≤ k → k + d = x → U 226 = τ 226 → ∃ T, md_load_b22 U x k = ((md_noRun (gW T 119 153 0)).bind fun p1 => (md_readText p1.1).bind fun p2 => gtry p2.2 (fun v3 => (md_houseBegins (gW (gW p2.1 119 154 0) 119 155 (-1))).bind fun p4 => (md_define p4.1).bind fun p5 => some (p5.1, p5.1 119 55)) (some (gW (gW p2.1 119 154 (p2.1 119 30)) 119 155 (p2.1 119 31), (-1)))) ∧ (∀ a, a ≠ 134 → T a = U a) ∧ (∀ i, k ≤ i → i < x → T 134 i = τ 226 i) ∧ ∀ i, i < k ∨ x ≤ i → T 134 i = U 134 i
  | 0, k, U, k0, hk, e => ⟨U, by rw [md_load_b22_e, if_neg (by omega)], fun _ _ => rfl, fun i q1 q2 => by omega, fun _ _ => rfl⟩
  | d + 1, k, U, k0, hk, e => by
    have w := h8 k
    unfold i8 at w
    obtain ⟨T, e1, e2, e3, e4⟩ := ld_22 h8 hx d (k + 1) (gW U 134 k (τ 226 k)) (by omega) (by omega) (by rw [gW_cell (by decide), e])
    refine ⟨T, ?_, fun a q => by rw [e2 a q, gW_cell q], fun i q1 q2 => ?_, fun i q => by rw [e4 i (by omega), gW_j (by omega)]⟩
    · rw [md_load_b22_e, if_pos (by omega), if_pos (show 0 ≤ k ∧ k < 4000 by omega), if_pos (show 0 ≤ k ∧ k < 4000 by omega), e, w8_e (by omega) (by omega), w32_e (x := k + 1) (by omega) (by omega)]
      exact e1
    · by_cases z : i = k
      · rw [z, e4 k (by omega), gW_at]
      · exact e3 i (by omega) q2
/-- the functions of the text, one by one -/
theorem ld_loop : ∀ (m : Nat) (σ τ : gM) (f : Int), rPr σ τ → dG σ τ → 0 ≤ f → f + m = σ 68 19 → dRm σ τ m f → σ 52 10 = 0 → σ 69 0 = 118 → σ 69 1 = 0 →
    ∃ Z X, gt_load_b121 σ f = some (Z, Z 8 31) ∧ md_define_b2 τ f = some (X, 0) ∧ rPr Z X ∧ dFr (wSu σ m f) m σ τ Z X ∧ Z 8 12 = σ 8 12 + nCu σ m f ∧ Z 8 16 ≤ σ 8 16 + 3 * nCu σ m f + 2 * m ∧ nwD σ Z X
  | 0, σ, τ, f, P, D, f0, hm, R, h52, c1, c2 => by
    have := D.2.2.2.2.1
    rw [gt_load_b121_e, if_neg (by omega), md_define_b2_e, if_neg (by omega)]
    exact ⟨σ, τ, rfl, rfl, P, dFr.rf, by show _ = σ 8 12 + 0; omega, by show _ ≤ σ 8 16 + 3 * 0 + _; omega, fun y q1 q2 => by omega, fun r q1 q2 => by omega⟩
  | m + 1, σ, τ, f, P, D, f0, hm, R, h52, c1, c2 => by
    have d5 := D.2.2.2.2.1
    obtain ⟨Z, Z', X, e1, e2, ez, e3, P2, D2, R2, F2, z12, z16, nw1⟩ := def_step P D f0 (by omega) R
    have ez := ez h52
    subst ez
    have R3 := R.2.2.1
    obtain ⟨-, ⟨b1, -, -, -, -, -, b7, -, -, -, b11, -⟩, -⟩ := id F2
    have c69 := b1 69 (by decide) (by decide)
    have c68 := b1 68 (by decide) (by decide)
    have c52 := b1 52 (by decide) (by decide)
    obtain ⟨U, Y, i1, i2, i3, i4, i5, i6, i7⟩ := ld_loop m Z' X (f + 1) P2 D2 (by omega) (by rw [c68]; omega) R2 (by rw [c52]; exact h52) (by rw [c69]; exact c1) (by rw [c69]; exact c2)
    have en : nCu σ (m + 1) f = (nd σ (eG σ f) - nd σ (σ 81 f)) + nCu σ m (f + 1) := rfl
    rw [nCu_mv fun e q1 q2 => b1 e (by omega) (by omega)] at i5 i6
    have i4' := i4
    obtain ⟨-, ⟨-, -, g3, -, g5, -⟩, ⟨-, -, -, -, -, g6, -⟩⟩ := i4'
    refine ⟨U, Y, ?_, by rw [e3]; exact i2, i3, ?_, by omega, by omega, ?_⟩
    · rw [gt_load_b121_e, if_pos (by omega)]
      rw [c1, c2] at e1
      rw [e1]
      simp only [Option.bind_some]
      rw [w32_e (x := f + 1) (by omega) (by omega)]
      exact i1
    · have t := F2.tr i4 (by decide) i4.2.1.2.2.2.2.2.2.2.2.2.2.1.2.1
      rw [wSu_mv fun e q1 q2 => b1 e (by omega) (by omega)] at t
      rw [show ((m + 1 : Nat) : Int) = 1 + (m : Int) by omega]
      exact t
    · refine ⟨fun y w1 w2 => ?_, fun r w1 w2 => ?_⟩
      · by_cases z : y < Z' 8 12
        · rw [g3 11 y (by decide) (by decide) z, g3 18 y (by decide) (by decide) z, g6 179 y (by decide) (by decide) z]
          exact nw1.1 y w1 z
        · exact i7.1 y (by omega) w2
      · by_cases z : r < Z' 8 31
        · rw [g5 26 r (by decide) (by decide) (by decide) z]
          exact nw1.2 r w1 z
        · have := i7.2 r (by omega) w2
          omega
theorem CK.w (C : CK x σ) (c : ∀ a, 1 ≤ a ∧ a ≤ 41 → S a = σ a) (f0 : ∀ i, i < 10 → S 0 i = σ 0 i) (f : S 0 10 = 8000 ∧ S 0 11 = 24000 ∧ S 0 12 = 8000 ∧ S 0 13 = 0) : CK x S := by
  obtain ⟨⟨c1, ⟨c2, c3, c4, c5⟩, ⟨c6, c7, c8, c9⟩, c10, c14, c15⟩, c16, c17⟩ := C
  have eS : ∀ y, cS S y = cS σ y := fun y => cS_mv (c 1 (by decide)) (c 2 (by decide)) (c 3 (by decide))
  unfold CK CB
  rw [f0 7 (by decide), f0 8 (by decide), f0 9 (by decide), c 3 (by decide), c 4 (by decide), c 5 (by decide), c 8 (by decide), c 23 (by decide), c 24 (by decide), c 25 (by decide), c 27 (by decide), c 31 (by decide), c 32 (by decide), c 33 (by decide), c 34 (by decide), c 35 (by decide), c 40 (by decide)]
  simp only [eS]
  exact ⟨⟨hI_mvf c1 (f0 7 (by decide)) (f0 8 (by decide)) (by rw [f.1, c6]) (by rw [f.2.1, c7]) (by rw [f.2.2.2, c9]) (c 1 (by decide)) (c 2 (by decide)) (c 3 (by decide)), ⟨c2, c3, c4, c5⟩, f, c10, c14, c15⟩, c16, c17⟩
/-- the component empties all -/
theorem clears_c (h39 : ∀ k, 0 ≤ k → k < 7 → σ 39 k = kX k) : ∃ S, ((fr_clear σ).bind fun p1 => (sp_clear p1.1).bind fun p2 => (cd_clear p2.1).bind fun p3 => (mc_clear p3.1).bind fun p4 => gt_load_b121 p4.1 0) = gt_load_b121 S 0 ∧ CK 7 S ∧ (S 42 6 = 1 ∧ S 42 10 = 0 ∧ S 42 11 = 0 ∧ S 43 0 = -1 ∧ S 45 0 = -1 ∧ S 46 0 = -1 ∧ S 47 0 = 0) ∧ (S 52 10 = 0 ∧ S 52 11 = 0 ∧ S 52 12 = 0 ∧ S 52 19 = 0) ∧ (∀ a, 52 < a → a ≠ 87 → S a = σ a) ∧ (∀ i, i = 19 ∨ i = 20 ∨ i = 23 ∨ i = 24 ∨ i = 31 ∨ i = 34 ∨ (36 ≤ i ∧ i ≤ 42) → S 87 i = 0) ∧ S 87 5 = σ 87 5 := by
  obtain ⟨A, a1, a2, a3⟩ := clear_c h39
  generalize eB : gW (gW (gW (gW (gW (gW (gW (gW A 42 6 1) 43 0 (-1)) 44 0 (-1)) 45 0 (-1)) 46 0 (-1)) 47 0 0) 42 10 0) 42 11 0 = B
  have b1 : ∀ a, (a < 42 ∨ 47 < a) → B a = A a := fun a q => by rw [← eB, gW_cell (by omega), gW_cell (by omega), gW_cell (by omega), gW_cell (by omega), gW_cell (by omega), gW_cell (by omega), gW_cell (by omega), gW_cell (by omega)]
  have b2 : B 42 6 = 1 ∧ B 42 10 = 0 ∧ B 42 11 = 0 ∧ B 43 0 = -1 ∧ B 45 0 = -1 ∧ B 46 0 = -1 ∧ B 47 0 = 0 := by
    rw [← eB]
    simp [gW]
  generalize eD : gW (gW (gW (gW B 52 10 0) 52 11 0) 52 12 0) 52 19 0 = D
  have d1 : ∀ a, a ≠ 52 → D a = B a := fun a q => by rw [← eD, gW_cell q, gW_cell q, gW_cell q, gW_cell q]
  have d2 : D 52 10 = 0 ∧ D 52 11 = 0 ∧ D 52 12 = 0 ∧ D 52 19 = 0 := by
    rw [← eD]
    simp [gW]
  obtain ⟨N, n1, n2, n3, n4, n5, n6⟩ := none_s (σ := D)
  generalize eS : gW (gW (gW (gW (gW (gW (gW N 87 36 0) 87 37 0) 87 38 0) 87 39 0) 87 40 0) 87 41 0) 87 42 0 = S
  have s1 : ∀ a, a ≠ 87 → S a = N a := fun a q => by rw [← eS, gW_cell q, gW_cell q, gW_cell q, gW_cell q, gW_cell q, gW_cell q, gW_cell q]
  have s2 : ∀ i, (i < 36 ∨ 42 < i) → S 87 i = N 87 i := fun i q => by rw [← eS, gW_i (by omega), gW_i (by omega), gW_i (by omega), gW_i (by omega), gW_i (by omega), gW_i (by omega), gW_i (by omega)]
  have s3 : S 87 36 = 0 ∧ S 87 37 = 0 ∧ S 87 38 = 0 ∧ S 87 39 = 0 ∧ S 87 40 = 0 ∧ S 87 41 = 0 ∧ S 87 42 = 0 := by
    rw [← eS]
    simp [gW]
  have sA : ∀ a, a ≠ 0 → a ≠ 87 → (a < 42 ∨ 47 < a) → a ≠ 52 → S a = A a := fun a q1 q2 q3 q4 => by rw [s1 a q2, n2 a q1 q2, d1 a q4, b1 a q3]
  have sB : ∀ a, 42 ≤ a → a ≤ 47 → S a = B a := fun a q1 q2 => by rw [s1 a (by omega), n2 a (by omega) (by omega), d1 a (by omega)]
  refine ⟨S, ?_, a2.w (fun a q => sA a (by omega) (by omega) (by omega) (by omega)) (fun i q => by rw [s1 0 (by decide), n3 i (Or.inl q), d1 0 (by decide), b1 0 (by decide)]) ⟨by rw [s1 0 (by decide)]; exact n4.1, by rw [s1 0 (by decide)]; exact n4.2.1, by rw [s1 0 (by decide)]; exact n4.2.2.1, by rw [s1 0 (by decide)]; exact n4.2.2.2⟩, ?_, ?_, fun a q1 q2 => by rw [sA a (by omega) q2 (by omega) (by omega), a3 a (by omega) (by omega) (by omega)], fun i q => ?_, ?_⟩
  · rw [a1]
    simp only [Option.bind_some]
    have t0 : (0 : Int) ≤ 0 ∧ (0 : Int) < 200 := by decide
    rw [sp_clear_e, if_pos t0, if_pos t0, if_pos t0, if_pos t0, if_pos t0, eB]
    simp only [Option.bind_some]
    rw [cd_clear_e, eD]
    simp only [Option.bind_some]
    rw [mc_clear_e, n1]
    simp only [Option.bind_some]
    rw [eS]
  · rw [sB 42 (by decide) (by decide), sB 43 (by decide) (by decide), sB 45 (by decide) (by decide), sB 46 (by decide) (by decide), sB 47 (by decide) (by decide)]
    exact b2
  · rw [s1 52 (by decide), n2 52 (by decide) (by decide)]
    exact d2
  · rcases q with q | q | q | q | q | q | q
    · rw [q, s2 19 (by decide), n6 19 (by decide)]
    · rw [q, s2 20 (by decide), n6 20 (by decide)]
    · rw [q, s2 23 (by decide), n6 23 (by decide)]
    · rw [q, s2 24 (by decide), n6 24 (by decide)]
    · rw [q, s2 31 (by decide), n6 31 (by decide)]
    · rw [q, s2 34 (by decide), n6 34 (by decide)]
    · have c : i = 36 ∨ i = 37 ∨ i = 38 ∨ i = 39 ∨ i = 40 ∨ i = 41 ∨ i = 42 := by omega
      obtain ⟨z1, z2, z3, z4, z5, z6, z7⟩ := s3
      rcases c with c | c | c | c | c | c | c <;> rw [c] <;> assumption
  · rw [s2 5 (by decide), n5 5 (by decide) (by decide) (by decide) (by decide) (by decide) (by decide) (by decide) (by decide), d1 87 (by decide), b1 87 (by decide), a3 87 (by decide) (by decide) (by decide)]
end LD
