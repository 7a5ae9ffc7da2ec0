/-! functions: the head -/
section FH
variable {σ τ S T : gM}
theorem fG.rd (G : fG σ τ) (F : rdF σ S τ T) (k : tK S T) (g : S 69 8 = 0) (p : σ 69 5 ≤ S 69 5) : fG S T := by
  obtain ⟨hX, hK, g8, hm, g43, o28, ⟨n0, n1, n2⟩, fn⟩ := G
  have c68 := F.1 68 (by decide)
  refine ⟨F.tx hX, k, g, by rw [c68]; omega, ?_, ?_, ?_, fun g' q0 q1 => ?_⟩
  · rw [c68, F.2.2.2 43 (by omega) (by decide) (by decide), g43]
    exact (nd_congr fun j _ _ => by rw [F.1 70 (by decide)]).symm
  · rw [F.2.2.2 28 (by omega) (by decide) (by decide)]; exact o28
  · rw [c68, F.2.2.2 54 (by omega) (by decide) (by decide)]; omega
  · rw [c68] at q1
    have := fn g' q0 q1
    unfold fN at *
    rw [F.1 79 (by decide), F.1 80 (by decide), F.2.1 2 (by omega), F.2.2.1 146 (by decide), F.2.2.1 147 (by decide)]
    exact this
theorem bx_of {k p q : Int} (hk : k ≠ 0) (e : p = q) : bx (gW (gW σ 69 8 k) 69 9 p) (gW (gW τ 119 30 k) 119 31 q) := by
  refine ⟨?_, ?_, ?_⟩ <;> simp [gW]
  · exact hk
  · exact e
theorem tKk.one (h : tKk σ τ) : σ 69 4 = 1 ↔ τ 119 25 = 1 := by
  have := h.k
  omega
theorem b307_b {k f : Int} (b : bd k S T) (hf : 0 ≤ f ∧ f < 50) : ∃ S', ps_function_b307 S f 0 = some (S', 0) ∧ bx S' T := by
  obtain ⟨S2, x1, x2⟩ := block_b (d := 59) (b.w (a := 68) (i := 21) (v := w32 (S 68 21 - 1)) (by decide) (by omega))
  have x3 := x2.w (a := 82) (i := f) (v := -1) (by decide) (by omega)
  rw [ps_function_b307_e, if_pos (by trivial), ps_closes_b b.1]
  simp only [Option.bind_some]
  rw [x1]
  simp only [Option.bind_some]
  rw [if_pos hf, ps_good_b x3.1]
  simp only [Option.bind_some]
  rw [if_pos (by trivial)]
  exact ⟨_, rfl, x3.x⟩
theorem fbC_b {k f : Int} (b : bd k S T) (hf : 0 ≤ f ∧ f < 50) : ∃ S', fbC (S, 0) f = some (S', 0) ∧ bx S' T := by
  unfold fbC
  rw [ps_opens_b b.1]
  simp only [Option.bind_some]
  rw [ps_good_b b.1]
  simp only [Option.bind_some]
  rw [if_pos (by trivial), ps_function_b305_e, ps_function_b306_e]
  exact b307_b b hf
/-- what came of a head: the state at the name, the state behind it -/
def fH (σ τ σ1 τ1 S T : gM) : Prop := rdF σ σ1 τ τ1 ∧ fG σ1 τ1 ∧ σ 69 5 < σ1 69 5 ∧ rdF (fC σ1) S (fM τ1) T ∧ pG (-1) S T ∧ (σ1 68 19 = σ 68 19 ∧ σ 68 19 < 50) ∧ (1 ≤ σ1 69 6 ∧ σ1 69 6 ≤ 12) ∧ σ1 69 5 < S 69 5 ∧ ∀ g, 0 ≤ g → g < σ 68 19 → ¬ tE τ1 (σ1 79 g) (σ1 80 g) (σ1 69 5) (σ1 69 6)
theorem fhead_s (G : fG σ τ) : (∃ σ1 τ1 S T, ps_function σ = fbC (S, 0) (σ 68 19) ∧ md_function τ = fbM T ∧ fH σ τ σ1 τ1 S T) ∨ (∃ S T, ps_function σ = some (S, 0) ∧ md_function τ = some (T, none) ∧ bx S T) := by
  obtain ⟨hX, hK, g8, hm, g43, o28, ⟨n0, n1, n2⟩, fn⟩ := id G
  have kp := hK.1
  unfold tKp at kp
  rw [ps_function_e, tk_isWord_2_s hX hK g8 (x := 9) (p := 0) (t := 10) (by unfold wS; decide), md_function_e, md_pass_e, md_need_e]
  simp only [Option.bind_some]
  by_cases a : τ 119 25 = 10
  · have kk := hK.2.k
    rw [if_pos a, if_pos a, if_neg (by decide), ps_function_b28_e, ps_good_g g8]
    simp only [Option.bind_some, gtry]
    rw [if_neg (by decide), if_neg (by decide), if_neg (by decide), if_neg (by decide), if_neg (by decide), if_neg (by decide), md_pass_b52_e]
    obtain ⟨c, hc, S', T', e, F, r⟩ := read_s hX g8 (by omega) (by omega) (by omega)
    rw [e]
    simp only [Option.bind_some]
    rcases r with ⟨r1, r2, r3, r4, r5⟩ | ⟨r1, r2, r3, r4⟩
    · rw [r1]
      simp only [Option.bind_some, gtry]
      have G1 : fG S' T' := G.rd F r2 r3 (by omega)
      have s19 : S' 68 19 = σ 68 19 := by rw [F.1 68 (by decide)]
      have t54 : T' 119 54 = σ 68 19 := by rw [F.2.2.2 54 (by omega) (by decide) (by decide), n2]
      have k1 := r2.1.1
      have one := r2.2.one
      rw [ps_function_b42_e, ps_good_g r3, md_need_e]
      simp only [Option.bind_some, gtry]
      rw [if_neg (by decide)]
      by_cases a1 : T' 119 25 = 1
      · rw [if_pos (one.mpr a1), if_pos a1, ps_function_b76_e, ps_good_g r3]
        simp only [Option.bind_some, gtry]
        rw [if_neg (by decide), s19, t54]
        by_cases q : σ 68 19 = 50
        · right
          rw [if_pos q, if_pos q, tk_fails_g r3, md_fails_s]
          simp only [Option.bind_some, gthr_s]
          rw [ps_function_b108_e, b110_b (bx_of (σ := S') (τ := T') (k := 4) (by decide) k1).1]
          exact ⟨_, _, rfl, rfl, bx_of (by decide) k1⟩
        · rw [if_neg q, if_neg q, ps_function_b108_e]
          rcases names_s G1 a1 (by omega) (σ 68 19).toNat 0 (by decide) (by omega) with ⟨w1, w2, w3⟩ | ⟨S2, T2, w1, w2, w3⟩
          · rw [w1, w2, b181_g r3 (by omega), b32_g (by omega)]
            have kn := r2.2.k
            have len : 1 ≤ S' 69 6 ∧ S' 69 6 ≤ 12 := by
              have h := r2.2
              unfold tKk at h
              rcases h with h | h | h | h | ⟨-, h, -⟩ | h
              · omega
              · omega
              · omega
              · omega
              · have := sG_30 h; omega
              · omega
            rcases rd_p (fC_g G1 (by omega)) (by rw [fM_o (by omega) (by omega)]; omega) with ⟨S2, T2, x1, x2, x3, x4, x5⟩ | ⟨S2, T2, x1, x2, b, -⟩
            · left
              rw [x1, x2]
              rw [fC_o (by omega) (by omega)] at x5
              exact ⟨S', T', S2, T2, by rw [s19]; rfl, rfl, F, G1, by omega, x4, x3, ⟨s19, by omega⟩, len, x5, fun g g0 g1 => w3 g g0 (by omega)⟩
            · right
              rw [x1, x2]
              simp only [Option.bind_some]
              obtain ⟨S3, y1, y2⟩ := fbC_b b (f := S' 68 19) (by omega)
              exact ⟨S3, T2, y1, rfl, y2⟩
          · right
            rw [w1, w2]
            exact ⟨S2, T2, rfl, rfl, w3⟩
      · right
        rw [if_neg (fun w => a1 (one.mp w)), if_neg a1, tk_fails_g r3, md_fails_s]
        simp only [Option.bind_some, gthr_s]
        rw [b76_b (bx_of (σ := S') (τ := T') (k := 2) (by decide) k1).1]
        exact ⟨_, _, rfl, rfl, bx_of (by decide) k1⟩
    · right
      rw [r1]
      simp only [Option.bind_some, gtry]
      rw [b42_b (by omega)]
      exact ⟨S', T', rfl, rfl, by omega, by omega, r4⟩
  · right
    rw [if_neg a, if_neg a, if_pos (by trivial), tk_fails_g g8, md_fails_s]
    simp only [Option.bind_some, gthr_s, gtry]
    rw [b28_b (bx_of (σ := σ) (τ := τ) (k := 2) (by decide) kp.1).1]
    exact ⟨_, _, rfl, rfl, bx_of (by decide) kp.1⟩
end FH
