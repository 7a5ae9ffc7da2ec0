/-! feeding and running: both sides -/
section FEED
variable {σ τ S T Z X : gM} {x y z : Int}
theorem fdR.mv (h : fdR σ τ) (c : ∀ i, 7 ≤ i → i < 10 → S 117 i = σ 117 i) (c118 : S 118 = σ 118) (d : ∀ i, 153 ≤ i → i < 156 → T 119 i = τ 119 i) (d226 : T 226 = τ 226) : fdR S T := by
  unfold fdR at h ⊢
  rw [c 7 (by decide) (by decide), c 8 (by decide) (by decide), c 9 (by decide) (by decide), c118, d 153 (by decide) (by decide), d 154 (by decide) (by decide), d 155 (by decide) (by decide), d226]
  exact h
/-- a run goes on -/
theorem run_pair (R : RW σ τ) : ∃ S T r, gt_run σ x = some (S, r) ∧ md_run τ x = some (T, r) ∧ RW S T := by
  have st := R.st
  have R0 := R
  rw [gt_run_e, md_run_e, st.1]
  by_cases x1 : x < 1
  · rw [if_pos x1, if_pos x1]
    by_cases s1 : σ 87 23 = 1
    · rw [if_pos s1]; exact ⟨σ, τ, 0, rfl, rfl, R⟩
    · rw [if_neg s1]; exact ⟨σ, τ, 0, rfl, rfl, R⟩
  · rw [if_neg x1, if_neg x1]
    by_cases s1 : σ 87 23 = 1
    · rw [if_pos s1]
      obtain ⟨pT, hT, m, br, co, θ, w⟩ : ∃ (pT hT : Int → Int) (m : Nat) (br co θ : Int), RR σ (gW τ 119 127 0) pT hT m br co θ := by
        obtain ⟨-, -, R⟩ := R
        rcases R with ⟨-, -, w, -⟩ | ⟨-, -, ⟨w, -⟩ | ⟨w, -⟩⟩ | w
        · omega
        · omega
        · omega
        · exact w
      have e : md_goOn τ x = md_goOn_b15 (gW (gW (gW τ 119 119 0) 119 120 x) 119 127 0) := md_goOn_e τ x
      generalize eT : gW (gW (gW τ 119 119 0) 119 120 x) 119 127 0 = τ1 at e
      have t119 : τ1 119 119 = 0 := by rw [← eT, gW_i (by decide), gW_i (by decide), gW_at]
      have t120 : τ1 119 120 = x := by rw [← eT, gW_i (by decide), gW_at]
      have w1 : RR σ τ1 pT hT m br co θ := by
        refine w.lw ⟨fun _ _ => rfl, fun _ _ _ => rfl, fun _ _ _ => rfl, fun _ _ _ => rfl, fun _ _ _ => rfl, fun _ _ _ => rfl⟩ ⟨fun a q => ?_, fun i q => ?_, fun i => ?_⟩ ?_
        · rw [← eT, gW_cell (by omega), gW_cell (by omega), gW_cell (by omega), gW_cell (by omega)]
        · rw [← eT, gW_i (by omega), gW_i (by omega), gW_i (by omega), gW_i (by omega)]
        · have := w.1.1.2.2.2.2.1 i
          rw [← eT, gW_c (by decide), gW_c (by decide), gW_c (by decide)]
          rw [gW_c (by decide)] at this
          exact this
        · rw [← eT, gW_at, gW_at]
      have th := w1.2.2.2.2.1
      have C34 := w1.1.2.2.2.2.1.2.2.2.1.2
      obtain ⟨S, T, g1, g2, g3⟩ := sim θ.toNat (wM τ1).toNat σ τ1 pT hT m br co θ x 0 rfl rfl w1 R0.2.1 t119 t120 (Int.le_refl _) (by omega)
      have eC : mc_go σ x = some (S, T 119 119) := by rw [mc_go_e]; exact g1
      have eM : md_goOn τ x = some (T, 0) := by rw [e]; exact g2
      have F := fr_inl fm_mc_go (mc_go_l σ x) eC
      have G := fr_inl fm_md_goOn (md_goOn_l τ x) eM
      refine ⟨S, T, T 119 119, by rw [eC]; rfl, by rw [eM]; rfl, R0.1.mv (fun i q1 q2 => F.f 117 7 3 (by decide +kernel) (by omega) (by omega)) (F.r 118 1 (by decide +kernel) (by omega) (by omega)) (fun i q1 q2 => G.f 119 153 3 (by decide +kernel) (by omega) (by omega)) (G.r 226 1 (by decide +kernel) (by omega) (by omega)), b8_inl bm_mc_go (mc_go_l σ x) eC R0.2.1, ?_⟩
      rcases g3 with w | ⟨-, w⟩
      · exact Or.inr (Or.inl w)
      · exact Or.inr (Or.inr w)
    · rw [if_neg s1, mc_go_e, mc_go_b2_e, if_neg s1]
      exact ⟨σ, τ, 0, rfl, rfl, R⟩
/-- four letters are fed -/
def fo (x i : Int) : Int := w8 (w8 (i_shr x (24 - 8 * i)))
theorem four_s (h0 : 0 ≤ σ 117 7) (h1 : σ 117 7 + 4 ≤ 4000) : ∃ S, gt_four σ x = some (S, 0) ∧ S 117 7 = σ 117 7 + 4 ∧ (∀ i, S 118 i = if σ 117 7 ≤ i ∧ i < σ 117 7 + 4 then fo x (i - σ 117 7) else σ 118 i) ∧ (∀ a, a ≠ 117 → a ≠ 118 → S a = σ a) ∧ ∀ i, i ≠ 7 → S 117 i = σ 117 i := by
  generalize ep : σ 117 7 = p at *
  have k : ∀ (U : gM) (q s v : Int), U 117 7 = q → (0 ≤ q ∧ q < 4000) → 0 ≤ s → s ≤ 24 → gt_four_b3 U x s = gt_four_b3 (gW (gW U 118 q (w8 (w8 (i_shr x s)))) 117 7 (q + 1)) x (s - 8) := fun U q s v e b s0 s1 => by
    rw [gt_four_b3_e, if_neg (by omega), e, if_pos b, w32_e (x := q + 1) (by omega) (by omega), w32_e (x := s + -8) (by omega) (by omega), show s + -8 = s - 8 by omega]
  rw [gt_four_e, k σ p 24 0 ep (by omega) (by decide) (by decide), k _ (p + 1) (24 - 8) 0 (gW_at ..) (by omega) (by decide) (by decide), k _ (p + 1 + 1) (24 - 8 - 8) 0 (gW_at ..) (by omega) (by decide) (by decide), k _ (p + 1 + 1 + 1) (24 - 8 - 8 - 8) 0 (gW_at ..) (by omega) (by decide) (by decide), gt_four_b3_e, if_pos (by decide)]
  refine ⟨_, rfl, by rw [gW_at]; omega, fun i => ?_, fun a q1 q2 => ?_, fun i q => ?_⟩
  · rw [gW_c (by decide), gW_if, gW_c (by decide), gW_if, gW_c (by decide), gW_if, gW_c (by decide), gW_if]
    unfold fo
    by_cases c3 : i = p + 1 + 1 + 1
    · rw [if_pos c3, if_pos (by omega), show 24 - 8 * (i - p) = 24 - 8 - 8 - 8 by omega]
    rw [if_neg c3]
    by_cases c2 : i = p + 1 + 1
    · rw [if_pos c2, if_pos (by omega), show 24 - 8 * (i - p) = 24 - 8 - 8 by omega]
    rw [if_neg c2]
    by_cases c1 : i = p + 1
    · rw [if_pos c1, if_pos (by omega), show 24 - 8 * (i - p) = 24 - 8 by omega]
    rw [if_neg c1]
    by_cases c0 : i = p
    · rw [if_pos c0, if_pos (by omega), show 24 - 8 * (i - p) = 24 by omega]
    rw [if_neg c0, if_neg (by omega)]
  · rw [gW_cell q1, gW_cell q2, gW_cell q1, gW_cell q2, gW_cell q1, gW_cell q2, gW_cell q1, gW_cell q2]
  · rw [gW_i q, gW_c (by decide), gW_i q, gW_c (by decide), gW_i q, gW_c (by decide), gW_i q, gW_c (by decide)]
end FEED
