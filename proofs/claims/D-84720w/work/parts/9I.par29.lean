/-! functions: all of one -/
section FA
variable {σ τ S T : gM} {f a M N : Int}
theorem kF_fC (h : τ 119 54 = σ 68 19) : kF (σ 68 19) M N σ (fC σ) τ (fM τ) :=
  ⟨fun a q => funext fun i => fC_o (by omega) (by omega), fun a i q1 q2 q3 => fC_o (by omega) (by omega), fun i q => fC_o (by omega) (by omega), fun i q => fC_o (by omega) (by omega), fun a g q1 q2 q3 => fC_o (by omega) (by omega), fun a j q1 q2 => fC_o (by omega) (by omega), fun a q1 q2 => funext fun i => fM_o (by omega) (by omega), fun a j q1 q2 q3 => fM_o (by omega) (by omega), fun a g q1 q2 q3 => fM_o (by omega) (by omega), fun a j q1 q2 => fM_o (by omega) (by omega), fun i q1 q2 q3 q4 => fM_o (by omega) (by omega), fun hj j j0 j1 => by rw [fM_o (by omega) (by omega)] at j1; rw [fM_o (by omega) (by omega)]; exact hj j j0 j1⟩
theorem kF.o {v w : Int} (h : kF f M N σ S τ T) : kF f M N σ (gW S 68 21 v) τ (gW T 119 28 w) := by
  refine h.tr (M' := M) (N' := N) ?_ (Int.le_refl _) (Int.le_refl _)
  exact ⟨fun a q => gW_cell (by omega), fun a i q1 q2 q3 => gW_c (by omega), fun i q => gW_i (by omega), fun i q => gW_c (by decide), fun a g q1 q2 q3 => gW_c (by omega), fun a j q1 q2 => gW_c (by omega), fun a q1 q2 => gW_cell q1, fun a j q1 q2 q3 => gW_c (by omega), fun a g q1 q2 q3 => gW_c (by omega), fun a j q1 q2 => gW_c (by omega), fun i q1 q2 q3 q4 => gW_i (by omega), fun hj j j0 j1 => by rw [gW_i (by decide)] at j1; rw [gW_c (by decide)]; exact hj j j0 j1⟩
/-- one function -/
theorem function_s (G : fG σ τ) : (∃ S T, ps_function σ = some (S, 0) ∧ md_function τ = some (T, some 0) ∧ fE σ τ S T (σ 68 19) (σ 68 10) ∧ σ 69 5 < S 69 5 ∧ σ 68 19 < 50) ∨ (∃ S T, ps_function σ = some (S, 0) ∧ md_function τ = some (T, none) ∧ bx S T) := by
  rcases fhead_s G with ⟨σ1, τ1, S, T, e1, e2, F1, G1, p1, F2, G2, ⟨s19, h50⟩, len, p2, ds⟩ | h
  · have n54 := G1.2.2.2.2.2.2.1
    have hm := G.2.2.2.1
    have hf : 0 ≤ σ 68 19 ∧ σ 68 19 < 50 := by omega
    have kp := G1.2.1.1
    unfold tKp at kp
    have cn := @fC_n σ1
    have mn := @fM_n τ1
    rw [n54.2.2] at mn
    rw [s19] at cn mn
    have k2 : ∀ M N, kF (σ 68 19) M N σ S τ T := fun M N => by
      have := (kF_fC (M := M) (N := N) n54.2.2)
      rw [s19] at this
      exact ((kF.rf.rd F1).tr this (Int.le_refl _) (Int.le_refl _)).rd F2
    have s21 : S 68 21 = 0 := by rw [F2.1 68 (by decide)]; exact cn.2.2.2.2.2.2.2.1
    rw [e1, e2]
    unfold fbC fbM
    rcases ps_opens_s (c := 40) (t := 30) G2 (by omega) with ⟨S2, T2, x1, x2, G3, F3, p3, o3, -⟩ | ⟨S2, T2, x1, x2, b⟩
    · rw [s21, show (0 : Int) + 1 = 1 by decide] at F3 o3
      have k3 : ∀ M N, kF (σ 68 19) M N σ S2 τ T2 := fun M N => ((k2 M N).o).rd F3
      have c : ∀ e, e ≠ 68 → e ≠ 69 → S2 e = fC σ1 e := fun e q1 q2 => by rw [F3.1 e q2, gW_cell q1, F2.1 e q2]
      have c68 : ∀ i, i ≠ 21 → S2 68 i = fC σ1 68 i := fun i q => by rw [F3.1 68 (by decide), gW_i q, F2.1 68 (by decide)]
      have t : ∀ e, e ≠ 119 → T2 e = fM τ1 e := fun e q => by rw [F3.2.2.1 e q, gW_cell q, F2.2.2.1 e q]
      have s10 : S2 68 10 = σ 68 10 := by rw [c68 10 (by decide), fC_o (by omega) (by omega), F1.1 68 (by decide)]
      have s2 : S2 69 2 = σ1 69 2 := by rw [(k3 0 0).2.2.2.1 2 (by decide), F1.2.1 2 (by omega)]
      have nda : nd S2 (σ 68 10) = nd σ (σ 68 10) := (k3 (σ 68 10) 0).nd (Int.le_refl _)
      have fn : fN S2 T2 (σ 68 19) := by
        unfold fN
        rw [c 79 (by decide) (by decide), c 80 (by decide) (by decide), t 146 (by decide), t 147 (by decide), cn.2.1, cn.2.2.1, mn.1, mn.2.1, s2]
        omega
      have I : PI (σ 68 19) (σ 68 10) S2 T2 := by
        refine ⟨G3.le (by decide), by rw [c68 19 (by decide), cn.1], ⟨by rw [c 84 (by decide) (by decide), c 83 (by decide) (by decide), cn.2.2.2.2.2.1, cn.2.2.2.2.1], by rw [c 83 (by decide) (by decide), cn.2.2.2.2.1]; decide⟩, ⟨by rw [c 81 (by decide) (by decide), cn.2.2.2.1, F1.1 68 (by decide)], hm.1, by rw [s10, c 83 (by decide) (by decide), cn.2.2.2.2.1]; omega, by rw [c68 20 (by decide), c 83 (by decide) (by decide), cn.2.2.2.2.1, cn.2.2.2.2.2.2.1]⟩, fun i q1 q2 => by omega, by rw [s10]; exact NB.nil, ⟨o3, by rw [c68 22 (by decide), cn.2.2.2.2.2.2.2.2]⟩, fn, ?_⟩
        rw [t 148 (by decide), mn.2.2.2.1, nda, F1.2.2.2 43 (by omega) (by decide) (by decide), G.2.2.2.2.1]
      have T134 : T2 134 = τ1 134 := by rw [t 134 (by decide)]; exact funext fun i => fM_o (by omega) (by omega)
      -- what both roads end with
      have fin : ∀ (S3 T3 S4 T4 : gM), kF (σ 68 19) (σ 68 10) (nd σ (σ 68 10)) S2 S3 T2 T3 → PI (σ 68 19) (σ 68 10) S3 T3 → fE S3 T3 S4 T4 (σ 68 19) (σ 68 10) → fE σ τ S4 T4 (σ 68 19) (σ 68 10) := by
        intro S3 T3 S4 T4 k4 I3 h
        obtain ⟨h1, h2, h3⟩ := h
        have k5 := (k3 (σ 68 10) (nd σ (σ 68 10))).tr k4 (Int.le_refl _) (Int.le_refl _)
        rw [k5.nd (Int.le_refl _)] at h2
        exact ⟨h1, k5.tr h2 (Int.le_refl _) (Int.le_refl _), h3⟩
      rw [x1, x2]
      simp only [Option.bind_some, gtry]
      rw [ps_good_g G3.2.2.1]
      simp only [Option.bind_some]
      rw [if_neg (by decide), tk_is_s G3.2.1.2 G3.2.2.1 (c := 41) (t := 31) (by unfold sG; decide)]
      simp only [Option.bind_some]
      have lt5 : σ 69 5 < S2 69 5 := by omega
      by_cases q : T2 119 25 = 31
      · rw [if_pos q, if_pos q, if_neg (by decide), ps_function_b305_e, ps_function_b306_e, md_function_b170_e]
        rcases rest_s I hf with ⟨S4, T4, y1, y2, y3, y4⟩ | h
        · left
          exact ⟨S4, T4, y1, y2, fin S2 T2 S4 T4 kF.rf I y3, by omega, h50⟩
        · exact Or.inr h
      · rw [if_neg q, if_neg q, if_pos (by trivial), ps_function_b306_e, md_function_b170_e]
        rcases params_s hf (S2 69 2 - S2 69 5).toNat S2 T2 I (by omega) with ⟨S3, T3, w1, w2, I3, k4, p4⟩ | h
        · rw [w1, w2]
          rcases rest_s I3 hf with ⟨S4, T4, y1, y2, y3, y4⟩ | h
          · left
            rw [nda] at k4
            exact ⟨S4, T4, y1, y2, fin S3 T3 S4 T4 k4 I3 y3, by omega, h50⟩
          · exact Or.inr h
        · exact Or.inr h
    · right
      rw [x1, x2]
      simp only [Option.bind_some]
      rw [ps_good_b b.1]
      simp only [Option.bind_some]
      rw [if_pos (by trivial), ps_function_b305_e, ps_function_b306_e]
      obtain ⟨S3, y1, y2⟩ := b307_b b hf
      exact ⟨S3, T2, y1, rfl, y2⟩
  · exact Or.inr h
end FA
