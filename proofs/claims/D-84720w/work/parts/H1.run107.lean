/-! start: both sides, though the model's marks of a run's heap are old -/
section ST2
variable {σ τ τ' S T : gM} {x1 x3 : Int}
/-- start -/
theorem start_pair2 (R : RW σ τ') (ag : agO τ τ') (t8 : ∀ i, i8 (τ' 225 i)) (h1 : i64 x1) (h3 : i64 x3) : ∃ S T r, gt_start σ x1 x3 = some (S, r) ∧ md_start τ x1 x3 = some (T, r) ∧ (RW S T ∨ (S = σ ∧ ∃ T', agO T T' ∧ RW S T' ∧ (τ' = τ → T' = T))) := by
  have B := R.b
  have P := B.1.1.1
  have M := B.1.2.2.1
  have r60 := P.2.2.2.2.2.2.2.1.1.1
  have s42 := P.2.2.2.2.2.1.1
  obtain ⟨T0, k, U', g, a1', a2', F, hg, gS, nk, bd, -⟩ := main_s P t8 (by have := M.2.1.1; omega) (by have := M.2.1.2.1; omega) (by have := M.2.1.2.2.2.1; omega)
  obtain ⟨RU, R4, hto⟩ := start_no R F hg gS nk bd
  have a1 := ov_inl (δ := τ) ri_md_keep (md_keep_l τ' 0) (md_keep_l (gO τ τ') 0) a1'
  rw [ag.e] at a1
  have a2 := ov_inl (δ := τ) ri_md_functionOf (md_functionOf_l T0 k) (md_functionOf_l (gO τ T0) k) a2'
  have agU : agO (gO τ U') U' := gO_ag
  have same : τ' = τ → gO τ U' = U' := fun q => by
    subst q
    funext a i
    unfold gO
    by_cases z : gDr a i = true
    · rw [if_pos z]
      have m : a = 119 ∧ (i = 11 ∨ i = 12 ∨ i = 13 ∨ i = 16 ∨ i = 127) := by
        unfold gDr at z
        simp only [Bool.and_eq_true, Bool.or_eq_true, decide_eq_true_eq] at z
        omega
      rw [m.1]
      exact (F.2.2.1 i (by omega) (by omega) (by omega)).symm
    · rw [if_neg z]
  generalize gO τ U' = U at a2 agU same
  have uc : ∀ a, a ≠ 119 → U a = U' a := fun a q => (agU.c q).symm
  have uf : ∀ i, i ≠ 11 → i ≠ 12 → i ≠ 13 → i ≠ 16 → i ≠ 127 → U 119 i = U' 119 i := fun i q1 q2 q3 q4 q5 => (agU.f q1 q2 q3 q4 q5).symm
  have u156 : U 156 = U' 156 := uc 156 (by decide)
  have PU := R4.1.1
  have u56 := PU.2.1.2.1.1
  have g9 : 0 ≤ g ∧ g < 9000 := by omega
  obtain ⟨f, e1, fc⟩ := fr_named_s (s := 0) (by decide) P.1.1 P.2.1.1 (σ 8 19).toNat 0 (by decide) (by have := P.2.1.1.1; omega) (fun f q1 q2 => by omega)
  have f19 := P.2.1.1.1
  have eM : md_start τ x1 x3 = if U 156 g < 0 then some (U, 0) else ((md_noRun U).bind fun p3 => md_start_b68 (gW (gW (gW (gW (gW (gW (gW p3.1 119 117 1) 119 124 0) 119 125 0) 119 123 0) 119 11 0) 119 12 60000) 119 13 0) x1 x3 g 0) := by
    rw [md_start_e, a1]
    simp only [Option.bind_some]
    rw [a2]
    simp only [Option.bind_some]
    rw [if_pos g9]
  have eC : gt_start σ x1 x3 = if f < 0 then some (σ, 0) else if 0 ≤ f ∧ f < 9000 then (if σ 24 f < 0 then some (σ, 0) else if 0 ≤ f ∧ f < 9000 then ((mc_start σ (σ 24 f) x1 x3).bind fun p2 => some (p2.1, 1)) else none) else none := by
    rw [gt_start_e, fr_named_e, e1]
    rfl
  have v3 := PU.2.1.2.2.1
  rcases fc with ⟨f1, f2⟩ | ⟨f1, f2⟩
  · have z : U 156 g = -1 := by
      rw [u156]
      exact PU.2.1.2.2.2.1 g hg.1 hg.2 fun f' w => f2 f' w.1.1 w.1.2 (by rw [w.2.2, gS])
    refine ⟨σ, U, 0, by rw [eC, if_pos (by omega)], by rw [eM, if_pos (by omega)], Or.inr ⟨rfl, U', agU, RU, fun q => (same q).symm⟩⟩
  have z : U 156 g = σ 24 f := by rw [u156]; exact v3 f g ⟨f1, hg, by rw [f2, gS]⟩
  have f9 : 0 ≤ f ∧ f < 9000 := by omega
  by_cases y : σ 24 f < 0
  · exact ⟨σ, U, 0, by rw [eC, if_neg (by omega), if_pos f9, if_pos y], by rw [eM, if_pos (by omega)], Or.inr ⟨rfl, U', agU, RU, fun q => (same q).symm⟩⟩
  have fr := P.2.1.1.2.1 f f1.1 f1.2
  generalize er : σ 24 f = r at *
  have rr : 0 ≤ r ∧ r < 60 := by omega
  obtain ⟨Y, c0, c1, c2, c3, c4, c5, c6, c7⟩ := lay_c (σ := σ) (x1 := x1) (x3 := x3) rr
  obtain ⟨V, d0, d1, d2, d3, d4, d5, d6, d7⟩ := lay_m (τ := U) (x1 := x1) (x3 := x3) g9
  have e156 : V 156 g = r := by rw [d1 156 (by decide) (by decide) (by decide) (by decide)]; exact z
  rw [e156] at d0
  -- doctored
  generalize eV : gW V 119 127 0 = V'
  have v1 : ∀ a, a ≠ 119 → a ≠ 127 → a ≠ 221 → a ≠ 222 → V' a = U' a := fun a q1 q2 q3 q4 => by rw [← eV, gW_cell q1, d1 a q1 q2 q3 q4, uc a q1]
  have v127 : V' 127 = V 127 := by rw [← eV, gW_cell (by decide)]
  have v221 : V' 221 = V 221 := by rw [← eV, gW_cell (by decide)]
  have v222 : V' 222 = V 222 := by rw [← eV, gW_cell (by decide)]
  have v2 : ∀ i, i ≠ 127 → V' 119 i = V 119 i := fun i q => by rw [← eV, gW_i q]
  have v0 : V' 119 127 = 0 := by rw [← eV, gW_at]
  have PV : rPg Y V' := PU.nr ⟨fun a q => c1 a (by omega) (by omega) (by omega) (by omega), fun i q => c2 i (Or.inl q), c3.1, c3.2.1, c3.2.2.1, c3.2.2.2⟩ ⟨fun a q => v1 a (by omega) (by omega) (by omega) (by omega), fun i q => by rw [v2 i (by omega), d3 i (by omega), uf i (by omega) (by omega) (by omega) (by omega) (by omega)], by rw [v2 12 (by decide)]; exact d4.2.1, by rw [v2 13 (by decide)]; exact d4.2.2.1, by rw [v2 16 (by decide)]; exact d4.2.2.2, fun i q1 q2 => by rw [v127]; exact d2 i q1 q2⟩
  have y8 : Y 8 = σ 8 := c1 8 (by decide) (by decide) (by decide) (by decide)
  have four : rPr Y V' ∧ rNo Y V' ∧ rRm Y V' ∧ rBy Y V' := by
    obtain ⟨⟨-, P2⟩, N, Mm, B4⟩ := R4
    refine ⟨⟨PV, ?_⟩, N.mv (fun a q => c1 a (by omega) (by omega) (by omega) (by omega)) (v1 179 (by decide) (by decide) (by decide) (by decide)), ?_, by rw [c1 1 (by decide) (by decide) (by decide) (by decide)]; exact B4.1, by rw [v1 134 (by decide) (by decide) (by decide) (by decide)]; exact B4.2.1, B4.2.2.mv (fun a q => v1 a (by omega) (by omega) (by omega) (by omega)) (by rw [v2 56 (by decide), d3 56 (by decide), uf 56 (by decide) (by decide) (by decide) (by decide) (by decide)])⟩
    · unfold rRp at P2 ⊢
      rw [y8, c1 24 (by decide) (by decide) (by decide) (by decide), c1 25 (by decide) (by decide) (by decide) (by decide)]
      exact P2
    · unfold rRm cRm mRm at Mm ⊢
      rw [y8, c2 7 (by decide), c2 8 (by decide), c2 9 (by decide), c1 42 (by decide) (by decide) (by decide) (by decide), v2 9 (by decide), v2 10 (by decide), v2 15 (by decide), v2 56 (by decide), d3 9 (by decide), d3 10 (by decide), d3 15 (by decide), d3 56 (by decide), uf 9 (by decide) (by decide) (by decide) (by decide) (by decide), uf 10 (by decide) (by decide) (by decide) (by decide) (by decide), uf 15 (by decide) (by decide) (by decide) (by decide) (by decide), uf 56 (by decide) (by decide) (by decide) (by decide) (by decide)]
      exact Mm
  have hTo : rTo Y V' := by
    unfold rTo at hto ⊢
    rw [v1 224 (by decide) (by decide) (by decide) (by decide), c4 36 (by decide) (by decide) (by decide) (by decide) (by decide) (by decide) (by decide) (by decide) (by decide), c4 37 (by decide) (by decide) (by decide) (by decide) (by decide) (by decide) (by decide) (by decide) (by decide), c4 38 (by decide) (by decide) (by decide) (by decide) (by decide) (by decide) (by decide) (by decide) (by decide), c4 39 (by decide) (by decide) (by decide) (by decide) (by decide) (by decide) (by decide) (by decide) (by decide), c4 40 (by decide) (by decide) (by decide) (by decide) (by decide) (by decide) (by decide) (by decide) (by decide), c4 41 (by decide) (by decide) (by decide) (by decide) (by decide) (by decide) (by decide) (by decide) (by decide), c4 42 (by decide) (by decide) (by decide) (by decide) (by decide) (by decide) (by decide) (by decide) (by decide)]
    exact hto
  have h119 : U' 119 1 = σ 87 5 := RU.b.2.2.2.2.2.2.2.2.2
  have hCt : rCt Y V' := by
    unfold rCt
    rw [c5.2.1, c5.2.2.1, c5.2.2.2.2.1, c5.2.2.2.2.2, c3.2.2.2, v0, v2 117 (by decide), v2 118 (by decide), v2 122 (by decide), v2 126 (by decide), v2 11 (by decide), v2 12 (by decide), v2 13 (by decide), v2 1 (by decide), d6.1, d5.2.1, d5.2.2.2.1, d5.2.2.2.2, d4.1, d4.2.1, d4.2.2.1, d3 1 (by decide), uf 1 (by decide) (by decide) (by decide) (by decide) (by decide), c4 5 (by decide) (by decide) (by decide) (by decide) (by decide) (by decide) (by decide) (by decide) (by decide)]
    exact ⟨⟨rfl, rfl⟩, ⟨rfl, by decide, by decide⟩, rfl, ⟨rfl, by decide⟩, fun i q1 q2 q3 => by omega, ⟨rfl, by decide⟩, h119, rfl⟩
  have hOb : rOb Y V' := by
    unfold rOb
    rw [c5.2.2.2.1, v2 95 (by decide), d5.1]
    exact ⟨⟨by decide, by decide, rfl⟩, fun o q1 q2 => by omega⟩
  have r4 : 4 ≤ r := by
    by_cases w : 4 ≤ r
    · exact w
    · have h := P.2.2.2.2.2.2.2.2.2.2.2.2.2.2.1.2.2 f f1.1 f1.2 (by omega) (by omega)
      rw [f2, er] at h
      have c : r = 0 ∨ r = 1 ∨ r = 2 ∨ r = 3 := by omega
      rcases c with c | c | c | c <;> rw [c] at h <;> exact absurd h (by decide +kernel)
  obtain ⟨S1, T1, pT, hT, θ, s1, s2, RRs⟩ := start_rr (r := r) four hTo c5.1 (by rw [v2 121 (by decide)]; exact d5.2.2.1) (by rw [v2 123 (by decide)]; exact d6.2.1) (by rw [v2 124 (by decide)]; exact d6.2.2.1) (by rw [v2 125 (by decide)]; exact d6.2.2.2) hOb hCt ⟨r4, by rw [y8]; omega⟩ c5.2.2.1 c5.2.2.2.2.1 (fun j j0 j1 => by
    rw [v221, v222]
    by_cases w : j = 0
    · rw [w, show (0 : Int) + 1 + 0 = 1 by decide, c6.1, c6.2.1, d7.1, d7.2.1]
      exact Or.inl ⟨rfl, rfl, rfl, h1⟩
    · rw [show j = 1 by omega, show (0 : Int) + 1 + 1 = 2 by decide, c6.2.2.1, c6.2.2.2, d7.2.2.1, d7.2.2.2]
      exact Or.inl ⟨rfl, rfl, rfl, h3⟩)
  have G := fr_inl fm_md_activate (md_activate_l V' r 0 2 (-1)) s2
  have ov := ov_inl (δ := V) ri_md_activate (md_activate_l V' r 0 2 (-1)) (md_activate_l (gO V V') r 0 2 (-1)) s2
  rw [show gO V V' = V by rw [← eV]; exact gO_127] at ov
  have hg11 : ∀ i, i = 11 ∨ i = 12 ∨ i = 13 ∨ i = 16 → gO V T1 119 i = T1 119 i := fun i q => by
    have h2 : T1 119 i = V' 119 i := by
      rcases q with q | q | q | q
      · rw [q]; exact G.f 119 11 1 (by decide +kernel) (by decide) (by decide)
      · rw [q]; exact G.f 119 12 1 (by decide +kernel) (by decide) (by decide)
      · rw [q]; exact G.f 119 13 1 (by decide +kernel) (by decide) (by decide)
      · rw [q]; exact G.f 119 16 1 (by decide +kernel) (by decide) (by decide)
    rw [h2, v2 i (by omega)]
    unfold gO
    rw [if_pos (by rcases q with q | q | q | q <;> rw [q] <;> decide)]
  have hgo : ∀ a i, (a ≠ 119 ∨ i ≠ 127) → gO V T1 a i = T1 a i := fun a i q => by
    by_cases w : gDr a i = true
    · unfold gDr at w
      simp only [Bool.and_eq_true, Bool.or_eq_true, decide_eq_true_eq] at w
      rw [w.1]
      exact hg11 i (by omega)
    · exact gO_n (by cases hw : gDr a i with | true => exact absurd hw w | false => rfl)
  have eg : md_goOn (gO V T1) 0 = md_goOn_b15 (gW (gW (gW (gO V T1) 119 119 0) 119 120 0) 119 127 0) := md_goOn_e _ 0
  generalize eT : gW (gW (gW (gO V T1) 119 119 0) 119 120 0) 119 127 0 = τ1 at eg
  have t119 : τ1 119 119 = 0 := by rw [← eT, gW_i (by decide), gW_i (by decide), gW_at]
  have t120 : τ1 119 120 = 0 := by rw [← eT, gW_i (by decide), gW_at]
  have w1 : RR S1 τ1 pT hT 0 (-1) (-1) θ := by
    refine RRs.lw ⟨fun _ _ => rfl, fun _ _ _ => rfl, fun _ _ _ => rfl, fun _ _ _ => rfl, fun _ _ _ => rfl, fun _ _ _ => rfl⟩ ⟨fun a q => funext fun i => ?_, fun i q => ?_, fun i => ?_⟩ ?_
    · rw [← eT, gW_c (by omega), gW_c (by omega), gW_c (by omega), hgo a i (by omega)]
    · rw [← eT, gW_i (by omega), gW_i (by omega), gW_i (by omega), hgo 119 i (by omega)]
    · rw [← eT, gW_c (by decide), gW_c (by decide), gW_c (by decide), hgo 134 i (by omega)]
      exact RRs.1.1.2.2.2.2.1 i
    · rw [← eT, gW_at]
      exact RRs.1.2.2.2.2.1.2.2.2.2.2.2.2.symm
  have th := w1.2.2.2.2.1
  have C34 := w1.1.2.2.2.2.1.2.2.2.1.2
  have y41 : 0 ≤ Y 87 41 ∧ Y 87 41 ≤ 1000000000 := hTo.2.2.2.2.2.2.2.2.1
  have gS1 : gb8 119 S1 := b8_inl bm_mc_activate (mc_activate_l _ r 0 2 (-1)) s1 ((c7 R.2.1).w (by decide +kernel))
  obtain ⟨S, T, g1, g2, g3⟩ := sim θ.toNat (wM τ1).toNat S1 τ1 pT hT 0 (-1) (-1) θ 0 0 rfl rfl w1 gS1 t119 t120 (Int.le_refl _) (by omega)
  have eC' : gt_start σ x1 x3 = some (S, 1) := by
    rw [eC, if_neg (by omega), if_pos f9, if_neg y, if_pos f9, c0, more_c y41]
    simp only [Option.bind_some]
    rw [s1]
    simp only [Option.bind_some]
    rw [mc_go_e, g1]
    rfl
  have eM' : md_start τ x1 x3 = some (T, 1) := by
    rw [eM, if_neg (by omega), d0, ov]
    simp only [Option.bind_some]
    rw [eg, g2]
    rfl
  have F' := fr_inl fm_gt_start (gt_start_l σ x1 x3) eC'
  have G' := fr_inl fm_md_start (md_start_l τ x1 x3) eM'
  refine ⟨S, T, 1, eC', eM', Or.inl ⟨R.1.mv (fun i q1 q2 => F'.f 117 7 3 (by decide +kernel) (by omega) (by omega)) (F'.r 118 1 (by decide +kernel) (by omega) (by omega)) (fun i q1 q2 => by rw [G'.f 119 153 3 (by decide +kernel) (by omega) (by omega), ag.f (by omega) (by omega) (by omega) (by omega) (by omega)]) (by rw [G'.r 226 1 (by decide +kernel) (by omega) (by omega), ag.c (by decide)]), b8_inl bm_gt_start (gt_start_l σ x1 x3) eC' R.2.1, ?_⟩⟩
  rcases g3 with w | ⟨-, w⟩
  · exact Or.inr (Or.inl w)
  · exact Or.inr (Or.inr w)
end ST2
