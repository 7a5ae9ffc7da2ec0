/-! start: both sides -/
theorem gO_127 {V : gM} {x : Int} : gO V (gW V 119 127 x) = V := by
  funext a k
  unfold gO
  by_cases z : gDr a k = true
  · rw [if_pos z]
  · rw [if_neg z]
    unfold gW
    rw [if_neg (fun q => z (by rw [q.1, q.2]; decide))]
section STP
variable {σ τ S T : gM} {x1 x3 : Int}
theorem RW.mn (R : RW σ τ) : mnK τ ∨ (slk σ τ ∧ RN0 σ τ) := by
  obtain ⟨-, -, R⟩ := R
  rcases R with w | w | ⟨pT, hT, m, br, co, θ, w⟩
  · rcases w.2.2.2.2 with y | y
    · exact Or.inl y
    · exact Or.inr ⟨y, w⟩
  · exact Or.inl w.1.1.2.2.2.2.2
  · exact Or.inl (w.1.1.2.2.2.2.2.mv (fun a q => by rw [gW_cell (by omega)]) (by rw [gW_i (by decide)]))
/-- no root of that name: nothing happens but that the model keeps the name -/
theorem start_no {U : gM} {g : Int} (R : RW σ τ) (F : kfM τ U) (hg : 0 ≤ g ∧ g < U 119 56) (gS : mS U (U 155 g) = tx 0) (nk : mnK τ → ∀ a i, a ≠ 225 → U a i = τ a i) (bd : U 119 10 ≤ τ 119 10 + 1 ∧ U 119 9 ≤ τ 119 9 + 4 ∧ U 119 56 ≤ τ 119 56 + 1) : RW σ U ∧ (rPr σ U ∧ rNo σ U ∧ rRm σ U ∧ rBy σ U) ∧ rTo σ U := by
  have B := R.b
  have P := B.1.1.1
  have PU := P.kf F (fun _ => rfl)
  have F1 := F.2.1
  have F2 := F.2.2.1
  have d : ∀ a, a ≠ 119 → (a < 121 ∨ 126 < a) → a ≠ 155 → a ≠ 156 → a ≠ 186 → a ≠ 225 → U a = τ a := F1
  have e134 : U 134 = τ 134 := d 134 (by decide) (by decide) (by decide) (by decide) (by decide) (by decide)
  have M := B.1.2.2.1
  have hm := R.mn
  have mU : mnK U := ⟨g, hg, gS⟩
  have s42 := P.2.2.2.2.2.1.1
  have f4 : rPr σ U ∧ rNo σ U ∧ rRm σ U ∧ rBy σ U := by
    refine ⟨⟨PU, B.1.1.2⟩, B.1.2.1.mv (fun _ _ => rfl) (d 179 (by decide) (by decide) (by decide) (by decide) (by decide) (by decide)), ?_, B.1.2.2.2.1, by rw [e134]; exact B.1.2.2.2.2, mU⟩
    have e15 := F2 15 (by decide) (by decide) (by decide)
    unfold rRm cRm mRm at M ⊢
    rw [e15]
    rcases hm with w | ⟨w, -⟩
    · rw [nk w 119 9 (by decide), nk w 119 10 (by decide), nk w 119 56 (by decide)]
      exact M
    · unfold slk at w
      obtain ⟨m1, ⟨m2, m3, m4, m5, m6⟩, ⟨m7, m8⟩, m9, m10⟩ := M
      exact ⟨m1, ⟨by omega, by omega, m4, by omega, m6⟩, ⟨by omega, by omega⟩, m9, m10⟩
  have hto : rTo σ U := by
    have ht := B.2.1
    unfold rTo at ht ⊢
    rw [d 224 (by decide) (by decide) (by decide) (by decide) (by decide) (by decide)]
    exact ht
  refine ⟨?_, f4, hto⟩
  have fd : fdR σ U := by
    obtain ⟨f1, f2, f3, f4, f5⟩ := R.1
    unfold fdR
    rw [F2 153 (by decide) (by decide) (by decide), F2 154 (by decide) (by decide) (by decide), F2 155 (by decide) (by decide) (by decide), d 226 (by decide) (by decide) (by decide) (by decide) (by decide) (by decide)]
    exact ⟨f1, f2, f3, f4, f5⟩
  rcases hm with w | ⟨-, w⟩
  · have nk := nk w
    exact R.lw fd R.2.1 ⟨fun _ _ => rfl, fun _ _ _ => rfl, fun _ _ _ => rfl, fun _ _ _ => rfl, fun _ _ _ => rfl, fun _ _ _ => rfl⟩ ⟨fun a q => funext fun i => nk a i (by omega), fun i _ => nk 119 i (by decide), fun i => by rw [e134]; exact B.1.2.2.2.2 i⟩
  · obtain ⟨w1, w2, w3, w4, -⟩ := w
    obtain ⟨R1, R2, R3, R4, R5, R6, R7, R8, R9, R10⟩ := w1
    refine ⟨fd, R.2.1, Or.inl ⟨⟨⟨f4.1, f4.2.1, f4.2.2.1, f4.2.2.2.1, f4.2.2.2.2.1⟩, hto, ?_⟩, w2, w3, w4, Or.inl mU⟩⟩
    rw [F2 117 (by decide) (by decide) (by decide), F2 118 (by decide) (by decide) (by decide), F2 121 (by decide) (by decide) (by decide), F2 122 (by decide) (by decide) (by decide), F2 95 (by decide) (by decide) (by decide), F2 126 (by decide) (by decide) (by decide), F2 1 (by decide) (by decide) (by decide), d 223 (by decide) (by decide) (by decide) (by decide) (by decide) (by decide)]
    exact ⟨R3, R4, R5, R6, R7, R8, R9, R10⟩
/-- what the component lays before it calls the first function -/
theorem lay_c {r : Int} (hr : 0 ≤ r ∧ r < 60) : ∃ Y, (mc_start σ r x1 x3 = ((cd_more Y (Y 87 41)).bind fun p5 => (mc_activate (gW p5.1 87 41 p5.2) r 0 2 (-1)).bind fun p6 => (mc_go p6.1 0).bind fun p7 => some (p7.1, 0))) ∧ (∀ a, a ≠ 0 → a ≠ 87 → a ≠ 88 → a ≠ 89 → Y a = σ a) ∧ (∀ i, i < 10 ∨ 13 < i → Y 0 i = σ 0 i) ∧ (Y 0 10 = 8000 ∧ Y 0 11 = 24000 ∧ Y 0 12 = 8000 ∧ Y 0 13 = 0) ∧ (∀ i, i ≠ 8 → i ≠ 19 → i ≠ 20 → i ≠ 23 → i ≠ 24 → i ≠ 25 → i ≠ 31 → i ≠ 34 → i ≠ 35 → Y 87 i = σ 87 i) ∧ (Y 87 19 = 0 ∧ Y 87 20 = 0 ∧ Y 87 24 = 0 ∧ Y 87 31 = 0 ∧ Y 87 34 = 0 ∧ Y 87 23 = 1) ∧ (Y 88 1 = 0 ∧ Y 89 1 = x1 ∧ Y 88 2 = 0 ∧ Y 89 2 = x3) ∧ (gb8 119 σ → gb8 119 Y) := by
  obtain ⟨N, c1, c2, c3, c4, c5, c6⟩ := none_s (σ := σ)
  generalize e0 : gW (gW N 87 23 1) 87 8 0 = Y0
  have y8 : Y0 87 8 = 0 := by rw [← e0, gW_at]
  have y23 : Y0 87 23 = 1 := by rw [← e0, gW_i (by decide), gW_at]
  have yo : ∀ a i, a ≠ 87 ∨ (i ≠ 8 ∧ i ≠ 23) → Y0 a i = N a i := fun a i q => by
    rw [← e0]
    by_cases z : a = 87
    · rw [z, gW_i (by omega), gW_i (by omega)]
    · rw [gW_c z, gW_c z]
  have p1 : puC Y0 5 (N 25 r) 87 8 = 1 := by rw [puC_n.2.2, y8]; rfl
  have p2 : puC (puC Y0 5 (N 25 r)) 0 x1 87 8 = 2 := by rw [puC_n.2.2, p1]; rfl
  have e1 : mc_start σ r x1 x3 = ((cd_more (puC (puC (puC Y0 5 (N 25 r)) 0 x1) 0 x3) (puC (puC (puC Y0 5 (N 25 r)) 0 x1) 0 x3 87 41)).bind fun p5 => (mc_activate (gW p5.1 87 41 p5.2) r 0 2 (-1)).bind fun p6 => (mc_go p6.1 0).bind fun p7 => some (p7.1, 0)) := by
    rw [mc_start_e, c1]
    simp only [Option.bind_some]
    rw [if_pos hr, e0, mc_push_s (by rw [y8]; decide)]
    simp only [Option.bind_some]
    rw [mc_push_s (by rw [p1]; decide)]
    simp only [Option.bind_some]
    rw [mc_push_s (by rw [p2]; decide)]
    rfl
  refine ⟨_, e1, ?_⟩
  have po : ∀ a i, (a ≠ 87 ∧ a ≠ 88 ∧ a ≠ 89) ∨ (a = 87 ∧ i ≠ 8) → puC (puC (puC Y0 5 (N 25 r)) 0 x1) 0 x3 a i = Y0 a i := fun a i q => by
    rw [puC_o (by omega), puC_o (by omega), puC_o (by omega)]
  have q1 : puC (puC (puC Y0 5 (N 25 r)) 0 x1) 0 x3 88 1 = 0 := by
    rw [puC_o (Or.inr (Or.inl ⟨by decide, by rw [p2]; decide⟩))]
    have := (puC_n (σ := puC Y0 5 (N 25 r)) (k := 0) (x := x1)).1
    rw [p1] at this
    exact this
  have q2 : puC (puC (puC Y0 5 (N 25 r)) 0 x1) 0 x3 89 1 = x1 := by
    rw [puC_o (Or.inr (Or.inl ⟨by decide, by rw [p2]; decide⟩))]
    have := (puC_n (σ := puC Y0 5 (N 25 r)) (k := 0) (x := x1)).2.1
    rw [p1] at this
    exact this
  have q3 := (puC_n (σ := puC (puC Y0 5 (N 25 r)) 0 x1) (k := 0) (x := x3))
  rw [p2] at q3
  have g8 : gb8 119 σ → gb8 119 (puC (puC (puC Y0 5 (N 25 r)) 0 x1) 0 x3) := fun hb => by
    have n87 : gK 87 ≠ 2 := by decide +kernel
    have n88 : gK 88 ≠ 2 := by decide +kernel
    have n89 : gK 89 ≠ 2 := by decide +kernel
    have hN := b8_inl bm_mc_none (mc_none_l σ) c1 hb
    have hY : gb8 119 Y0 := by rw [← e0]; exact (hN.w n87).w n87
    have pu : ∀ (U : gM) (k x : Int), gb8 119 U → gb8 119 (puC U k x) := fun U k x h => by
      unfold puC
      exact ((h.w n88).w n89).w n87
    exact pu _ _ _ (pu _ _ _ (pu _ _ _ hY))
  generalize puC (puC (puC Y0 5 (N 25 r)) 0 x1) 0 x3 = Y at po q1 q2 q3 g8
  refine ⟨fun a a1 a2 a3 a4 => funext fun i => ?_, fun i q => ?_, ⟨?_, ?_, ?_, ?_⟩, fun i i1 i2 i3 i4 i5 i6 i7 i8 i9 => ?_, ⟨?_, ?_, ?_, ?_, ?_, ?_⟩, ⟨q1, q2, q3.1, q3.2.1⟩, g8⟩
  · rw [po a i (by omega), yo a i (by omega), c2 a a1 a2]
  · rw [po 0 i (by omega), yo 0 i (by omega), c3 i q]
  · rw [po 0 10 (by omega), yo 0 10 (by omega), c4.1]
  · rw [po 0 11 (by omega), yo 0 11 (by omega), c4.2.1]
  · rw [po 0 12 (by omega), yo 0 12 (by omega), c4.2.2.1]
  · rw [po 0 13 (by omega), yo 0 13 (by omega), c4.2.2.2]
  · rw [po 87 i (by omega), yo 87 i (by omega), c5 i i2 i3 i4 i5 i6 i7 i8 i9]
  · rw [po 87 19 (by omega), yo 87 19 (by omega), c6 19 (by decide)]
  · rw [po 87 20 (by omega), yo 87 20 (by omega), c6 20 (by decide)]
  · rw [po 87 24 (by omega), yo 87 24 (by omega), c6 24 (by decide)]
  · rw [po 87 31 (by omega), yo 87 31 (by omega), c6 31 (by decide)]
  · rw [po 87 34 (by omega), yo 87 34 (by omega), c6 34 (by decide)]
  · rw [po 87 23 (by omega), y23]
/-- what the model lays -/
theorem lay_m {g : Int} (hg : 0 ≤ g ∧ g < 9000) : ∃ V, (((md_noRun τ).bind fun p3 => md_start_b68 (gW (gW (gW (gW (gW (gW (gW p3.1 119 117 1) 119 124 0) 119 125 0) 119 123 0) 119 11 0) 119 12 60000) 119 13 0) x1 x3 g 0) = ((md_activate V (V 156 g) 0 2 (-1)).bind fun p4 => (md_goOn p4.1 0).bind fun p5 => some (p5.1, 1))) ∧ (∀ a, a ≠ 119 → a ≠ 127 → a ≠ 221 → a ≠ 222 → V a = τ a) ∧ (∀ i, 0 ≤ i → i < 16384 → V 127 i = -1) ∧ (∀ i, (i < 11 ∨ (13 < i ∧ i < 16) ∨ (16 < i ∧ i < 95) ∨ (95 < i ∧ i < 117) ∨ i = 119 ∨ i = 120 ∨ i = 127 ∨ 130 < i) → V 119 i = τ 119 i) ∧ (V 119 11 = 0 ∧ V 119 12 = 60000 ∧ V 119 13 = 0 ∧ V 119 16 = 2000) ∧ (V 119 95 = 0 ∧ V 119 118 = 0 ∧ V 119 121 = 0 ∧ V 119 122 = 0 ∧ V 119 126 = 0) ∧ (V 119 117 = 1 ∧ V 119 123 = 0 ∧ V 119 124 = 0 ∧ V 119 125 = 3) ∧ (V 221 1 = 2 ∧ V 222 1 = x1 ∧ V 221 2 = 2 ∧ V 222 2 = x3) := by
  obtain ⟨W, c1, c2, c3, c4, c5⟩ := noRun_s (τ := τ)
  generalize e0 : gW (gW (gW (gW (gW (gW (gW W 119 117 1) 119 124 0) 119 125 0) 119 123 0) 119 11 0) 119 12 60000) 119 13 0 = W1
  have w1 : ∀ a, a ≠ 119 → W1 a = τ a := fun a q => by rw [← e0, gW_cell q, gW_cell q, gW_cell q, gW_cell q, gW_cell q, gW_cell q, gW_cell q, c2 a q]
  have w2 : ∀ i, i ≠ 11 → i ≠ 12 → i ≠ 13 → i ≠ 117 → i ≠ 123 → i ≠ 124 → i ≠ 125 → W1 119 i = W 119 i := fun i q1 q2 q3 q4 q5 q6 q7 => by rw [← e0, gW_i q3, gW_i q2, gW_i q1, gW_i q5, gW_i q7, gW_i q6, gW_i q4]
  have w3 : W1 119 11 = 0 ∧ W1 119 12 = 60000 ∧ W1 119 13 = 0 ∧ W1 119 117 = 1 ∧ W1 119 123 = 0 ∧ W1 119 124 = 0 ∧ W1 119 125 = 0 := by
    rw [← e0]
    refine ⟨?_, ?_, ?_, ?_, ?_, ?_, ?_⟩
    · rw [gW_i (by decide), gW_i (by decide), gW_at]
    · rw [gW_i (by decide), gW_at]
    · rw [gW_at]
    · rw [gW_i (by decide), gW_i (by decide), gW_i (by decide), gW_i (by decide), gW_i (by decide), gW_i (by decide), gW_at]
    · rw [gW_i (by decide), gW_i (by decide), gW_i (by decide), gW_at]
    · rw [gW_i (by decide), gW_i (by decide), gW_i (by decide), gW_i (by decide), gW_i (by decide), gW_at]
    · rw [gW_i (by decide), gW_i (by decide), gW_i (by decide), gW_i (by decide), gW_at]
  obtain ⟨W2, d1, d2, d3, -⟩ := st127_s (x1 := x1) (x3 := x3) (x5 := g) 16384 0 W1 (by decide) (by decide)
  generalize e3 : gW W2 119 16 2000 = W3
  have v1 : ∀ a, a ≠ 119 → a ≠ 127 → W3 a = τ a := fun a q1 q2 => by rw [← e3, gW_cell q1, d2 a q2, w1 a q1]
  have v127 : W3 127 = W2 127 := by rw [← e3, gW_cell (by decide)]
  have v2 : ∀ i, i ≠ 16 → W3 119 i = W1 119 i := fun i q => by rw [← e3, gW_i q, d2 119 (by decide)]
  have v16 : W3 119 16 = 2000 := by rw [← e3, gW_at]
  have v25 : W3 119 125 = 0 := by rw [v2 125 (by decide)]; exact w3.2.2.2.2.2.2
  have p1 : puM W3 5 g 119 125 = 1 := by rw [puM_n.2.2, v25]; rfl
  have p2 : puM (puM W3 5 g) 2 x1 119 125 = 2 := by rw [puM_n.2.2, p1]; rfl
  have p3 : puM (puM (puM W3 5 g) 2 x1) 2 x3 119 125 = 3 := by rw [puM_n.2.2, p2]; rfl
  have e : ((md_noRun τ).bind fun p3 => md_start_b68 (gW (gW (gW (gW (gW (gW (gW p3.1 119 117 1) 119 124 0) 119 125 0) 119 123 0) 119 11 0) 119 12 60000) 119 13 0) x1 x3 g 0) = ((md_activate (puM (puM (puM W3 5 g) 2 x1) 2 x3) (puM (puM (puM W3 5 g) 2 x1) 2 x3 156 g) 0 2 (-1)).bind fun p4 => (md_goOn p4.1 0).bind fun p5 => some (p5.1, 1)) := by
    rw [c1]
    simp only [Option.bind_some]
    rw [e0, d1, md_start_b68_e, if_neg (by decide), e3, md_push_s (by rw [v25]; decide)]
    simp only [Option.bind_some]
    rw [md_push_s (by rw [p1]; decide)]
    simp only [Option.bind_some]
    rw [md_push_s (by rw [p2]; decide)]
    simp only [Option.bind_some]
    rw [if_pos hg]
  refine ⟨_, e, ?_⟩
  have po : ∀ a i, (a ≠ 119 ∧ a ≠ 221 ∧ a ≠ 222) ∨ (a = 119 ∧ i ≠ 125) → puM (puM (puM W3 5 g) 2 x1) 2 x3 a i = W3 a i := fun a i q => by
    rw [puM_o (by omega), puM_o (by omega), puM_o (by omega)]
  have q1 : puM (puM (puM W3 5 g) 2 x1) 2 x3 221 1 = 2 := by
    rw [puM_o (Or.inr (Or.inl ⟨by decide, by rw [p2]; decide⟩))]
    have := (puM_n (τ := puM W3 5 g) (t := 2) (y := x1)).1
    rw [p1] at this
    exact this
  have q2 : puM (puM (puM W3 5 g) 2 x1) 2 x3 222 1 = x1 := by
    rw [puM_o (Or.inr (Or.inl ⟨by decide, by rw [p2]; decide⟩))]
    have := (puM_n (τ := puM W3 5 g) (t := 2) (y := x1)).2.1
    rw [p1] at this
    exact this
  have q3 := (puM_n (τ := puM (puM W3 5 g) 2 x1) (t := 2) (y := x3))
  rw [p2] at q3
  generalize puM (puM (puM W3 5 g) 2 x1) 2 x3 = V at po q1 q2 q3 p3
  refine ⟨fun a a1 a2 a3 a4 => funext fun i => ?_, fun i i0 i1 => ?_, fun i q => ?_, ⟨?_, ?_, ?_, ?_⟩, ⟨?_, ?_, ?_, ?_, ?_⟩, ⟨?_, ?_, ?_, p3⟩, ⟨q1, q2, q3.1, q3.2.1⟩⟩
  · rw [po a i (by omega), v1 a a1 a2]
  · rw [po 127 i (by omega), v127]; exact d3 i i0 i1
  · rw [po 119 i (by omega), v2 i (by omega), w2 i (by omega) (by omega) (by omega) (by omega) (by omega) (by omega) (by omega), c3 i (by omega) (by omega) (by omega) (by omega) (by omega) (by omega) (by omega) (by omega) (by omega)]
  · rw [po 119 11 (by omega), v2 11 (by decide), w3.1]
  · rw [po 119 12 (by omega), v2 12 (by decide), w3.2.1]
  · rw [po 119 13 (by omega), v2 13 (by decide), w3.2.2.1]
  · rw [po 119 16 (by omega), v16]
  · rw [po 119 95 (by omega), v2 95 (by decide), w2 95 (by decide) (by decide) (by decide) (by decide) (by decide) (by decide) (by decide), c4 95 (by decide)]
  · rw [po 119 118 (by omega), v2 118 (by decide), w2 118 (by decide) (by decide) (by decide) (by decide) (by decide) (by decide) (by decide), c4 118 (by decide)]
  · rw [po 119 121 (by omega), v2 121 (by decide), w2 121 (by decide) (by decide) (by decide) (by decide) (by decide) (by decide) (by decide), c4 121 (by decide)]
  · rw [po 119 122 (by omega), v2 122 (by decide), w2 122 (by decide) (by decide) (by decide) (by decide) (by decide) (by decide) (by decide), c4 122 (by decide)]
  · rw [po 119 126 (by omega), v2 126 (by decide), w2 126 (by decide) (by decide) (by decide) (by decide) (by decide) (by decide) (by decide), c4 126 (by decide)]
  · rw [po 119 117 (by omega), v2 117 (by decide)]; exact w3.2.2.2.1
  · rw [po 119 123 (by omega), v2 123 (by decide)]; exact w3.2.2.2.2.1
  · rw [po 119 124 (by omega), v2 124 (by decide)]; exact w3.2.2.2.2.2.1
/-- start -/
theorem start_pair (R : RW σ τ) (t8 : ∀ i, i8 (τ 225 i)) (h1 : i64 x1) (h3 : i64 x3) : ∃ S T r, gt_start σ x1 x3 = some (S, r) ∧ md_start τ x1 x3 = some (T, r) ∧ RW S T := by
  have B := R.b
  have P := B.1.1.1
  have M := B.1.2.2.1
  have r60 := P.2.2.2.2.2.2.2.1.1.1
  have s42 := P.2.2.2.2.2.1.1
  obtain ⟨T0, k, U, g, a1, a2, F, hg, gS, nk, bd, -⟩ := main_s P t8 (by have := M.2.1.1; omega) (by have := M.2.1.2.1; omega) (by have := M.2.1.2.2.2.1; omega)
  obtain ⟨RU, R4, hto⟩ := start_no R F hg gS nk bd
  have PU := R4.1.1
  have u56 := PU.2.1.2.1.1
  have g9 : 0 ≤ g ∧ g < 9000 := by omega
  obtain ⟨f, e1, fc⟩ := fr_named_s (s := 0) (by decide) P.1.1 P.2.1.1 (σ 8 19).toNat 0 (by decide) (by have := P.2.1.1.1; omega) (fun f q1 q2 => by omega)
  have f19 := P.2.1.1.1
  have eM : md_start τ x1 x3 = if U 156 g < 0 then some (U, 0) else ((md_noRun U).bind fun p3 => md_start_b68 (gW (gW (gW (gW (gW (gW (gW p3.1 119 117 1) 119 124 0) 119 125 0) 119 123 0) 119 11 0) 119 12 60000) 119 13 0) x1 x3 g 0) := by
    rw [md_start_e, a1]
    simp only [Option.bind_some]
    rw [a2]
    simp only [Option.bind_some]
    rw [if_pos g9]
  have eC : gt_start σ x1 x3 = if f < 0 then some (σ, 0) else if 0 ≤ f ∧ f < 9000 then (if σ 24 f < 0 then some (σ, 0) else if 0 ≤ f ∧ f < 9000 then ((mc_start σ (σ 24 f) x1 x3).bind fun p2 => some (p2.1, 1)) else none) else none := by
    rw [gt_start_e, fr_named_e, e1]
    rfl
  have v3 := PU.2.1.2.2.1
  rcases fc with ⟨f1, f2⟩ | ⟨f1, f2⟩
  · have z : U 156 g = -1 := PU.2.1.2.2.2.1 g hg.1 hg.2 fun f' w => f2 f' w.1.1 w.1.2 (by rw [w.2.2, gS])
    refine ⟨σ, U, 0, by rw [eC, if_pos (by omega)], by rw [eM, if_pos (by omega)], RU⟩
  have z : U 156 g = σ 24 f := v3 f g ⟨f1, hg, by rw [f2, gS]⟩
  have f9 : 0 ≤ f ∧ f < 9000 := by omega
  by_cases y : σ 24 f < 0
  · exact ⟨σ, U, 0, by rw [eC, if_neg (by omega), if_pos f9, if_pos y], by rw [eM, if_pos (by omega)], RU⟩
  have fr := P.2.1.1.2.1 f f1.1 f1.2
  generalize er : σ 24 f = r at *
  have rr : 0 ≤ r ∧ r < 60 := by omega
  obtain ⟨Y, c0, c1, c2, c3, c4, c5, c6, c7⟩ := lay_c (σ := σ) (x1 := x1) (x3 := x3) rr
  obtain ⟨V, d0, d1, d2, d3, d4, d5, d6, d7⟩ := lay_m (τ := U) (x1 := x1) (x3 := x3) g9
  have e156 : V 156 g = r := by rw [d1 156 (by decide) (by decide) (by decide) (by decide)]; exact z
  rw [e156] at d0
  -- doctored
  generalize eV : gW V 119 127 0 = V'
  have v1 : ∀ a, a ≠ 119 → a ≠ 127 → a ≠ 221 → a ≠ 222 → V' a = U a := fun a q1 q2 q3 q4 => by rw [← eV, gW_cell q1, d1 a q1 q2 q3 q4]
  have v127 : V' 127 = V 127 := by rw [← eV, gW_cell (by decide)]
  have v221 : V' 221 = V 221 := by rw [← eV, gW_cell (by decide)]
  have v222 : V' 222 = V 222 := by rw [← eV, gW_cell (by decide)]
  have v2 : ∀ i, i ≠ 127 → V' 119 i = V 119 i := fun i q => by rw [← eV, gW_i q]
  have v0 : V' 119 127 = 0 := by rw [← eV, gW_at]
  have PV : rPg Y V' := PU.nr ⟨fun a q => c1 a (by omega) (by omega) (by omega) (by omega), fun i q => c2 i (Or.inl q), c3.1, c3.2.1, c3.2.2.1, c3.2.2.2⟩ ⟨fun a q => v1 a (by omega) (by omega) (by omega) (by omega), fun i q => by rw [v2 i (by omega), d3 i (by omega)], by rw [v2 12 (by decide)]; exact d4.2.1, by rw [v2 13 (by decide)]; exact d4.2.2.1, by rw [v2 16 (by decide)]; exact d4.2.2.2, fun i q1 q2 => by rw [v127]; exact d2 i q1 q2⟩
  have y8 : Y 8 = σ 8 := c1 8 (by decide) (by decide) (by decide) (by decide)
  have four : rPr Y V' ∧ rNo Y V' ∧ rRm Y V' ∧ rBy Y V' := by
    obtain ⟨⟨-, P2⟩, N, Mm, B4⟩ := R4
    refine ⟨⟨PV, ?_⟩, N.mv (fun a q => c1 a (by omega) (by omega) (by omega) (by omega)) (v1 179 (by decide) (by decide) (by decide) (by decide)), ?_, by rw [c1 1 (by decide) (by decide) (by decide) (by decide)]; exact B4.1, by rw [v1 134 (by decide) (by decide) (by decide) (by decide)]; exact B4.2.1, B4.2.2.mv (fun a q => v1 a (by omega) (by omega) (by omega) (by omega)) (by rw [v2 56 (by decide), d3 56 (by decide)])⟩
    · unfold rRp at P2 ⊢
      rw [y8, c1 24 (by decide) (by decide) (by decide) (by decide), c1 25 (by decide) (by decide) (by decide) (by decide)]
      exact P2
    · unfold rRm cRm mRm at Mm ⊢
      rw [y8, c2 7 (by decide), c2 8 (by decide), c2 9 (by decide), c1 42 (by decide) (by decide) (by decide) (by decide), v2 9 (by decide), v2 10 (by decide), v2 15 (by decide), v2 56 (by decide), d3 9 (by decide), d3 10 (by decide), d3 15 (by decide), d3 56 (by decide)]
      exact Mm
  have hTo : rTo Y V' := by
    unfold rTo at hto ⊢
    rw [v1 224 (by decide) (by decide) (by decide) (by decide), c4 36 (by decide) (by decide) (by decide) (by decide) (by decide) (by decide) (by decide) (by decide) (by decide), c4 37 (by decide) (by decide) (by decide) (by decide) (by decide) (by decide) (by decide) (by decide) (by decide), c4 38 (by decide) (by decide) (by decide) (by decide) (by decide) (by decide) (by decide) (by decide) (by decide), c4 39 (by decide) (by decide) (by decide) (by decide) (by decide) (by decide) (by decide) (by decide) (by decide), c4 40 (by decide) (by decide) (by decide) (by decide) (by decide) (by decide) (by decide) (by decide) (by decide), c4 41 (by decide) (by decide) (by decide) (by decide) (by decide) (by decide) (by decide) (by decide) (by decide), c4 42 (by decide) (by decide) (by decide) (by decide) (by decide) (by decide) (by decide) (by decide) (by decide)]
    exact hto
  have h119 : U 119 1 = σ 87 5 := RU.b.2.2.2.2.2.2.2.2.2
  have hCt : rCt Y V' := by
    unfold rCt
    rw [c5.2.1, c5.2.2.1, c5.2.2.2.2.1, c5.2.2.2.2.2, c3.2.2.2, v0, v2 117 (by decide), v2 118 (by decide), v2 122 (by decide), v2 126 (by decide), v2 11 (by decide), v2 12 (by decide), v2 13 (by decide), v2 1 (by decide), d6.1, d5.2.1, d5.2.2.2.1, d5.2.2.2.2, d4.1, d4.2.1, d4.2.2.1, d3 1 (by decide), c4 5 (by decide) (by decide) (by decide) (by decide) (by decide) (by decide) (by decide) (by decide) (by decide)]
    exact ⟨⟨rfl, rfl⟩, ⟨rfl, by decide, by decide⟩, rfl, ⟨rfl, by decide⟩, fun i q1 q2 q3 => by omega, ⟨rfl, by decide⟩, h119, rfl⟩
  have hOb : rOb Y V' := by
    unfold rOb
    rw [c5.2.2.2.1, v2 95 (by decide), d5.1]
    exact ⟨⟨by decide, by decide, rfl⟩, fun o q1 q2 => by omega⟩
  have r4 : 4 ≤ r := by
    by_cases w : 4 ≤ r
    · exact w
    · have h := P.2.2.2.2.2.2.2.2.2.2.2.2.2.2.1.2.2 f f1.1 f1.2 (by omega) (by omega)
      rw [f2, er] at h
      have c : r = 0 ∨ r = 1 ∨ r = 2 ∨ r = 3 := by omega
      rcases c with c | c | c | c <;> rw [c] at h <;> exact absurd h (by decide +kernel)
  obtain ⟨S1, T1, pT, hT, θ, s1, s2, RRs⟩ := start_rr (r := r) four hTo c5.1 (by rw [v2 121 (by decide)]; exact d5.2.2.1) (by rw [v2 123 (by decide)]; exact d6.2.1) (by rw [v2 124 (by decide)]; exact d6.2.2.1) (by rw [v2 125 (by decide)]; exact d6.2.2.2) hOb hCt ⟨r4, by rw [y8]; omega⟩ c5.2.2.1 c5.2.2.2.2.1 (fun j j0 j1 => by
    rw [v221, v222]
    by_cases w : j = 0
    · rw [w, show (0 : Int) + 1 + 0 = 1 by decide, c6.1, c6.2.1, d7.1, d7.2.1]
      exact Or.inl ⟨rfl, rfl, rfl, h1⟩
    · rw [show j = 1 by omega, show (0 : Int) + 1 + 1 = 2 by decide, c6.2.2.1, c6.2.2.2, d7.2.2.1, d7.2.2.2]
      exact Or.inl ⟨rfl, rfl, rfl, h3⟩)
  have G := fr_inl fm_md_activate (md_activate_l V' r 0 2 (-1)) s2
  have ov := ov_inl (δ := V) ri_md_activate (md_activate_l V' r 0 2 (-1)) (md_activate_l (gO V V') r 0 2 (-1)) s2
  rw [show gO V V' = V by rw [← eV]; exact gO_127] at ov
  have hg11 : ∀ i, i = 11 ∨ i = 12 ∨ i = 13 ∨ i = 16 → gO V T1 119 i = T1 119 i := fun i q => by
    have h2 : T1 119 i = V' 119 i := by
      rcases q with q | q | q | q
      · rw [q]; exact G.f 119 11 1 (by decide +kernel) (by decide) (by decide)
      · rw [q]; exact G.f 119 12 1 (by decide +kernel) (by decide) (by decide)
      · rw [q]; exact G.f 119 13 1 (by decide +kernel) (by decide) (by decide)
      · rw [q]; exact G.f 119 16 1 (by decide +kernel) (by decide) (by decide)
    rw [h2, v2 i (by omega)]
    unfold gO
    rw [if_pos (by rcases q with q | q | q | q <;> rw [q] <;> decide)]
  have hgo : ∀ a i, (a ≠ 119 ∨ i ≠ 127) → gO V T1 a i = T1 a i := fun a i q => by
    by_cases w : gDr a i = true
    · unfold gDr at w
      simp only [Bool.and_eq_true, Bool.or_eq_true, decide_eq_true_eq] at w
      rw [w.1]
      exact hg11 i (by omega)
    · exact gO_n (by cases hw : gDr a i with | true => exact absurd hw w | false => rfl)
  have eg : md_goOn (gO V T1) 0 = md_goOn_b15 (gW (gW (gW (gO V T1) 119 119 0) 119 120 0) 119 127 0) := md_goOn_e _ 0
  generalize eT : gW (gW (gW (gO V T1) 119 119 0) 119 120 0) 119 127 0 = τ1 at eg
  have t119 : τ1 119 119 = 0 := by rw [← eT, gW_i (by decide), gW_i (by decide), gW_at]
  have t120 : τ1 119 120 = 0 := by rw [← eT, gW_i (by decide), gW_at]
  have w1 : RR S1 τ1 pT hT 0 (-1) (-1) θ := by
    refine RRs.lw ⟨fun _ _ => rfl, fun _ _ _ => rfl, fun _ _ _ => rfl, fun _ _ _ => rfl, fun _ _ _ => rfl, fun _ _ _ => rfl⟩ ⟨fun a q => funext fun i => ?_, fun i q => ?_, fun i => ?_⟩ ?_
    · rw [← eT, gW_c (by omega), gW_c (by omega), gW_c (by omega), hgo a i (by omega)]
    · rw [← eT, gW_i (by omega), gW_i (by omega), gW_i (by omega), hgo 119 i (by omega)]
    · rw [← eT, gW_c (by decide), gW_c (by decide), gW_c (by decide), hgo 134 i (by omega)]
      exact RRs.1.1.2.2.2.2.1 i
    · rw [← eT, gW_at]
      exact RRs.1.2.2.2.2.1.2.2.2.2.2.2.2.symm
  have th := w1.2.2.2.2.1
  have C34 := w1.1.2.2.2.2.1.2.2.2.1.2
  have y41 : 0 ≤ Y 87 41 ∧ Y 87 41 ≤ 1000000000 := hTo.2.2.2.2.2.2.2.2.1
  have gS1 : gb8 119 S1 := b8_inl bm_mc_activate (mc_activate_l _ r 0 2 (-1)) s1 ((c7 R.2.1).w (by decide +kernel))
  obtain ⟨S, T, g1, g2, g3⟩ := sim θ.toNat (wM τ1).toNat S1 τ1 pT hT 0 (-1) (-1) θ 0 0 rfl rfl w1 gS1 t119 t120 (Int.le_refl _) (by omega)
  have eC' : gt_start σ x1 x3 = some (S, 1) := by
    rw [eC, if_neg (by omega), if_pos f9, if_neg y, if_pos f9, c0, more_c y41]
    simp only [Option.bind_some]
    rw [s1]
    simp only [Option.bind_some]
    rw [mc_go_e, g1]
    rfl
  have eM' : md_start τ x1 x3 = some (T, 1) := by
    rw [eM, if_neg (by omega), d0, ov]
    simp only [Option.bind_some]
    rw [eg, g2]
    rfl
  have F' := fr_inl fm_gt_start (gt_start_l σ x1 x3) eC'
  have G' := fr_inl fm_md_start (md_start_l τ x1 x3) eM'
  refine ⟨S, T, 1, eC', eM', R.1.mv (fun i q1 q2 => F'.f 117 7 3 (by decide +kernel) (by omega) (by omega)) (F'.r 118 1 (by decide +kernel) (by omega) (by omega)) (fun i q1 q2 => G'.f 119 153 3 (by decide +kernel) (by omega) (by omega)) (G'.r 226 1 (by decide +kernel) (by omega) (by omega)), b8_inl bm_gt_start (gt_start_l σ x1 x3) eC' R.2.1, ?_⟩
  rcases g3 with w | ⟨-, w⟩
  · exact Or.inr (Or.inl w)
  · exact Or.inr (Or.inr w)
end STP
