/-! load: both sides, whole; what is related though the model's marks of a run's heap are old -/
/-- as τ, the marks of a run's heap apart -/
def agO (τ τ' : gM) : Prop := ∀ a k, gDr a k = false → τ' a k = τ a k
theorem agO.e {τ τ' : gM} (h : agO τ τ') : gO τ τ' = τ := by
  funext a k
  unfold gO
  by_cases z : gDr a k = true
  · rw [if_pos z]
  · rw [if_neg z]
    exact h a k (by cases hw : gDr a k with | true => exact absurd hw z | false => rfl)
theorem gO_ag {τ T : gM} : agO (gO τ T) T := fun a k h => (gO_n h).symm
theorem agO.c {τ τ' : gM} (h : agO τ τ') {a : Int} (ha : a ≠ 119) : τ' a = τ a := funext fun k => h a k (by unfold gDr; rw [decide_eq_false ha]; rfl)
theorem agO.f {τ τ' : gM} (h : agO τ τ') {i : Int} (h1 : i ≠ 11) (h2 : i ≠ 12) (h3 : i ≠ 13) (h4 : i ≠ 16) (h5 : i ≠ 127) : τ' 119 i = τ 119 i := h 119 i (by unfold gDr; rw [decide_eq_false h1, decide_eq_false h2, decide_eq_false h3, decide_eq_false h4, decide_eq_false h5]; rfl)
section LW
variable {σ τ S T : gM} {x : Int}
/-- the run's heap marked as empty -/
def dcT (τ : gM) : gM := gW (gW (gW τ 119 12 60000) 119 13 0) 119 16 2000
theorem dcT_ag : agO τ (dcT τ) := fun a k h => by
  unfold dcT gW
  by_cases z : a = 119
  · rw [z] at h
    unfold gDr at h
    simp only [decide_true, Bool.true_and, Bool.or_eq_false_iff, decide_eq_false_iff_not] at h
    obtain ⟨⟨⟨⟨h1, h2⟩, h3⟩, h4⟩, h5⟩ := h
    rw [if_neg (fun q => h4 q.2), if_neg (fun q => h3 q.2), if_neg (fun q => h2 q.2)]
  · rw [if_neg (fun q => z q.1), if_neg (fun q => z q.1), if_neg (fun q => z q.1)]
theorem load_pair (R : RW σ τ) (b8 : gb8 227 τ) (h39 : ∀ k, 0 ≤ k → k < 7 → σ 39 k = kX k) : ∃ S T T' r, gt_load σ x = some (S, r) ∧ md_load τ x = some (T, r) ∧ agO T T' ∧ RW S T' ∧ (S 87 23 = 0 ∨ (S = σ ∧ T' = τ ∧ T = τ)) := by
  obtain ⟨⟨f1, f2, f3, f4, f5⟩, g8, -⟩ := id R
  have B := R.b
  by_cases x0 : x < 0
  · exact ⟨σ, τ, τ, -2, by rw [gt_load_e, if_pos x0], by rw [md_load_e, if_pos x0], fun _ _ _ => rfl, R, Or.inr ⟨rfl, rfl, rfl⟩⟩
  by_cases x1 : σ 117 7 < x
  · exact ⟨σ, τ, τ, -2, by rw [gt_load_e, if_neg x0, if_pos x1], by rw [md_load_e, if_neg x0, f1.2.2, if_pos x1], fun _ _ _ => rfl, R, Or.inr ⟨rfl, rfl, rfl⟩⟩
  -- the doctored model
  have v1 : ∀ a, a ≠ 119 → dcT τ a = τ a := fun a q => by unfold dcT; rw [gW_cell q, gW_cell q, gW_cell q]
  have v2 : ∀ i, i ≠ 12 → i ≠ 13 → i ≠ 16 → dcT τ 119 i = τ 119 i := fun i q1 q2 q3 => by unfold dcT; rw [gW_i q3, gW_i q2, gW_i q1]
  have v3 : dcT τ 119 12 = 60000 ∧ dcT τ 119 13 = 0 ∧ dcT τ 119 16 = 2000 := by
    unfold dcT
    exact ⟨by rw [gW_i (by decide), gW_i (by decide), gW_at], by rw [gW_i (by decide), gW_at], by rw [gW_at]⟩
  have ov : ∀ T r, md_load (dcT τ) x = some (T, r) → md_load τ x = some (gO τ T, r) := fun T r e => by
    have := ov_inl (δ := τ) ri_md_load (md_load_l (dcT τ) x) (md_load_l (gO τ (dcT τ)) x) e
    rw [dcT_ag.e] at this
    exact this
  generalize dcT τ = τd at v1 v2 v3 ov
  obtain ⟨T0, e0, u1, u2, u3⟩ := ld_22 (τ := τd) (x := x) (by rw [v1 226 (by decide)]; exact f3.2) (by omega) x.toNat 0 (gW τd 119 23 x) (by decide) (by omega) (gW_cell (by decide))
  have eL : md_load τd x = md_load_b22 (gW τd 119 23 x) x 0 := by
    rw [md_load_e, if_neg x0, v2 153 (by decide) (by decide) (by decide), f1.2.2, if_neg x1]
  obtain ⟨N, n0, n1, n2, n3, -⟩ := noRun_s (τ := gW T0 119 153 0)
  rw [n0] at e0
  simp only [Option.bind_some] at e0
  have nA : ∀ a, a ≠ 119 → a ≠ 134 → N a = τ a := fun a q1 q2 => by rw [n1 a q1, gW_cell q1, u1 a q2, gW_cell q1, v1 a q1]
  have n134 : N 134 = T0 134 := by rw [n1 134 (by decide), gW_cell (by decide)]
  have nF : ∀ i, i ≠ 12 → i ≠ 13 → i ≠ 16 → i ≠ 23 → i ≠ 95 → i ≠ 117 → i ≠ 118 → i ≠ 121 → i ≠ 122 → i ≠ 126 → i ≠ 128 → i ≠ 129 → i ≠ 130 → i ≠ 153 → N 119 i = τ 119 i := fun i q1 q2 q3 q4 q5 q6 q7 q8 q9 q10 q11 q12 q13 q14 => by rw [n2 i q5 q6 q7 q8 q9 q10 q11 q12 q13, gW_i q14, u1 119 (by decide), gW_i q4, v2 i q1 q2 q3]
  have nD : ∀ i, i = 12 ∨ i = 13 ∨ i = 16 → N 119 i = τd 119 i := fun i q => by rw [n2 i (by omega) (by omega) (by omega) (by omega) (by omega) (by omega) (by omega) (by omega) (by omega), gW_i (by omega), u1 119 (by decide), gW_i (by omega)]
  have n23 : N 119 23 = x := by rw [n2 23 (by decide) (by decide) (by decide) (by decide) (by decide) (by decide) (by decide) (by decide) (by decide), gW_i (by decide), u1 119 (by decide), gW_at]
  have n153 : N 119 153 = 0 := by rw [n2 153 (by decide) (by decide) (by decide) (by decide) (by decide) (by decide) (by decide) (by decide) (by decide), gW_at]
  have i134 : ∀ i, i8 (N 134 i) := fun i => by
    rw [n134]
    by_cases z : 0 ≤ i ∧ i < x
    · rw [u2 i z.1 z.2, v1 226 (by decide)]; exact f3.2 i
    · rw [u3 i (by omega), gW_cell (by decide), v1 134 (by decide)]
      exact B.1.2.2.2.2 i
  have hX : tX (gW (gW (gW (gW (gW (gW (gW (gW σ 117 7 0) 68 10 0) 68 19 0) 69 0 118) 69 1 0) 69 2 x) 69 3 0) 69 8 0) (gW (gW (gW (gW N 119 24 0) 119 28 0) 119 54 0) 119 43 0) := by
    generalize eA : gW (gW (gW (gW (gW (gW (gW (gW σ 117 7 0) 68 10 0) 68 19 0) 69 0 118) 69 1 0) 69 2 x) 69 3 0) 69 8 0 = A
    have a0 : A 69 0 = 118 := by rw [← eA, gW_i (by decide), gW_i (by decide), gW_i (by decide), gW_i (by decide), gW_at]
    have a1 : A 69 1 = 0 := by rw [← eA, gW_i (by decide), gW_i (by decide), gW_i (by decide), gW_at]
    have a2 : A 69 2 = x := by rw [← eA, gW_i (by decide), gW_i (by decide), gW_at]
    have a3 : A 118 = σ 118 := by rw [← eA, gW_cell (by decide), gW_cell (by decide), gW_cell (by decide), gW_cell (by decide), gW_cell (by decide), gW_cell (by decide), gW_cell (by decide), gW_cell (by decide)]
    have c23 : gW (gW (gW (gW N 119 24 0) 119 28 0) 119 54 0) 119 43 0 119 23 = x := by rw [gW_i (by decide), gW_i (by decide), gW_i (by decide), gW_i (by decide), n23]
    have c134 : gW (gW (gW (gW N 119 24 0) 119 28 0) 119 54 0) 119 43 0 134 = N 134 := by rw [gW_cell (by decide), gW_cell (by decide), gW_cell (by decide), gW_cell (by decide)]
    unfold tX
    rw [a0, a1, a2, a3, c23, c134]
    refine ⟨Or.inr (by omega), by omega, rfl, fun k k0 k1 => ⟨?_, i134 k⟩⟩
    rw [Int.zero_add, n134, u2 k k0 k1, v1 226 (by decide), f2 k k0 (by omega)]
  have a117 : ∀ a, a ≠ 117 → gW σ 117 7 0 a = σ a := fun a q => gW_cell q
  rcases read_al2 (σ := gW σ 117 7 0) (τ := N) (c := 118) (p := 0) (n := x) (by decide) hX with ⟨S1, T1, r1, r2, r3, r4, r5, rq, r6, r7, r8⟩ | ⟨S1, T1, r1, r2, r3⟩
  · have kc := ps_read_fr r1
    obtain ⟨kt, k134, k23⟩ := md_readText_fr r2
    have s39 : S1 39 = σ 39 := by rw [kc.1 39 (by decide), a117 39 (by decide)]
    have tF : ∀ i, 0 ≤ i → i < 156 → i < 23 ∨ 31 < i → i ≠ 43 → i ≠ 44 → i ≠ 54 → T1 119 i = N 119 i := kt.2
    obtain ⟨Z, X, z1, z2, z3, z4, z5⟩ := load_ok r3 r4 r5 rq r6 r7 (by rw [k134]; exact i134) (by rw [s39]; exact h39) (by rw [tF 12 (by decide) (by decide) (by decide) (by decide) (by decide) (by decide), nD 12 (by decide)]; exact v3.1) (by rw [tF 13 (by decide) (by decide) (by decide) (by decide) (by decide) (by decide), nD 13 (by decide)]; exact v3.2.1) (by rw [tF 16 (by decide) (by decide) (by decide) (by decide) (by decide) (by decide), nD 16 (by decide)]; exact v3.2.2) (by rw [kt.1 121 (by decide), nA 121 (by decide) (by decide)]; exact b8 121 (by decide +kernel) (by decide)) (by rw [kt.1 225 (by decide), nA 225 (by decide) (by decide)]; exact b8 225 (by decide +kernel) (by decide)) (fun i q => by rw [tF i (by omega) (by omega) (by omega) (by omega) (by omega) (by omega)]; exact n3 i (by omega)) (by rw [tF 1 (by decide) (by decide) (by decide) (by decide) (by decide) (by decide), nF 1 (by decide) (by decide) (by decide) (by decide) (by decide) (by decide) (by decide) (by decide) (by decide) (by decide) (by decide) (by decide) (by decide) (by decide), kc.2.2.2.2.2.1 5 (by decide) (by decide), a117 87 (by decide)]; exact B.2.2.2.2.2.2.2.2.2)
    have eC : gt_load σ x = some (Z, Z 8 31) := by
      rw [gt_load_e, if_neg x0, if_neg x1, r1]
      simp only [Option.bind_some]
      rw [if_neg (by decide), gt_load_b53_e, if_neg (by decide)]
      exact z1
    have eM : md_load τd x = some (X, Z 8 31) := by
      rw [eL, e0, r2]
      simp only [Option.bind_some, gtry]
      exact z2
    have gZ := b8_inl bm_gt_load (gt_load_l σ x) eC g8
    have RZ := z3 (gZ 1 (by decide +kernel) (by decide))
    have F := fr_inl fm_gt_load (gt_load_l σ x) eC
    have G := fr_inl fm_md_load (md_load_l τd x) eM
    have h7 : Z 117 7 = 0 ∧ X 119 153 = 0 := ⟨by rw [z5.1, kc.2.2.2.2.2.2 7 (by decide) (by decide), gW_at], by rw [z5.2, tF 153 (by decide) (by decide) (by decide) (by decide) (by decide) (by decide), n153]⟩
    refine ⟨Z, gO τ X, X, Z 8 31, eC, ov X _ eM, gO_ag, ⟨⟨⟨by omega, by omega, by omega⟩, fun i q1 q2 => by omega, ⟨?_, ?_⟩, by rw [z4.2.2.1, z4.1], by rw [z4.2.2.2, z4.2.1]⟩, gZ, Or.inl RZ⟩, Or.inl RZ.2.2.1⟩
    · exact gZ 118 (by decide +kernel) (by decide)
    · rw [G.r 226 1 (by decide +kernel) (by omega) (by omega), v1 226 (by decide)]; exact f3.2
  · have kc := ps_read_fr r1
    obtain ⟨kt, k134, k23⟩ := md_readText_fr r2
    have tF : ∀ i, 0 ≤ i → i < 156 → i < 23 ∨ 31 < i → i ≠ 43 → i ≠ 44 → i ≠ 54 → T1 119 i = N 119 i := kt.2
    generalize eA : gW (gW S1 117 8 (S1 69 8)) 117 9 (S1 69 9) = A
    have a1 : ∀ a, a ≠ 117 → A a = S1 a := fun a q => by rw [← eA, gW_cell q, gW_cell q]
    obtain ⟨Z, m0, m1, m2, m3, m4, m5⟩ := none_s (σ := A)
    have eC : gt_load σ x = some (Z, -1) := by
      rw [gt_load_e, if_neg x0, if_neg x1, r1]
      simp only [Option.bind_some]
      rw [if_pos trivial, gt_load_b53_e, if_pos rfl, gt_load_b75_e, if_pos rfl]
      have e69 : gW S1 117 8 (S1 69 8) = gW S1 117 8 (S1 69 8) := rfl
      rw [eA, m0]
      rfl
    generalize eX : gW (gW T1 119 154 (T1 119 30)) 119 155 (T1 119 31) = X
    have eM : md_load τd x = some (X, -1) := by
      rw [eL, e0, r2]
      simp only [Option.bind_some, gtry]
      rw [eX]
    have x1' : ∀ a, a ≠ 119 → X a = T1 a := fun a q => by rw [← eX, gW_cell q, gW_cell q]
    have x2' : ∀ i, i ≠ 154 → i ≠ 155 → X 119 i = T1 119 i := fun i q1 q2 => by rw [← eX, gW_i q2, gW_i q1]
    have x154 : X 119 154 = T1 119 30 ∧ X 119 155 = T1 119 31 := by rw [← eX]; exact ⟨by rw [gW_i (by decide), gW_at], by rw [gW_at]⟩
    clear eX
    have eT := ov X _ eM
    -- the real model's last state
    have tg : ∀ a, a ≠ 119 → gO τ X a = X a := fun a q => funext fun k => gO_n (by unfold gDr; rw [decide_eq_false q]; rfl)
    have tgf : ∀ i, i ≠ 11 → i ≠ 12 → i ≠ 13 → i ≠ 16 → i ≠ 127 → gO τ X 119 i = X 119 i := fun i h1 h2 h3 h4 h5 => gO_n (by unfold gDr; rw [decide_eq_false h1, decide_eq_false h2, decide_eq_false h3, decide_eq_false h4, decide_eq_false h5]; rfl)
    have tgd : ∀ i, i = 12 ∨ i = 13 → gO τ X 119 i = τ 119 i := fun i q => by
      unfold gO
      rw [if_pos (by rcases q with q | q <;> rw [q] <;> decide)]
    generalize gO τ X = T at eT tg tgf tgd
    generalize eY : gW T 119 16 2000 = Y
    have y1 : ∀ a, (121 ≤ a ∧ a ≤ 133) ∨ a = 144 ∨ (155 ≤ a ∧ a ≤ 226) → Y a = τ a := fun a q => by rw [← eY, gW_cell (by omega), tg a (by omega), x1' a (by omega), kt.1 a q, nA a (by omega) (by omega)]
    have y2 : ∀ i, 0 ≤ i → i < 153 → i < 23 ∨ 31 < i → i ≠ 43 → i ≠ 44 → i ≠ 54 → i ≠ 11 → i ≠ 16 → i ≠ 95 → i ≠ 117 → i ≠ 118 → i ≠ 121 → i ≠ 122 → i ≠ 126 → i ≠ 127 → i ≠ 128 → i ≠ 129 → i ≠ 130 → Y 119 i = τ 119 i := fun i a1 a2 a3 a4 a5 a6 a7 a8 a9 a10 a11 a12 a13 a14 a15 a16 a17 a18 => by
      rw [← eY, gW_i a8]
      by_cases z : i = 12 ∨ i = 13
      · exact tgd i z
      · rw [tgf i a7 (by omega) (by omega) a8 a15, x2' i (by omega) (by omega), tF i a1 (by omega) a3 a4 a5 a6, nF i (by omega) (by omega) a8 (by omega) a9 a10 a11 a12 a13 a14 a16 a17 a18 (by omega)]
    have y3 : ∀ i, i = 95 ∨ i = 117 ∨ i = 118 ∨ i = 121 ∨ i = 122 ∨ i = 126 → Y 119 i = 0 := fun i q => by rw [← eY, gW_i (by omega), tgf i (by omega) (by omega) (by omega) (by omega) (by omega), x2' i (by omega) (by omega), tF i (by omega) (by omega) (by omega) (by omega) (by omega) (by omega)]; exact n3 i (by omega)
    have y16 : Y 119 16 = 2000 := by rw [← eY, gW_at]
    have y134 : ∀ i, i8 (Y 134 i) := fun i => by rw [← eY, gW_c (by decide), tg 134 (by decide), x1' 134 (by decide), k134]; exact i134 i
    have y153 : Y 119 153 = 0 ∧ Y 119 154 = S1 69 8 ∧ Y 119 155 = S1 69 9 := by
      rw [← eY, gW_i (by decide), gW_i (by decide), gW_i (by decide), tgf 153 (by decide) (by decide) (by decide) (by decide) (by decide), tgf 154 (by decide) (by decide) (by decide) (by decide) (by decide), tgf 155 (by decide) (by decide) (by decide) (by decide) (by decide), x154.1, x154.2, x2' 153 (by decide) (by decide), tF 153 (by decide) (by decide) (by decide) (by decide) (by decide) (by decide), n153]
      exact ⟨rfl, r3.2.1.symm, r3.2.2.symm⟩
    have yT : agO T Y := fun a k h => by
      rw [← eY]
      unfold gW
      by_cases z : a = 119 ∧ k = 16
      · rw [z.1, z.2] at h
        exact absurd h (by decide)
      · rw [if_neg z]
    have lc : lwC σ S1 := ⟨fun a q => by rw [kc.1 a (by omega), a117 a (by omega)], fun i q1 q2 => by rw [kc.2.1 i q1 (by omega), a117 0 (by decide)], fun i q1 q2 => by rw [kc.2.2.1 i q1 q2, a117 8 (by decide)], fun i q1 q2 => by rw [kc.2.2.2.1 i q1 (by omega), a117 42 (by decide)], fun i q1 q2 => by rw [kc.2.2.2.2.1 i q1 q2, a117 52 (by decide)], fun i q1 q2 => by rw [kc.2.2.2.2.2.1 i q1 (by omega), a117 87 (by decide)]⟩
    have lt : lwT τ τ := ⟨fun _ _ => rfl, fun _ _ => rfl, B.1.2.2.2.2⟩
    obtain ⟨⟨P1, P2⟩, Nn, Mm, Bb⟩ := lw_four0 B.1 lc lt
    have hto := B.2.1.lw lc lt
    have zA : ∀ a, a ≠ 0 → a ≠ 87 → a ≠ 117 → Z a = S1 a := fun a q1 q2 q3 => by rw [m1 a q1 q2, a1 a q3]
    have z0 : ∀ i, i < 10 ∨ 13 < i → Z 0 i = S1 0 i := fun i q => by rw [m2 i q, a1 0 (by decide)]
    have P3 : rPg Z Y := P1.nr2 ⟨fun a q => zA a (by omega) (by omega) (by omega), fun i q => z0 i (Or.inl q), m3.1, m3.2.1, m3.2.2.1, m3.2.2.2⟩ ⟨fun a q => y1 a (by omega), fun i q => y2 i (by omega) (by omega) (by omega) (by omega) (by omega) (by omega) (by omega) (by omega) (by omega) (by omega) (by omega) (by omega) (by omega) (by omega) (by omega) (by omega) (by omega) (by omega), y16⟩
    have gZ := b8_inl bm_gt_load (gt_load_l σ x) eC g8
    have z87 : ∀ i, i ≠ 19 → i ≠ 20 → i ≠ 23 → i ≠ 24 → i ≠ 25 → i ≠ 31 → i ≠ 34 → i ≠ 35 → 0 ≤ i → i < 48 → Z 87 i = σ 87 i := fun i q1 q2 q3 q4 q5 q6 q7 q8 q9 q10 => by rw [m4 i q1 q2 q3 q4 q5 q6 q7 q8, a1 87 (by decide), kc.2.2.2.2.2.1 i q9 q10, a117 87 (by decide)]
    have z117 : Z 117 = A 117 := m1 117 (by decide) (by decide)
    have za : Z 117 7 = 0 ∧ Z 117 8 = S1 69 8 ∧ Z 117 9 = S1 69 9 := by
      rw [z117, ← eA, gW_i (by decide), gW_i (by decide), gW_i (by decide), gW_at, gW_at, kc.2.2.2.2.2.2 7 (by decide) (by decide), gW_at]
      exact ⟨rfl, rfl, rfl⟩
    have y10 := y2 10 (by decide) (by decide) (by decide) (by decide) (by decide) (by decide) (by decide) (by decide) (by decide) (by decide) (by decide) (by decide) (by decide) (by decide) (by decide) (by decide) (by decide) (by decide)
    have y9 := y2 9 (by decide) (by decide) (by decide) (by decide) (by decide) (by decide) (by decide) (by decide) (by decide) (by decide) (by decide) (by decide) (by decide) (by decide) (by decide) (by decide) (by decide) (by decide)
    have y56 := y2 56 (by decide) (by decide) (by decide) (by decide) (by decide) (by decide) (by decide) (by decide) (by decide) (by decide) (by decide) (by decide) (by decide) (by decide) (by decide) (by decide) (by decide) (by decide)
    have y15 := y2 15 (by decide) (by decide) (by decide) (by decide) (by decide) (by decide) (by decide) (by decide) (by decide) (by decide) (by decide) (by decide) (by decide) (by decide) (by decide) (by decide) (by decide) (by decide)
    have RZ : RN0 Z Y := by
      refine ⟨⟨⟨⟨P3, ?_⟩, Nn.mv (fun a q => zA a (by omega) (by omega) (by omega)) (y1 179 (by decide)), ?_, gZ 1 (by decide +kernel) (by decide), y134⟩, ?_, by rw [y3 117 (by decide), m5 23 (by decide)], by rw [y3 118 (by decide), m5 24 (by decide)], by rw [y3 121 (by decide), m5 19 (by decide)], by rw [y3 122 (by decide), m5 20 (by decide)], by rw [y3 95 (by decide), m5 31 (by decide)], by rw [y3 126 (by decide), m5 34 (by decide)]; exact ⟨rfl, by decide⟩, fun i i0 i1 i2 => ?_, ?_⟩, m5 19 (by decide), m5 23 (by decide), m5 34 (by decide), ?_⟩
      · unfold rRp at P2 ⊢
        rw [zA 8 (by decide) (by decide) (by decide), zA 24 (by decide) (by decide) (by decide), zA 25 (by decide) (by decide) (by decide)]
        exact P2
      · unfold rRm cRm mRm at Mm ⊢
        rw [zA 8 (by decide) (by decide) (by decide), zA 42 (by decide) (by decide) (by decide), z0 7 (by decide), z0 8 (by decide), z0 9 (by decide), y9, y10, y15, y56]
        exact Mm
      · have h36 : ∀ i, 36 ≤ i → i ≤ 42 → Z 87 i = S1 87 i := fun i q1 q2 => by rw [m4 i (by omega) (by omega) (by omega) (by omega) (by omega) (by omega) (by omega) (by omega), a1 87 (by decide)]
        unfold rTo at hto ⊢
        rw [y1 224 (by decide), h36 36 (by decide) (by decide), h36 37 (by decide) (by decide), h36 38 (by decide) (by decide), h36 39 (by decide) (by decide), h36 40 (by decide) (by decide), h36 41 (by decide) (by decide), h36 42 (by decide) (by decide)]
        exact hto
      · rw [m5 34 (by decide)] at i2
        omega
      · rw [y2 1 (by decide) (by decide) (by decide) (by decide) (by decide) (by decide) (by decide) (by decide) (by decide) (by decide) (by decide) (by decide) (by decide) (by decide) (by decide) (by decide) (by decide) (by decide), z87 5 (by decide) (by decide) (by decide) (by decide) (by decide) (by decide) (by decide) (by decide) (by decide) (by decide)]
        exact B.2.2.2.2.2.2.2.2.2
      · rcases R.mn with w | ⟨w, -⟩
        · exact Or.inl (w.mv (fun a q => y1 a (by omega)) y56)
        · refine Or.inr ?_
          unfold slk at w ⊢
          rw [y9, y10, y56, zA 8 (by decide) (by decide) (by decide), zA 42 (by decide) (by decide) (by decide), lc.2.2.1 31 (by decide) (by decide), lc.2.2.2.1 6 (by decide) (by decide)]
          exact w
    refine ⟨Z, T, Y, -1, eC, eT, yT, ⟨⟨⟨by omega, by omega, by omega⟩, fun i q1 q2 => by omega, ⟨gZ 118 (by decide +kernel) (by decide), by rw [y1 226 (by decide)]; exact f3.2⟩, by rw [y153.2.1, za.2.1], by rw [y153.2.2, za.2.2]⟩, gZ, Or.inl RZ⟩, Or.inl RZ.2.2.1⟩
end LW
