/-! a run begins -/
section STA
variable {σ τ S T : gM} {pT hT : Int → Int} {m : Nat} {br co θ : Int}
/-- the name main is kept, it has a function number -/
theorem main_s (P : rPg σ τ) (t8 : ∀ i, i8 (τ 225 i)) (r1 : τ 119 10 < 9000) (r2 : τ 119 9 + 4 ≤ 60000) (r3 : τ 119 56 < 9000) :
    ∃ T k U g, md_keep τ 0 = some (T, k) ∧ md_functionOf T k = some (U, g) ∧ kfM τ U ∧ (0 ≤ g ∧ g < U 119 56) ∧ mS U (U 155 g) = tx 0 ∧ (mnK τ → ∀ a i, a ≠ 225 → U a i = τ a i) ∧ (U 119 10 ≤ τ 119 10 + 1 ∧ U 119 9 ≤ τ 119 9 + 4 ∧ U 119 56 ≤ τ 119 56 + 1) ∧ ∀ i, i8 (U 225 i) := by
  have e4 : gsl 0 = 4 := by decide +kernel
  obtain ⟨T, k, a1, a2, a3, a4, a5, a6, a7, a8, a9, a10, a11, a12, a13, a14⟩ := md_keep_s (s := 0) (τ := τ) (by decide) P.1.2.1 t8 r1 (by rw [e4]; exact r2)
  rw [e4] at a7
  have J := P.2.1.2.1
  have hm := P.1.2.1
  have k9 : 0 ≤ k ∧ k < 9000 := by omega
  have d : ∀ c, c ≠ 119 → (c < 121 ∨ 126 < c) → c ≠ 225 → T c = τ c := fun c q1 q2 q3 => funext fun i => a10 c i q1 (by omega) (by omega) (by omega) (by omega) (by omega) (by omega) q3
  have e155 := d 155 (by decide) (by decide) (by decide)
  have e156 := d 156 (by decide) (by decide) (by decide)
  have e186 := d 186 (by decide) (by decide) (by decide)
  have e56 := a11 56 (by decide) (by decide)
  have JT : fJ T := by
    obtain ⟨j1, j2, j3⟩ := J
    unfold fJ
    rw [e155, e186, e56]
    exact ⟨j1, fun g q1 q2 => ⟨⟨(j2 g q1 q2).1.1, by have := (j2 g q1 q2).1.2; omega⟩, (j2 g q1 q2).2⟩, j3⟩
  have j56 := J.1
  by_cases z : T 186 k < 0
  · -- a new function number
    have nk : ¬ mnK τ := fun ⟨g0, q1, q2⟩ => by
      have j := J.2.1 g0 q1.1 q1.2
      by_cases w : k = τ 119 10
      · exact (a9 w).2 _ j.1.1 j.1.2 q2
      · have eq := a8 w
        have em : mS T k = mS τ k := by unfold mS; rw [eq 122 k (by decide), eq 123 k (by decide), show T 121 = τ 121 from funext fun i => eq 121 i (by decide)]
        have kl : k < τ 119 10 := by have := eq 119 10 (by decide); omega
        have ek := hm.2.2.2.2.2.2.1 k (τ 155 g0) a3.1 kl j.1.1 j.1.2 (by rw [← em, a4, q2])
        rw [e186, ek, j.2] at z
        omega
    refine ⟨T, k, gW (gW (gW (gW T 155 (T 119 56) k) 156 (T 119 56) (-1)) 186 k (T 119 56)) 119 56 (T 119 56 + 1), T 119 56, a1, ?_, ?_, ?_, ?_, fun w => absurd w nk, ?_, ?_⟩
    · rw [md_functionOf_e, if_pos k9, if_pos z]
      have b56 : 0 ≤ T 119 56 ∧ T 119 56 < 9000 := by omega
      rw [if_pos b56, if_pos b56, if_pos k9, w32_e (x := T 119 56 + 1) (by omega) (by omega), show T 119 56 + 1 - 1 = T 119 56 by omega, w32_e (by omega) (by omega)]
    · generalize eU : gW (gW (gW (gW T 155 (T 119 56) k) 156 (T 119 56) (-1)) 186 k (T 119 56)) 119 56 (T 119 56 + 1) = U
      have u1 : ∀ a, a ≠ 119 → a ≠ 155 → a ≠ 156 → a ≠ 186 → U a = T a := fun a q1 q2 q3 q4 => by rw [← eU, gW_cell q1, gW_cell q4, gW_cell q3, gW_cell q2]
      have u2 : ∀ i, i ≠ 56 → U 119 i = T 119 i := fun i q => by rw [← eU, gW_i q, gW_c (by decide), gW_c (by decide), gW_c (by decide)]
      have u56 : U 119 56 = T 119 56 + 1 := by rw [← eU, gW_at]
      have u155 : ∀ g, U 155 g = if g = T 119 56 then k else T 155 g := fun g => by rw [← eU, gW_c (by decide), gW_c (by decide), gW_c (by decide), gW_if]
      have u156 : ∀ g, U 156 g = if g = T 119 56 then -1 else T 156 g := fun g => by rw [← eU, gW_c (by decide), gW_c (by decide), gW_if, gW_cell (by decide)]
      have u186 : ∀ n, U 186 n = if n = k then T 119 56 else T 186 n := fun n => by rw [← eU, gW_c (by decide), gW_if, gW_cell (by decide), gW_cell (by decide)]
      clear eU
      have eS : ∀ r, mS U r = mS T r := fun r => by unfold mS; rw [u1 121 (by decide) (by decide) (by decide) (by decide), u1 122 (by decide) (by decide) (by decide) (by decide), u1 123 (by decide) (by decide) (by decide) (by decide)]
      refine ⟨⟨mI_mv a2 (u2 9 (by decide)) (u2 10 (by decide)) (u2 12 (by decide)) (u2 13 (by decide)) fun a q1 q2 => u1 a (by omega) (by omega) (by omega) (by omega), ?_, ?_⟩, fun a q1 q2 q3 q4 q5 q6 => by rw [u1 a q1 q3 q4 q5, d a q1 q2 q6], fun i q1 q2 q3 => by rw [u2 i q3, a11 i q1 q2], fun r q => ?_, ⟨by rw [u2 10 (by decide)]; exact a6.1, by omega⟩, fun g q => ?_, fun g q1 q2 => ?_⟩
      · obtain ⟨j1, j2, j3⟩ := JT
        refine ⟨by omega, fun g q1 q2 => ?_, fun n q1 q2 => ?_⟩
        · rw [u155, u2 10 (by decide)]
          by_cases w : g = T 119 56
          · rw [if_pos w, u186, if_pos rfl]
            exact ⟨a3, w.symm⟩
          · rw [if_neg w, u186]
            have j := j2 g q1 (by omega)
            refine ⟨j.1, ?_⟩
            rw [if_neg (fun y => by rw [y] at j; omega)]
            exact j.2
        · rw [u186]
          by_cases w : n = k
          · rw [if_pos w, u155, if_pos rfl]
            exact Or.inr ⟨by omega, w.symm⟩
          · rw [if_neg w]
            rcases j3 n q1 q2 with y | ⟨y1, y2⟩
            · exact Or.inl y
            · refine Or.inr ⟨by omega, ?_⟩
              rw [u155, if_neg (by omega)]
              exact y2
      · rw [u1 121 (by decide) (by decide) (by decide) (by decide)]
        exact a13 P.1.2.2
      · obtain ⟨w1, w2, w3, w4⟩ := a5 r q
        refine ⟨?_, by rw [eS, w2], by rw [u1 122 (by decide) (by decide) (by decide) (by decide), w3], by rw [u1 123 (by decide) (by decide) (by decide) (by decide), w4]⟩
        unfold vM at w1 ⊢
        rw [u2 10 (by decide), u2 13 (by decide)]
        exact w1
      · rw [u155, u156, if_neg (by omega), if_neg (by omega), e155, e156]
        exact ⟨rfl, rfl⟩
      · rw [u156, if_pos (by omega)]
    · rw [gW_at]
      omega
    · have e1 : ∀ b, b ≠ 119 → b ≠ 155 → b ≠ 156 → b ≠ 186 → gW (gW (gW (gW T 155 (T 119 56) k) 156 (T 119 56) (-1)) 186 k (T 119 56)) 119 56 (T 119 56 + 1) b = T b := fun b q1 q2 q3 q4 => by rw [gW_cell q1, gW_cell q4, gW_cell q3, gW_cell q2]
      rw [show gW (gW (gW (gW T 155 (T 119 56) k) 156 (T 119 56) (-1)) 186 k (T 119 56)) 119 56 (T 119 56 + 1) 155 (T 119 56) = k by rw [gW_c (by decide), gW_c (by decide), gW_c (by decide), gW_at]]
      unfold mS at a4 ⊢
      rw [e1 121 (by decide) (by decide) (by decide) (by decide), e1 122 (by decide) (by decide) (by decide) (by decide), e1 123 (by decide) (by decide) (by decide) (by decide)]
      exact a4
    · rw [gW_i (by decide), gW_i (by decide), gW_at, gW_c (by decide), gW_c (by decide), gW_c (by decide), gW_c (by decide), gW_c (by decide), gW_c (by decide)]
      omega
    · intro i
      rw [gW_c (by decide), gW_c (by decide), gW_c (by decide), gW_c (by decide)]
      exact a14 i
  · rcases JT.2.2 k k9.1 k9.2 with y | ⟨y1, y2⟩
    · omega
    · refine ⟨T, k, T, T 186 k, a1, by rw [md_functionOf_e, if_pos k9, if_neg z, if_pos k9], ⟨⟨a2, JT, a13 P.1.2.2⟩, fun a q1 q2 q3 q4 q5 q6 => d a q1 q2 q6, fun i q1 q2 q3 => a11 i q1 q2, a5, ⟨a6.1, by omega⟩, fun g q => by rw [e155, e156]; exact ⟨rfl, rfl⟩, fun g q1 q2 => by omega⟩, y1, by rw [y2]; exact a4, fun ⟨g0, q1, q2⟩ => ?_, by omega, a14⟩
      have j := J.2.1 g0 q1.1 q1.2
      by_cases w : k = τ 119 10
      · exact absurd q2 ((a9 w).2 _ j.1.1 j.1.2)
      · exact a8 w
/-- from what is on both sides when the first function is called -/
theorem start_rr {r : Int} (R1 : rPr σ τ ∧ rNo σ τ ∧ rRm σ τ ∧ rBy σ τ) (ht : rTo σ τ) (k19 : σ 87 19 = 0) (k121 : τ 119 121 = 0) (k123 : τ 119 123 = 0) (k124 : τ 119 124 = 0) (k125 : τ 119 125 = 3) (ob : rOb σ τ) (hC : rCt σ τ) (hr : 4 ≤ r ∧ r < σ 8 31) (s24 : σ 87 24 = 0) (s34 : σ 87 34 = 0)
    (pv : ∀ j, 0 ≤ j → j < 2 → rVal σ τ (σ 88 (0 + 1 + j)) (σ 89 (0 + 1 + j)) (τ 221 (0 + 1 + j)) (τ 222 (0 + 1 + j))) :
    ∃ S T pT hT θ, mc_activate (gW σ 87 41 (if σ 87 41 < 1000000000 then σ 87 41 + 1 else σ 87 41)) r 0 2 (-1) = some (S, 0) ∧ md_activate τ r 0 2 (-1) = some (T, 0) ∧ RR S T pT hT 0 (-1) (-1) θ := by
  obtain ⟨S1, T1, e1, e2, Q1, rv1, n1, n2, n3, n4, n5, n6⟩ := act0 (a0 := 0) (ar := 2) (n := -1) (hT := fun _ => 0) R1 ht k19 k121 k123 ob hC hr
  have er : S1 90 (S1 87 21) = r := by rw [n2.2.1]; exact n3.1
  have h8 : r < S1 8 31 ∧ 4 ≤ r := by
    have := Q1.cu.2.1
    rw [er] at this
    omega
  have rr := (Q1.1.1.1.2.2.2.2.2.2.2.2.2.2.2.2.2.1 r h8.2 h8.1).1
  obtain ⟨S2, T2, s1, s2, Q2, ⟨⟨x1, x2, x3, x4⟩, x5, x6, x7, x8, x9⟩⟩ := parm_pair (r := r) (a0 := 0) (a1 := 0) (ar := 2) (by decide) (by decide) (by decide) (S1 30 r).toNat S1 T1 0 Q1 er (by decide) (by omega) (fun j j0 j1 => by
    rw [n1 88 (by decide), n1 89 (by decide), n4 221 (by decide), n4 222 (by decide)]
    exact rv1 _ _ _ _ (pv j j0 j1))
  have t124 : T2 119 124 = 0 := by rw [x8 124 (by decide), n5 124 (by decide) (by decide) (by decide) (by decide), k124]
  have t125 : T2 119 125 = 3 := by rw [x8 125 (by decide), n5 125 (by decide) (by decide) (by decide) (by decide), k125]
  obtain ⟨w1, w2, w3, w4⟩ := tkW_n (τ := T2) (n := -2) (x := T2 162 r) t124
  have eM : md_activate τ r 0 2 (-1) = some (gW (tkW T2 (-2) (T2 162 r)) 219 0 1, 0) := by
    rw [e2, s2, md_task_s (by rw [t124]; decide)]
    simp only [Option.bind_some]
    rw [w4, show (0 : Int) + 1 - 1 = 0 by decide, show w32 0 = 0 by decide, if_pos (by decide)]
  generalize eS3 : gW S2 87 8 0 = S3 at s1
  generalize eT3 : gW (tkW T2 (-2) (T2 162 r)) 219 0 1 = T3 at eM
  have y1 : ∀ a j, a ≠ 87 ∨ j ≠ 8 → S3 a j = S2 a j := fun a j q => by
    rw [← eS3]
    rcases q with q | q
    · exact gW_c q
    · by_cases w : a = 87
      · rw [w, gW_i q]
      · exact gW_c w
  have y2 : S3 87 8 = 0 := by rw [← eS3, gW_at]
  have y3 : ∀ a j, (a < 218 ∧ a ≠ 119) ∨ 220 < a ∨ (a ≠ 119 ∧ j ≠ 0) ∨ (a = 119 ∧ j ≠ 124) → T3 a j = T2 a j := fun a j q => by
    rw [← eT3]
    have w : a ≠ 219 ∨ j ≠ 0 := by omega
    have w' : gW (tkW T2 (-2) (T2 162 r)) 219 0 1 a j = tkW T2 (-2) (T2 162 r) a j := by
      rcases w with w | w
      · exact gW_c w
      · exact gW_j w
    rw [w']
    exact tkW_o (by rw [t124]; exact q)
  have y4 : T3 218 0 = -2 ∧ T3 219 0 = 1 ∧ T3 220 0 = T2 162 r ∧ T3 119 124 = 1 := by
    rw [← eT3]
    exact ⟨by rw [gW_c (by decide)]; exact w1, gW_at .., by rw [gW_c (by decide)]; exact w3, by rw [gW_c (by decide)]; exact w4⟩
  clear eS3 eT3 w1 w2 w3 w4
  have e21 : S2 87 21 = 0 := by rw [x2 21 (by decide)]; exact n2.2.1
  have e90 : S2 90 0 = r := by rw [x1 90 (by decide)]; exact n3.1
  have t212 : T2 212 0 = 0 := by rw [x3 212 (by decide), n3.2.2.1, k124]
  have sc : smC S2 S3 := ⟨fun a j q _ _ _ => y1 a j (Or.inl q), fun j q _ _ => y1 87 j (Or.inr q)⟩
  have sm : smM T2 T3 (T2 212 (S2 87 21)) := ⟨fun a j q1 q2 _ _ => y3 a j (by omega), fun j q1 _ _ => y3 119 j (by omega), fun a j q1 q2 q3 => y3 a j (by rw [e21, t212] at q3; omega)⟩
  have pc2 := Q2.pcq
  have Q3 := Q2.sm (S := S3) (T := T3) (P' := σ 28 r) (h' := 0) sc sm (by rw [y1 87 22 (Or.inr (by decide))]; exact pc2)
  rw [e21] at Q3
  have r31 : r < S3 8 31 := by
    have w := Q3.cu.2.1.2
    rw [y1 87 21 (Or.inr (by decide)), e21, y1 90 _ (Or.inl (by decide)), e90] at w
    exact w
  have ro := Q3.1.1.1.2.2.2.2.2.2.2.2.2.2.2.2.2.1 r h8.2 r31
  have hI3 := Q3.1.1.1.2.2.2.2.2.2.2.2.2.2.1.2 r h8.2 r31
  have z21 : S3 87 21 = 0 := by rw [y1 87 21 (Or.inr (by decide)), e21]
  have z19 : S3 87 19 = 1 := by rw [y1 87 19 (Or.inr (by decide)), x2 19 (by decide)]; exact n2.1
  have z90 : S3 90 0 = r := by rw [y1 90 _ (Or.inl (by decide)), e90]
  have z92 : S3 92 0 = 0 := by rw [y1 92 _ (Or.inl (by decide)), x1 92 (by decide)]; exact n3.2.1
  have z212 : T3 212 0 = 0 := by rw [y3 212 _ (by omega), t212]
  have z24 : S3 87 24 = 0 := by rw [y1 87 24 (Or.inr (by decide)), x2 24 (by decide), n2.2.2.1, s24]
  have z34 : S3 87 34 = 0 := by rw [y1 87 34 (Or.inr (by decide)), x2 34 (by decide), n2.2.2.2.1, s34]
  have e28 : S3 28 r = σ 28 r := by rw [y1 28 r (Or.inl (by decide)), x1 28 (by decide), n1 28 (by decide)]
  have w162 : T3 162 r = T2 162 r := y3 162 r (by omega)
  have cc : T3 119 123 + ccN S3 1 ≤ 2 := by
    rw [y3 119 123 (by omega), ccN_eq (S := S3) (σ := S2) 1 fun j _ _ => y1 93 j (Or.inl (by decide))]
    have h := x4
    rw [n2.1] at h
    exact Int.le_trans (Int.le_of_eq h) n6
  refine ⟨S3, T3, _, _, 146000400, by rw [e1]; exact s1, eM, ⟨Q3, ?_, ⟨⟨⟨⟨?_, ?_, ?_, ?_, rfl, rfl⟩, ?_⟩, ?_, ?_, ?_⟩, ?_, ?_⟩, ?_, ?_, ?_⟩⟩
  · refine ⟨fun k k0 k1 => ?_, fun k j k0 kj j1 => by omega⟩
    have ek : k = 0 := by omega
    unfold rPk oP tP
    rw [ek, z21, if_pos rfl, if_pos rfl, z92, y2, y3 119 125 (by omega), t125]
    exact ⟨by decide, fun i i0 i1 => by omega⟩
  · rw [z21, z90, updF_at, e28]
    omega
  · rw [z21, z212]; exact y4.1
  · rw [z21, z212]; exact y4.2.1
  · rw [z21, updF_at]
  · rw [z21, z212, z90, y4.2.2.1, updF_at, ← w162, ← e28]
    exact ro.2.2.1
  · rw [z21, z212]; decide
  · rw [z21, z92]; decide
  · rw [z21, updF_at]
    decide
  · rw [z21, z212, y4.2.2.2]
    decide
  · rw [z21, z92, y2, updF_at]
    decide
  · rw [z21, z19, y2, z24, updF_at]
    have wn : wT S3 0 (σ 28 r) ≤ 8 := by
      unfold wT
      rw [z90, ← e28]
      rcases ro.2.2.1.x2 with ⟨a1, a2⟩ | ⟨a1, a2, M, a3, -⟩
      · split <;> omega
      · rw [if_pos (Or.inl (a3.x3 (be := 0)).2.1.1)]
        decide
    show (0 : Int) + _ + _ + _ + _ ≤ _
    omega
  · rw [z34]
    decide
  · rw [z19]
    have := cc
    show T3 119 123 + ccN S3 1 + 146000400 ≤ 200000000
    omega
end STA
