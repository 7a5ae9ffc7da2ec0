/-! locals are written: both sides -/
section WR
variable {σ τ S T : gM} {pT hT : Int → Int} {m : Nat} {br co θ n : Int}
/-- sorts of locals change -/
theorem RQ.so {r l w : Int} (R : RQ σ τ pT hT) (hr : 4 ≤ r ∧ r < σ 8 31) (hl : 0 ≤ l ∧ l < 12) (hw : 1 ≤ w ∧ w ≤ 3) : RQ (gW σ 35 (12 * r + l) w) (gW τ 167 (12 * r + l) w) pT hT ∧ ndX σ τ (gW σ 35 (12 * r + l) w) (gW τ 167 (12 * r + l) w) := by
  have R0 := R
  obtain ⟨⟨⟨P1, P2⟩, ⟨N1, N2⟩, M, B⟩, A, ⟨V2, V3⟩, K1, C, F⟩ := R
  have kS : ∀ a, a ≠ 35 → gW σ 35 (12 * r + l) w a = σ a := fun a q => gW_cell q
  have kT : ∀ a, a ≠ 167 → gW τ 167 (12 * r + l) w a = τ a := fun a q => gW_cell q
  have e1 : stlC σ (gW σ 35 (12 * r + l) w) := by
    refine ⟨fun a q => kS a (by omega), ?_⟩
    rw [kS 0 (by decide), kS 8 (by decide), kS 42 (by decide), kS 52 (by decide), kS 87 (by decide)]
    exact ⟨rfl, rfl, rfl, rfl, rfl, rfl, rfl, rfl, rfl, rfl, rfl, rfl, rfl, rfl, rfl, rfl, rfl, rfl⟩
  have e2 : stlT τ (gW τ 167 (12 * r + l) w) := by
    refine ⟨fun a q => kT a (by omega), ?_⟩
    rw [kT 119 (by decide)]
    exact ⟨rfl, rfl, rfl, rfl, rfl, rfl, rfl, rfl, rfl, rfl, rfl, rfl, rfl⟩
  have hN := P1.2.2.2.2.2.2.2.2.1
  have hS := P1.2.2.2.2.2.2.2.2.2.2.2.2.2.2.2.1
  have A2 : aA (gW σ 35 (12 * r + l) w) (gW τ 167 (12 * r + l) w) pT := A.mv (fun a q => kS a (by omega)) (by rw [kS 8 (by decide)]) (fun i _ _ => by rw [kS 52 (by decide)]) (fun i _ => by rw [kS 87 (by decide)]) (fun a q => kT a (by omega)) (fun i _ => by rw [kT 119 (by decide)])
  have P3 : rPg (gW σ 35 (12 * r + l) w) (gW τ 167 (12 * r + l) w) := by
    refine P1.up e1 e2 A2.1 ?_ ?_ ?_ ?_ ?_
    · have pl : ∀ s n, plc (gW σ 35 (12 * r + l) w) s n = plc σ s n := fun s n => plc_mv (kS 43 (by decide)) (kS 44 (by decide)) (kS 47 (by decide))
      unfold rNd rN1 rEn at hN ⊢
      simp only [pl]
      rw [kS 8 (by decide), kS 9 (by decide), kS 10 (by decide), kS 11 (by decide), kS 12 (by decide), kS 13 (by decide), kS 18 (by decide), kS 19 (by decide), kS 26 (by decide), kS 27 (by decide), kS 42 (by decide), kT 119 (by decide), kT 158 (by decide), kT 159 (by decide), kT 168 (by decide), kT 169 (by decide), kT 174 (by decide), kT 175 (by decide), kT 178 (by decide), kT 180 (by decide), kT 181 (by decide), kT 182 (by decide), kT 183 (by decide), kT 184 (by decide)]
      exact hN
    · have hV := P1.2.2.2.2.2.2.2.2.2.2.2.1.2.2
      unfold rVc cFa at hV ⊢
      rw [kS 9 (by decide), kS 11 (by decide), kS 18 (by decide), kS 19 (by decide), kS 20 (by decide), kS 22 (by decide), kS 29 (by decide), kS 52 (by decide), kS 54 (by decide), kS 55 (by decide), kS 61 (by decide), kS 62 (by decide), kS 64 (by decide), kS 65 (by decide)]
      exact hV
    · have hQ := P1.2.2.2.2.2.2.2.2.2.2.2.2.1
      unfold rQu at hQ ⊢
      rw [kS 8 (by decide), kS 52 (by decide), kS 67 (by decide), kT 119 (by decide), kT 185 (by decide)]
      exact hQ
    · intro r' l' q0 q1 q2 q3
      rw [kS 8 (by decide)] at q1
      rw [gW_if, gW_if]
      split
      · exact ⟨rfl, by omega, by omega⟩
      · exact hS r' l' q0 q1 q2 q3
    · have hC := P1.2.2.2.2.2.2.2.2.2.2.2.2.2.2.2.2
      intro r' q0 q1
      rw [kS 8 (by decide)] at q1
      rw [kT 166 (by decide), kS 26 (by decide), kS 27 (by decide), hC r' q0 q1]
      exact (congrArg w32 (chN_mv _ fun i _ => by rw [kS 12 (by decide)])).symm
  refine ⟨R0.fr P3 ⟨?_, ?_⟩ A2 ?_ e1 e2 (fun a q => kS a (by omega)) (fun i _ => by rw [kS 87 (by decide)]) (fun a q => kT a (by omega)) (fun a i q1 q2 _ => by rw [kT a (by omega)]) (fun i _ => by rw [kT 119 (by decide)]), ⟨⟨fun a q => kS a (by omega), fun i _ => by rw [kS 87 (by decide)], fun a q => kT a (by omega), by rw [kT 119 (by decide), ccN_eq (S := gW σ 35 (12 * r + l) w) (σ := σ) _ fun j _ _ => by rw [kS 93 (by decide)]]⟩, fun a q => kS a (by omega), by rw [kS 87 (by decide)], fun a q1 q2 => kT a (by omega), fun i _ => by rw [kT 119 (by decide)], fun k x t y q => ((rVal_up e1 e2).1 k x t y).mpr q⟩⟩
  · unfold nIv at N1 ⊢
    rw [kS 8 (by decide), kS 9 (by decide), kS 11 (by decide), kS 18 (by decide), kT 179 (by decide)]
    exact N1
  · intro r' m q1 q2 q3 q4
    rw [kS 8 (by decide)] at q2
    rw [kS 26 (by decide)] at q3
    rw [kS 26 (by decide), kS 27 (by decide)] at q4
    have := N2 r' m q1 q2 q3 q4
    unfold sI2 at this ⊢
    rw [kS 9 (by decide), kS 11 (by decide), kS 13 (by decide), gW_if]
    intro a1 a2 a3
    split
    · omega
    · exact this a1 a2 a3
  · unfold rFa cFa at F ⊢
    rw [kS 87 (by decide), kS 93 (by decide), kS 9 (by decide), kS 11 (by decide), kS 18 (by decide), kS 19 (by decide), kS 20 (by decide), kS 22 (by decide), kS 29 (by decide), kS 54 (by decide), kS 55 (by decide), kS 62 (by decide), kS 64 (by decide), kS 65 (by decide)]
    exact F
theorem kT_2 {k : Int} (h : 0 ≤ k ∧ k ≤ 6) : kT k = 2 ↔ k = 0 := by
  unfold kT
  constructor
  · intro q
    split at q
    · omega
    · split at q
      · omega
      · split at q <;> omega
  · intro q
    rw [q]; rfl
/-- which bit a write is of, on both sides -/
theorem write_bit {k x t y l at0 : Int} (nb : 0 ≤ n ∧ n < 16000) (cu : 0 ≤ σ 87 21 ∧ σ 87 21 < 60) (el : σ 13 n = l) (el2 : τ 175 n = l) (ea : w32 (w32 (12 * σ 90 (σ 87 21)) + l) = at0) (ea2 : w32 (w32 (12 * τ 174 n) + l) = at0) (ab : 0 ≤ at0 ∧ at0 < 720) (e178 : τ 178 n = σ 11 n) (s4 : 0 ≤ σ 11 n ∧ σ 11 n ≤ 4) (e167 : τ 167 at0 = σ 35 at0) (so : 0 ≤ σ 35 at0 ∧ σ 35 at0 ≤ 3) (sz : 1 ≤ σ 11 n → σ 11 n ≤ 3 → σ 35 at0 ≠ 0) (g0 : σ 11 n ≠ 4 → τ 179 n = 0) (kt : t = kT k) (k6 : 0 ≤ k ∧ k ≤ 6) :
    ∃ b, (b = 1 ∨ b = 2 ∨ b = 4) ∧ mc_write σ n k x = mc_write_b114 σ n k x l at0 (σ 11 n) b ∧ (¬ i_and (σ 11 n) b = 0 → md_sets τ n t y = md_sets_b109 τ t y l b) ∧ (i_and (σ 11 n) b = 0 → σ 11 n ≠ 4 ∧ md_sets τ n t y = ((md_setsAnew_b67 τ n at0 b).bind fun p2 => md_sets_b109 p2.1 t y l p2.2)) := by
  have n2 : 0 ≤ n ∧ n < 20000 := by omega
  obtain ⟨⟨bb1, bb2, bb4, -⟩, -⟩ := bitL (s := σ 11 n) (by omega)
  have i4 : σ 11 n ≠ 4 → i_and (σ 11 n) 4 = 0 := fun q => by rw [bb4]; omega
  have i4' : σ 11 n = 4 → ¬ i_and (σ 11 n) 4 = 0 := fun q => by rw [bb4]; omega
  have i1 : σ 11 n = 4 → i_and (σ 11 n) 1 = 0 ∧ i_and (σ 11 n) 2 = 0 := fun q => by rw [bb1, bb2]; omega
  have i0 : σ 35 at0 = 0 → σ 11 n ≠ 4 → i_and (σ 11 n) 1 = 0 ∧ i_and (σ 11 n) 2 = 0 := fun q q' => by
    have : σ 11 n = 0 := by
      rcases Int.lt_or_le 0 (σ 11 n) with w | w
      · exact absurd q (sz (by omega) (by omega))
      · omega
    rw [bb1, bb2, this]; decide
  clear bb1 bb2 bb4
  have has : ∀ b, md_has τ n b = if i_and (σ 11 n) b = 0 then some (τ, 0) else some (τ, 1) := fun b => by rw [md_has_e, if_pos n2, e178]
  have t2 := kT_2 k6
  have t1 := kT_1 k6
  rw [← kt] at t1 t2
  -- the model's parts
  have may : ∀ b, σ 11 n ≠ 4 → (b = 1 ∨ b = 2) → md_may τ n b = some (τ, 1) := fun b q q' => by
    rw [md_may_e, if_pos n2, g0 q]
    rcases q' with e | e <;> rw [e] <;> rfl
  have m84y : ¬ i_and (σ 11 n) 4 = 0 → md_sets_b84 τ n t y l at0 = md_sets_b109 τ t y l 4 := fun q => by
    rw [md_sets_b84_e, has, if_neg q]
    simp only [Option.bind_some]
    rw [if_neg (show ¬ (1 : Int) = 0 by decide)]
  have m84n : i_and (σ 11 n) 4 = 0 → md_sets_b84 τ n t y l at0 = ((md_setsAnew τ n t at0).bind fun p2 => md_sets_b109 p2.1 t y l p2.2) := fun q => by
    rw [md_sets_b84_e, has, if_pos q]
    simp only [Option.bind_some, if_true]
  have m53n : (i_and (σ 11 n) 2 = 0 ∨ t ≠ 1 ∨ τ 167 at0 ≠ 2) → md_sets_b53 τ n t y l at0 = md_sets_b84 τ n t y l at0 := fun q => by
    rw [md_sets_b53_e, has]
    by_cases z : i_and (σ 11 n) 2 = 0
    · rw [if_pos z]
      simp only [Option.bind_some, if_true]
    · rw [if_neg z]
      simp only [Option.bind_some]
      rw [if_neg (show ¬ (1 : Int) = 0 by decide)]
      by_cases z1 : t = 1
      · rw [if_pos z1, if_pos ab, if_neg (by omega)]
      · rw [if_neg z1]
  have m53y : ¬ i_and (σ 11 n) 2 = 0 → t = 1 → τ 167 at0 = 2 → md_sets_b53 τ n t y l at0 = md_sets_b109 τ t y l 2 := fun q1 q2 q3 => by
    rw [md_sets_b53_e, has, if_neg q1]
    simp only [Option.bind_some]
    rw [if_neg (show ¬ (1 : Int) = 0 by decide), if_pos q2, if_pos ab, if_pos q3]
  have m0n : (i_and (σ 11 n) 1 = 0 ∨ t ≠ 2 ∨ τ 167 at0 ≠ 1) → md_sets τ n t y = md_sets_b53 τ n t y l at0 := fun q => by
    rw [md_sets_e, if_pos n2, if_pos n2, el2, ea2, has]
    by_cases z : i_and (σ 11 n) 1 = 0
    · rw [if_pos z]
      simp only [Option.bind_some, if_true]
    · rw [if_neg z]
      simp only [Option.bind_some]
      rw [if_neg (show ¬ (1 : Int) = 0 by decide)]
      by_cases z1 : t = 2
      · rw [if_pos z1, if_pos ab, if_neg (by omega)]
      · rw [if_neg z1]
  have m0y : ¬ i_and (σ 11 n) 1 = 0 → t = 2 → τ 167 at0 = 1 → md_sets τ n t y = md_sets_b109 τ t y l 1 := fun q1 q2 q3 => by
    rw [md_sets_e, if_pos n2, if_pos n2, el2, ea2, has, if_neg q1]
    simp only [Option.bind_some]
    rw [if_neg (show ¬ (1 : Int) = 0 by decide), if_pos q2, if_pos ab, if_pos q3]
  have an4 : (t = 2 → τ 167 at0 ≠ 0 ∧ τ 167 at0 ≠ 1) → (t = 1 → τ 167 at0 ≠ 0 ∧ τ 167 at0 ≠ 2) → md_setsAnew τ n t at0 = md_setsAnew_b67 τ n at0 4 := fun q1 q2 => by
    have e37 : md_setsAnew_b37 τ n t at0 (τ 167 at0) = md_setsAnew_b67 τ n at0 4 := by
      rw [md_setsAnew_b37_e]
      by_cases z : t = 1
      · rw [if_pos z, if_neg (q2 z).1, if_neg (q2 z).2, md_setsAnew_b66_e]
      · rw [if_neg z, md_setsAnew_b66_e]
    rw [md_setsAnew_e, if_pos ab]
    by_cases z : t = 2
    · rw [if_pos z, if_neg (q1 z).1, if_neg (q1 z).2, e37]
    · rw [if_neg z, e37]
  have cw : mc_write σ n k x = if σ 11 n = 4 then mc_write_b67 σ n k x l at0 (σ 11 n) 4 else if k = 0 then mc_write_b67 σ n k x l at0 (σ 11 n) 1 else if k = 3 then mc_write_b67 σ n k x l at0 (σ 11 n) 2 else mc_write_b67 σ n k x l at0 (σ 11 n) 4 := by
    rw [mc_write_e, if_pos nb, if_pos cu, if_pos nb, el, ea]
  have cw4 : mc_write_b67 σ n k x l at0 (σ 11 n) 4 = mc_write_b114 σ n k x l at0 (σ 11 n) 4 := by rw [mc_write_b67_e, if_neg (by decide)]
  have cwy : ∀ b, (b = 1 ∨ b = 2) → (σ 35 at0 = b ∨ (i_and (σ 11 n) b = 0 ∧ σ 35 at0 = 0)) → mc_write_b67 σ n k x l at0 (σ 11 n) b = mc_write_b114 σ n k x l at0 (σ 11 n) b := fun b q1 q2 => by
    rw [mc_write_b67_e, if_pos (by omega), if_pos ab]
    by_cases z : σ 35 at0 = b
    · rw [if_pos z]
    · rw [if_neg z]
      rcases q2 with q | ⟨q, q'⟩
      · exact absurd q z
      · rw [if_pos q, if_pos ab, if_pos q']
  have cwn : ∀ b, (b = 1 ∨ b = 2) → σ 35 at0 ≠ b → σ 35 at0 ≠ 0 → mc_write_b67 σ n k x l at0 (σ 11 n) b = mc_write_b114 σ n k x l at0 (σ 11 n) 4 := fun b q1 q2 q3 => by
    rw [mc_write_b67_e, if_pos (by omega), if_pos ab, if_neg q2]
    by_cases z : i_and (σ 11 n) b = 0
    · rw [if_pos z, if_pos ab, if_neg q3, mc_write_b111_e]
    · rw [if_neg z, mc_write_b111_e]
  by_cases z4 : σ 11 n = 4
  · refine ⟨4, Or.inr (Or.inr rfl), by rw [cw, if_pos z4, cw4], fun _ => ?_, fun q => absurd q (i4' z4)⟩
    rw [m0n (Or.inl (i1 z4).1), m53n (Or.inl (i1 z4).2), m84y (i4' z4)]
  have four : (k = 0 → σ 35 at0 ≠ 1 ∧ σ 35 at0 ≠ 0) → (k = 3 → σ 35 at0 ≠ 2 ∧ σ 35 at0 ≠ 0) → ∃ b, (b = 1 ∨ b = 2 ∨ b = 4) ∧ mc_write σ n k x = mc_write_b114 σ n k x l at0 (σ 11 n) b ∧ (¬ i_and (σ 11 n) b = 0 → md_sets τ n t y = md_sets_b109 τ t y l b) ∧ (i_and (σ 11 n) b = 0 → σ 11 n ≠ 4 ∧ md_sets τ n t y = ((md_setsAnew_b67 τ n at0 b).bind fun p2 => md_sets_b109 p2.1 t y l p2.2)) := fun q1 q2 => by
    refine ⟨4, Or.inr (Or.inr rfl), ?_, fun q => absurd (i4 z4) q, fun _ => ⟨z4, ?_⟩⟩
    · rw [cw, if_neg z4]
      by_cases e0 : k = 0
      · rw [if_pos e0]
        exact cwn 1 (Or.inl rfl) (q1 e0).1 (q1 e0).2
      · rw [if_neg e0]
        by_cases e3 : k = 3
        · rw [if_pos e3]
          exact cwn 2 (Or.inr rfl) (q2 e3).1 (q2 e3).2
        · rw [if_neg e3, cw4]
    · rw [m0n (by
        by_cases e0 : k = 0
        · exact Or.inr (Or.inr (by rw [e167]; exact (q1 e0).1))
        · exact Or.inr (Or.inl fun q => e0 (t2.mp q))), m53n (by
        by_cases e3 : k = 3
        · exact Or.inr (Or.inr (by rw [e167]; exact (q2 e3).1))
        · exact Or.inr (Or.inl fun q => e3 (t1.mp q))), m84n (i4 z4), an4 (fun q => by rw [e167]; exact ⟨(q1 (t2.mp q)).2, (q1 (t2.mp q)).1⟩) (fun q => by rw [e167]; exact ⟨(q2 (t1.mp q)).2, (q2 (t1.mp q)).1⟩)]
  by_cases e0 : k = 0
  · by_cases so1 : σ 35 at0 = 1 ∨ σ 35 at0 = 0
    · refine ⟨1, Or.inl rfl, ?_, fun q => ?_, fun q => ⟨z4, ?_⟩⟩
      · rw [cw, if_neg z4, if_pos e0, cwy 1 (Or.inl rfl) (by
          rcases so1 with y | y
          · exact Or.inl y
          · exact Or.inr ⟨(i0 y z4).1, y⟩)]
      · have : σ 35 at0 = 1 := by
          rcases so1 with y | y
          · exact y
          · exact absurd (i0 y z4).1 q
        exact m0y q (t2.mpr e0) (by rw [e167]; exact this)
      · rw [m0n (Or.inl q), m53n (Or.inr (Or.inl fun w => by have := t1.mp w; omega)), m84n (i4 z4), md_setsAnew_e, if_pos ab, if_pos (t2.mpr e0), e167]
        have e24 : ∀ w, md_setsAnew_b24 τ n t at0 w = md_setsAnew_b67 τ n at0 1 := fun w => by
          rw [md_setsAnew_b24_e, may 1 z4 (Or.inl rfl)]
          simp only [Option.bind_some]
          rw [if_neg (show ¬ (1 : Int) = 0 by decide)]
        rcases so1 with y | y
        · rw [if_neg (by omega), if_pos y, e24]
        · rw [if_pos y, e24]
    · exact four (fun _ => by omega) (fun q => by omega)
  · by_cases e3 : k = 3
    · by_cases so2 : σ 35 at0 = 2 ∨ σ 35 at0 = 0
      · refine ⟨2, Or.inr (Or.inl rfl), ?_, fun q => ?_, fun q => ⟨z4, ?_⟩⟩
        · rw [cw, if_neg z4, if_neg e0, if_pos e3, cwy 2 (Or.inr rfl) (by
            rcases so2 with y | y
            · exact Or.inl y
            · exact Or.inr ⟨(i0 y z4).2, y⟩)]
        · have : σ 35 at0 = 2 := by
            rcases so2 with y | y
            · exact y
            · exact absurd (i0 y z4).2 q
          rw [m0n (Or.inr (Or.inl fun w => e0 (t2.mp w)))]
          exact m53y q (t1.mpr e3) (by rw [e167]; exact this)
        · rw [m0n (Or.inr (Or.inl fun w => e0 (t2.mp w))), m53n (Or.inl q), m84n (i4 z4), md_setsAnew_e, if_pos ab, if_neg (fun w => e0 (t2.mp w)), md_setsAnew_b37_e, if_pos (t1.mpr e3), e167]
          have e53 : md_setsAnew_b53 τ n at0 = md_setsAnew_b67 τ n at0 2 := by
            rw [md_setsAnew_b53_e, may 2 z4 (Or.inr rfl)]
            simp only [Option.bind_some]
            rw [if_neg (show ¬ (1 : Int) = 0 by decide)]
          rcases so2 with y | y
          · rw [if_neg (by omega), if_pos y, e53]
          · rw [if_pos y, e53]
      · exact four (fun q => by omega) (fun _ => by omega)
    · exact four (fun q => absurd q e0) (fun q => absurd q e3)
end WR
