/-! constant texts as names: kept by the model, looked for by the component -/
section KN
variable {σ τ S T : gM} {s f q : Int}
theorem keep_lay (h : 0 ≤ s ∧ s < 23) : ∀ (d : Nat) (τ : gM) (k : Int), 0 ≤ k → k + d = gsl s → ∃ T, md_keep_b2 τ s k = ((md_keep_2 T 225 0 (gsl s)).bind fun p3 => some (p3.1, p3.2)) ∧ (∀ a i, a ≠ 225 ∨ i < k ∨ gsl s ≤ i → T a i = τ a i) ∧ ∀ i, k ≤ i → i < gsl s → T 225 i = gsc s i
  | 0, τ, k, k0, hk => by
    refine ⟨τ, ?_, fun _ _ _ => rfl, fun i q1 q2 => by omega⟩
    rw [md_keep_b2_e, gtx_ok h, st_length_s h]
    simp only [Option.bind_some]
    rw [if_neg (by omega), gtx_ok h, st_length_s h]
    rfl
  | d + 1, τ, k, k0, hk => by
    have l61 := (gsl_r h).2
    have g := (gsc_r h (i := k) (by omega)).2
    obtain ⟨T, e1, e2, e3⟩ := keep_lay h d (gW τ 225 k (gsc s k)) (k + 1) (by omega) (by omega)
    refine ⟨T, ?_, fun a i q => ?_, fun i q1 q2 => ?_⟩
    · rw [md_keep_b2_e, gtx_ok h, st_length_s h]
      simp only [Option.bind_some]
      rw [if_pos (by omega), gtx_ok h, st_charAt_s h (by omega)]
      simp only [Option.bind_some]
      rw [if_pos (by omega), w8_e (x := gsc s k) (by omega) (by omega), w8_e (x := gsc s k) (by omega) (by omega), w32_e (x := k + 1) (by omega) (by omega)]
      exact e1
    · rw [e2 a i (by omega)]
      rcases q with q | q
      · rw [gW_c q]
      · by_cases z : a = 225
        · rw [z, gW_j (by omega)]
        · rw [gW_c z]
    · by_cases z : i = k
      · rw [z, e2 225 k (by omega), gW_at]
      · exact e3 i (by omega) q2
/-- a constant text is kept -/
theorem md_keep_s (h : 0 ≤ s ∧ s < 23) (hm : mI τ) (t8 : ∀ i, i8 (τ 225 i)) (r1 : τ 119 10 < 9000) (r2 : τ 119 9 + gsl s ≤ 60000) :
    ∃ T k, md_keep τ s = some (T, k) ∧ mI T ∧ (0 ≤ k ∧ k < T 119 10) ∧ mS T k = tx s ∧ mKeep τ T ∧ (τ 119 10 ≤ T 119 10 ∧ T 119 10 ≤ τ 119 10 + 1) ∧ (τ 119 9 ≤ T 119 9 ∧ T 119 9 ≤ τ 119 9 + gsl s) ∧
      (k ≠ τ 119 10 → ∀ a i, a ≠ 225 → T a i = τ a i) ∧ (k = τ 119 10 → T 119 10 = τ 119 10 + 1 ∧ ∀ s', 0 ≤ s' → s' < τ 119 10 → mS τ s' ≠ tx s) ∧
      (∀ c i, c ≠ 119 → c ≠ 121 → c ≠ 122 → c ≠ 123 → c ≠ 124 → c ≠ 125 → c ≠ 126 → c ≠ 225 → T c i = τ c i) ∧ (∀ i, i ≠ 9 → i ≠ 10 → T 119 i = τ 119 i) ∧ (∀ i, 60000 ≤ i → T 121 i = τ 121 i) ∧ ((∀ i, i8 (τ 121 i)) → ∀ i, i8 (T 121 i)) ∧ ∀ i, i8 (T 225 i) := by
  have l61 := (gsl_r h).2
  obtain ⟨U, e1, e2, e3⟩ := keep_lay h (gsl s).toNat τ 0 (by decide) (by omega)
  have u : ∀ a, a ≠ 225 → U a = τ a := fun a q => funext fun i => e2 a i (Or.inl q)
  have u8 : ∀ i, i8 (U 225 i) := fun i => by
    by_cases z : 0 ≤ i ∧ i < gsl s
    · rw [e3 i z.1 z.2]
      have := (gsc_r h (i := i) (by omega)).2
      unfold i8
      omega
    · rw [e2 225 i (by omega)]
      exact t8 i
  have hU : mI U := mI_mv hm (by rw [u 119 (by decide)]) (by rw [u 119 (by decide)]) (by rw [u 119 (by decide)]) (by rw [u 119 (by decide)]) fun a q1 q2 => u a (by omega)
  have eS : ∀ r, mS U r = mS τ r := fun r => by unfold mS; rw [u 121 (by decide), u 122 (by decide), u 123 (by decide)]
  have eV : ∀ r, vM U r ↔ vM τ r := fun r => by unfold vM; rw [u 119 (by decide)]
  obtain ⟨T, k, a1, a2, a3, a4, a5, a6, a7, a8, a9, a10, a11, a12, a13⟩ := md_keep_2_s (row := 225) (a := 0) (t := gsl s) (n := (gsl s).toNat) hU (Or.inr (Or.inl rfl)) (by decide) (by omega) (show gsl s ≤ gN 225 by rw [show gN 225 = 420 by decide +kernel]; omega) (fun q => absurd q (by decide)) u8 (by rw [u 119 (by decide)]; exact r1) (by rw [u 119 (by decide)]; omega)
  have el : lt (U 225) 0 (gsl s).toNat = tx s := by
    unfold tx
    exact lt_eq.mpr fun i hi => by rw [Int.zero_add]; exact e3 _ (by omega) (by omega)
  rw [el] at a4 a9
  rw [u 119 (by decide)] at a6 a7 a8 a9
  refine ⟨T, k, ?_, a2, a3, a4, fun r q => ?_, a6, ⟨a7.1, by omega⟩, fun q a i z => by rw [a8 q, u a z], fun q => ⟨(a9 q).1, fun s' q1 q2 => by rw [← eS]; exact (a9 q).2 s' q1 q2⟩, fun c i q1 q2 q3 q4 q5 q6 q7 q8 => by rw [a10 c i q1 q2 q3 q4 q5 q6 q7, u c q8], fun i q1 q2 => by rw [a11 i q1 q2, u 119 (by decide)], fun i q => by rw [a12 i q, u 121 (by decide)], fun q => a13 (by rw [u 121 (by decide)]; exact q), fun i => by rw [a10 225 i (by decide) (by decide) (by decide) (by decide) (by decide) (by decide) (by decide)]; exact u8 i⟩
  · rw [md_keep_e, e1, a1]
    rfl
  · obtain ⟨w1, w2, w3, w4⟩ := a5 r ((eV r).mpr q)
    exact ⟨w1, by rw [w2, eS], by rw [w3, u 122 (by decide)], by rw [w4, u 123 (by decide)]⟩
/-- are a string's letters those of a text -/
theorem nmd_b43 (h : 0 ≤ s ∧ s < 23) (hq : 0 ≤ q ∧ q < 108000) (h2 : 0 ≤ σ 2 q ∧ σ 2 q + gsl s ≤ 24000) : ∀ (d : Nat) (k : Int), 0 ≤ k → k + d = gsl s → ∃ y, fr_named_b43 σ s f q 1 k = fr_named_b99 σ s f y ∧ ((y = 1 ∧ ∀ i, k ≤ i → i < gsl s → σ 1 (σ 2 q + i) = gsc s i) ∨ (y = 0 ∧ ∃ i, (k ≤ i ∧ i < gsl s) ∧ σ 1 (σ 2 q + i) ≠ gsc s i))
  | 0, k, k0, hk => by
    refine ⟨1, ?_, Or.inl ⟨rfl, fun i q1 q2 => by omega⟩⟩
    rw [fr_named_b43_e, gtx_ok h, st_length_s h]
    simp only [Option.bind_some]
    rw [if_neg (by omega)]
  | d + 1, k, k0, hk => by
    have l61 := (gsl_r h).2
    have e : fr_named_b43 σ s f q 1 k = if σ 1 (σ 2 q + k) = gsc s k then fr_named_b43 σ s f q 1 (k + 1) else fr_named_b43 σ s f q 0 (k + 1) := by
      rw [fr_named_b43_e, gtx_ok h, st_length_s h]
      simp only [Option.bind_some]
      rw [if_pos (show k < gsl s by omega), if_neg (show ¬ (1 : Int) = 0 by decide), if_pos hq, w32_e (x := σ 2 q + k) (by omega) (by omega), if_pos (show 0 ≤ σ 2 q + k ∧ σ 2 q + k < 124600 by omega), gtx_ok h, st_charAt_s h (by omega)]
      simp only [Option.bind_some]
      rw [fr_named_b91_e, fr_named_b91_e, w32_e (x := k + 1) (by omega) (by omega)]
    rw [e]
    by_cases z : σ 1 (σ 2 q + k) = gsc s k
    · rw [if_pos z]
      obtain ⟨y, y1, y2⟩ := nmd_b43 h hq h2 d (k + 1) (by omega) (by omega)
      refine ⟨y, y1, ?_⟩
      rcases y2 with ⟨y3, y4⟩ | ⟨y3, i, y4, y5⟩
      · refine Or.inl ⟨y3, fun i q1 q2 => ?_⟩
        by_cases w : i = k
        · rw [w]; exact z
        · exact y4 i (by omega) q2
      · exact Or.inr ⟨y3, i, by omega, y5⟩
    · rw [if_neg z]
      refine ⟨0, ?_, Or.inr ⟨rfl, k, by omega, z⟩⟩
      rw [fr_named_b43_e, gtx_ok h, st_length_s h]
      simp only [Option.bind_some]
      by_cases w : k + 1 < gsl s
      · rw [if_pos w, if_pos trivial]
      · rw [if_neg w]
theorem fr_named_s (h : 0 ≤ s ∧ s < 23) (hh : hI σ) (hf : fI σ) : ∀ (d : Nat) (k : Int), 0 ≤ k → k + d = σ 8 19 → (∀ f, 0 ≤ f → f < k → cS σ (σ 23 f) ≠ tx s) → ∃ r, fr_named_b2 σ s k = some (σ, r) ∧ ((r = -1 ∧ ∀ f, 0 ≤ f → f < σ 8 19 → cS σ (σ 23 f) ≠ tx s) ∨ ((0 ≤ r ∧ r < σ 8 19) ∧ cS σ (σ 23 r) = tx s))
  | 0, k, k0, hk, hn => by
    refine ⟨-1, ?_, Or.inl ⟨rfl, fun f q1 q2 => hn f q1 (by omega)⟩⟩
    rw [fr_named_b2_e, if_neg (by omega)]
  | d + 1, k, k0, hk, hn => by
    have l61 := (gsl_r h).2
    have f1 := hf.1
    have f2 := hf.2.1 k k0 (by omega)
    have v := hh.v (Or.inl f2.1)
    have v3 := hh.2.2.1 (σ 23 k) f2.1.1 f2.1.2
    have v8 := hh.2.1
    have b1 : 0 ≤ σ 23 k ∧ σ 23 k < 108000 := by have := hh.1; omega
    have ey : ∃ y, fr_named_b2 σ s k = fr_named_b99 σ s k y ∧ ((y = 1 ∧ cS σ (σ 23 k) = tx s) ∨ (y = 0 ∧ cS σ (σ 23 k) ≠ tx s)) := by
      have e : fr_named_b2 σ s k = if σ 3 (σ 23 k) = gsl s then fr_named_b43 σ s k (σ 23 k) 1 0 else fr_named_b43 σ s k (σ 23 k) 0 0 := by
        rw [fr_named_b2_e, if_pos (show k < σ 8 19 by omega), if_pos (show 0 ≤ k ∧ k < 9000 by omega), if_pos b1, gtx_ok h, st_length_s h]
        simp only [Option.bind_some]
        rw [fr_named_b38_e, fr_named_b38_e]
      rw [e]
      by_cases z : σ 3 (σ 23 k) = gsl s
      · rw [if_pos z]
        obtain ⟨y, y1, y2⟩ := nmd_b43 (f := k) h b1 ⟨v3.1, by omega⟩ (gsl s).toNat 0 (by decide) (by omega)
        refine ⟨y, y1, ?_⟩
        rcases y2 with ⟨y3, y4⟩ | ⟨y3, i, y4, y5⟩
        · refine Or.inl ⟨y3, ?_⟩
          unfold cS tx
          rw [z]
          exact lt_eq.mpr fun i hi => by rw [Int.zero_add]; exact y4 _ (by omega) (by omega)
        · refine Or.inr ⟨y3, fun w => y5 ?_⟩
          unfold cS tx at w
          rw [z] at w
          have := lt_eq.mp w i.toNat (by omega)
          rw [show ((i.toNat : Nat) : Int) = i by omega, Int.zero_add] at this
          exact this
      · rw [if_neg z]
        refine ⟨0, ?_, Or.inr ⟨rfl, fun w => z ?_⟩⟩
        · rw [fr_named_b43_e, gtx_ok h, st_length_s h]
          simp only [Option.bind_some]
          by_cases w : 0 < gsl s
          · rw [if_pos w, if_pos trivial]
          · rw [if_neg w]
        · have := congrArg List.length w
          unfold cS tx at this
          rw [lt_len, lt_len] at this
          have := v3.2.1
          omega
    obtain ⟨y, y1, y2⟩ := ey
    rw [y1, fr_named_b99_e]
    rcases y2 with ⟨y3, y4⟩ | ⟨y3, y4⟩
    · rw [y3, if_neg (by decide)]
      exact ⟨k, rfl, Or.inr ⟨by omega, y4⟩⟩
    · rw [y3, if_pos rfl, w32_e (x := k + 1) (by omega) (by omega)]
      exact fr_named_s h hh hf d (k + 1) (by omega) (by omega) fun f q1 q2 => by
        by_cases z : f = k
        · rw [z]; exact y4
        · exact hn f q1 (by omega)
end KN
