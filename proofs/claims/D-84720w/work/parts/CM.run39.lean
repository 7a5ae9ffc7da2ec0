/-! a new activation's locals, and what it is given: both sides -/
section LO
variable {σ τ S T : gM} {pT hT : Int → Int} {m : Nat} {br co θ n : Int}
/-- locals are null at first: the component -/
theorem locC {r a0 ar un k ca : Int} (hr : 0 ≤ r ∧ r < 60) (hk : 0 ≤ k ∧ k < 60) : ∀ (d : Nat) (σ : gM) (l : Int), 0 ≤ l → l + d = σ 31 r → σ 31 r ≤ 12 → ∃ S, mc_activate_b89 σ r a0 ar un k ca l = mc_activate_b89 S r a0 ar un k ca (σ 31 r) ∧ (∀ a i, (a < 97 ∨ 99 < a) → S a i = σ a i) ∧ (∀ a i, i < 12 * k + l ∨ 12 * k + σ 31 r ≤ i → S a i = σ a i) ∧ ∀ j, l ≤ j → j < σ 31 r → S 97 (12 * k + j) = 4 ∧ S 99 (12 * k + j) = 0 ∧ S 98 (12 * k + j) = 3
  | 0, σ, l, l0, hl, h12 => ⟨σ, by rw [show l = σ 31 r by omega], fun _ _ _ => rfl, fun _ _ _ => rfl, fun j q1 q2 => by omega⟩
  | d + 1, σ, l, l0, hl, h12 => by
    have b1 : 0 ≤ 12 * k + l ∧ 12 * k + l < 720 := by omega
    have hlt : l < σ 31 r := by omega
    rw [mc_activate_b89_e, w32_e (x := 12 * k) (by omega) (by omega), w32_e (x := 12 * k + l) (by omega) (by omega), w32_e (x := l + 1) (by omega) (by omega)]
    simp only [hr, hlt, b1, and_self, if_true]
    generalize eW : gW (gW (gW σ 97 (12 * k + l) 4) 99 (12 * k + l) 0) 98 (12 * k + l) 3 = W
    have w1 : ∀ a i, (a < 97 ∨ 99 < a) → W a i = σ a i := fun a i q => by rw [← eW, gW_c (by omega), gW_c (by omega), gW_c (by omega)]
    have w2 : ∀ a i, i ≠ 12 * k + l → W a i = σ a i := fun a i q => by rw [← eW, gW_j q, gW_j q, gW_j q]
    have w3 : W 97 (12 * k + l) = 4 ∧ W 99 (12 * k + l) = 0 ∧ W 98 (12 * k + l) = 3 := by
      rw [← eW]
      exact ⟨by rw [gW_c (by decide), gW_c (by decide), gW_at], by rw [gW_c (by decide), gW_at], by rw [gW_at]⟩
    clear eW
    have e31 := w1 31 r (by decide)
    obtain ⟨S, i1, i2, i3, i4⟩ := locC hr hk d W (l + 1) (by omega) (by omega) (by omega)
    rw [e31] at i1 i3 i4
    refine ⟨S, i1, fun a i q => by rw [i2 a i q, w1 a i q], fun a i q => by rw [i3 a i (by omega), w2 a i (by omega)], fun j q1 q2 => ?_⟩
    by_cases z : j = l
    · rw [z, i3 97 _ (by omega), i3 99 _ (by omega), i3 98 _ (by omega)]
      exact w3
    · exact i4 j (by omega) q2
/-- the model -/
theorem locM {r a0 ar k : Int} (hr : 0 ≤ r ∧ r < 60) (hk : 0 ≤ k ∧ k < 60) : ∀ (d : Nat) (τ : gM) (l : Int), 0 ≤ l → l + d = τ 161 r → τ 161 r ≤ 12 → ∃ T, md_activate_b255 τ r a0 ar k l = md_activate_b317 T r a0 ar 0 ∧ (∀ a i, (a < 215 ∨ 217 < a) → T a i = τ a i) ∧ (∀ a i, i < 12 * k + l ∨ 12 * k + τ 161 r ≤ i → T a i = τ a i) ∧ ∀ j, l ≤ j → j < τ 161 r → T 215 (12 * k + j) = 3 ∧ T 216 (12 * k + j) = 0 ∧ T 217 (12 * k + j) = 0
  | 0, τ, l, l0, hl, h12 => ⟨τ, by rw [md_activate_b255_e, if_pos hr, if_neg (by omega)], fun _ _ _ => rfl, fun _ _ _ => rfl, fun j q1 q2 => by omega⟩
  | d + 1, τ, l, l0, hl, h12 => by
    have b1 : 0 ≤ 12 * k + l ∧ 12 * k + l < 720 := by omega
    have hlt : l < τ 161 r := by omega
    rw [md_activate_b255_e, w32_e (x := 12 * k) (by omega) (by omega), w32_e (x := 12 * k + l) (by omega) (by omega), w32_e (x := l + 1) (by omega) (by omega)]
    simp only [hr, hlt, b1, and_self, if_true]
    generalize eW : gW (gW (gW τ 215 (12 * k + l) 3) 216 (12 * k + l) 0) 217 (12 * k + l) 0 = W
    have w1 : ∀ a i, (a < 215 ∨ 217 < a) → W a i = τ a i := fun a i q => by rw [← eW, gW_c (by omega), gW_c (by omega), gW_c (by omega)]
    have w2 : ∀ a i, i ≠ 12 * k + l → W a i = τ a i := fun a i q => by rw [← eW, gW_j q, gW_j q, gW_j q]
    have w3 : W 215 (12 * k + l) = 3 ∧ W 216 (12 * k + l) = 0 ∧ W 217 (12 * k + l) = 0 := by
      rw [← eW]
      exact ⟨by rw [gW_c (by decide), gW_c (by decide), gW_at], by rw [gW_c (by decide), gW_at], by rw [gW_at]⟩
    clear eW
    have e161 := w1 161 r (by decide)
    obtain ⟨T, i1, i2, i3, i4⟩ := locM hr hk d W (l + 1) (by omega) (by omega) (by omega)
    rw [e161] at i3 i4
    refine ⟨T, i1, fun a i q => by rw [i2 a i q, w1 a i q], fun a i q => by rw [i3 a i (by omega), w2 a i (by omega)], fun j q1 q2 => ?_⟩
    by_cases z : j = l
    · rw [z, i3 215 _ (by omega), i3 216 _ (by omega), i3 217 _ (by omega)]
      exact w3
    · exact i4 j (by omega) q2
/-- what it is given is written -/
theorem parm_pair {r a0 a1 ar : Int} (h0 : 0 ≤ a0 ∧ a0 + 1 + ar ≤ 18240) (h1 : 0 ≤ a1 ∧ a1 + 1 + ar ≤ 24000) (ha : 0 ≤ ar) : ∀ (d : Nat) (σ τ : gM) (i : Int), RQ σ τ pT hT → σ 90 (σ 87 21) = r → 0 ≤ i → i + d = σ 30 r → (∀ j, 0 ≤ j → j < ar → rVal σ τ (σ 88 (a0 + 1 + j)) (σ 89 (a0 + 1 + j)) (τ 221 (a1 + 1 + j)) (τ 222 (a1 + 1 + j))) → ∃ S T, mc_activate_b313 σ r a0 ar i = some (gW S 87 8 a0, 0) ∧ md_activate_b317 τ r a1 ar i = ((md_task T (-2) (T 162 r)).bind fun p1 => if 0 ≤ w32 ((p1.1 119 124) - 1) ∧ w32 ((p1.1 119 124) - 1) < 42000 then (some (gW p1.1 219 (w32 ((p1.1 119 124) - 1)) 1, 0)) else none) ∧ RQ S T pT hT ∧ ndX σ τ S T
  | 0, σ, τ, i, Q, er, i0, hi, pv => by
    obtain ⟨c1, c2, c3, c4, c5, c6⟩ := Q.cu
    rw [er] at c2
    have hR := Q.1.1.1.2.2.2.2.2.2.2.2.2.2.2.2.2.1
    have rr := (hR r c2.1 c2.2).1
    have rb : 0 ≤ r ∧ r < 60 := by omega
    refine ⟨σ, τ, ?_, ?_, Q, ndX.rf⟩
    · rw [mc_activate_b313_e, if_pos rb, if_neg (by omega)]
    · rw [md_activate_b317_e, if_pos rb, rr.1, if_neg (by omega), if_pos rb]
  | d + 1, σ, τ, i, Q, er, i0, hi, pv => by
    obtain ⟨c1, c2, c3, c4, c5, c6⟩ := Q.cu
    rw [er] at c2 c3 c5 c6
    have hR := Q.1.1.1.2.2.2.2.2.2.2.2.2.2.2.2.2.1
    have hN := Q.1.1.1.2.2.2.2.2.2.2.2.1
    have rr := (hR r c2.1 c2.2).1
    have rn := (hR r c2.1 c2.2).2.1 i i0 (by omega)
    have n8 := hN.2.1 r c2.1 c2.2
    have k9 := (hN.2.2 (σ 26 r + i) (by omega) (by omega)).1
    have rb : 0 ≤ r ∧ r < 60 := by omega
    have wn : w32 (σ 26 r + i) = σ 26 r + i := w32_e (by omega) (by omega)
    have wn2 : w32 (τ 158 r + i) = σ 26 r + i := by rw [c5]; exact wn
    -- the value that is given
    have val : ∃ k x t y, rVal σ τ k x t y ∧ mc_activate_b313 σ r a0 ar i = mc_activate_b382 σ r a0 ar i x k (σ 26 r + i) ∧ md_activate_b317 τ r a1 ar i = md_activate_b391 τ r a1 ar i y t (σ 26 r + i) := by
      by_cases z : i < ar
      · have w1 : w32 (w32 (a0 + 1) + i) = a0 + 1 + i := by rw [w32_e (x := a0 + 1) (by omega) (by omega), w32_e (by omega) (by omega)]
        have w2 : w32 (w32 (a1 + 1) + i) = a1 + 1 + i := by rw [w32_e (x := a1 + 1) (by omega) (by omega), w32_e (by omega) (by omega)]
        refine ⟨_, _, _, _, pv i i0 z, ?_, ?_⟩
        · rw [mc_activate_b313_e, if_pos rb, if_pos (by omega), if_pos rb, if_pos z, w1, if_pos (by omega), wn, mc_activate_b361_e, if_pos z, w1, if_pos (by omega)]
        · rw [md_activate_b317_e, if_pos rb, rr.1, if_pos (by omega), if_pos z, md_activate_b339_e, if_pos rb, if_neg (by decide), w2, if_pos (by omega), wn2, md_activate_b371_e, if_neg (by decide), w2, if_pos (by omega)]
      · refine ⟨4, 0, 0, 0, Or.inr (Or.inr (Or.inr (Or.inr (Or.inl ⟨rfl, rfl, rfl, rfl⟩)))), ?_, ?_⟩
        · rw [mc_activate_b313_e, if_pos rb, if_pos (by omega), if_pos rb, if_neg z, wn, mc_activate_b361_e, if_neg z]
        · rw [md_activate_b317_e, if_pos rb, rr.1, if_pos (by omega), if_neg z, md_activate_b339_e, if_pos rb, if_pos rfl, wn2, md_activate_b371_e, if_pos rfl]
    obtain ⟨k, x, t, y, v1, v2, v3⟩ := val
    obtain ⟨S1, T1, s1, s2, s3, nd⟩ := write_pair (n := σ 26 r + i) Q (by rw [er]; omega) (by rw [k9]; exact Or.inl rn.1) v1
    have nd' := nd
    obtain ⟨⟨x1, x2, x3, x4⟩, x5, x6, x7, x8, x9⟩ := nd'
    have e30 : S1 30 r = σ 30 r := congrFun ((fr_inl fm_mc_write (mc_write_l σ (σ 26 r + i) k x) s1).r 30 1 (by decide +kernel) (by decide) (by decide)) r
    obtain ⟨S, T, i1, i2, i3, i4⟩ := parm_pair (r := r) h0 h1 ha d S1 T1 (i + 1) s3 (by rw [x2 21 (by decide), x1 90 (by decide)]; exact er) (by omega) (by omega) (fun j j0 j1 => by
      rw [x5 88 (by decide), x5 89 (by decide), x7 221 (by decide) (by decide), x7 222 (by decide) (by decide)]
      exact x9 _ _ _ _ (pv j j0 j1))
    refine ⟨S, T, ?_, ?_, i3, nd.tr i4⟩
    · rw [v2, mc_activate_b382_e, s1]
      simp only [Option.bind_some]
      rw [w32_e (by omega) (by omega), i1]
    · rw [v3, md_activate_b391_e, s2]
      simp only [Option.bind_some]
      rw [w32_e (by omega) (by omega), i2]
end LO
