/-! operators that take other things than these: both sides fail -/
section TW
variable {σ τ S T Z X : gM} {pT hT : Int → Int} {m : Nat} {br co θ n : Int}
theorem op_twoF (R : RR σ τ pT hT (m + 1) br co θ) (en : τ 218 (τ 212 (σ 87 21) + m + 1) = n) (es : τ 219 (τ 212 (σ 87 21) + m + 1) = 2) (hn : 0 ≤ n ∧ σ 26 (σ 90 (σ 87 21)) ≤ n ∧ n < σ 26 (σ 90 (σ 87 21)) + σ 27 (σ 90 (σ 87 21))) (hh : 2 ≤ hT (σ 87 21)) (hb : hT (σ 87 21) ≤ 500) (kd : 8 ≤ τ 168 n ∧ τ 168 n ≤ 15) (i : cI σ (pT (σ 87 21)) 3 0 n) (nn : ¬ ((σ 88 (σ 87 8 - 2) = 0 ∨ σ 88 (σ 87 8 - 2) = 1) ∧ (σ 88 (σ 87 8 - 1) = 0 ∨ σ 88 (σ 87 8 - 1) = 1))) (ns : τ 168 n = 8 → σ 88 (σ 87 8 - 2) ≠ 2 ∧ σ 88 (σ 87 8 - 1) ≠ 2) : endX σ τ := by
  obtain ⟨-, -, -, -, ⟨t1, t2⟩, t3, -, -, -, t6⟩ := R.top
  obtain ⟨c1, -, c2, pc, c5, c6, c7, c8, c9⟩ := R.cur
  obtain ⟨o, p1, p2, p3, p4, p5, p6⟩ := R.pl
  have Q := R.1
  have c8' := c9 n hn.2.1 hn.2.2
  have k9 : σ 9 n = τ 168 n := c8'.1.1.symm
  have nb : 0 ≤ n ∧ n < 16000 := by omega
  obtain ⟨oo, w1, w2, w3, w4, w5⟩ := work2 R (n := n) (by omega) (by omega) hh hb i
  generalize eτ : gW τ 219 (τ 212 (σ 87 21) + m + 1) 3 = τ1
  have gs : ∀ a j, a ≠ 219 ∨ j ≠ τ 212 (σ 87 21) + m + 1 → τ1 a j = τ a j := fun a j q => by
    rw [← eτ]
    rcases q with q | q
    · exact gW_c q
    · exact gW_j q
  have dd : smM τ τ1 (τ 212 (σ 87 21)) := by rw [← eτ]; exact smM.g219 (by omega)
  have cc : smC σ σ := ⟨fun _ _ _ _ _ _ => rfl, fun _ _ _ _ => rfl⟩
  have v1 := p2 (σ 87 8 - 2) (by omega) (by omega)
  rw [show σ 87 8 - 2 + o = τ 119 125 - 2 by omega] at v1
  have v2 := p2 (σ 87 8 - 1) (by omega) (by omega)
  rw [show σ 87 8 - 1 + o = τ 119 125 - 1 by omega] at v2
  obtain ⟨kt1, k10, k16⟩ := v1.kt
  obtain ⟨kt2, k20, k26⟩ := v2.kt
  have tv : ∀ k t, t = kT k → 0 ≤ k → k ≤ 6 → (t = 4 ↔ k = 2) ∧ ((t = 2 ∨ t = 3) ↔ (k = 0 ∨ k = 1)) := fun k t e k0 k6 => by
    rw [e]
    unfold kT
    split
    · omega
    · split
      · omega
      · split <;> omega
  have tv1 := tv _ _ kt1 k10 k16
  have tv2 := tv _ _ kt2 k20 k26
  have Q0 : RQ σ τ1 pT hT := by
    have := Q.sm (S := σ) (T := τ1) (P' := pT (σ 87 21)) (h' := hT (σ 87 21)) cc dd pc
    rw [updF_same, updF_same] at this
    exact this
  have g119 : ∀ j, τ1 119 j = τ 119 j := fun j => gs 119 j (by omega)
  have g221 : ∀ j, τ1 221 j = τ 221 j := fun j => gs 221 j (by omega)
  have isM1 : ∀ (W : gM) t, t = 2 ∨ t = 3 → md_isNumber W t = some (W, 1) := fun W t h => by
    rw [md_isNumber_e]
    by_cases q : t = 2
    · rw [if_pos q, md_isNumber_b10_e]
    · rw [if_neg q, if_pos (by omega), md_isNumber_b10_e]
  have isM0 : ∀ (W : gM) t, ¬ (t = 2 ∨ t = 3) → md_isNumber W t = some (W, 0) := fun W t h => by
    rw [md_isNumber_e, if_neg (by omega), if_neg (by omega)]
  have eC : mc_two σ n = ((mc_fails σ 1 n).bind fun p1 => g01 p1.2 (some (p1.1, p1.2))) := by
    have e55 : mc_two_b55 σ n (τ 168 n) = mc_two_b99 σ n := by
      rw [mc_two_b55_e]
      by_cases z : τ 168 n = 8
      · rw [if_pos z, w32_e (x := σ 87 8 - 2) (by omega) (by omega), w32_e (x := σ 87 8 - 1) (by omega) (by omega), if_pos (by omega), if_neg (ns z).1, if_pos (by omega), if_neg (ns z).2]
      · rw [if_neg z]
    have e0 : mc_two σ n = mc_two_b55 σ n (τ 168 n) := by
      rw [mc_two_e, if_pos nb, k9, if_neg (by omega), if_neg (by omega), w32_e (x := σ 87 8 - 2) (by omega) (by omega)]
      by_cases z : σ 88 (σ 87 8 - 2) = 0 ∨ σ 88 (σ 87 8 - 2) = 1
      · rw [isN_1 (by omega) z]
        simp only [Option.bind_some]
        rw [if_neg (show ¬ (1 : Int) = 0 by decide), w32_e (x := σ 87 8 - 1) (by omega) (by omega), isN_0 (by omega) (fun h => nn ⟨z, h⟩)]
        simp only [Option.bind_some, if_true]
      · rw [isN_0 (by omega) z]
        simp only [Option.bind_some, if_true]
    rw [e0, e55, mc_two_b99_e]
  refine Q0.failX (e := 1) ⟨hn.2.1, hn.2.2⟩ t6.1 w3 w1 w4 w2 (fun f => ?_) t6.2.1 t6.2.2 t1 t2 en (fun f => ?_) (g119 119)
  · rw [w5, mc_work_b203_e, eC, f]; rfl
  · rw [md_works_e, if_neg (by omega), if_neg (by omega), if_pos t2, if_pos t2, if_pos t2, es, if_neg (by decide), w32_e (x := 2 + 1) (by decide) (by decide), show (2 : Int) + 1 = 3 by decide, eτ]
    by_cases z : 11 < τ 168 n
    · rw [if_pos z, if_neg (by omega), md_orders_e, g119, w32_e (x := τ 119 125 - 2) (by omega) (by omega), w32_e (x := τ 119 125 - 1) (by omega) (by omega), if_pos (by omega), if_pos (by omega), g221, g221]
      have e40 : md_orders_b40 τ1 n = some (erM τ1 1 n, none) := by rw [md_orders_b40_e]; exact f
      by_cases y : σ 88 (σ 87 8 - 2) = 0 ∨ σ 88 (σ 87 8 - 2) = 1
      · rw [isM1 τ1 _ (tv1.2.mpr y)]
        simp only [Option.bind_some]
        rw [if_neg (show ¬ (1 : Int) = 0 by decide), isM0 τ1 _ (fun h => nn ⟨y, tv2.2.mp h⟩)]
        simp only [Option.bind_some, if_true]
        rw [e40]
        rfl
      · rw [isM0 τ1 _ (fun h => y (tv1.2.mp h))]
        simp only [Option.bind_some, if_true]
        rw [e40]
        rfl
    · rw [if_neg z]
      have e63 : md_reckons_b63 τ1 n = some (erM τ1 1 n, none) := by rw [md_reckons_b63_e]; exact f
      have e48 : md_reckons τ1 n (τ 168 n) = some (erM τ1 1 n, none) := by
        have e : md_reckons τ1 n (τ 168 n) = md_reckons_b48 τ1 n (τ 168 n) (τ 221 (τ 119 125 - 2)) (τ 221 (τ 119 125 - 1)) := by
          rw [md_reckons_e, g119, w32_e (x := τ 119 125 - 2) (by omega) (by omega), w32_e (x := τ 119 125 - 1) (by omega) (by omega), if_pos (by omega), if_pos (by omega), g221, g221]
          by_cases y : τ 168 n = 8
          · rw [if_pos y, if_neg (fun h => (ns y).1 (tv1.1.mp h)), if_neg (fun h => (ns y).2 (tv2.1.mp h))]
          · rw [if_neg y]
        rw [e, md_reckons_b48_e]
        by_cases y : σ 88 (σ 87 8 - 2) = 0 ∨ σ 88 (σ 87 8 - 2) = 1
        · rw [isM1 τ1 _ (tv1.2.mpr y)]
          simp only [Option.bind_some]
          rw [if_neg (show ¬ (1 : Int) = 0 by decide), isM0 τ1 _ (fun h => nn ⟨y, tv2.2.mp h⟩)]
          simp only [Option.bind_some, if_true]
          exact e63
        · rw [isM0 τ1 _ (fun h => y (tv1.2.mp h))]
          simp only [Option.bind_some, if_true]
          exact e63
      rw [e48]
      rfl
end TW
