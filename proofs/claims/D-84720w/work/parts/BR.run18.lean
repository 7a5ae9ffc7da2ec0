/-! a run fails: both sides; values go, truths -/
/-- what is related whatever the state of a run -/
def RB (σ τ : gM) : Prop := (rPr σ τ ∧ rNo σ τ ∧ rRm σ τ ∧ rBy σ τ) ∧ rTo σ τ ∧ τ 119 117 = σ 87 23 ∧ τ 119 118 = σ 87 24 ∧ τ 119 121 = σ 87 19 ∧ τ 119 122 = σ 87 20 ∧ τ 119 95 = σ 87 31 ∧ (τ 119 126 = σ 87 34 ∧ 0 ≤ σ 87 34) ∧ (∀ i, 0 ≤ i → i < 2000 → i < σ 87 34 → τ 223 i = σ 103 i) ∧ τ 119 1 = σ 87 5
/-- what a run has come to: it will be shown as it is now -/
def rRs (σ τ : gM) : Prop := ∃ L : List Int, (∀ τ' : gM, (∀ a, (121 ≤ a ∧ a ≤ 128) ∨ (155 ≤ a ∧ a ≤ 156) ∨ (186 ≤ a ∧ a ≤ 187) → τ' a = τ a) → (∀ i, i = 9 ∨ i = 10 ∨ i = 12 ∨ i = 13 ∨ i = 15 ∨ i = 16 ∨ i = 56 ∨ i = 92 ∨ i = 93 → τ' 119 i = τ 119 i) → τ' 119 151 = 0 → ∃ τ2, md_show τ' (τ 119 148) (τ 119 149) = some (put2 τ2 L, 0) ∧ ∀ b i, b ≠ 129 → τ2 b i = τ' b i) ∧ σ 87 35 = L.length ∧ L.length ≤ 200 ∧ ∀ i : Nat, i < L.length → σ 104 i = L.getD i 0
/-- a run that has ended or failed -/
def RE (σ τ : gM) : Prop := RB σ τ ∧ σ 87 19 = 0 ∧ ((σ 87 23 = 3 ∧ τ 119 128 = σ 87 25 ∧ τ 119 129 = σ 87 26 ∧ τ 119 130 = σ 87 27) ∨ (σ 87 23 = 2 ∧ rRs σ τ))
/-- both end -/
def endX (σ τ : gM) : Prop := ∃ S T, (∀ x1 x2, mc_go_b2 σ x1 x2 = some (S, x2)) ∧ md_goOn_b15 τ = some (T, 0) ∧ RE S T ∧ T 119 119 = τ 119 119
def flS (σ : gM) (e n : Int) : gM := gW (gW (gW (gW (gW σ 87 23 3) 87 25 e) 87 26 (σ 90 (σ 87 21))) 87 27 (n - σ 26 (σ 90 (σ 87 21)))) 87 19 0
def erM (τ : gM) (e n : Int) : gM := gW (gW (gW τ 119 128 e) 119 129 (τ 174 n)) 119 130 (n - τ 158 (τ 174 n))
section FA
variable {σ τ S T : gM} {pT hT : Int → Int} {m : Nat} {br co θ n e : Int}
theorem RQ.cu (R : RQ σ τ pT hT) : (0 ≤ σ 87 21 ∧ σ 87 21 < 59) ∧ (4 ≤ σ 90 (σ 87 21) ∧ σ 90 (σ 87 21) < σ 8 31) ∧ (0 ≤ σ 26 (σ 90 (σ 87 21)) ∧ σ 26 (σ 90 (σ 87 21)) + σ 27 (σ 90 (σ 87 21)) ≤ 16000) ∧ σ 8 31 ≤ 60 ∧ τ 158 (σ 90 (σ 87 21)) = σ 26 (σ 90 (σ 87 21)) ∧ (∀ n, σ 26 (σ 90 (σ 87 21)) ≤ n → n < σ 26 (σ 90 (σ 87 21)) + σ 27 (σ 90 (σ 87 21)) → τ 174 n = σ 90 (σ 87 21)) := by
  obtain ⟨⟨⟨P1, -⟩, -⟩, ⟨hb, ha, -, -, -, ⟨hm, hc⟩, -⟩, -⟩ := R
  have m59 := ha.1
  have r4 := (ha.2.2 (σ 87 21) (by omega) (by omega)).2.1
  have hN := P1.2.2.2.2.2.2.2.2.1
  obtain ⟨n1, -, n3, n4, n5, n6⟩ := hN.2.1 _ r4.1 r4.2
  have h16 := hN.1
  have r60 := hb.1.1
  exact ⟨by omega, r4, by omega, by omega, n1, n6⟩
/-- both fail alike -/
theorem RQ.fail (R : RQ σ τ pT hT) (hn : σ 26 (σ 90 (σ 87 21)) ≤ n ∧ n < σ 26 (σ 90 (σ 87 21)) + σ 27 (σ 90 (σ 87 21))) : mc_fails σ e n = some (flS σ e n, 0) ∧ ((md_error τ e n).bind fun p => gthr p.1 p.2) = some (erM τ e n, none) ∧ RE (flS σ e n) (gW (gW (erM τ e n) 119 117 3) 119 121 0) ∧ (flS σ e n) 87 23 = 3 := by
  obtain ⟨c1, c2, c3, c4, c5, c6⟩ := R.cu
  have t174 := c6 n hn.1 hn.2
  have kS : ∀ a, a ≠ 87 → flS σ e n a = σ a := fun a q => by unfold flS; rw [gW_cell q, gW_cell q, gW_cell q, gW_cell q, gW_cell q]
  have s87 : ∀ i, i ≠ 19 → i ≠ 23 → i ≠ 25 → i ≠ 26 → i ≠ 27 → flS σ e n 87 i = σ 87 i := fun i q1 q2 q3 q4 q5 => by unfold flS; rw [gW_i q1, gW_i q5, gW_i q4, gW_i q3, gW_i q2]
  have f19 : flS σ e n 87 19 = 0 := by unfold flS; rw [gW_at]
  have f23 : flS σ e n 87 23 = 3 := by unfold flS; rw [gW_i (by decide), gW_i (by decide), gW_i (by decide), gW_i (by decide), gW_at]
  have f25 : flS σ e n 87 25 = e := by unfold flS; rw [gW_i (by decide), gW_i (by decide), gW_i (by decide), gW_at]
  have f26 : flS σ e n 87 26 = σ 90 (σ 87 21) := by unfold flS; rw [gW_i (by decide), gW_i (by decide), gW_at]
  have f27 : flS σ e n 87 27 = n - σ 26 (σ 90 (σ 87 21)) := by unfold flS; rw [gW_i (by decide), gW_at]
  have kT : ∀ a, a ≠ 119 → gW (gW (erM τ e n) 119 117 3) 119 121 0 a = τ a := fun a q => by unfold erM; rw [gW_cell q, gW_cell q, gW_cell q, gW_cell q, gW_cell q]
  have t119 : ∀ i, i ≠ 117 → i ≠ 121 → i ≠ 128 → i ≠ 129 → i ≠ 130 → gW (gW (erM τ e n) 119 117 3) 119 121 0 119 i = τ 119 i := fun i q1 q2 q3 q4 q5 => by unfold erM; rw [gW_i q2, gW_i q1, gW_i q5, gW_i q4, gW_i q3]
  have e117 : gW (gW (erM τ e n) 119 117 3) 119 121 0 119 117 = 3 := by rw [gW_i (by decide), gW_at]
  have e121 : gW (gW (erM τ e n) 119 117 3) 119 121 0 119 121 = 0 := gW_at ..
  have e128 : gW (gW (erM τ e n) 119 117 3) 119 121 0 119 128 = e := by unfold erM; rw [gW_i (by decide), gW_i (by decide), gW_i (by decide), gW_i (by decide), gW_at]
  have e129 : gW (gW (erM τ e n) 119 117 3) 119 121 0 119 129 = τ 174 n := by unfold erM; rw [gW_i (by decide), gW_i (by decide), gW_i (by decide), gW_at]
  have e130 : gW (gW (erM τ e n) 119 117 3) 119 121 0 119 130 = n - τ 158 (τ 174 n) := by unfold erM; rw [gW_i (by decide), gW_i (by decide), gW_at]
  obtain ⟨⟨⟨P1, P2⟩, ⟨N1, N2⟩, M, B⟩, A, ⟨V2, V3⟩, K1, C, F⟩ := R
  have sm1 : sameC σ (flS σ e n) := by
    refine ⟨fun a q => kS a (by omega), ?_⟩
    rw [kS 0 (by decide), kS 8 (by decide), kS 42 (by decide), kS 52 (by decide)]
    exact ⟨rfl, rfl, rfl, rfl, rfl, rfl, rfl, rfl, rfl, rfl, rfl, rfl, rfl, rfl, rfl, rfl, rfl, rfl, s87 31 (by decide) (by decide) (by decide) (by decide) (by decide)⟩
  have sm2 : sameT τ (gW (gW (erM τ e n) 119 117 3) 119 121 0) := ⟨fun a q => kT a (by omega), t119 9 (by decide) (by decide) (by decide) (by decide) (by decide), t119 10 (by decide) (by decide) (by decide) (by decide) (by decide), t119 12 (by decide) (by decide) (by decide) (by decide) (by decide), t119 13 (by decide) (by decide) (by decide) (by decide) (by decide), t119 15 (by decide) (by decide) (by decide) (by decide) (by decide), t119 16 (by decide) (by decide) (by decide) (by decide) (by decide), t119 55 (by decide) (by decide) (by decide) (by decide) (by decide), t119 56 (by decide) (by decide) (by decide) (by decide) (by decide), t119 57 (by decide) (by decide) (by decide) (by decide) (by decide), t119 89 (by decide) (by decide) (by decide) (by decide) (by decide), t119 92 (by decide) (by decide) (by decide) (by decide) (by decide), t119 93 (by decide) (by decide) (by decide) (by decide) (by decide), t119 94 (by decide) (by decide) (by decide) (by decide) (by decide), t119 104 (by decide) (by decide) (by decide) (by decide) (by decide)⟩
  refine ⟨?_, ?_, ⟨⟨⟨⟨P1.mv sm1 sm2, ?_⟩, ⟨?_, ?_⟩, ?_, ?_⟩, ?_, ?_, ?_, ?_, ?_, ?_, ?_, ?_, ?_⟩, f19, Or.inl ⟨f23, ?_, ?_, ?_⟩⟩, f23⟩
  · rw [mc_fails_e, if_pos (by omega), if_pos (by omega), w32_e (by omega) (by omega)]
    rfl
  · rw [md_error_e, if_pos (by omega), if_pos (by omega), t174, if_pos (by omega), w32_e (by omega) (by omega)]
    unfold erM
    rw [t174]
    rfl
  · intro r r0 r1
    rw [kS 8 (by decide)] at r1
    rw [kS 24 (by decide), kS 25 (by decide)]
    exact P2 r r0 r1
  · unfold nIv at N1 ⊢
    rw [kS 8 (by decide), kS 9 (by decide), kS 11 (by decide), kS 18 (by decide), kT 179 (by decide)]
    exact N1
  · unfold sI2 at N2 ⊢
    rw [kS 8 (by decide), kS 9 (by decide), kS 11 (by decide), kS 13 (by decide), kS 26 (by decide), kS 27 (by decide), kS 35 (by decide)]
    exact N2
  · unfold rRm cRm mRm at M ⊢
    rw [kS 0 (by decide), kS 8 (by decide), kS 42 (by decide), t119 9 (by decide) (by decide) (by decide) (by decide) (by decide), t119 10 (by decide) (by decide) (by decide) (by decide) (by decide), t119 15 (by decide) (by decide) (by decide) (by decide) (by decide), t119 56 (by decide) (by decide) (by decide) (by decide) (by decide)]
    exact M
  · exact ⟨by rw [kS 1 (by decide)]; exact B.1, by rw [kT 134 (by decide)]; exact B.2.1, B.2.2.mv (fun a q => kT a (by omega)) (t119 56 (by decide) (by decide) (by decide) (by decide) (by decide))⟩
  · have ht := A.2.2.2.2.1
    unfold rTo at ht ⊢
    rw [kT 224 (by decide), s87 36 (by decide) (by decide) (by decide) (by decide) (by decide), s87 37 (by decide) (by decide) (by decide) (by decide) (by decide), s87 38 (by decide) (by decide) (by decide) (by decide) (by decide), s87 39 (by decide) (by decide) (by decide) (by decide) (by decide), s87 40 (by decide) (by decide) (by decide) (by decide) (by decide), s87 41 (by decide) (by decide) (by decide) (by decide) (by decide), s87 42 (by decide) (by decide) (by decide) (by decide) (by decide)]
    exact ht
  · rw [e117, f23]
  · rw [t119 118 (by decide) (by decide) (by decide) (by decide) (by decide), s87 24 (by decide) (by decide) (by decide) (by decide) (by decide)]; exact C.2.1.1
  · rw [e121, f19]
  · rw [t119 122 (by decide) (by decide) (by decide) (by decide) (by decide), s87 20 (by decide) (by decide) (by decide) (by decide) (by decide)]; exact C.2.2.1
  · rw [t119 95 (by decide) (by decide) (by decide) (by decide) (by decide), s87 31 (by decide) (by decide) (by decide) (by decide) (by decide)]; exact V3.1.2.2
  · rw [t119 126 (by decide) (by decide) (by decide) (by decide) (by decide), s87 34 (by decide) (by decide) (by decide) (by decide) (by decide)]; exact C.2.2.2.1
  · rw [s87 34 (by decide) (by decide) (by decide) (by decide) (by decide), kT 223 (by decide), kS 103 (by decide)]; exact C.2.2.2.2.1
  · rw [t119 1 (by decide) (by decide) (by decide) (by decide) (by decide), s87 5 (by decide) (by decide) (by decide) (by decide) (by decide)]; exact C.2.2.2.2.2.2.1
  · rw [e128, f25]
  · rw [e129, f26, t174]
  · rw [e130, f27, t174, c5]
theorem erM_o {a i : Int} (h : a ≠ 119 ∨ (i ≠ 128 ∧ i ≠ 129 ∧ i ≠ 130)) : erM τ e n a i = τ a i := by
  unfold erM
  rcases h with h | h
  · rw [gW_c h, gW_c h, gW_c h]
  · by_cases z : a = 119
    · rw [z, gW_i h.2.2, gW_i h.2.1, gW_i h.1]
    · rw [gW_c z, gW_c z, gW_c z]
/-- an instruction fails on both sides -/
theorem RQ.failX {o i : Int} {σ1 τ1 : gM} (R : RQ σ1 τ1 pT hT) (hn : σ1 26 (σ1 90 (σ1 87 21)) ≤ n ∧ n < σ1 26 (σ1 90 (σ1 87 21)) + σ1 27 (σ1 90 (σ1 87 21))) (s1 : σ 87 23 = 1) (hp : 0 ≤ σ 87 22 ∧ σ 87 22 < 164000) (eo : σ 20 (σ 87 22) = o) (en : σ 22 (σ 87 22) = n) (ho : o ≠ 10 ∧ o ≠ 13) (ec : mc_fails σ1 e n = some (flS σ1 e n, 0) → mc_work σ o n = some (flS σ1 e n, 0)) (m1 : τ 119 117 = 1) (m2 : τ 119 127 = 0) (e0 : τ 119 124 = i + 1) (hi : 0 ≤ i ∧ i < 42000) (ei : τ 218 i = n) (em : ((md_error τ1 e n).bind fun p => gthr p.1 p.2) = some (erM τ1 e n, none) → md_works τ i n (τ 168 n) = some (erM τ1 e n, none)) (ed : τ1 119 119 = τ 119 119) : endX σ τ := by
  obtain ⟨f1, f2, f3, f4⟩ := R.fail (e := e) hn
  obtain ⟨-, -, c3, -⟩ := R.cu
  refine ⟨_, _, cG_end s1 hp eo en ho (ec f1) (by rw [f4]; decide), mG_fail m1 m2 (work_nf e0 hi ei (by omega) (em f2)), f3, ?_⟩
  rw [gW_i (by decide), gW_i (by decide), erM_o (by omega), ed]
end FA
