/-! a node of a run gets another state: what stays -/
theorem i_or_r {s : Int} (h : 0 ≤ s ∧ s < 16) : (0 ≤ i_or s 1 ∧ i_or s 1 < 16) ∧ (0 ≤ i_or s 2 ∧ i_or s 2 < 16) ∧ (0 ≤ i_or s 4 ∧ i_or s 4 < 16) ∧ (0 ≤ i_or s 8 ∧ i_or s 8 < 16) := by
  have : ∀ k : Fin 16, (0 ≤ i_or k.val 1 ∧ i_or k.val 1 < 16) ∧ (0 ≤ i_or k.val 2 ∧ i_or k.val 2 < 16) ∧ (0 ≤ i_or k.val 4 ∧ i_or k.val 4 < 16) ∧ (0 ≤ i_or k.val 8 ∧ i_or k.val 8 < 16) := by decide +kernel
  have hk := this ⟨s.toNat, by omega⟩
  have e : ((s.toNat : Nat) : Int) = s := by omega
  simp only [e] at hk
  exact hk
/-- what a change of a node keeps of a run -/
def ndX (σ τ S T : gM) : Prop := kpX σ τ S T ∧ (∀ a, a = 88 ∨ a = 89 → S a = σ a) ∧ S 87 8 = σ 87 8 ∧ (∀ a, 218 ≤ a → a ≤ 222 → T a = τ a) ∧ (∀ i, i ≠ 123 → T 119 i = τ 119 i) ∧ (∀ k x t y, rVal σ τ k x t y → rVal S T k x t y)
section ST
variable {σ τ S T : gM} {pT hT : Int → Int} {n v g b rep : Int}
theorem updF_same (f : Int → Int) (c : Int) : updF f c (f c) = f := funext fun k => by
  unfold updF
  split
  · next h => rw [h]
  · rfl
theorem ndX.rf : ndX σ τ σ τ := ⟨⟨fun _ _ => rfl, fun _ _ => rfl, fun _ _ => rfl, rfl⟩, fun _ _ => rfl, rfl, fun _ _ _ => rfl, fun _ _ => rfl, fun _ _ _ _ h => h⟩
theorem cg_nd {r : Int} (c : cgC σ S n v) (d : cgM τ T n r v g) (cc : T 119 123 + ccN S (σ 87 19).toNat = τ 119 123 + ccN σ (σ 87 19).toNat) : ndX σ τ S T := by
  have rv := (rVal_up c.stl d.stl).1
  obtain ⟨c1, c2, c3, c4, c5⟩ := c
  obtain ⟨d1, d2, d3, d4, d5, d6, d7⟩ := d
  have kS : ∀ a, a ≠ 11 → a ≠ 12 → a ≠ 32 → a ≠ 34 → a ≠ 59 → a ≠ 61 → a ≠ 87 → a ≠ 91 → (a < 93 ∨ 96 < a) → S a = σ a := fun a q1 q2 q3 q4 q5 q6 q7 q8 q9 => funext fun i => c1 a i q1 q2 q3 q4 q5 q6 q7 q8 q9
  have kT : ∀ a, a ≠ 119 → (a < 163 ∨ 164 < a) → a ≠ 166 → (a < 178 ∨ 180 < a) → a ≠ 201 → a ≠ 203 → (a < 209 ∨ 211 < a) → a ≠ 214 → a ≠ 224 → T a = τ a := fun a q1 q2 q3 q4 q5 q6 q7 q8 q9 => funext fun i => d1 a i q1 q2 q3 q4 q5 q6 q7 q8 q9
  exact ⟨⟨fun a q => kS a (by omega) (by omega) (by omega) (by omega) (by omega) (by omega) (by omega) (by omega) (by omega), fun i q => c4 i (by omega) (by omega) (by omega), fun a q => kT a (by omega) (by omega) (by omega) (by omega) (by omega) (by omega) (by omega) (by omega) (by omega), cc⟩, fun a q => kS a (by omega) (by omega) (by omega) (by omega) (by omega) (by omega) (by omega) (by omega) (by omega), c4 8 (by decide) (by decide) (by decide), fun a q1 q2 => kT a (by omega) (by omega) (by omega) (by omega) (by omega) (by omega) (by omega) (by omega) (by omega), d6, fun k x t y q => (rv k x t y).mpr q⟩
/-- a node's state changes: both sides, within a run -/
theorem set_pair (R : RQ σ τ pT hT) (hn : σ 26 (σ 90 (σ 87 21)) ≤ n ∧ n < σ 26 (σ 90 (σ 87 21)) + σ 27 (σ 90 (σ 87 21))) (hv : v = if rep = 0 then i_or (σ 11 n) b else i_or (i_and (σ 11 n) (i_xor (w32 (b - 1)) (-1))) b) (hg : g = if rep = 0 then τ 179 n else i_or (τ 179 n) (w32 (b - 1))) (v16 : 0 ≤ v ∧ v < 16) (nk : σ 9 n < 21 ∨ 23 < σ 9 n) (n1 : (σ 9 n = 0 ∨ σ 9 n = 5 ∨ σ 9 n = 6) → v ≤ 4 ∧ (v ≠ 4 → g = 0)) (n2 : 8 ≤ σ 9 n → σ 9 n ≤ 11 → (v % 2 = 1 → v / 2 % 2 = 0) ∧ (v / 2 % 2 = 0 → g = 0)) (n3 : (σ 9 n = 0 ∨ σ 9 n = 6) → 1 ≤ v → v ≤ 3 → σ 35 (12 * σ 90 (σ 87 21) + σ 13 n) ≠ 0) :
    ∃ S T, mc_changes σ n v = some (S, 0) ∧ md_settle τ n b rep = some (T, 0) ∧ RQ S T pT hT ∧ ndX σ τ S T ∧ S 11 n = v ∧ T 178 n = v ∧ cgC σ S n v ∧ cgM τ T n (σ 90 (σ 87 21)) v g := by
  obtain ⟨c1, c2, c3, c4, c5, c6⟩ := R.cu
  have R' := R
  obtain ⟨⟨⟨P1, -⟩, -⟩, A, -⟩ := R'
  have hN := P1.2.2.2.2.2.2.2.2.1
  have n8 := hN.2.1 _ c2.1 c2.2
  have nn := hN.2.2 n (by omega) (by omega)
  have e178 := nn.2.2.1.1
  obtain ⟨S, T, s1, s2, s3, s4, s5, s6, s7, s8⟩ := settle_pair (n := n) (v := v) (g := g) (b := b) (rep := rep) A (by omega) (c6 n hn.1 hn.2) (by rw [e178]; exact hv) hg
  exact ⟨S, T, s1, s2, R.st s3 s4 s5 s6 rfl hn v16 nk n1 n2 n3 s7, cg_nd s5 s6 s8, s5.2.1.1, s6.2.1.1, s5, s6⟩
/-- a way is taken -/
theorem took_pair {w : Int} (R : RQ σ τ pT hT) (hn : σ 26 (σ 90 (σ 87 21)) ≤ n ∧ n < σ 26 (σ 90 (σ 87 21)) + σ 27 (σ 90 (σ 87 21))) (kd : τ 168 n = 18 ∨ τ 168 n = 19 ∨ τ 168 n = 24 ∨ τ 168 n = 25) (hw : w = 1 ∨ w = 2) :
    ∃ S T, mc_took σ n w = some (S, 0) ∧ (∀ X : gM → Option (gM × Option Int), ((md_has τ n w).bind fun p1 => if p1.2 = 0 then (md_settle p1.1 n w 0).bind fun p2 => X p2.1 else X p1.1) = X T) ∧ RQ S T pT hT ∧ ndX σ τ S T := by
  obtain ⟨c1, c2, c3, c4, c5, c6⟩ := R.cu
  have R' := R
  obtain ⟨⟨⟨P1, -⟩, -⟩, A, -⟩ := R'
  have hN := P1.2.2.2.2.2.2.2.2.1
  have n8 := hN.2.1 _ c2.1 c2.2
  have nn := hN.2.2 n (by omega) (by omega)
  have e178 := nn.2.2.1
  have k9 := nn.1
  have nb : 0 ≤ n ∧ n < 16000 := by have := hN.1; omega
  have n2 : 0 ≤ n ∧ n < 20000 := by omega
  by_cases z : i_and (σ 11 n) w = 0
  · have ir := i_or_r e178.2
    obtain ⟨S, T, s1, s2, s3, s4, -⟩ := set_pair (v := i_or (σ 11 n) w) (g := τ 179 n) (b := w) (rep := 0) R hn (by rw [if_pos rfl]) (by rw [if_pos rfl]) (by rcases hw with e | e <;> rw [e] <;> omega) (by omega) (by omega) (by omega) (by omega)
    refine ⟨S, T, ?_, fun X => ?_, s3, s4⟩
    · rw [mc_took_e, if_pos nb, if_pos z, if_pos nb, s1]
      rfl
    · rw [md_has_e, if_pos n2, e178.1, if_pos z]
      simp only [Option.bind_some, if_true]
      rw [s2]
      rfl
  · refine ⟨σ, τ, ?_, fun X => ?_, R, ndX.rf⟩
    · rw [mc_took_e, if_pos nb, if_neg z]
    · rw [md_has_e, if_pos n2, e178.1, if_neg z]
      simp only [Option.bind_some]
      rw [if_neg (show ¬ (1 : Int) = 0 by decide)]
end ST
