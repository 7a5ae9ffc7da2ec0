/-! a while's condition is come to again: both sides -/
section AG
variable {σ τ S T : gM} {pT hT : Int → Int} {m : Nat} {br co θ n : Int}
/-- what coming again changes -/
def agF (σ τ S T : gM) : Prop := (∀ a, a = 14 ∨ (20 ≤ a ∧ a ≤ 22) ∨ (26 ≤ a ∧ a ≤ 29) ∨ (88 ≤ a ∧ a ≤ 90) ∨ a = 92 → S a = σ a) ∧ (∀ i, i ≠ 22 → i ≠ 37 → S 87 i = σ 87 i) ∧ (∀ a, a = 168 ∨ (170 ≤ a ∧ a ≤ 173) ∨ (212 ≤ a ∧ a ≤ 213) ∨ (218 ≤ a ∧ a ≤ 222) → T a = τ a) ∧ (∀ i, i ≠ 89 → T 119 i = τ 119 i) ∧ ccN S (σ 87 19).toNat ≤ ccN σ (σ 87 19).toNat + 1 ∧ ∀ k x t y, rVal σ τ k x t y → rVal S T k x t y
/-- the newest activation goes on at P', in a code if there is one -/
theorem again_pair {P' : Int} (Q : RQ σ τ pT hT) (hcc : τ 119 123 ≤ 2000000000) (hP : σ 28 (σ 90 (σ 87 21)) ≤ P' ∧ P' < σ 28 (σ 90 (σ 87 21)) + σ 29 (σ 90 (σ 87 21))) (i : cI σ (pT (σ 87 21)) 13 P' n) : ∃ S T, mc_again σ = some (S, 0) ∧ (∀ X : gM → Option (gM × Option Int), (if 0 ≤ w32 (τ 119 121 - 1) ∧ w32 (τ 119 121 - 1) < 60 then (if τ 209 (w32 (τ 119 121 - 1)) < 0 then (if 0 ≤ w32 (τ 119 121 - 1) ∧ w32 (τ 119 121 - 1) < 60 then ((md_heat τ (τ 208 (w32 (τ 119 121 - 1)))).bind fun p4 => (md_enterCode p4.1 (w32 (τ 119 121 - 1))).bind fun p5 => X p5.1) else none) else X τ) else none) = X T) ∧ RQ S T (updF pT (σ 87 21) P') hT ∧ agF σ τ S T := by
  obtain ⟨c1, c2, c3, c4, c5, c6⟩ := Q.cu
  have A := Q.2.1
  have hm := A.2.2.2.2.2.1
  have m59 := A.2.1.1
  have hIn := Q.1.1.1.2.2.2.2.2.2.2.2.2.2.1
  obtain ⟨a1, a2, a3, -⟩ := A.2.1.2.2 (σ 87 21) (by omega) (by omega)
  obtain ⟨o1, o2, o3, o4, o5⟩ := A.op rfl i hIn hIn.1.2
  have o5 := o5 (by unfold isJ; omega) hP.1 hP.2
  have cub : 0 ≤ σ 87 21 ∧ σ 87 21 < 60 := by omega
  have rb : 0 ≤ σ 90 (σ 87 21) ∧ σ 90 (σ 87 21) < 60 := by omega
  have w1 : w32 (τ 119 121 - 1) = σ 87 21 := by rw [w32_e (by omega) (by omega)]; omega
  rw [mc_again_e, if_pos cub, if_pos o1, if_pos cub]
  -- the place alone
  have plc1 : ∀ (S T : gM), RQ S T pT hT → (∀ a, (a = 28 ∨ a = 29 ∨ a = 54 ∨ a = 65 ∨ a = 90 ∨ a = 93 ∨ a = 94) → S a = σ a) → S 87 21 = σ 87 21 → RQ (gW S 87 22 (σ 21 (σ 87 22))) T (updF pT (σ 87 21) P') hT := fun S T q k e => by
    have := q.sm (S := gW S 87 22 (σ 21 (σ 87 22))) (T := T) (P' := P') (h' := hT (σ 87 21)) ⟨fun a j q1 _ _ _ => gW_c q1, fun j _ q _ => gW_i q⟩ ⟨fun _ _ _ _ _ _ => rfl, fun _ _ _ _ => rfl, fun _ _ _ _ _ => rfl⟩ (by
      unfold pcT at o5 ⊢
      rw [gW_at, e, k 28 (by decide), k 29 (by decide), k 54 (by decide), k 65 (by decide), k 90 (by decide), k 93 (by decide), k 94 (by decide)]
      exact o5)
    rw [e] at this
    have e2 : updF hT (σ 87 21) (hT (σ 87 21)) = hT := updF_same ..
    rw [e2] at this
    exact this
  by_cases z : σ 93 (σ 87 21) < 0
  · have h93 : σ 93 (σ 87 21) = -1 := by
      rcases a3 with y | y
      · exact y.1
      · omega
    obtain ⟨S1, T1, s1, s2, s3, ⟨⟨x1, x2, x3, x4⟩, x9⟩, s5, s6, s7⟩ := heat_pair Q c2
    have k87 : S1 87 = σ 87 := funext fun j => s5 87 j (by decide) (by decide) (by decide)
    have kS : ∀ a, a ≠ 32 → a ≠ 52 → a ≠ 67 → S1 a = σ a := fun a q1 q2 q3 => funext fun j => s5 a j q1 q2 q3
    have kT : ∀ a, a ≠ 163 → a ≠ 119 → a ≠ 185 → T1 a = τ a := fun a q1 q2 q3 => funext fun j => s6 a j q1 q2 q3
    rw [if_pos z, s1]
    simp only [Option.bind_some]
    rw [if_pos rb]
    have e21 : S1 87 21 = σ 87 21 := by rw [k87]
    have e90 : S1 90 = σ 90 := kS 90 (by decide) (by decide) (by decide)
    by_cases y : S1 34 (σ 90 (σ 87 21)) < 0
    · rw [if_pos y, mc_again_b102_e]
      have en := ent_no s3 (by rw [e21, e90]; exact y)
      rw [e21] at en
      refine ⟨_, T1, rfl, fun X => ?_, plc1 S1 T1 s3 (fun a q => kS a (by omega) (by omega) (by omega)) e21, ⟨fun a q => ?_, fun j q1 _ => by rw [gW_i q1, k87], fun a q => kT a (by omega) (by omega) (by omega), s7, ?_, fun k x t y q => ?_⟩⟩
      · rw [w1, if_pos cub, a1.2.1, if_pos z, if_pos cub, a1.1, s2]
        simp only [Option.bind_some]
        rw [en]
        rfl
      · rw [gW_cell (by omega), kS a (by omega) (by omega) (by omega)]
      · rw [ccN_eq (S := gW S1 87 22 (σ 21 (σ 87 22))) (σ := σ) _ fun j _ _ => by rw [gW_c (by decide), kS 93 (by decide) (by decide) (by decide)]]
        omega
      · exact (smC.rv (f := 0) (σ := S1) (τ := T1) (T := T1) ⟨fun a j q1 _ _ _ => gW_c q1, fun j _ q _ => gW_i q⟩ ⟨fun _ _ _ _ _ _ => rfl, fun _ _ _ _ => rfl, fun _ _ _ _ _ => rfl⟩).mpr (x9 k x t y q)
    · rw [if_neg y, if_pos rb]
      obtain ⟨S2, T2, t1, t2, t3, t4, t5, t6, t7, t8, t9, t10⟩ := ent_yes (P' := P') s3 (by rw [e21, e90]; omega) (by rw [e21, kS 93 (by decide) (by decide) (by decide)]; exact h93) (by rw [s7 123 (by decide)]; exact hcc) (by rw [e21, e90, kS 28 (by decide) (by decide) (by decide), kS 29 (by decide) (by decide) (by decide)]; exact hP)
      rw [e21, e90] at t1 t4 t10
      rw [e21] at t2 t3
      rw [e90] at t3
      have f21 : S2 87 21 = σ 87 21 := by rw [t6 21 (by decide), k87]
      have f28 : S2 28 = σ 28 := funext fun j => by rw [t5 28 j (by decide) (by decide) (by decide) (by decide), kS 28 (by decide) (by decide) (by decide)]
      have et : σ 21 (σ 87 22) = P' := o5.2.1 h93
      have g28 : S1 28 = σ 28 := kS 28 (by decide) (by decide) (by decide)
      rw [g28] at t4 t10
      have r28 := (hIn.2 _ c2.1 c2.2)
      have h16 := hIn.1.2
      have eC : (mc_enters S1 (S1 34 (σ 90 (σ 87 21)))).bind (fun p2 => if 0 ≤ σ 90 (σ 87 21) ∧ σ 90 (σ 87 21) < 60 then (if 0 ≤ p2.1 87 21 ∧ p2.1 87 21 < 60 then ((cd_start p2.1 (p2.1 93 (p2.1 87 21)) 0).bind fun p3 => mc_again_b102 p3.1 (w32 ((w32 ((σ 21 (σ 87 22)) - (p2.1 28 (σ 90 (σ 87 21))))) + p3.2))) else none) else none) = some (gW S2 87 22 (P' - σ 28 (σ 90 (σ 87 21)) + S1 65 (S1 54 (S1 34 (σ 90 (σ 87 21))))), 0) := by
        rw [t1]
        simp only [Option.bind_some]
        rw [if_pos rb, f21, if_pos cub, t3]
        simp only [Option.bind_some]
        rw [f28, et, w32_e (x := P' - σ 28 (σ 90 (σ 87 21))) (by omega) (by omega), w32_e (by omega) (by omega), mc_again_b102_e]
      rw [eC]
      refine ⟨_, T2, rfl, fun X => ?_, t4, ⟨fun a q => ?_, fun j q1 q2 => by rw [gW_i q1, t6 j q2, k87], fun a q => ?_, fun j q => ?_, ?_, fun k x t y q => ?_⟩⟩
      · rw [w1, if_pos cub, a1.2.1, if_pos z, if_pos cub, a1.1, s2]
        simp only [Option.bind_some]
        rw [t2]
        rfl
      · rw [gW_cell (by omega)]
        funext j
        rw [t5 a j (by omega) (by omega) (by omega) (by omega), kS a (by omega) (by omega) (by omega)]
      · funext j
        rw [t7 a j (by omega) (by omega) (by omega) (by omega), kT a (by omega) (by omega) (by omega)]
      · rw [t7 119 j (by decide) (by decide) (by decide) (by decide), s7 j q]
      · rw [ccN_eq (S := gW S2 87 22 (P' - σ 28 (σ 90 (σ 87 21)) + S1 65 (S1 54 (S1 34 (σ 90 (σ 87 21)))))) (σ := S2) _ fun j _ _ => gW_c (by decide)]
        rw [k87] at t8
        rw [t8, ccN_eq (S := S1) (σ := σ) _ fun j _ _ => by rw [kS 93 (by decide) (by decide) (by decide)]]
        omega
      · exact (smC.rv (f := 0) (σ := S2) (τ := T2) (T := T2) ⟨fun a j q1 _ _ _ => gW_c q1, fun j _ q _ => gW_i q⟩ ⟨fun _ _ _ _ _ _ => rfl, fun _ _ _ _ => rfl, fun _ _ _ _ _ => rfl⟩).mpr (t9 k x t y (x9 k x t y q))
  · rw [if_neg z, mc_again_b102_e]
    refine ⟨_, τ, rfl, fun X => ?_, plc1 σ τ Q (fun _ _ => rfl) rfl, ⟨fun a q => gW_cell (by omega), fun j q1 _ => gW_i q1, fun _ _ => rfl, fun _ _ => rfl, ?_, fun k x t y q => ?_⟩⟩
    · rw [w1, if_pos cub, a1.2.1, if_neg z]
    · rw [ccN_eq (S := gW σ 87 22 (σ 21 (σ 87 22))) (σ := σ) _ fun j _ _ => gW_c (by decide)]
      omega
    · exact (smC.rv (f := 0) (σ := σ) (τ := τ) (T := τ) ⟨fun a j q1 _ _ _ => gW_c q1, fun j _ q _ => gW_i q⟩ ⟨fun _ _ _ _ _ _ => rfl, fun _ _ _ _ => rfl, fun _ _ _ _ _ => rfl⟩).mpr q
end AG
