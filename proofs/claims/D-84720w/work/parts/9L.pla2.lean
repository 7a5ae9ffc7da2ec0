/-! the model numbers a tree -/
/-- what numbering changes: numbers of nodes from p to q, and the count -/
def nF (τ T : gM) (p q : Int) : Prop := ∀ a i, ¬ (a = 144 ∧ p ≤ i ∧ i < q) → ¬ (a = 119 ∧ i = 57) → T a i = τ a i
/-- the state in which a node has its number -/
def n1 (τ : gM) (j : Int) : gM := gW (gW τ 144 j (τ 119 57)) 119 57 (τ 119 57 + 1)
section NU
variable {σ τ T T1 T2 T3 : gM} {D : Nat} {j y p q : Int}
theorem nF.rf : nF τ τ p q := fun _ _ _ _ => rfl
theorem nF.tr {p' q' p'' q'' : Int} (h : nF τ T1 p q) (h2 : nF T1 T2 p' q') (a1 : p'' ≤ p) (a2 : p'' ≤ p') (b1 : q ≤ q'') (b2 : q' ≤ q'') : nF τ T2 p'' q'' := fun a i x y => by
  rw [h2 a i (by omega) y, h a i (by omega) y]
theorem nF_n1 : nF τ (n1 τ j) j (j + 1) := fun a i x y => by
  show gW (gW τ 144 j (τ 119 57)) 119 57 (τ 119 57 + 1) a i = τ a i
  unfold gW
  rw [if_neg y, if_neg (by omega)]
theorem n1_n : n1 τ j 144 j = τ 119 57 ∧ n1 τ j 119 57 = τ 119 57 + 1 := by
  unfold n1
  exact ⟨by rw [gW_c (by decide), gW_at], gW_at _ _ _ _⟩
theorem b96_no (h : p = -1) : md_number_b96 D τ j y p = md_number_b124 D τ j y := by
  rw [md_number_b96_e, if_pos (by omega)]
theorem b96_one (hp : 0 ≤ p) (h : md_number D τ p = some (T, 0)) : md_number_b96 D τ j 0 p = md_number_b124 D T j 0 := by
  rw [md_number_b96_e, if_neg (by omega), h]
  simp only [Option.bind_some]
  rw [if_pos (by trivial), md_number_b120_e, md_number_b96_e, if_pos (by trivial)]
theorem b96_l (hp : 0 ≤ p ∧ p < 4004) (h : md_number D τ p = some (T, 0)) : md_number_b96 D τ j 1 p = md_number_b96 D T j 1 (T 141 p) := by
  rw [md_number_b96_e, if_neg (by omega), h]
  simp only [Option.bind_some]
  rw [if_neg (by decide), if_pos hp, md_number_b120_e]
theorem b131_no : md_number_b131 D τ y (-1) = some (τ, 0) := by
  rw [md_number_b131_e, if_pos (by trivial)]
theorem b131_one (hp : 0 ≤ p) (h : md_number D τ p = some (T, 0)) : md_number_b131 D τ 0 p = some (T, 0) := by
  rw [md_number_b131_e, if_neg (by omega), h]
  simp only [Option.bind_some]
  rw [if_pos (by trivial), md_number_b155_e, md_number_b131_e, if_pos (by trivial)]
theorem b131_l (hp : 0 ≤ p ∧ p < 4004) (h : md_number D τ p = some (T, 0)) : md_number_b131 D τ 1 p = md_number_b131 D T 1 (T 141 p) := by
  rw [md_number_b131_e, if_neg (by omega), h]
  simp only [Option.bind_some]
  rw [if_neg (by decide), if_pos hp, md_number_b155_e]
/-- a node from its parts -/
theorem num_g (hj : 0 ≤ j ∧ j < 4004) (hc : 0 ≤ τ 119 57 ∧ τ 119 57 ≤ 20000) (h1 : (τ 138 j = -1 ∧ T1 = n1 τ j) ∨ (τ 138 j ≠ -1 ∧ md_number D (n1 τ j) (τ 138 j) = some (T1, 0))) (hy : ((T1 135 j = 23 ∨ T1 135 j = 24 ∨ T1 135 j = 25) ∧ y = 1) ∨ (T1 135 j ≠ 23 ∧ T1 135 j ≠ 24 ∧ T1 135 j ≠ 25 ∧ y = 0))
    (h2 : (T1 135 j = 3 ∧ T2 = T1) ∨ (T1 135 j ≠ 3 ∧ md_number_b96 D T1 j y (T1 139 j) = md_number_b124 D T2 j y)) (h3 : md_number_b131 D T2 y (T2 140 j) = some (T3, 0)) : md_number (D + 1) τ j = some (T3, 0) := by
  have e3 : md_number_b124 D T2 j y = some (T3, 0) := by rw [md_number_b124_e, if_pos hj, h3]
  have e2 : md_number_b78 D T1 j y = some (T3, 0) := by
    rw [md_number_b78_e, if_pos hj]
    rcases h2 with ⟨a, b⟩ | ⟨a, b⟩
    · rw [if_pos a, ← b, e3]
    · rw [if_neg a, if_pos hj, b, e3]
  have e1 : md_number_b40 D T1 j = some (T3, 0) := by
    rw [md_number_b40_e, if_pos hj]
    rcases hy with ⟨a, b⟩ | ⟨a, b, c, e⟩
    · rw [b] at e2
      by_cases q1 : T1 135 j = 24
      · rw [if_pos q1, md_number_b73_e, e2]
      · rw [if_neg q1, if_pos hj]
        by_cases q2 : T1 135 j = 25
        · rw [if_pos q2, md_number_b73_e, e2]
        · rw [if_neg q2, if_pos hj, if_pos (show T1 135 j = 23 by omega), md_number_b73_e, e2]
    · rw [e] at e2
      rw [if_neg b, if_pos hj, if_neg c, if_pos hj, if_neg a, e2]
  rw [md_number_e, if_pos hj, if_pos hj, w32_e (by omega) (by omega)]
  rcases h1 with ⟨a, b⟩ | ⟨a, b⟩
  · rw [if_pos a]
    rw [b] at e1
    exact e1
  · rw [if_neg a, if_pos hj]
    unfold n1 at b
    rw [b]
    exact e1
end NU
