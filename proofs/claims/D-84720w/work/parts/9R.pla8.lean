/-! the component lays nodes and instructions -/
/-- a node more: from the tree's node x -/
def cNd (σ : gM) (x : Int) : gM := gW (gW (gW (gW (gW (gW (gW (gW σ 8 12 (σ 8 12 + 1)) 9 (σ 8 12) (σ 70 x)) 10 (σ 8 12) (σ 71 x)) 11 (σ 8 12) 0) 12 (σ 8 12) 0) 13 (σ 8 12) (-1)) 14 (σ 8 12) 0) 18 (σ 8 12) 0
/-- an instruction more -/
def cPt (σ : gM) (o t n : Int) : gM := gW (gW (gW (gW σ 20 (σ 8 16) o) 21 (σ 8 16) t) 22 (σ 8 16) n) 8 16 (σ 8 16 + 1)
section CN
variable {σ : gM} {x o t n a i : Int}
theorem fr_node_s (h32 : 0 ≤ σ 8 32) (hx : 0 ≤ x ∧ x < 4200) (hn : 0 ≤ σ 8 12 ∧ σ 8 12 < 16000) : fr_node σ x = some (cNd σ x, σ 8 12) := by
  rw [fr_node_e, w32_e (by omega) (by omega)]
  simp only [h32, hx, hn, and_self, if_true]
  rfl
theorem fr_put_s (h : 0 ≤ σ 8 16 ∧ σ 8 16 < 164000) : fr_put σ o t n = some (cPt σ o t n, σ 8 16) := by
  rw [fr_put_e, w32_e (x := σ 8 16 + 1) (by omega) (by omega), w32_e (by omega) (by omega)]
  simp only [h, and_self, if_true]
  rw [show σ 8 16 + 1 - 1 = σ 8 16 by omega]
  rfl
theorem cNd_o (h : a ≠ 8 ∨ i ≠ 12) (h2 : (a < 9 ∨ (14 < a ∧ a ≠ 18)) ∨ i ≠ σ 8 12) : cNd σ x a i = σ a i := by
  simp only [cNd, gW]
  rw [if_neg (by omega), if_neg (by omega), if_neg (by omega), if_neg (by omega), if_neg (by omega), if_neg (by omega), if_neg (by omega), if_neg (by omega)]
theorem cNd_n : cNd σ x 8 12 = σ 8 12 + 1 ∧ cNd σ x 9 (σ 8 12) = σ 70 x ∧ cNd σ x 10 (σ 8 12) = σ 71 x ∧ cNd σ x 11 (σ 8 12) = 0 ∧ cNd σ x 12 (σ 8 12) = 0 ∧ cNd σ x 13 (σ 8 12) = -1 ∧ cNd σ x 14 (σ 8 12) = 0 ∧ cNd σ x 18 (σ 8 12) = 0 := by
  simp [cNd, gW]
theorem cPt_o (h : a ≠ 8 ∨ i ≠ 16) (h2 : (a < 20 ∨ 22 < a) ∨ i ≠ σ 8 16) : cPt σ o t n a i = σ a i := by
  simp only [cPt, gW]
  rw [if_neg (by omega), if_neg (by omega), if_neg (by omega), if_neg (by omega)]
theorem cPt_n : cPt σ o t n 8 16 = σ 8 16 + 1 ∧ cPt σ o t n 20 (σ 8 16) = o ∧ cPt σ o t n 21 (σ 8 16) = t ∧ cPt σ o t n 22 (σ 8 16) = n := by
  simp [cPt, gW]
end CN
section MO
variable {τ : gM} {x : Int}
theorem md_numberOf_s (h : x = -1 ∨ (0 ≤ x ∧ x < 4004)) : md_numberOf τ x = some (τ, if x = -1 then -1 else τ 144 x) := by
  rw [md_numberOf_e]
  by_cases q : x = -1
  · rw [if_pos q, if_pos q]
  · rw [if_neg q, if_neg q, if_pos (by omega)]
end MO
