/-! guards: both sides count alike -/
/-- what guards need of the trees -/
def rCs (σ τ : gM) : Prop := ∀ n, 0 ≤ n → n < σ 8 12 → (8 ≤ σ 9 n → σ 9 n ≤ 17 → τ 170 n = n + 1 ∧ τ 171 n = σ 15 (n + 1) ∧ n + 1 < σ 8 12 ∧ 0 ≤ σ 15 (n + 1) ∧ σ 15 (n + 1) < σ 8 12) ∧ (σ 9 n = 6 → τ 170 n = n + 1 ∧ n + 1 < σ 8 12) ∧ (σ 9 n = 1 → (σ 16 n = 0 ↔ τ 176 n = 2))
def sur (σ : gM) (x : Int) : Int := if σ 9 x = 1 then (if σ 16 x = 0 then 1 else 0) else if (σ 9 x = 5 ∨ (8 ≤ σ 9 x ∧ σ 9 x ≤ 11)) ∧ σ 11 x = 1 then 1 else 0
def gd (σ : gM) (n : Int) : Int := if 8 ≤ σ 9 n ∧ σ 9 n ≤ 17 then (if σ 11 n = 1 then (1 - sur σ (n + 1)) + (1 - sur σ (σ 15 (n + 1))) else 1) else if σ 9 n = 18 ∨ σ 9 n = 19 ∨ σ 9 n = 24 ∨ σ 9 n = 25 then (if σ 11 n = 3 then 0 else 1) else if σ 9 n = 0 ∨ σ 9 n = 5 then (if σ 11 n = 4 then 0 else 1) else if σ 9 n = 6 then (if σ 11 n = 4 then 0 else if σ 11 n = 1 then 1 - sur σ (n + 1) else 1) else if σ 9 n = 21 ∨ σ 9 n = 22 ∨ σ 9 n = 23 then (if 1 ≤ σ 18 n then σ 18 n else 1) else 0
section GD
variable {σ τ : gM}
theorem sur_01 {x : Int} : sur σ x = 0 ∨ sur σ x = 1 := by
  unfold sur
  split
  · split
    · exact Or.inr rfl
    · exact Or.inl rfl
  · split
    · exact Or.inr rfl
    · exact Or.inl rfl
theorem gd_r {n : Int} (h : σ 18 n ≤ 3) : 0 ≤ gd σ n ∧ gd σ n ≤ 3 := by
  have a := sur_01 (σ := σ) (x := n + 1)
  have b := sur_01 (σ := σ) (x := σ 15 (n + 1))
  unfold gd
  split
  · split <;> omega
  · split
    · split <;> omega
    · split
      · split <;> omega
      · split
        · split
          · omega
          · split <;> omega
        · split
          · split <;> omega
          · omega
theorem sur_congr {S : gM} (h9 : S 9 = σ 9) (h11 : S 11 = σ 11) (h16 : S 16 = σ 16) {x : Int} : sur S x = sur σ x := by unfold sur; rw [h9, h11, h16]
theorem gd_congr {S : gM} (h9 : S 9 = σ 9) (h11 : S 11 = σ 11) (h15 : S 15 = σ 15) (h16 : S 16 = σ 16) (h18 : S 18 = σ 18) {x : Int} : gd S x = gd σ x := by unfold gd; rw [h9, h11, h15, h18, sur_congr h9 h11 h16, sur_congr h9 h11 h16]
theorem cd_isSure_s {x : Int} (hb : 0 ≤ x ∧ x < 16000) : cd_isSure σ x = some (σ, sur σ x) := by
  rw [cd_isSure_e]
  simp only [hb, and_self, if_true, cd_isSure_b50_e]
  unfold sur
  by_cases k1 : σ 9 x = 1
  · rw [if_pos k1, if_pos k1]
    split <;> rfl
  · rw [if_neg k1, if_neg k1]
    by_cases k5 : σ 9 x = 5
    · rw [if_pos k5]
      by_cases s : σ 11 x = 1
      · rw [if_pos s, if_pos ⟨Or.inl k5, s⟩]
      · rw [if_neg s, if_neg (fun q => s q.2)]
    · rw [if_neg k5]
      by_cases k8 : σ 9 x < 8
      · rw [if_pos k8, if_neg (by omega)]
      · rw [if_neg k8]
        by_cases k11 : 11 < σ 9 x
        · rw [if_pos k11, if_neg (by omega)]
        · rw [if_neg k11]
          by_cases s : σ 11 x = 1
          · rw [if_pos s, if_pos ⟨Or.inr (by omega), s⟩]
          · rw [if_neg s, if_neg (fun q => s q.2)]
theorem md_isSure_s (h : rNd σ τ) (hc : rCs σ τ) {x : Int} (h0 : 0 ≤ x) (hx : x < σ 8 12) : md_isSure τ x = some (τ, sur σ x) := by
  have hb : 0 ≤ x ∧ x < 20000 := by have := h.1; omega
  have g := h.2.2 x h0 hx
  have c := (hc x h0 hx).2.2
  rw [md_isSure_e]
  simp only [hb, and_self, if_true, md_isSure_b22_e, md_isSure_b34_e, md_isSure_b39_e, md_isSure_b49_e, g.1, g.2.2.1.1]
  unfold sur
  by_cases k1 : σ 9 x = 1
  · have c := c k1
    rw [if_pos k1, if_pos k1]
    by_cases q : σ 16 x = 0
    · rw [if_pos (c.mp q), if_pos q]
    · rw [if_neg (fun w => q (c.mpr w)), if_neg q, if_pos (by omega), if_neg (by omega)]
  · rw [if_neg k1, if_neg k1]
    by_cases k8 : σ 9 x < 8
    · rw [if_pos k8]
      by_cases k5 : σ 9 x = 5
      · rw [if_pos k5]
        by_cases s : σ 11 x = 1
        · rw [if_pos s, if_pos ⟨Or.inl k5, s⟩]
        · rw [if_neg s, if_neg (fun q => s q.2)]
      · rw [if_neg k5, if_neg (by omega)]
    · rw [if_neg k8]
      by_cases k11 : 11 < σ 9 x
      · rw [if_pos k11, if_neg (by omega), if_neg (by omega)]
      · rw [if_neg k11]
        by_cases s : σ 11 x = 1
        · rw [if_pos s, if_pos ⟨Or.inr (by omega), s⟩]
        · rw [if_neg s, if_neg (fun q => s q.2)]
/-- kinds, by what guards ask of them -/
theorem gd_kinds (k : Int) : (8 ≤ k ∧ k ≤ 17 ∧ (k = 8 ∨ k = 9 ∨ k = 10 ∨ k = 11 ∨ k = 12 ∨ k = 13 ∨ k = 14 ∨ k = 15 ∨ k = 16 ∨ k = 17)) ∨ (k = 18 ∨ k = 19 ∨ k = 24 ∨ k = 25) ∨ (k = 0 ∨ k = 5) ∨ k = 6 ∨ (k = 21 ∨ k = 22 ∨ k = 23) ∨ (k ≠ 0 ∧ k ≠ 5 ∧ k ≠ 6 ∧ k ≠ 8 ∧ k ≠ 9 ∧ k ≠ 10 ∧ k ≠ 11 ∧ k ≠ 12 ∧ k ≠ 13 ∧ k ≠ 14 ∧ k ≠ 15 ∧ k ≠ 16 ∧ k ≠ 17 ∧ k ≠ 18 ∧ k ≠ 19 ∧ k ≠ 21 ∧ k ≠ 22 ∧ k ≠ 23 ∧ k ≠ 24 ∧ k ≠ 25) := by omega
theorem cd_guardsOf_s (h : rNd σ τ) (hc : rCs σ τ) {n : Int} (h0 : 0 ≤ n) (hn : n < σ 8 12) : cd_guardsOf σ n = some (σ, gd σ n) ∧ md_guards τ n = some (τ, gd σ n) := by
  have hh := h.1
  have hb : 0 ≤ n ∧ n < 16000 := by omega
  have hb2 : 0 ≤ n ∧ n < 20000 := by omega
  have g := h.2.2 n h0 hn
  have c := hc n h0 hn
  have g18 := g.2.2.2.2.2.1
  rw [cd_guardsOf_e, md_guards_e]
  simp only [hb, hb2, and_self, if_true, g.1, g.2.2.1.1, md_guards_b71_e, md_guards_b95_e, md_guards_b170_e, md_guards_b215_e, cd_guardsOf_b225_e, g18.1]
  have gE : gd σ n = gd σ n := rfl
  conv at gE => rhs; unfold gd
  generalize gd σ n = G at *
  generalize hk : σ 9 n = k at *
  rcases gd_kinds k with ⟨q1, q2, q⟩ | q | q | q | q | q
  · obtain ⟨c1, c2, c3, c4, c5⟩ := c.1 q1 q2
    have b3 : 0 ≤ n + 1 ∧ n + 1 < 16000 := by omega
    have b4 : 0 ≤ σ 15 (n + 1) ∧ σ 15 (n + 1) < 16000 := by omega
    rw [if_pos ⟨q1, q2⟩] at gE
    -- what the ten kinds do
    have body : (if σ 11 n = 1 then ((cd_isSure σ (w32 (n + 1))).bind fun p2 => if p2.2 = 0 then (cd_guardsOf_b158 p2.1 n 1) else (cd_guardsOf_b158 p2.1 n 0)) else some (σ, 1)) = some (σ, G) := by
      by_cases s : σ 11 n = 1
      · rw [if_pos s] at gE
        rw [if_pos s, gE, w32_e (by omega) (by omega), cd_isSure_s b3]
        simp only [Option.bind_some, cd_guardsOf_b158_e, cd_guardsOf_b181_e]
        rw [w32_e (x := n + 1) (by omega) (by omega), cd_isSure_s b4]
        simp only [b3, and_self, if_true, Option.bind_some]
        rcases sur_01 (σ := σ) (x := n + 1) with u | u <;> rcases sur_01 (σ := σ) (x := σ 15 (n + 1)) with v | v <;> rw [u, v] <;> rfl
      · rw [if_neg s] at gE
        rw [if_neg s, gE]
    have body2 : (if k < 8 then md_guards_b71 τ n k else if 17 < k then md_guards_b71 τ n k else if σ 11 n = 1 then (md_isSure τ (τ 170 n)).bind fun p1 => if p1.2 = 0 then md_guards_b51 p1.1 n 1 else md_guards_b51 p1.1 n 0 else some (τ, 1)) = some (τ, G) := by
      rw [if_neg (show ¬ k < 8 by omega), if_neg (show ¬ 17 < k by omega)]
      by_cases s : σ 11 n = 1
      · rw [if_pos s] at gE
        rw [if_pos s, gE, c1, md_isSure_s h hc (by omega) c3]
        simp only [Option.bind_some, md_guards_b51_e, md_guards_b69_e]
        rw [c2, md_isSure_s h hc c4 c5]
        simp only [hb2, and_self, if_true, Option.bind_some]
        rcases sur_01 (σ := σ) (x := n + 1) with u | u <;> rcases sur_01 (σ := σ) (x := σ 15 (n + 1)) with v | v <;> rw [u, v] <;> rfl
      · rw [if_neg s] at gE
        rw [if_neg s, gE]
    constructor
    · rcases q with q | q | q | q | q | q | q | q | q | q <;> subst q <;> exact body
    · rw [if_neg (show ¬ k < 8 by omega), if_neg (show ¬ 17 < k by omega)]
      rw [if_neg (show ¬ k < 8 by omega), if_neg (show ¬ 17 < k by omega)] at body2
      exact body2
  · rw [if_neg (by omega), if_pos q] at gE
    by_cases s : σ 11 n = 3
    · rw [if_pos s] at gE
      rw [gE]
      simp only [if_pos s]
      rcases q with q | q | q | q <;> subst q <;> exact ⟨rfl, rfl⟩
    · rw [if_neg s] at gE
      rw [gE]
      simp only [if_neg s]
      rcases q with q | q | q | q <;> subst q <;> exact ⟨rfl, rfl⟩
  · rw [if_neg (by omega), if_neg (by omega), if_pos q] at gE
    by_cases s : σ 11 n = 4
    · rw [if_pos s] at gE
      rw [gE]
      simp only [if_pos s]
      rcases q with q | q <;> subst q <;> exact ⟨rfl, rfl⟩
    · rw [if_neg s] at gE
      rw [gE]
      simp only [if_neg s]
      rcases q with q | q <;> subst q <;> exact ⟨rfl, rfl⟩
  · obtain ⟨c1, c2⟩ := c.2.1 q
    rw [if_neg (by omega), if_neg (by omega), if_neg (by omega), if_pos q] at gE
    subst q
    by_cases s : σ 11 n = 4
    · rw [if_pos s] at gE
      rw [gE]
      simp only [if_pos s]
      exact ⟨rfl, rfl⟩
    · rw [if_neg s] at gE
      simp only [if_neg s]
      by_cases s1 : σ 11 n = 1
      · rw [if_pos s1] at gE
        rw [gE]
        simp only [if_pos s1]
        rw [w32_e (by omega) (by omega), cd_isSure_s (by omega), c1, md_isSure_s h hc (by omega) c2]
        simp only [Option.bind_some]
        rcases sur_01 (σ := σ) (x := n + 1) with u | u <;> rw [u] <;> exact ⟨rfl, rfl⟩
      · rw [if_neg s1] at gE
        rw [gE]
        simp only [if_neg s1]
        exact ⟨rfl, rfl⟩
  · rw [if_neg (by omega), if_neg (by omega), if_neg (by omega), if_neg (by omega), if_pos q] at gE
    have e1 : (jm_max σ 1 (σ 18 n)).bind (fun p12 => some (p12.1, p12.2)) = some (σ, G) := by
      rw [jm_max_e, gE]
      by_cases w : 1 < σ 18 n
      · rw [if_pos w, if_pos (by omega)]; rfl
      · rw [if_neg w]
        by_cases w2 : 1 ≤ σ 18 n
        · rw [if_pos w2, show σ 18 n = 1 by omega]; rfl
        · rw [if_neg w2]; rfl
    have e2 : (jm_max τ (σ 18 n) 1).bind (fun p12 => some (p12.1, p12.2)) = some (τ, G) := by
      rw [jm_max_e, gE]
      by_cases w : σ 18 n < 1
      · rw [if_pos w, if_neg (by omega)]; rfl
      · rw [if_neg w, if_pos (by omega)]; rfl
    rcases q with q | q | q <;> subst q <;> exact ⟨e1, e2⟩
  · rw [if_neg (by omega), if_neg (by omega), if_neg (by omega), if_neg (by omega), if_neg (by omega)] at gE
    obtain ⟨q0, q5, q6, q8, q9, q10, q11, q12, q13, q14, q15, q16, q17, q18, q19, q21, q22, q23, q24, q25⟩ := q
    simp only [if_neg q0, if_neg q5, if_neg q6, if_neg q8, if_neg q9, if_neg q10, if_neg q11, if_neg q12, if_neg q13, if_neg q14, if_neg q15, if_neg q16, if_neg q17, if_neg q18, if_neg q19, if_neg q21, if_neg q22, if_neg q23, if_neg q24, if_neg q25]
    rw [gE]
    refine ⟨rfl, ?_⟩
    by_cases w : k < 8
    · rw [if_pos w]
    · rw [if_neg w, if_pos (by omega)]
end GD
