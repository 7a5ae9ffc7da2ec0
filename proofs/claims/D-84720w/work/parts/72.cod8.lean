/-! a code's instructions -/
/-- instructions of trees -/
def rIn (σ : gM) : Prop := (0 ≤ σ 8 16 ∧ σ 8 16 ≤ 64000) ∧ ∀ r, 4 ≤ r → r < σ 8 31 → 0 ≤ σ 28 r ∧ (2 ≤ σ 29 r ∧ σ 29 r ≤ 3 * σ 27 r + 2) ∧ σ 28 r + σ 29 r ≤ σ 8 16 ∧ ∀ p, σ 28 r ≤ p → p < σ 28 r + σ 29 r → (0 ≤ σ 20 p ∧ σ 20 p ≤ 17) ∧ ((σ 20 p = 1 ∨ σ 20 p = 3) → σ 26 r ≤ σ 22 p ∧ σ 22 p < σ 26 r + σ 27 r) ∧ (-1000000 ≤ σ 21 p ∧ σ 21 p ≤ 1000000)
/-- what an instruction becomes in a code -/
def opF (S : gM) (p : Int) : Int := if S 20 p = 3 ∧ S 11 (S 22 p) = 1 ∧ S 9 (S 22 p) ≤ 15 then 18 else if S 20 p = 1 ∧ S 11 (S 22 p) = 1 then 19 else S 20 p
def isJ (x : Int) : Prop := x = 4 ∨ x = 11 ∨ x = 12 ∨ x = 13 ∨ x = 14
/-- one instruction as it is copied -/
def cp1 (S X : gM) (b r j : Int) : Prop := X 66 (b - 64000 + j) = S 28 r + j ∧ X 22 (b + j) = S 22 (S 28 r + j) ∧ X 20 (b + j) = opF S (S 28 r + j) ∧ (isJ (S 20 (S 28 r + j)) → X 21 (b + j) = S 21 (S 28 r + j) - S 28 r + b)
def laI (S X : gM) (r k : Int) : Prop := X 52 12 = S 52 12 + k ∧ (∀ i, i ≠ 12 → X 52 i = S 52 i) ∧ (∀ a, a ≠ 20 → a ≠ 21 → a ≠ 22 → a ≠ 52 → a ≠ 66 → X a = S a) ∧ (∀ i, i < 64000 + S 52 12 → X 20 i = S 20 i ∧ X 21 i = S 21 i ∧ X 22 i = S 22 i) ∧ (∀ i, i < S 52 12 → X 66 i = S 66 i) ∧ ∀ j, 0 ≤ j → j < k → cp1 S X (64000 + S 52 12) r j
section LA
theorem cd_lays_b22_s {S : gM} {U r : Int} (h : rIn S) (h60 : S 8 31 ≤ 60) (h16 : 0 ≤ S 26 r ∧ S 26 r + S 27 r ≤ 16000) (hc : S 27 r ≤ 300) (hU : 0 ≤ U ∧ U < 16000) (hr : 4 ≤ r ∧ r < S 8 31) (hs : 0 ≤ S 52 12 ∧ S 52 12 + S 29 r ≤ 100000) (h65 : S 65 U = 64000 + S 52 12) :
    ∀ (d : Nat) (k : Int) (X : gM), 0 ≤ k → k + d = S 29 r → laI S X r k → ∃ S', cd_lays_b22 X U r k = some (S', 0) ∧ laI S S' r (S 29 r)
  | 0, k, X, k0, hk, I => by
    have b60 : 0 ≤ r ∧ r < 60 := by omega
    obtain ⟨i1, i2, i3, i4, i5, i6⟩ := I
    rw [cd_lays_b22_e, if_pos b60, i3 29 (by decide) (by decide) (by decide) (by decide) (by decide), if_neg (by omega)]
    refine ⟨X, rfl, ?_⟩
    rw [show S 29 r = k by omega]
    exact ⟨i1, i2, i3, i4, i5, i6⟩
  | d + 1, k, X, k0, hk, I => by
    have b60 : 0 ≤ r ∧ r < 60 := by omega
    have I' := I
    obtain ⟨i1, i2, i3, i4, i5, i6⟩ := I
    obtain ⟨g1, g2, g3, g4⟩ := h.2 r hr.1 hr.2
    have hh := h.1
    have gp := g4 (S 28 r + k) (by omega) (by omega)
    have ip := i4 (S 28 r + k) (by omega)
    have b1 : 0 ≤ S 28 r + k ∧ S 28 r + k < 164000 := by omega
    have lt : k < S 29 r := by omega
    have bs : 0 ≤ S 52 12 + k ∧ S 52 12 + k < 100000 := by omega
    have bq : 0 ≤ 64000 + (S 52 12 + k) ∧ 64000 + (S 52 12 + k) < 164000 := by omega
    -- what is laid
    have step : ∃ y, (isJ (S 20 (S 28 r + k)) → y = S 21 (S 28 r + k) - S 28 r + (64000 + S 52 12)) ∧ cd_lays_b22 X U r k = cd_lays_b22 (gW (gW (gW (gW (gW X 20 (64000 + (S 52 12 + k)) (opF S (S 28 r + k))) 21 (64000 + (S 52 12 + k)) y) 22 (64000 + (S 52 12 + k)) (S 22 (S 28 r + k))) 66 (S 52 12 + k) (S 28 r + k)) 52 12 (S 52 12 + k + 1)) U r (k + 1) := by
      have tail : ∀ op y, cd_lays_b242 (gW X 20 (64000 + (S 52 12 + k)) op) U r k (S 28 r + k) (64000 + (S 52 12 + k)) (S 22 (S 28 r + k)) y (64000 + (S 52 12 + k)) = cd_lays_b22 (gW (gW (gW (gW (gW X 20 (64000 + (S 52 12 + k)) op) 21 (64000 + (S 52 12 + k)) y) 22 (64000 + (S 52 12 + k)) (S 22 (S 28 r + k))) 66 (S 52 12 + k) (S 28 r + k)) 52 12 (S 52 12 + k + 1)) U r (k + 1) := fun op y => by
        rw [cd_lays_b242_e, if_pos bq, if_pos bq, gW_c (by decide), i1, if_pos bs, w32_e (x := S 52 12 + k + 1) (by omega) (by omega), w32_e (x := k + 1) (by omega) (by omega)]
      have fin : ∀ op (f : Int), (f = 0 ∨ f = 1) → ∃ y, (f = 1 → y = S 21 (S 28 r + k) - S 28 r + (64000 + S 52 12)) ∧ cd_lays_b185 X U r k (S 28 r + k) (64000 + (S 52 12 + k)) op (S 22 (S 28 r + k)) f = cd_lays_b22 (gW (gW (gW (gW (gW X 20 (64000 + (S 52 12 + k)) op) 21 (64000 + (S 52 12 + k)) y) 22 (64000 + (S 52 12 + k)) (S 22 (S 28 r + k))) 66 (S 52 12 + k) (S 28 r + k)) 52 12 (S 52 12 + k + 1)) U r (k + 1) := fun op f hf => by
        rw [cd_lays_b185_e, if_pos bq]
        rcases hf with hf | hf <;> subst hf
        · rw [if_pos rfl]
          exact ⟨0, fun q => absurd q (by decide), tail op 0⟩
        · rw [if_neg (by decide), if_pos b1, if_pos b60, if_pos hU, ip.2.1, i3 28 (by decide) (by decide) (by decide) (by decide) (by decide), i3 65 (by decide) (by decide) (by decide) (by decide) (by decide), h65, w32_e (x := S 21 (S 28 r + k) - S 28 r) (by omega) (by omega), w32_e (x := S 21 (S 28 r + k) - S 28 r + (64000 + S 52 12)) (by omega) (by omega)]
          exact ⟨_, fun _ => rfl, tail op _⟩
      have mid : ∀ (f : Int), (f = 0 ∨ f = 1) → (isJ (S 20 (S 28 r + k)) → f = 1) → ∃ y, (isJ (S 20 (S 28 r + k)) → y = S 21 (S 28 r + k) - S 28 r + (64000 + S 52 12)) ∧ cd_lays_b120 X U r k (S 28 r + k) (64000 + (S 52 12 + k)) (S 20 (S 28 r + k)) (S 22 (S 28 r + k)) f = cd_lays_b22 (gW (gW (gW (gW (gW X 20 (64000 + (S 52 12 + k)) (opF S (S 28 r + k))) 21 (64000 + (S 52 12 + k)) y) 22 (64000 + (S 52 12 + k)) (S 22 (S 28 r + k))) 66 (S 52 12 + k) (S 28 r + k)) 52 12 (S 52 12 + k + 1)) U r (k + 1) := fun f hf hj => by
        have use : ∀ op, cd_lays_b120 X U r k (S 28 r + k) (64000 + (S 52 12 + k)) (S 20 (S 28 r + k)) (S 22 (S 28 r + k)) f = cd_lays_b185 X U r k (S 28 r + k) (64000 + (S 52 12 + k)) op (S 22 (S 28 r + k)) f → op = opF S (S 28 r + k) → ∃ y, (isJ (S 20 (S 28 r + k)) → y = S 21 (S 28 r + k) - S 28 r + (64000 + S 52 12)) ∧ cd_lays_b120 X U r k (S 28 r + k) (64000 + (S 52 12 + k)) (S 20 (S 28 r + k)) (S 22 (S 28 r + k)) f = cd_lays_b22 (gW (gW (gW (gW (gW X 20 (64000 + (S 52 12 + k)) (opF S (S 28 r + k))) 21 (64000 + (S 52 12 + k)) y) 22 (64000 + (S 52 12 + k)) (S 22 (S 28 r + k))) 66 (S 52 12 + k) (S 28 r + k)) 52 12 (S 52 12 + k + 1)) U r (k + 1) := fun op e1 e2 => by
          obtain ⟨y, y1, y2⟩ := fin op f hf
          exact ⟨y, fun q => y1 (hj q), by rw [e1, y2, e2]⟩
        have c11 := i3 11 (by decide) (by decide) (by decide) (by decide) (by decide)
        have c9 := i3 9 (by decide) (by decide) (by decide) (by decide) (by decide)
        by_cases q3 : S 20 (S 28 r + k) = 3
        · have gn := gp.2.1 (Or.inr q3)
          have bn : 0 ≤ S 22 (S 28 r + k) ∧ S 22 (S 28 r + k) < 16000 := by omega
          by_cases s1 : S 11 (S 22 (S 28 r + k)) = 1
          · by_cases k15 : 15 < S 9 (S 22 (S 28 r + k))
            · refine use 3 ?_ (by unfold opF; rw [if_neg (by omega), if_neg (by omega)]; exact q3.symm)
              rw [cd_lays_b120_e, if_pos q3, if_pos bn, c11, if_pos s1, c9, if_pos bn, if_pos k15, cd_lays_b161_e, if_neg (by omega), q3]
            · refine use 18 ?_ (by unfold opF; rw [if_pos ⟨q3, s1, by omega⟩])
              rw [cd_lays_b120_e, if_pos q3, if_pos bn, c11, if_pos s1, c9, if_pos bn, if_neg k15, cd_lays_b161_e, if_neg (by decide)]
          · refine use 3 ?_ (by unfold opF; rw [if_neg (fun z => s1 z.2.1), if_neg (by omega)]; exact q3.symm)
            rw [cd_lays_b120_e, if_pos q3, if_pos bn, c11, if_neg s1, cd_lays_b161_e, if_neg (by omega), q3]
        · by_cases q1 : S 20 (S 28 r + k) = 1
          · have gn := gp.2.1 (Or.inl q1)
            have bn : 0 ≤ S 22 (S 28 r + k) ∧ S 22 (S 28 r + k) < 16000 := by omega
            by_cases s1 : S 11 (S 22 (S 28 r + k)) = 1
            · refine use 19 ?_ (by unfold opF; rw [if_neg (fun z => q3 z.1), if_pos ⟨q1, s1⟩])
              rw [cd_lays_b120_e, if_neg q3, cd_lays_b161_e, if_pos q1, if_pos bn, c11, if_pos s1]
            · refine use 1 ?_ (by unfold opF; rw [if_neg (fun z => q3 z.1), if_neg (fun z => s1 z.2)]; exact q1.symm)
              rw [cd_lays_b120_e, if_neg q3, cd_lays_b161_e, if_pos q1, if_pos bn, c11, if_neg s1, q1]
          · refine use (S 20 (S 28 r + k)) ?_ (by unfold opF; rw [if_neg (fun z => q3 z.1), if_neg (fun z => q1 z.1)])
            rw [cd_lays_b120_e, if_neg q3, cd_lays_b161_e, if_neg q1]
      have e1 : cd_lays_b22 X U r k = cd_lays_b120 X U r k (S 28 r + k) (64000 + (S 52 12 + k)) (S 20 (S 28 r + k)) (S 22 (S 28 r + k)) (if S 20 (S 28 r + k) = 4 ∨ S 20 (S 28 r + k) = 11 ∨ S 20 (S 28 r + k) = 12 ∨ S 20 (S 28 r + k) = 13 ∨ S 20 (S 28 r + k) = 14 then 1 else 0) := by
        rw [cd_lays_b22_e, if_pos b60, i3 29 (by decide) (by decide) (by decide) (by decide) (by decide), if_pos lt, if_pos b60, i3 28 (by decide) (by decide) (by decide) (by decide) (by decide), w32_e (x := S 28 r + k) (by omega) (by omega), if_pos b1, if_pos b1, i1, w32_e (x := 64000 + (S 52 12 + k)) (by omega) (by omega), ip.1, ip.2.2]
        simp only [cd_lays_b115_e]
        by_cases z4 : S 20 (S 28 r + k) = 4
        · rw [if_pos z4, if_pos (Or.inl z4)]
        · by_cases z11 : S 20 (S 28 r + k) = 11
          · rw [if_neg z4, if_pos z11, if_pos (by omega)]
          · by_cases z12 : S 20 (S 28 r + k) = 12
            · rw [if_neg z4, if_neg z11, if_pos z12, if_pos (by omega)]
            · by_cases z13 : S 20 (S 28 r + k) = 13
              · rw [if_neg z4, if_neg z11, if_neg z12, if_pos z13, if_pos (by omega)]
              · by_cases z14 : S 20 (S 28 r + k) = 14
                · rw [if_neg z4, if_neg z11, if_neg z12, if_neg z13, if_pos z14, if_pos (by omega)]
                · rw [if_neg z4, if_neg z11, if_neg z12, if_neg z13, if_neg z14, if_neg (by omega)]
      rw [e1]
      exact mid _ (by split <;> omega) (fun q => if_pos q)
    obtain ⟨y, y1, y2⟩ := step
    rw [y2]
    refine cd_lays_b22_s h h60 h16 hc hU hr hs h65 d (k + 1) _ (by omega) (by omega) ?_
    generalize hX : gW (gW (gW (gW (gW X 20 (64000 + (S 52 12 + k)) (opF S (S 28 r + k))) 21 (64000 + (S 52 12 + k)) y) 22 (64000 + (S 52 12 + k)) (S 22 (S 28 r + k))) 66 (S 52 12 + k) (S 28 r + k)) 52 12 (S 52 12 + k + 1) = X'
    have x20 : ∀ i, X' 20 i = if i = 64000 + (S 52 12 + k) then opF S (S 28 r + k) else X 20 i := fun i => by rw [← hX]; simp [gW]
    have x21 : ∀ i, X' 21 i = if i = 64000 + (S 52 12 + k) then y else X 21 i := fun i => by rw [← hX]; simp [gW]
    have x22 : ∀ i, X' 22 i = if i = 64000 + (S 52 12 + k) then S 22 (S 28 r + k) else X 22 i := fun i => by rw [← hX]; simp [gW]
    have x66 : ∀ i, X' 66 i = if i = S 52 12 + k then S 28 r + k else X 66 i := fun i => by rw [← hX]; simp [gW]
    have x52 : X' 52 12 = S 52 12 + k + 1 := by rw [← hX]; simp [gW]
    have x52' : ∀ i, i ≠ 12 → X' 52 i = X 52 i := fun i q => by rw [← hX]; simp [gW, q]
    have xo : ∀ a, a ≠ 20 → a ≠ 21 → a ≠ 22 → a ≠ 52 → a ≠ 66 → X' a = X a := fun a q1 q2 q3 q4 q5 => by rw [← hX, gW_cell q4, gW_cell q5, gW_cell q3, gW_cell q2, gW_cell q1]
    refine ⟨by omega, fun i q => by rw [x52' i q, i2 i q], fun a q1 q2 q3 q4 q5 => by rw [xo a q1 q2 q3 q4 q5, i3 a q1 q2 q3 q4 q5], fun i q => ?_, fun i q => ?_, fun j j0 jk => ?_⟩
    · rw [x20, x21, x22, if_neg (by omega), if_neg (by omega), if_neg (by omega)]; exact i4 i q
    · rw [x66, if_neg (by omega)]; exact i5 i q
    · unfold cp1
      rw [x20, x21, x22, x66]
      by_cases z : j = k
      · subst z
        rw [if_pos (by omega), if_pos (by omega), if_pos (by omega), if_pos (by omega)]
        exact ⟨rfl, rfl, rfl, y1⟩
      · rw [if_neg (by omega), if_neg (by omega), if_neg (by omega), if_neg (by omega)]
        exact i6 j j0 (by omega)
theorem cd_lays_s {S : gM} {U r : Int} (h : rIn S) (h60 : S 8 31 ≤ 60) (h16 : 0 ≤ S 26 r ∧ S 26 r + S 27 r ≤ 16000) (hc : S 27 r ≤ 300) (hU : 0 ≤ U ∧ U < 16000) (hr : 4 ≤ r ∧ r < S 8 31) (er : S 62 U = r) (hs : 0 ≤ S 52 12 ∧ S 52 12 + S 29 r ≤ 100000) :
    ∃ S', cd_lays S U = some (S', 0) ∧ laI (gW S 65 U (64000 + S 52 12)) S' r (S 29 r) := by
  have k1 : ∀ a, a ≠ 65 → gW S 65 U (64000 + S 52 12) a = S a := fun a q => gW_cell q
  have h' : rIn (gW S 65 U (64000 + S 52 12)) := by
    unfold rIn
    rw [k1 8 (by decide), k1 28 (by decide), k1 29 (by decide), k1 27 (by decide), k1 26 (by decide), k1 20 (by decide), k1 21 (by decide), k1 22 (by decide)]
    exact h
  obtain ⟨S', a1, a2⟩ := cd_lays_b22_s (U := U) (r := r) h' (by rw [k1 8 (by decide)]; exact h60) (by rw [k1 26 (by decide), k1 27 (by decide)]; exact h16) (by rw [k1 27 (by decide)]; exact hc) hU (by rw [k1 8 (by decide)]; exact hr) (by rw [k1 52 (by decide), k1 29 (by decide)]; exact hs) (by rw [gW_at, k1 52 (by decide)]) (S 29 r).toNat 0 (gW S 65 U (64000 + S 52 12)) (by omega) (by rw [k1 29 (by decide)]; have := (h.2 r hr.1 hr.2).2.1; omega) ⟨by omega, fun _ _ => rfl, fun _ _ _ _ _ _ => rfl, fun _ _ => ⟨rfl, rfl, rfl⟩, fun _ _ => rfl, fun j a b => by omega⟩
  rw [k1 29 (by decide)] at a2
  refine ⟨S', ?_, a2⟩
  have := h.1
  have := (h.2 r hr.1 hr.2).2.1
  rw [cd_lays_e, if_pos hU, if_pos hU, w32_e (by omega) (by omega), er, a1]
end LA
