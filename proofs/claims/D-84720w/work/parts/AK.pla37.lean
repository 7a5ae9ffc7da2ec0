/-! a root comes on the model's side; what the instructions of a tree are -/
/-- a root more, the newest of a function -/
def rtM (W X : gM) (g : Int) : Prop := X 119 55 = W 119 55 + 1 ∧ (∀ i, i ≠ 55 → X 119 i = W 119 i) ∧ (X 157 (W 119 55) = g ∧ X 156 g = W 119 55 ∧ X 163 (W 119 55) = 0 ∧ X 164 (W 119 55) = -1 ∧ X 165 (W 119 55) = 0 ∧ X 166 (W 119 55) = 0) ∧ (∀ i, 0 ≤ i → i < 12 → X 167 (12 * W 119 55 + i) = 0) ∧ (∀ a i, a ≠ 119 → a ≠ 156 → a ≠ 157 → (a < 163 ∨ 167 < a) → X a i = W a i) ∧ (∀ x, x ≠ g → X 156 x = W 156 x) ∧ (∀ a x, (a = 157 ∨ (163 ≤ a ∧ a ≤ 166)) → x ≠ W 119 55 → X a x = W a x) ∧ (∀ x, x < 12 * W 119 55 ∨ 12 * W 119 55 + 12 ≤ x → X 167 x = W 167 x)
section RM
variable {W : gM} {g r : Int}
theorem rootComes_l (hr : 0 ≤ r ∧ r < 60) : ∀ (m : Nat) (j : Int) (S : gM), 0 ≤ j → j + m = 12 → ∃ T, md_rootComes_b52 S g r j = md_rootComes_b52 T g r 12 ∧ (∀ a i, a ≠ 167 → T a i = S a i) ∧ (∀ x, x < 12 * r + j ∨ 12 * r + 12 ≤ x → T 167 x = S 167 x) ∧ (∀ i, j ≤ i → i < 12 → T 167 (12 * r + i) = 0)
  | 0, j, S, j0, hj => ⟨S, by rw [show j = 12 by omega], fun _ _ _ => rfl, fun _ _ => rfl, fun i _ _ => by omega⟩
  | m + 1, j, S, j0, hj => by
    obtain ⟨T, t1, t2, t3, t4⟩ := rootComes_l hr m (j + 1) (gW S 167 (12 * r + j) 0) (by omega) (by omega)
    refine ⟨T, ?_, fun a i q => by rw [t2 a i q, gW_c q], fun x q => by rw [t3 x (by omega), gW_i (by omega)], fun i i0 i1 => ?_⟩
    · rw [← t1, md_rootComes_b52_e, if_pos (by omega), w32_e (x := 12 * r) (by omega) (by omega), w32_e (x := 12 * r + j) (by omega) (by omega), w32_e (x := j + 1) (by omega) (by omega), if_pos (by omega)]
    · by_cases z : i = j
      · rw [z, t3 _ (by omega), gW_at]
      · exact t4 i (by omega) i1
theorem md_rootComes_s (hr : 0 ≤ W 119 55 ∧ W 119 55 < 60) (hg : 0 ≤ g ∧ g < 9000) : ∃ X, md_rootComes W g = (if W 156 g < 0 then some (X, 0) else ((md_endCodesOfFunction X g).bind fun p => some (p.1, 0))) ∧ rtM W X g := by
  rw [md_rootComes_e, if_pos hr, if_pos hr, if_pos hr, if_pos hr, if_pos hr, w32_e (by omega) (by omega)]
  obtain ⟨T, t1, t2, t3, t4⟩ := rootComes_l (g := g) (r := W 119 55) hr 12 0 (gW (gW (gW (gW (gW (gW W 119 55 (W 119 55 + 1)) 157 (W 119 55) g) 163 (W 119 55) 0) 164 (W 119 55) (-1)) 165 (W 119 55) 0) 166 (W 119 55) 0) (by decide) (by decide)
  have e156 : ∀ x, T 156 x = W 156 x := fun x => by rw [t2 _ _ (by decide)]; simp [gW]
  rw [t1, md_rootComes_b52_e, if_neg (by decide), if_pos hg, if_pos hg, e156]
  refine ⟨gW T 156 g (W 119 55), rfl, ?_, fun i q => ?_, ⟨?_, gW_at _ _ _ _, ?_, ?_, ?_, ?_⟩, fun i i0 i1 => ?_, fun a i q1 q2 q3 q4 => ?_, fun x q => ?_, fun a x q1 q2 => ?_, fun x q => ?_⟩
  · rw [gW_c (by decide), t2 _ _ (by decide)]; simp [gW]
  · rw [gW_c (by decide), t2 _ _ (by decide)]; simp [gW, q]
  · rw [gW_c (by decide), t2 _ _ (by decide)]; simp [gW]
  · rw [gW_c (by decide), t2 _ _ (by decide)]; simp [gW]
  · rw [gW_c (by decide), t2 _ _ (by decide)]; simp [gW]
  · rw [gW_c (by decide), t2 _ _ (by decide)]; simp [gW]
  · rw [gW_c (by decide), t2 _ _ (by decide)]; simp [gW]
  · rw [gW_c (by decide)]; exact t4 i i0 i1
  · rw [gW_c q2, t2 a i (by omega)]
    unfold gW
    rw [if_neg (by omega), if_neg (by omega), if_neg (by omega), if_neg (by omega), if_neg (by omega), if_neg (by omega)]
  · rw [gW_i q, e156]
  · rw [gW_c (by omega), t2 a x (by omega), gW_j q2, gW_j q2, gW_j q2, gW_j q2, gW_j q2, gW_c (by omega)]
  · rw [gW_c (by decide), t3 x (by omega)]; simp [gW]
end RM
/-- an instruction of a tree -/
def iP (s : gM) (lo hi p : Int) : Prop := (0 ≤ s 20 p ∧ s 20 p ≤ 17) ∧ ((s 20 p = 1 ∨ s 20 p = 3) → lo ≤ s 22 p ∧ s 22 p < hi) ∧ (-1000000 ≤ s 21 p ∧ s 21 p ≤ 1000000)
section RP
variable {s t : gM} {lo hi : Int}
theorem cI.ip {p o x n : Int} (h : cI s p o x n) (ho : 0 ≤ o ∧ o ≤ 17) (hn : (o = 1 ∨ o = 3) → lo ≤ n ∧ n < hi) (hx : -1000000 ≤ x ∧ x ≤ 1000000) : iP s lo hi p := by
  obtain ⟨h1, h2, h3⟩ := h
  unfold iP
  rw [h1, h2, h3]
  exact ⟨ho, hn, hx⟩
theorem RT_pt : ∀ (d m : Nat) (br co n q P E : Int), RT s t lo hi br co d m n q P E → 0 ≤ P → E ≤ 64000 → (-1 ≤ br ∧ br ≤ 64000) → (-1 ≤ co ∧ co ≤ 64000) → ∀ p, P ≤ p → p < E → iP s lo hi p
  | 0, _, _, _, _, _, _, _, h, _, _, _, _, _, _, _ => h.elim
  | d + 1, 0, br, co, n, q, P, E, h, hP, hE, hb, hc, p, p0, p1 => by
    obtain ⟨h1, h2⟩ := h
    have go : ∀ {m : Nat} {x y u v : Int}, RT s t lo hi br co d m x y u v → P ≤ u → v ≤ E → u ≤ p → p < v → iP s lo hi p := fun z a b c e => RT_pt d _ _ _ _ _ _ _ z (by omega) (by omega) hb hc p c e
    rcases h2 with ⟨e, e1, h⟩ | ⟨e, e1, h⟩ | ⟨e, o, x, h⟩ | ⟨e, o, ⟨M, x, x'⟩, h⟩ | ⟨e, o, ⟨M, x, i, x'⟩, h⟩ | ⟨e, o, x, h⟩ | ⟨e, o, ⟨M, M', x, x', x''⟩, h⟩ | ⟨e, o, o', ⟨M, x, x'⟩, h⟩
    · rw [show p = P by omega]; exact h.ip (by decide) (by omega) (by decide)
    · rw [show p = P by omega]; exact h.ip (by decide) (by omega) (by decide)
    · by_cases z : p = E - 1
      · rw [z]; exact h.ip (by decide) (by omega) (by decide)
      · exact go x (by omega) (by omega) p0 (by omega)
    · have a1 := RT_ab _ _ _ _ _ _ _ _ x
      have a2 := RT_ab _ _ _ _ _ _ _ _ x'
      by_cases z : p = E - 1
      · rw [z]; exact h.ip (by decide) (by omega) (by decide)
      · by_cases y : p < M
        · exact go x (by omega) (by omega) p0 y
        · exact go x' (by omega) (by omega) (by omega) (by omega)
    · have a1 := RT_ab _ _ _ _ _ _ _ _ x
      have a2 := RT_ab _ _ _ _ _ _ _ _ x'
      by_cases z : p = E - 1
      · rw [z]; exact h.ip (by decide) (by omega) (by decide)
      · by_cases y : p < M
        · exact go x (by omega) (by omega) p0 y
        · by_cases w : p = M
          · rw [w]; exact i.ip (by decide) (by omega) (by omega)
          · exact go x' (by omega) (by omega) (by omega) (by omega)
    · by_cases z : p = E - 1
      · rw [z]; exact h.ip (by decide) (by omega) (by decide)
      · exact go x (by omega) (by omega) p0 (by omega)
    · have a1 := RT_ab _ _ _ _ _ _ _ _ x
      have a2 : M ≤ M' := by
        rcases x' with z | ⟨-, z⟩
        · omega
        · exact RT_ab _ _ _ _ _ _ _ _ z
      have a3 : M' ≤ E - 1 := by
        rcases x'' with z | ⟨-, -, z⟩
        · omega
        · exact RT_ab _ _ _ _ _ _ _ _ z
      by_cases z : p = E - 1
      · rw [z]; exact h.ip (by split <;> decide) (by split <;> omega) (by decide)
      · by_cases y : p < M
        · exact go x (by omega) (by omega) p0 y
        · by_cases w : p < M'
          · rcases x' with v | ⟨-, v⟩
            · omega
            · exact go v (by omega) (by omega) (by omega) w
          · rcases x'' with v | ⟨-, -, v⟩
            · omega
            · exact go v (by omega) (by omega) (by omega) (by omega)
    · have a1 := RT_ab _ _ _ _ _ _ _ _ x
      have a2 := RT_ab _ _ _ _ _ _ _ _ x'
      by_cases z : p = E - 1
      · rw [z]; exact h.ip (by decide) (by omega) (by decide)
      · by_cases y : p < M
        · exact go x (by omega) (by omega) p0 y
        · exact go x' (by omega) (by omega) (by omega) (by omega)
  | d + 1, 1, br, co, n, q, P, E, h, hP, hE, hb, hc, p, p0, p1 => by
    rcases h with h | ⟨-, -, M, h1, h2⟩
    · omega
    · have a1 := RT_ab _ _ _ _ _ _ _ _ h1
      have a2 := RT_ab _ _ _ _ _ _ _ _ h2
      by_cases y : p < M
      · exact RT_pt d _ _ _ _ _ _ _ h1 hP (by omega) hb hc p p0 y
      · exact RT_pt d _ _ _ _ _ _ _ h2 (by omega) hE hb hc p (by omega) p1
  | d + 1, 2, br, co, n, q, P, E, h, hP, hE, hb, hc, p, p0, p1 => by
    rcases h with h | ⟨-, -, M, h1, h2⟩
    · omega
    · have a1 := RT_ab _ _ _ _ _ _ _ _ h1
      have a2 := RT_ab _ _ _ _ _ _ _ _ h2
      by_cases y : p < M
      · exact RT_pt d _ _ _ _ _ _ _ h1 hP (by omega) hb hc p p0 y
      · exact RT_pt d _ _ _ _ _ _ _ h2 (by omega) hE hb hc p (by omega) p1
  | d + 1, m + 3, br, co, n, q, P, E, h, hP, hE, hb, hc, p, p0, p1 => by
    obtain ⟨h1, h0, h2⟩ := h
    have go : ∀ {m : Nat} {b k x y u v : Int}, RT s t lo hi b k d m x y u v → P ≤ u → v ≤ E → (-1 ≤ b ∧ b ≤ 64000) → (-1 ≤ k ∧ k ≤ 64000) → u ≤ p → p < v → iP s lo hi p := fun z a b e1 e2 c e => RT_pt d _ _ _ _ _ _ _ z (by omega) (by omega) e1 e2 p c e
    by_cases zP : p = P
    · rw [zP]; exact h0.ip (by decide) (by omega) (by decide)
    · rcases h2 with ⟨e, o, o', o'', M, M', x, i, x', i', x''⟩ | ⟨e, o, o', M, x, i, x', i'⟩ | ⟨e, x, i⟩ | ⟨e, o, e1, i⟩ | ⟨e, o, e1, i⟩ | ⟨e, x, i⟩
      · have a1 := RT_ab _ _ _ _ _ _ _ _ x
        have a2 := RT_ab _ _ _ _ _ _ _ _ x'
        have a3 := RT_ab _ _ _ _ _ _ _ _ x''
        by_cases y : p < M
        · exact go x (by omega) (by omega) hb hc (by omega) y
        · by_cases w : p = M
          · rw [w]; exact i.ip (by decide) (by omega) (by omega)
          · by_cases v : p < M'
            · exact go x' (by omega) (by omega) hb hc (by omega) v
            · by_cases u : p = M'
              · rw [u]; exact i'.ip (by decide) (by omega) (by omega)
              · exact go x'' (by omega) (by omega) hb hc (by omega) p1
      · have a1 := RT_ab _ _ _ _ _ _ _ _ x
        have a2 := RT_ab _ _ _ _ _ _ _ _ x'
        by_cases y : p < M
        · exact go x (by omega) (by omega) hb hc (by omega) y
        · by_cases w : p = M
          · rw [w]; exact i.ip (by decide) (by omega) (by omega)
          · by_cases v : p < E - 1
            · exact go x' (by omega) (by omega) (by omega) (by omega) (by omega) v
            · rw [show p = E - 1 by omega]; exact i'.ip (by decide) (by omega) (by omega)
      · by_cases z : p = E - 1
        · rw [z]; exact i.ip (by decide) (by omega) (by decide)
        · rcases x with ⟨y1, y2, y3⟩ | ⟨y, w⟩
          · rw [show p = P + 1 by omega]; exact y3.ip (by decide) (by omega) (by decide)
          · exact go w (by omega) (by omega) hb hc (by omega) (by omega)
      · rw [show p = P + 1 by omega]; exact i.ip (by decide) (by omega) (by omega)
      · rw [show p = P + 1 by omega]; exact i.ip (by decide) (by omega) (by omega)
      · by_cases z : p = E - 1
        · rw [z]; exact i.ip (by decide) (by omega) (by decide)
        · exact go x (by omega) (by omega) hb hc (by omega) (by omega)
end RP
