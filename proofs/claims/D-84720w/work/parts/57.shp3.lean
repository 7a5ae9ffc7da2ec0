/-! shapes: both sides get a shape more -/
section SA
variable {σ σ' τ τ' : gM}
/-- a shape behind the others leaves the others' places -/
theorem plF_old {C : Int} (hp : ∀ s, 1 ≤ s → s < C → 0 ≤ σ 43 s ∧ σ 43 s < s) (h43 : ∀ i, i < C → σ' 43 i = σ 43 i) (h44 : ∀ i, i < C → σ' 44 i = σ 44 i) (h47 : ∀ i, i < C → σ' 47 i = σ 47 i) : ∀ (d : Nat) (s n : Int), s < C → plF d σ' s n = plF d σ s n
  | 0, _, _, _ => rfl
  | d + 1, s, n, hs => by
    unfold plF
    by_cases h0 : s ≤ 0
    · rw [if_pos h0, if_pos h0]
    · have := hp s (by omega) hs
      rw [if_neg h0, if_neg h0, h43 s hs, h44 s hs, h47 s hs, plF_old hp h43 h44 h47 d (σ 43 s) n (by omega)]
theorem c1F_old {C : Int} (hp : ∀ s, 1 ≤ s → s < C → 0 ≤ σ 43 s ∧ σ 43 s < s) (h43 : ∀ i, i < C → σ' 43 i = σ 43 i) (h45 : ∀ i, i < C → σ' 45 i = σ 45 i) : ∀ (d : Nat) (s : Int), s < C → c1F d σ' s = c1F d σ s
  | 0, _, _ => rfl
  | d + 1, s, hs => by
    unfold c1F
    by_cases h0 : s ≤ 0
    · rw [if_pos h0, if_pos h0]
    · have := hp s (by omega) hs
      rw [if_neg h0, if_neg h0, h43 s hs, h45 s hs, c1F_old hp h43 h45 d (σ 43 s) (by omega)]
/-- what both sides have when a shape has come -/
theorem rSh_add (h : rSh σ τ) {sh n k : Int} (h9 : τ 119 10 ≤ 9000) (hC : σ 42 6 < 200) (hs : 0 ≤ sh ∧ sh < σ 42 6) (hn : 0 ≤ n ∧ n < σ 42 10) (hk : k = 1 ∨ k = 3) (hm : σ 47 sh < 12)
    (a42 : ∀ i, σ' 42 i = if i = 6 then σ 42 6 + 1 else σ 42 i) (a43 : ∀ i, σ' 43 i = if i = σ 42 6 then sh else σ 43 i) (a44 : ∀ i, σ' 44 i = if i = σ 42 6 then n else σ 44 i) (a45 : ∀ i, σ' 45 i = if i = σ 42 6 then k else σ 45 i)
    (a46 : ∀ i, σ' 46 i = if i = σ 42 6 then -1 else σ 46 i) (a47 : ∀ i, σ' 47 i = if i = σ 42 6 then σ 47 sh + 1 else σ 47 i) (ao : ∀ a i, a < 42 ∨ 47 < a → σ' a i = σ a i)
    (b94 : τ' 119 94 = τ 119 94 + 1) (bk : mKeep τ τ') (b188 : ∀ i, τ' 188 i = if i = τ 119 94 then sh else τ 188 i) (b189 : ∀ i, τ' 189 i = if i = τ 119 94 then k else τ 189 i) (b190 : ∀ i, τ' 190 i = if i = τ 119 94 then -1 else τ 190 i)
    (b191 : ∀ i, τ' 191 i = if i = τ 119 94 then τ 191 sh + 1 else τ 191 i) (b192 : ∀ i, i ≠ τ 119 94 → τ' 192 i = τ 192 i) (bn : 0 ≤ τ' 192 (τ 119 94) ∧ τ' 192 (τ 119 94) < τ' 119 10) (bS : mS τ' (τ' 192 (τ 119 94)) = sN σ n) :
    rSh σ' τ' ∧ (∀ s m, s < σ 42 6 → plc σ' s m = plc σ s m) ∧ (∀ m, plc σ' (σ 42 6) m = if n = m then σ 47 sh else plc σ sh m) ∧ (∀ s, s < σ 42 6 → cn1 σ' s = cn1 σ s) ∧ cn1 σ' (σ 42 6) = (if k = 1 then 1 else 0) + cn1 σ sh := by
  have par := h.par
  obtain ⟨h1, h2, h3, h4, h5, h6, h7, h8⟩ := h
  have e94 : τ 119 94 = σ 42 6 := h1.2.2
  simp only [e94] at b94 b188 b189 b190 b191 b192 bn bS
  have o43 : ∀ i, i < σ 42 6 → σ' 43 i = σ 43 i := fun i hi => by rw [a43, if_neg (by omega)]
  have o44 : ∀ i, i < σ 42 6 → σ' 44 i = σ 44 i := fun i hi => by rw [a44, if_neg (by omega)]
  have o45 : ∀ i, i < σ 42 6 → σ' 45 i = σ 45 i := fun i hi => by rw [a45, if_neg (by omega)]
  have o47 : ∀ i, i < σ 42 6 → σ' 47 i = σ 47 i := fun i hi => by rw [a47, if_neg (by omega)]
  have t6 : σ' 42 6 = σ 42 6 + 1 := by rw [a42]; simp
  have t10 : σ' 42 10 = σ 42 10 := by rw [a42]; simp
  have t11 : σ' 42 11 = σ 42 11 := by rw [a42]; simp
  have eN : ∀ j, sN σ' j = sN σ j := sN_congr (funext fun i => ao 48 i (by omega)) (funext fun i => ao 49 i (by omega)) (funext fun i => ao 50 i (by omega))
  have eP : ∀ s m, s < σ 42 6 → plc σ' s m = plc σ s m := fun s m hs => plF_old par o43 o44 o47 _ s m hs
  have eC : ∀ s, s < σ 42 6 → cn1 σ' s = cn1 σ s := fun s hs => c1F_old par o43 o45 _ s hs
  have par' : ∀ s, 1 ≤ s → s < σ' 42 6 → 0 ≤ σ' 43 s ∧ σ' 43 s < s := by
    intro s q1 q2
    by_cases e : s = σ 42 6
    · rw [a43, if_pos e]; omega
    · rw [o43 s (by omega)]; exact par s q1 (by omega)
  have nP : ∀ m, plc σ' (σ 42 6) m = if n = m then σ 47 sh else plc σ sh m := by
    intro m
    rw [plc_e par' (by omega) (by omega), a44, a47, a43, if_pos rfl, if_pos rfl, if_pos rfl, eP sh m (by omega), show σ 47 sh + 1 - 1 = σ 47 sh by omega]
  have nC : cn1 σ' (σ 42 6) = (if k = 1 then 1 else 0) + cn1 σ sh := by
    rw [cn1_e par' (by omega) (by omega), a45, a43, if_pos rfl, if_pos rfl, eC sh (by omega)]
  refine ⟨⟨by omega, by omega, by omega, ⟨by rw [o47 0 (by omega)]; exact h4.1, by rw [b191, if_neg (by omega)]; exact h4.2.1, by rw [o43 0 (by omega)]; exact h4.2.2.1, by rw [b188, if_neg (by omega)]; exact h4.2.2.2.1, by rw [o45 0 (by omega)]; exact h4.2.2.2.2⟩, ?_, ?_, ?_, ?_⟩, eP, nP, eC, nC⟩
  · intro s q1 q2
    by_cases e : s = σ 42 6
    · subst e
      have i47 : σ' 47 sh = σ 47 sh := o47 sh (by omega)
      have i191 : τ 191 sh = σ 47 sh := by
        by_cases z : sh = 0
        · rw [z, h4.1, h4.2.1]
        · exact (h5 sh (by omega) (by omega)).2.2.2.2.2.2.1
      rw [a43, a44, a45, a47, b188, b189, b191, if_pos rfl, if_pos rfl, if_pos rfl, if_pos rfl, if_pos rfl, if_pos rfl, if_pos rfl, t10, i47, i191, eN]
      exact ⟨by omega, rfl, hn, hk, rfl, by omega, rfl, bn, bS⟩
    · obtain ⟨g1, g2, g3, g4, g5, g6, g7, g8, g9⟩ := h5 s q1 (by omega)
      have kk := bk (τ 192 s) (Or.inl g8)
      rw [o43 s (by omega), o44 s (by omega), o45 s (by omega), o47 s (by omega), b188, b189, b191, if_neg e, if_neg e, if_neg e, b192 s e, t10, o47 (σ 43 s) (by omega), eN, kk.2.1]
      refine ⟨g1, g2, g3, g4, g5, g6, g7, ?_, g9⟩
      rcases kk.1 with q | q
      · exact q
      · omega
  · intro s q1 q2
    by_cases e : s = σ 42 6
    · rw [a46, b190, if_pos e, if_pos e]
      exact ⟨rfl, Or.inl rfl⟩
    · have g := h6 s q1 (by omega)
      rw [a46, b190, if_neg e, if_neg e]
      refine ⟨g.1, ?_⟩
      rcases g.2 with g | ⟨g1, g2, g3, g4⟩
      · exact Or.inl g
      · refine Or.inr ⟨by omega, by rw [o47 _ (by omega), o47 _ (by omega)]; exact g2, by rw [eC _ (by omega), eC _ (by omega)]; exact g3, fun m => by rw [eP _ _ (by omega), eP _ _ (by omega)]; exact g4 m⟩
  · intro j q1 q2
    rw [ao 49 j (by omega), ao 50 j (by omega), t11]
    exact h7 j q1 (by omega)
  · intro i j q1 q2 q3 q4 q5
    rw [eN, eN] at q5
    exact h8 i j q1 (by omega) q3 (by omega) q5
/-- a shape's name comes: both sides stay -/
theorem rSh_name (h : rSh σ τ) (hlt : σ 42 10 < σ 42 6) {L : List Int} {sz : Int} (hsz : 0 ≤ sz ∧ sz ≤ 200) (a10 : σ' 42 10 = σ 42 10 + 1) (a11 : σ' 42 11 = σ 42 11 + sz) (a42 : ∀ i, i ≠ 10 → i ≠ 11 → σ' 42 i = σ 42 i) (ao : ∀ a i, a ≠ 42 → a ≠ 48 → a ≠ 49 → a ≠ 50 → σ' a i = σ a i)
    (aS : sN σ' (σ 42 10) = L) (aO : ∀ k, 0 ≤ k → k < σ 42 10 → sN σ' k = sN σ k) (aN : sNm σ') (hL : ∀ k, 0 ≤ k → k < σ 42 10 → sN σ k ≠ L) : rSh σ' τ := by
  obtain ⟨h1, h2, h3, h4, h5, h6, h7, h8⟩ := h
  have t6 : σ' 42 6 = σ 42 6 := a42 6 (by decide) (by decide)
  have e43 : σ' 43 = σ 43 := funext fun i => ao 43 i (by decide) (by decide) (by decide) (by decide)
  have e44 : σ' 44 = σ 44 := funext fun i => ao 44 i (by decide) (by decide) (by decide) (by decide)
  have e45 : σ' 45 = σ 45 := funext fun i => ao 45 i (by decide) (by decide) (by decide) (by decide)
  have e46 : σ' 46 = σ 46 := funext fun i => ao 46 i (by decide) (by decide) (by decide) (by decide)
  have e47 : σ' 47 = σ 47 := funext fun i => ao 47 i (by decide) (by decide) (by decide) (by decide)
  have eP := plc_congr e43 e44 e47
  have eC := cn1_congr e43 e45
  refine ⟨by omega, by omega, by omega, by rw [e47, e43, e45]; exact h4, ?_, ?_, aN, ?_⟩
  · intro s q1 q2
    rw [t6] at q2
    have g := h5 s q1 q2
    rw [e43, e44, e45, e47, aO _ g.2.2.1.1 g.2.2.1.2, a10]
    exact ⟨g.1, g.2.1, ⟨g.2.2.1.1, by omega⟩, g.2.2.2⟩
  · intro s q1 q2
    rw [t6] at q2
    have g := h6 s q1 q2
    simp only [e46, e47, t6, eP, eC]
    exact g
  · intro i j q1 q2 q3 q4 q5
    by_cases ei : i = σ 42 10 <;> by_cases ej : j = σ 42 10
    · omega
    · subst ei
      rw [aS, aO j q3 (by omega)] at q5
      exact absurd q5.symm (hL j q3 (by omega))
    · subst ej
      rw [aS, aO i q1 (by omega)] at q5
      exact absurd q5 (hL i q1 (by omega))
    · rw [aO i q1 (by omega), aO j q3 (by omega)] at q5
      exact h8 i j q1 (by omega) q3 (by omega) q5
end SA
