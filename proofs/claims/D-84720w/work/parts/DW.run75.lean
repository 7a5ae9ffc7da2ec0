/-! a shape's child comes: names may be as many as shapes -/
def rShW (σ τ : gM) : Prop := (1 ≤ σ 42 6 ∧ σ 42 6 ≤ 200 ∧ τ 119 94 = σ 42 6) ∧ (0 ≤ σ 42 10 ∧ σ 42 10 ≤ σ 42 6 + 1) ∧ (0 ≤ σ 42 11 ∧ σ 42 11 ≤ 200 * σ 42 10) ∧ (σ 47 0 = 0 ∧ τ 191 0 = 0 ∧ (σ 43 0 = -1 ∧ τ 188 0 = -1 ∧ σ 45 0 = -1)) ∧ sTr σ τ ∧ sHr σ τ ∧ sNm σ ∧ sUq σ
def sGrowW (σ σ' : gM) : Prop := (∀ a i, (a < 42 ∨ 50 < a) → a ≠ 4 → a ≠ 5 → σ' a i = σ a i) ∧ sCa σ' ∧ (σ 42 6 ≤ σ' 42 6 ∧ σ' 42 6 ≤ σ 42 6 + 1) ∧ (∀ i, i < σ 42 6 → σ' 43 i = σ 43 i ∧ σ' 44 i = σ 44 i ∧ σ' 45 i = σ 45 i ∧ σ' 46 i = σ 46 i ∧ σ' 47 i = σ 47 i) ∧
  (∀ s m, s < σ 42 6 → plc σ' s m = plc σ s m) ∧ (∀ s, s < σ 42 6 → cn1 σ' s = cn1 σ s) ∧ σ 42 10 ≤ σ' 42 10 ∧ (∀ k, 0 ≤ k → k < σ 42 10 → sN σ' k = sN σ k) ∧ σ' 42 10 ≤ σ' 42 6
section SA2
variable {σ σ' τ τ' : gM}
theorem rSh_addW (h : rShW σ τ) {sh n k : Int} (h9 : τ 119 10 ≤ 9000) (hC : σ 42 6 < 200) (hs : 0 ≤ sh ∧ sh < σ 42 6) (hn : 0 ≤ n ∧ n < σ 42 10) (hk : k = 1 ∨ k = 3) (hm : σ 47 sh < 12)
    (a42 : ∀ i, σ' 42 i = if i = 6 then σ 42 6 + 1 else σ 42 i) (a43 : ∀ i, σ' 43 i = if i = σ 42 6 then sh else σ 43 i) (a44 : ∀ i, σ' 44 i = if i = σ 42 6 then n else σ 44 i) (a45 : ∀ i, σ' 45 i = if i = σ 42 6 then k else σ 45 i)
    (a46 : ∀ i, σ' 46 i = if i = σ 42 6 then -1 else σ 46 i) (a47 : ∀ i, σ' 47 i = if i = σ 42 6 then σ 47 sh + 1 else σ 47 i) (ao : ∀ a i, a < 42 ∨ 47 < a → σ' a i = σ a i)
    (b94 : τ' 119 94 = τ 119 94 + 1) (bk : mKeep τ τ') (b188 : ∀ i, τ' 188 i = if i = τ 119 94 then sh else τ 188 i) (b189 : ∀ i, τ' 189 i = if i = τ 119 94 then k else τ 189 i) (b190 : ∀ i, τ' 190 i = if i = τ 119 94 then -1 else τ 190 i)
    (b191 : ∀ i, τ' 191 i = if i = τ 119 94 then τ 191 sh + 1 else τ 191 i) (b192 : ∀ i, i ≠ τ 119 94 → τ' 192 i = τ 192 i) (bn : 0 ≤ τ' 192 (τ 119 94) ∧ τ' 192 (τ 119 94) < τ' 119 10) (bS : mS τ' (τ' 192 (τ 119 94)) = sN σ n) :
    rSh σ' τ' ∧ (∀ s m, s < σ 42 6 → plc σ' s m = plc σ s m) ∧ (∀ m, plc σ' (σ 42 6) m = if n = m then σ 47 sh else plc σ sh m) ∧ (∀ s, s < σ 42 6 → cn1 σ' s = cn1 σ s) ∧ cn1 σ' (σ 42 6) = (if k = 1 then 1 else 0) + cn1 σ sh := by
  have par : ∀ s, 1 ≤ s → s < σ 42 6 → 0 ≤ σ 43 s ∧ σ 43 s < s := fun s a b => (h.2.2.2.2.1 s a b).1
  obtain ⟨h1, h2, h3, h4, h5, h6, h7, h8⟩ := h
  have e94 : τ 119 94 = σ 42 6 := h1.2.2
  simp only [e94] at b94 b188 b189 b190 b191 b192 bn bS
  have o43 : ∀ i, i < σ 42 6 → σ' 43 i = σ 43 i := fun i hi => by rw [a43, if_neg (by omega)]
  have o44 : ∀ i, i < σ 42 6 → σ' 44 i = σ 44 i := fun i hi => by rw [a44, if_neg (by omega)]
  have o45 : ∀ i, i < σ 42 6 → σ' 45 i = σ 45 i := fun i hi => by rw [a45, if_neg (by omega)]
  have o47 : ∀ i, i < σ 42 6 → σ' 47 i = σ 47 i := fun i hi => by rw [a47, if_neg (by omega)]
  have t6 : σ' 42 6 = σ 42 6 + 1 := by rw [a42]; simp
  have t10 : σ' 42 10 = σ 42 10 := by rw [a42]; simp
  have t11 : σ' 42 11 = σ 42 11 := by rw [a42]; simp
  have eN : ∀ j, sN σ' j = sN σ j := sN_congr (funext fun i => ao 48 i (by omega)) (funext fun i => ao 49 i (by omega)) (funext fun i => ao 50 i (by omega))
  have eP : ∀ s m, s < σ 42 6 → plc σ' s m = plc σ s m := fun s m hs => plF_old par o43 o44 o47 _ s m hs
  have eC : ∀ s, s < σ 42 6 → cn1 σ' s = cn1 σ s := fun s hs => c1F_old par o43 o45 _ s hs
  have par' : ∀ s, 1 ≤ s → s < σ' 42 6 → 0 ≤ σ' 43 s ∧ σ' 43 s < s := by
    intro s q1 q2
    by_cases e : s = σ 42 6
    · rw [a43, if_pos e]; omega
    · rw [o43 s (by omega)]; exact par s q1 (by omega)
  have nP : ∀ m, plc σ' (σ 42 6) m = if n = m then σ 47 sh else plc σ sh m := by
    intro m
    rw [plc_e par' (by omega) (by omega), a44, a47, a43, if_pos rfl, if_pos rfl, if_pos rfl, eP sh m (by omega), show σ 47 sh + 1 - 1 = σ 47 sh by omega]
  have nC : cn1 σ' (σ 42 6) = (if k = 1 then 1 else 0) + cn1 σ sh := by
    rw [cn1_e par' (by omega) (by omega), a45, a43, if_pos rfl, if_pos rfl, eC sh (by omega)]
  refine ⟨⟨by omega, by omega, by omega, ⟨by rw [o47 0 (by omega)]; exact h4.1, by rw [b191, if_neg (by omega)]; exact h4.2.1, by rw [o43 0 (by omega)]; exact h4.2.2.1, by rw [b188, if_neg (by omega)]; exact h4.2.2.2.1, by rw [o45 0 (by omega)]; exact h4.2.2.2.2⟩, ?_, ?_, ?_, ?_⟩, eP, nP, eC, nC⟩
  · intro s q1 q2
    by_cases e : s = σ 42 6
    · subst e
      have i47 : σ' 47 sh = σ 47 sh := o47 sh (by omega)
      have i191 : τ 191 sh = σ 47 sh := by
        by_cases z : sh = 0
        · rw [z, h4.1, h4.2.1]
        · exact (h5 sh (by omega) (by omega)).2.2.2.2.2.2.1
      rw [a43, a44, a45, a47, b188, b189, b191, if_pos rfl, if_pos rfl, if_pos rfl, if_pos rfl, if_pos rfl, if_pos rfl, if_pos rfl, t10, i47, i191, eN]
      exact ⟨by omega, rfl, hn, hk, rfl, by omega, rfl, bn, bS⟩
    · obtain ⟨g1, g2, g3, g4, g5, g6, g7, g8, g9⟩ := h5 s q1 (by omega)
      have kk := bk (τ 192 s) (Or.inl g8)
      rw [o43 s (by omega), o44 s (by omega), o45 s (by omega), o47 s (by omega), b188, b189, b191, if_neg e, if_neg e, if_neg e, b192 s e, t10, o47 (σ 43 s) (by omega), eN, kk.2.1]
      refine ⟨g1, g2, g3, g4, g5, g6, g7, ?_, g9⟩
      rcases kk.1 with q | q
      · exact q
      · omega
  · intro s q1 q2
    by_cases e : s = σ 42 6
    · rw [a46, b190, if_pos e, if_pos e]
      exact ⟨rfl, Or.inl rfl⟩
    · have g := h6 s q1 (by omega)
      rw [a46, b190, if_neg e, if_neg e]
      refine ⟨g.1, ?_⟩
      rcases g.2 with g | ⟨g1, g2, g3, g4⟩
      · exact Or.inl g
      · refine Or.inr ⟨by omega, by rw [o47 _ (by omega), o47 _ (by omega)]; exact g2, by rw [eC _ (by omega), eC _ (by omega)]; exact g3, fun m => by rw [eP _ _ (by omega), eP _ _ (by omega)]; exact g4 m⟩
  · intro j q1 q2
    rw [ao 49 j (by omega), ao 50 j (by omega), t11]
    exact h7 j q1 (by omega)
  · intro i j q1 q2 q3 q4 q5
    rw [eN, eN] at q5
    exact h8 i j q1 (by omega) q3 (by omega) q5
theorem rSh_nameW (h : rSh σ τ) {L : List Int} {sz : Int} (hsz : 0 ≤ sz ∧ sz ≤ 200) (a10 : σ' 42 10 = σ 42 10 + 1) (a11 : σ' 42 11 = σ 42 11 + sz) (a42 : ∀ i, i ≠ 10 → i ≠ 11 → σ' 42 i = σ 42 i) (ao : ∀ a i, a ≠ 42 → a ≠ 48 → a ≠ 49 → a ≠ 50 → σ' a i = σ a i)
    (aS : sN σ' (σ 42 10) = L) (aO : ∀ k, 0 ≤ k → k < σ 42 10 → sN σ' k = sN σ k) (aN : sNm σ') (hL : ∀ k, 0 ≤ k → k < σ 42 10 → sN σ k ≠ L) : rShW σ' τ := by
  obtain ⟨h1, h2, h3, h4, h5, h6, h7, h8⟩ := h
  have t6 : σ' 42 6 = σ 42 6 := a42 6 (by decide) (by decide)
  have e43 : σ' 43 = σ 43 := funext fun i => ao 43 i (by decide) (by decide) (by decide) (by decide)
  have e44 : σ' 44 = σ 44 := funext fun i => ao 44 i (by decide) (by decide) (by decide) (by decide)
  have e45 : σ' 45 = σ 45 := funext fun i => ao 45 i (by decide) (by decide) (by decide) (by decide)
  have e46 : σ' 46 = σ 46 := funext fun i => ao 46 i (by decide) (by decide) (by decide) (by decide)
  have e47 : σ' 47 = σ 47 := funext fun i => ao 47 i (by decide) (by decide) (by decide) (by decide)
  have eP := plc_congr e43 e44 e47
  have eC := cn1_congr e43 e45
  refine ⟨by omega, by omega, by omega, by rw [e47, e43, e45]; exact h4, ?_, ?_, aN, ?_⟩
  · intro s q1 q2
    rw [t6] at q2
    have g := h5 s q1 q2
    rw [e43, e44, e45, e47, aO _ g.2.2.1.1 g.2.2.1.2, a10]
    exact ⟨g.1, g.2.1, ⟨g.2.2.1.1, by omega⟩, g.2.2.2⟩
  · intro s q1 q2
    rw [t6] at q2
    have g := h6 s q1 q2
    simp only [e46, e47, t6, eP, eC]
    exact g
  · intro i j q1 q2 q3 q4 q5
    by_cases ei : i = σ 42 10 <;> by_cases ej : j = σ 42 10
    · omega
    · subst ei
      rw [aS, aO j q3 (by omega)] at q5
      exact absurd q5.symm (hL j q3 (by omega))
    · subst ej
      rw [aS, aO i q1 (by omega)] at q5
      exact absurd q5 (hL i q1 (by omega))
    · rw [aO i q1 (by omega), aO j q3 (by omega)] at q5
      exact h8 i j q1 (by omega) q3 (by omega) q5
end SA2
section W62
variable {σ τ : gM}
theorem sp_childFor_sW (h : rSh σ τ) (hh : hI σ) (hm : mI τ) (h8 : ∀ i, i8 (τ 121 i)) (hc : sCa σ) {sh s w k : Int} (hs : 0 ≤ sh ∧ sh < σ 42 6) (hv : vS σ s) (hw : vM τ w) (he : cS σ s = mS τ w) (hsz : σ 3 s ≤ 200) (hk : k = 1 ∨ k = 3) (hmy : σ 47 sh < 12)
    (r1 : 9000 ≤ w → τ 119 10 < 9000) (r2 : 9000 ≤ w → τ 119 9 + τ 123 w ≤ 60000) :
    ∃ σ' t c, sp_childFor σ sh s k = some (σ', t) ∧ md_childOf τ sh w k = some (τ, c) ∧ sGrowW σ σ' ∧
      ((t = c ∧ (1 ≤ t ∧ t < σ 42 6) ∧ rSh σ' τ ∧ (∃ n, (0 ≤ n ∧ n < σ' 42 10) ∧ sN σ' n = cS σ s ∧ plc σ' t n = σ 47 sh) ∧ σ' 47 t = σ 47 sh + 1 ∧ σ' 42 6 = σ 42 6) ∨
       (t = -1 ∧ c = -1 ∧ σ 42 6 = 200 ∧ rSh σ' τ) ∨
       (t = σ 42 6 ∧ c = -1 ∧ σ 42 6 < 200 ∧ σ' 46 t = -1 ∧ σ' 47 t = σ 47 sh + 1 ∧ σ' 42 6 = σ 42 6 + 1 ∧ (∃ n, (0 ≤ n ∧ n < σ' 42 10) ∧ sN σ' n = cS σ s ∧ plc σ' t n = σ 47 sh) ∧
        ∃ τ', md_shapeComes τ sh w k = some (τ', σ 42 6) ∧ rSh σ' τ' ∧ mI τ' ∧ mKeep τ τ' ∧ (∀ i, i8 (τ' 121 i)) ∧ (τ 119 10 ≤ τ' 119 10 ∧ τ' 119 10 ≤ τ 119 10 + 1) ∧ (τ 119 9 ≤ τ' 119 9 ∧ τ' 119 9 ≤ τ 119 9 + τ 123 w) ∧
          (∀ c i, c < 119 ∨ 126 < c → c < 188 ∨ 192 < c → τ' c i = τ c i) ∧ τ' 120 = τ 120 ∧ (∀ i, i ≠ 9 → i ≠ 10 → i ≠ 94 → τ' 119 i = τ 119 i) ∧ (∀ i, 60000 ≤ i → τ' 121 i = τ 121 i))) := by
  have hC := h.1
  have vs := hh.v hv
  have ms := many_r h hs.1 hs.2
  have e94 : τ 119 94 = σ 42 6 := h.1.2.2
  have hN := h.2.2.2.2.2.2.1
  have hN10 := h.2.1
  have i191 : τ 191 sh = σ 47 sh := by
    by_cases z : sh = 0
    · rw [z, h.2.2.2.1.1, h.2.2.2.1.2.1]
    · exact (h.2.2.2.2.1 sh (by omega) hs.2).2.2.2.2.2.2.1
  obtain ⟨σ1, n, a1, a2, a3, a4, a5, a6⟩ := sp_nameOf_s hh hv (by omega) hN (by have := h.2.2.1; omega) hc
  have ca1 : sCa σ1 := hc.name a2 a3 a4 a5 (by omega) a6
  have c1 : ∀ a, a ≠ 4 → a ≠ 5 → σ1 a = σ a := fun a q1 q2 => sOnly_c a2 q1 q2
  have hR1 : rSh σ1 τ := h.mv (fun a q1 q2 => c1 a (by omega) (by omega)) (fun _ _ _ => rfl) rfl (fun r hr => ⟨hr, rfl, rfl, rfl⟩) hm.1.2
  have eN1 : ∀ j, sN σ1 j = sN σ j := sN_congr (c1 48 (by decide) (by decide)) (c1 49 (by decide) (by decide)) (c1 50 (by decide) (by decide))
  have eP1 : ∀ s m, plc σ1 s m = plc σ s m := plc_congr (c1 43 (by decide) (by decide)) (c1 44 (by decide) (by decide)) (c1 47 (by decide) (by decide))
  have eC1 : ∀ s, cn1 σ1 s = cn1 σ s := cn1_congr (c1 43 (by decide) (by decide)) (c1 45 (by decide) (by decide))
  have t6 : σ1 42 6 = σ 42 6 := by rw [c1 42 (by decide) (by decide)]
  have t10 : σ1 42 10 = σ 42 10 := by rw [c1 42 (by decide) (by decide)]
  have g1 : sGrowW σ σ1 := ⟨fun a i _ q2 q3 => a2 a i q2 q3, ca1, by omega, fun i _ => by rw [c1 43 (by decide) (by decide), c1 44 (by decide) (by decide), c1 45 (by decide) (by decide), c1 46 (by decide) (by decide), c1 47 (by decide) (by decide)]; exact ⟨rfl, rfl, rfl, rfl, rfl⟩, fun s m _ => eP1 s m, fun s _ => eC1 s, by omega, fun k _ _ => eN1 k, by omega⟩
  -- what comes behind a name that is known, where no child is there
  have new : ∀ (S : gM) (nn : Int), rSh S τ → S 42 6 = σ 42 6 → (0 ≤ nn ∧ nn < S 42 10) → sN S nn = cS σ s → sCa S → σ 42 6 < 200 → sGrowW σ S → S 42 10 ≤ σ 42 6 → ∃ σ', sp_childFor_b61 S k nn sh = some (σ', σ 42 6) ∧ sGrowW σ σ' ∧ σ' 46 (σ 42 6) = -1 ∧ σ' 47 (σ 42 6) = σ 47 sh + 1 ∧ σ' 42 6 = σ 42 6 + 1 ∧ (∃ n, (0 ≤ n ∧ n < σ' 42 10) ∧ sN σ' n = cS σ s ∧ plc σ' (σ 42 6) n = σ 47 sh) ∧
      ∃ τ', md_shapeComes τ sh w k = some (τ', σ 42 6) ∧ rSh σ' τ' ∧ mI τ' ∧ mKeep τ τ' ∧ (∀ i, i8 (τ' 121 i)) ∧ (τ 119 10 ≤ τ' 119 10 ∧ τ' 119 10 ≤ τ 119 10 + 1) ∧ (τ 119 9 ≤ τ' 119 9 ∧ τ' 119 9 ≤ τ 119 9 + τ 123 w) ∧
          (∀ c i, c < 119 ∨ 126 < c → c < 188 ∨ 192 < c → τ' c i = τ c i) ∧ τ' 120 = τ 120 ∧ (∀ i, i ≠ 9 → i ≠ 10 → i ≠ 94 → τ' 119 i = τ 119 i) ∧ (∀ i, 60000 ≤ i → τ' 121 i = τ 121 i) := by
    intro S nn hR hS6 hn hnS hca hlt2 hg hle
    have gsh := hg.2.2.2.1 sh hs.2
    have m47 : S 47 sh = σ 47 sh := gsh.2.2.2.2
    obtain ⟨S', b0, a42, a43, a44, a45, a46, a47, ao⟩ := sp_add_s (σ := S) (sh := sh) (n := nn) (k := k) (by omega) (by omega) (by omega)
    obtain ⟨τ', d0, dI, dK, d94, d188, d189, d190, d191, d192, dn, dS, dx, dy, dT, d120, d119, d121, d9, d8⟩ := md_shapeComes_s (τ := τ) (sh := sh) (w := w) (k := k) hm hw h8 (by omega) (by omega) (by omega) r1 r2
    obtain ⟨nR, nP, nQ, nC, nD⟩ := rSh_add hR hm.1.2 (by omega) (by omega) hn hk (by omega) a42 a43 a44 a45 a46 a47 ao d94 dK d188 d189 d190 d191 d192 dn (by rw [dS, hnS, he])
    rw [hS6] at a43 a44 a45 a46 a47 nP nQ nC nD b0
    have eN : ∀ j, sN S' j = sN S j := sN_congr (funext fun i => ao 48 i (by omega)) (funext fun i => ao 49 i (by omega)) (funext fun i => ao 50 i (by omega))
    have eS : ∀ j, cS S' j = cS S j := cS_congr (funext fun i => ao 1 i (by omega)) (funext fun i => ao 2 i (by omega)) (funext fun i => ao 3 i (by omega))
    have u10 : S' 42 10 = S 42 10 := by rw [a42]; simp
    have u6 : S' 42 6 = σ 42 6 + 1 := by rw [a42, hS6]; simp
    refine ⟨S', by rw [sp_childFor_b61_e, b0]; rfl, ⟨?_, ?_, by omega, ?_, ?_, ?_, ?_, ?_, by omega⟩, by rw [a46, if_pos rfl], by rw [a47, if_pos rfl, m47], u6, ⟨nn, by omega, by rw [eN, hnS], by rw [nQ, if_pos rfl, m47]⟩, τ', by rw [d0, e94], nR, dI, dK, d8, dx, dy, dT, d120, d119, d121⟩
    · intro a i q1 q2 q3
      rw [ao a i (by omega)]; exact hg.1 a i q1 q2 q3
    · intro x hx
      have hx' : vS S x := by
        unfold vS at hx ⊢
        rw [ao 0 7 (by omega), ao 0 10 (by omega)] at hx
        exact hx
      have q := hca x hx'
      simp only [eN, eS, u10, ao 4 x (by omega), ao 5 x (by omega)]
      exact q
    · intro i hi
      have q := hg.2.2.2.1 i hi
      rw [a43, a44, a45, a46, a47, if_neg (by omega), if_neg (by omega), if_neg (by omega), if_neg (by omega), if_neg (by omega)]
      exact q
    · intro x m hx
      rw [nP x m (by omega)]; exact hg.2.2.2.2.1 x m hx
    · intro x hx
      rw [nC x (by omega)]; exact hg.2.2.2.2.2.1 x hx
    · have := hg.2.2.2.2.2.2.1; omega
    · intro j q1 q2
      rw [eN]; exact hg.2.2.2.2.2.2.2.1 j q1 q2
  rw [sp_childFor_e, a1]
  simp only [Option.bind_some]
  rcases a6 with ⟨n1, n2⟩ | ⟨n1, n2⟩
  · -- the name is not known: no shape has it
    rw [if_pos (by omega)]
    have hno : md_childOf τ sh w k = some (τ, -1) := by
      have go : ∀ (d : Nat) (x : Int), 1 ≤ x → x + d = σ 42 6 → md_childOf_b3 τ sh w k x = some (τ, -1) := by
        intro d
        induction d with
        | zero => intro x x1 x2; rw [md_childOf_b3_e, e94, if_neg (by omega)]
        | succ d ih =>
          intro x x1 x2
          have hb : 0 ≤ x ∧ x < 200 := by omega
          have hlx : x < σ 42 6 := by omega
          have ht := h.2.2.2.2.1 x x1 hlx
          rw [md_childOf_b3_e, e94]
          simp only [hb, hlx, and_self, if_true, md_childOf_b54_e]
          rw [md_isSame_s hm (Or.inl ht.2.2.2.2.2.2.2.1) hw, ht.2.2.2.2.2.2.2.2, w32_e (by omega) (by omega), ih (x + 1) (by omega) (by omega)]
          have ne : ¬ sN σ (σ 44 x) = mS τ w := by rw [← he]; exact n2 _ ht.2.2.1.1 ht.2.2.1.2
          simp only [Option.bind_some, if_neg ne, if_true]
          split
          · split <;> first | rfl | exact ih (x + 1) (by omega) (by omega)
          · rfl
      rw [md_childOf_e]
      exact go (σ 42 6 - 1).toNat 1 (by omega) (by omega)
    rw [sp_childFor_b24_e, if_pos (by decide), t6]
    by_cases h200 : σ 42 6 = 200
    · rw [if_pos h200]
      exact ⟨σ1, -1, -1, rfl, hno, g1, Or.inr (Or.inl ⟨rfl, rfl, h200, hR1⟩)⟩
    · rw [if_neg h200, if_pos (by omega)]
      have hh1 : hI σ1 := hI_same hh (fun a ha => c1 a (by omega) (by omega))
      have hv1 : vS σ1 s := by
        unfold vS at hv ⊢
        rw [c1 0 (by decide) (by decide)]; exact hv
      have e3 : σ1 3 s = σ 3 s := by rw [c1 3 (by decide) (by decide)]
      have t11 : σ1 42 11 = σ 42 11 := by rw [c1 42 (by decide) (by decide)]
      have eS1 : ∀ j, cS σ1 j = cS σ j := cS_congr (c1 1 (by decide) (by decide)) (c1 2 (by decide) (by decide)) (c1 3 (by decide) (by decide))
      have b11 := h.2.2.1
      obtain ⟨S, f0, f10, f11, f42, fo, fS, fO, fN⟩ := sp_newName_s hh1 hv1 (by omega) (by omega) hR1.2.2.2.2.2.2.1 (by omega)
      have hRS : rShW S τ := rSh_nameW hR1 (sz := σ1 3 s) (by omega) f10 f11 f42 fo fS fO fN (fun j q1 q2 => by rw [eN1, eS1]; exact n2 j q1 (by omega))
      have eSS : ∀ j, cS S j = cS σ1 j := cS_congr (funext fun i => fo 1 i (by decide) (by decide) (by decide) (by decide)) (funext fun i => fo 2 i (by decide) (by decide) (by decide) (by decide)) (funext fun i => fo 3 i (by decide) (by decide) (by decide) (by decide))
      have caS : sCa S := by
        intro x hx
        have hx' : vS σ1 x := by
          unfold vS at hx ⊢
          rw [fo 0 7 (by decide) (by decide) (by decide) (by decide), fo 0 10 (by decide) (by decide) (by decide) (by decide)] at hx
          exact hx
        have q := ca1 x hx'
        rw [fo 4 x (by decide) (by decide) (by decide) (by decide), fo 5 x (by decide) (by decide) (by decide) (by decide), eSS, f10]
        refine ⟨by omega, ?_⟩
        rcases q.2 with ⟨q1, q2⟩ | ⟨q1, q2⟩
        · exact Or.inl ⟨q1, fun j y1 y2 => by rw [fO j y1 (by omega)]; exact q2 j y1 y2⟩
        · exact Or.inr ⟨by omega, by rw [fO _ q1.1 q1.2]; exact q2⟩
      have S6 : S 42 6 = σ 42 6 := by rw [f42 6 (by decide) (by decide), t6]
      have cellS : ∀ a, 43 ≤ a ∧ a ≤ 47 → S a = σ1 a := fun a ha => funext fun i => fo a i (by omega) (by omega) (by omega) (by omega)
      -- names may be as many as shapes for a moment
      have gS : (∀ a i, (a < 42 ∨ 50 < a) → a ≠ 4 → a ≠ 5 → S a i = σ a i) ∧ (∀ i, i < σ 42 6 → S 43 i = σ 43 i ∧ S 44 i = σ 44 i ∧ S 45 i = σ 45 i ∧ S 46 i = σ 46 i ∧ S 47 i = σ 47 i) ∧ (∀ s m, s < σ 42 6 → plc S s m = plc σ s m) ∧ (∀ s, s < σ 42 6 → cn1 S s = cn1 σ s) ∧ (∀ k, 0 ≤ k → k < σ 42 10 → sN S k = sN σ k) := by
        refine ⟨fun a i q1 q2 q3 => by rw [fo a i (by omega) (by omega) (by omega) (by omega)]; exact a2 a i q2 q3, fun i hi => ?_, fun x m _ => by rw [plc_congr (cellS 43 (by decide)) (cellS 44 (by decide)) (cellS 47 (by decide)), eP1], fun x _ => by rw [cn1_congr (cellS 43 (by decide)) (cellS 45 (by decide)), eC1], fun j q1 q2 => by rw [fO j q1 (by omega), eN1]⟩
        rw [cellS 43 (by decide), cellS 44 (by decide), cellS 45 (by decide), cellS 46 (by decide), cellS 47 (by decide)]
        exact g1.2.2.2.1 i hi
      rw [f0]
      simp only [Option.bind_some]
      rw [t10]
      -- as in new, but the count of names is one behind
      have m47 : S 47 sh = σ 47 sh := (gS.2.1 sh hs.2).2.2.2.2
      obtain ⟨S', b0, a42, a43, a44, a45, a46, a47, ao⟩ := sp_add_s (σ := S) (sh := sh) (n := σ 42 10) (k := k) (by omega) (by omega) (by omega)
      obtain ⟨τ', d0, dI, dK, d94, d188, d189, d190, d191, d192, dn, dS, dx, dy, dT, d120, d119, d121, d9, d8⟩ := md_shapeComes_s (τ := τ) (sh := sh) (w := w) (k := k) hm hw h8 (by omega) (by omega) (by omega) r1 r2
      have fS' : sN S (σ 42 10) = cS σ s := by rw [← eS1, ← fS, t10]
      obtain ⟨nR, nP, nQ, nC, nD⟩ := rSh_addW hRS hm.1.2 (by omega) (by omega) (n := σ 42 10) (by omega) hk (by omega) a42 a43 a44 a45 a46 a47 ao d94 dK d188 d189 d190 d191 d192 dn (by rw [dS, fS', he])
      rw [S6] at a43 a44 a45 a46 a47 nP nQ nC nD b0
      have eN : ∀ j, sN S' j = sN S j := sN_congr (funext fun i => ao 48 i (by omega)) (funext fun i => ao 49 i (by omega)) (funext fun i => ao 50 i (by omega))
      have eS : ∀ j, cS S' j = cS S j := cS_congr (funext fun i => ao 1 i (by omega)) (funext fun i => ao 2 i (by omega)) (funext fun i => ao 3 i (by omega))
      have u10 : S' 42 10 = σ 42 10 + 1 := by rw [a42, if_neg (by decide), f10, t10]
      have u6 : S' 42 6 = σ 42 6 + 1 := by rw [a42, S6]; simp
      refine ⟨S', σ 42 6, -1, by rw [sp_childFor_b61_e, b0]; rfl, hno, ⟨?_, ?_, by omega, ?_, ?_, ?_, by omega, ?_, by omega⟩, Or.inr (Or.inr ⟨rfl, rfl, by omega, by rw [a46, if_pos rfl], by rw [a47, if_pos rfl, m47], u6, ⟨σ 42 10, by omega, by rw [eN, fS'], by rw [nQ, if_pos rfl, m47]⟩, τ', by rw [d0, e94], nR, dI, dK, d8, dx, dy, dT, d120, d119, d121⟩)⟩
      · intro a i q1 q2 q3
        rw [ao a i (by omega)]; exact gS.1 a i q1 q2 q3
      · intro x hx
        have hx' : vS S x := by
          unfold vS at hx ⊢
          rw [ao 0 7 (by omega), ao 0 10 (by omega)] at hx
          exact hx
        have q := caS x hx'
        simp only [eN, eS, u10, ao 4 x (by omega), ao 5 x (by omega)]
        rw [f10, t10] at q
        exact q
      · intro i hi
        have q := gS.2.1 i hi
        rw [a43, a44, a45, a46, a47, if_neg (by omega), if_neg (by omega), if_neg (by omega), if_neg (by omega), if_neg (by omega)]
        exact q
      · intro x m hx
        rw [nP x m (by omega)]; exact gS.2.2.1 x m hx
      · intro x hx
        rw [nC x (by omega)]; exact gS.2.2.2.1 x hx
      · intro j q1 q2
        rw [eN]; exact gS.2.2.2.2 j q1 q2
  · rw [if_neg (by omega)]
    obtain ⟨t, z1, z2, z3, -⟩ := sp_child_s (n := n) (sh := sh) (srt := k) hR1 hm hw ⟨by omega, by rw [eN1, n2, he]⟩ (σ 42 6 - 1).toNat 1 (by omega) (by omega)
    rw [sp_child_e, z1]
    simp only [Option.bind_some]
    rw [sp_childFor_b24_e, t6]
    rcases z3 with z3 | ⟨z3, z4, z5, z6⟩
    · subst z3
      rw [if_pos (by decide)]
      by_cases h200 : σ 42 6 = 200
      · rw [if_pos h200]
        exact ⟨σ1, -1, -1, rfl, by rw [md_childOf_e]; exact z2, g1, Or.inr (Or.inl ⟨rfl, rfl, h200, hR1⟩)⟩
      · rw [if_neg h200, if_neg (by omega)]
        obtain ⟨σ', y1, y2, y3, y4, y5, y6, y7⟩ := new σ1 n hR1 t6 (by omega) (by rw [eN1, n2]) ca1 (by omega) g1 (by omega)
        exact ⟨σ', σ 42 6, -1, y1, by rw [md_childOf_e]; exact z2, y2, Or.inr (Or.inr ⟨rfl, rfl, by omega, y3, y4, y5, y6, y7⟩)⟩
    · rw [if_neg (by omega)]
      have tt := hR1.2.2.2.2.1 t z3.1 z3.2
      refine ⟨σ1, t, t, rfl, by rw [md_childOf_e]; exact z2, g1, Or.inl ⟨rfl, by omega, hR1, ⟨n, by omega, by rw [eN1, n2], ?_⟩, ?_, t6⟩⟩
      · rw [plc_e hR1.par z3.1 z3.2, if_pos z5, tt.2.2.2.2.2.1.1, z4, c1 47 (by decide) (by decide)]
        omega
      · rw [tt.2.2.2.2.2.1.1, z4, c1 47 (by decide) (by decide)]
end W62
