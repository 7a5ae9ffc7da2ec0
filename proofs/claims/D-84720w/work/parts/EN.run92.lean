/-! the heap of a run is given up: a program stays related -/
/-- what giving it up changes -/
def nrC (σ S : gM) : Prop := (∀ a, (1 ≤ a ∧ a ≤ 67) → S a = σ a) ∧ (∀ i, i < 10 → S 0 i = σ 0 i) ∧ S 0 10 = 8000 ∧ S 0 11 = 24000 ∧ S 0 12 = 8000 ∧ S 0 13 = 0
def nrM (τ T : gM) : Prop := (∀ a, (121 ≤ a ∧ a ≤ 126) ∨ a = 128 ∨ (155 ≤ a ∧ a ≤ 206) → T a = τ a) ∧ (∀ i, i = 9 ∨ i = 10 ∨ i = 15 ∨ (55 ≤ i ∧ i ≤ 57) ∨ (89 ≤ i ∧ i ≤ 94) ∨ i = 104 → T 119 i = τ 119 i) ∧ T 119 12 = 60000 ∧ T 119 13 = 0 ∧ T 119 16 = 2000 ∧ ∀ i, 0 ≤ i → i < 16384 → T 127 i = -1
/-- the model keeps what it has of a run's strings -/
def nrM2 (τ T : gM) : Prop := (∀ a, (121 ≤ a ∧ a ≤ 128) ∨ (155 ≤ a ∧ a ≤ 206) → T a = τ a) ∧ (∀ i, i = 9 ∨ i = 10 ∨ i = 12 ∨ i = 13 ∨ i = 15 ∨ (55 ≤ i ∧ i ≤ 57) ∨ (89 ≤ i ∧ i ≤ 94) ∨ i = 104 → T 119 i = τ 119 i) ∧ T 119 16 = 2000
section NR
variable {σ τ σ' τ' : gM}
theorem rPg.nr (h : rPg σ τ) (o : nrC σ σ') (p : nrM τ τ') : rPg σ' τ' := by
  obtain ⟨c, o0, o10, o11, o12, o13⟩ := o
  obtain ⟨d, t, t12, t13, t16, t127⟩ := p
  have f0_7 : σ' 0 7 = σ 0 7 := o0 7 (by decide)
  have f0_8 : σ' 0 8 = σ 0 8 := o0 8 (by decide)
  have f0_9 : σ' 0 9 = σ 0 9 := o0 9 (by decide)
  have f8_12 : σ' 8 12 = σ 8 12 := by rw [c 8 (by decide)]
  have f8_16 : σ' 8 16 = σ 8 16 := by rw [c 8 (by decide)]
  have f8_19 : σ' 8 19 = σ 8 19 := by rw [c 8 (by decide)]
  have f8_31 : σ' 8 31 = σ 8 31 := by rw [c 8 (by decide)]
  have f42_6 : σ' 42 6 = σ 42 6 := by rw [c 42 (by decide)]
  have f42_10 : σ' 42 10 = σ 42 10 := by rw [c 42 (by decide)]
  have f42_11 : σ' 42 11 = σ 42 11 := by rw [c 42 (by decide)]
  have f52_10 : σ' 52 10 = σ 52 10 := by rw [c 52 (by decide)]
  have f52_11 : σ' 52 11 = σ 52 11 := by rw [c 52 (by decide)]
  have f52_12 : σ' 52 12 = σ 52 12 := by rw [c 52 (by decide)]
  have f52_19 : σ' 52 19 = σ 52 19 := by rw [c 52 (by decide)]
  have f119_9 : τ' 119 9 = τ 119 9 := t 9 (by decide)
  have f119_10 : τ' 119 10 = τ 119 10 := t 10 (by decide)
  have f119_15 : τ' 119 15 = τ 119 15 := t 15 (by decide)
  have f119_55 : τ' 119 55 = τ 119 55 := t 55 (by decide)
  have f119_56 : τ' 119 56 = τ 119 56 := t 56 (by decide)
  have f119_57 : τ' 119 57 = τ 119 57 := t 57 (by decide)
  have f119_89 : τ' 119 89 = τ 119 89 := t 89 (by decide)
  have f119_92 : τ' 119 92 = τ 119 92 := t 92 (by decide)
  have f119_93 : τ' 119 93 = τ 119 93 := t 93 (by decide)
  have f119_94 : τ' 119 94 = τ 119 94 := t 94 (by decide)
  have f119_104 : τ' 119 104 = τ 119 104 := t 104 (by decide)
  have cs : ∀ s, cS σ' s = cS σ s := fun s => cS_mv (c 1 (by decide)) (c 2 (by decide)) (c 3 (by decide))
  have ms : ∀ s, mS τ' s = mS τ s := fun s => by unfold mS; rw [d 121 (by decide), d 122 (by decide), d 123 (by decide)]
  have fn : ∀ f g, rFn σ' τ' f g ↔ rFn σ τ f g := fun f g => by
    unfold rFn
    simp only [f8_12, f8_16, f8_19, f8_31, f119_9, f119_10, f119_15, f119_55, f119_56, f119_57, f119_89, f119_92, f119_93, f119_94, f119_104, cs, ms, c 23 (by decide), d 155 (by decide)]
  have sn : ∀ k, sN σ' k = sN σ k := fun k => by
    unfold sN
    rw [c 48 (by decide), c 49 (by decide), c 50 (by decide)]
  have pl : ∀ s n, plc σ' s n = plc σ s n := fun s n => plc_mv (c 43 (by decide)) (c 44 (by decide)) (c 47 (by decide))
  have cn : ∀ s, cn1 σ' s = cn1 σ s := fun s => cn1_mv (c 43 (by decide)) (c 45 (by decide))
  obtain ⟨⟨p1, p2, p3⟩, hv, hn, hk, hg, hs, hc, hb0, hN, hCs, hIn, ⟨hU, hP, hV⟩, hQ, hR, hK, hS, hCh⟩ := h
  refine ⟨⟨?_, ?_, ?_⟩, ⟨?_, ?_, ?_, ?_, ?_⟩, ?_, ?_, ?_, ?_, ?_, ⟨?_, ?_⟩, ?_, ?_, ?_, ⟨?_, ?_, ?_⟩, ?_, ?_, ?_, ?_, ?_⟩
  · obtain ⟨h1, h2, h3, h4, h5, h6⟩ := p1
    unfold hI
    simp only [cs]
    rw [f0_7, f0_8, o10, o11, o13, c 2 (by decide), c 3 (by decide)]
    exact ⟨h1, h2, h3, h4, by decide, fun s q1 q2 => by omega⟩
  · obtain ⟨h1, h2, h3, h4, h5, h6, h7, h8, h9, h10⟩ := p2
    unfold mI mKr mRr at *
    simp only [ms]
    rw [f119_10, f119_9, t12, t13, d 122 (by decide), d 123 (by decide), d 124 (by decide), d 125 (by decide), d 126 (by decide)]
    exact ⟨h1, h2, by decide, by decide, h5, fun r q1 q2 => by omega, h7, fun s u q1 q2 => by omega, h9, fun b q1 q2 => Or.inl ⟨t127 b q1 q2, fun s q3 q4 => by omega⟩⟩
  · rw [d 121 (by decide)]; exact p3
  · exact fI_mvf hv.1 f0_7 (c 3 (by decide)) (c 23 (by decide)) (c 24 (by decide)) f8_19 f8_31
  · exact fJ_mv hv.2.1 f119_10 f119_56 (d 155 (by decide)) (d 186 (by decide))
  · intro f g q
    rw [d 156 (by decide), c 24 (by decide)]
    exact hv.2.2.1 f g ((fn f g).mp q)
  · intro g q0 q1 q
    simp only [f119_9, f119_10, f119_15, f119_55, f119_56, f119_57, f119_89, f119_92, f119_93, f119_94, f119_104] at q1
    rw [d 156 (by decide)]
    exact hv.2.2.2.1 g q0 q1 fun f w => q f ((fn f g).mpr w)
  · intro f q0 q1 q
    simp only [f8_12, f8_16, f8_19, f8_31] at q1
    rw [c 24 (by decide)]
    exact hv.2.2.2.2 f q0 q1 fun g w => q g ((fn f g).mpr w)
  · intro r q0 q1
    simp only [f8_12, f8_16, f8_19, f8_31] at q1
    rw [c 25 (by decide), d 157 (by decide), fn]
    exact hn r q0 q1
  · unfold rKn at hk ⊢
    simp only [cs, ms]
    simp only [d 187 (by decide), f119_9, f119_10, f119_15, f119_55, f119_56, f119_57, f119_89, f119_92, f119_93, f119_94, f119_104, c 40 (by decide), f0_7, f0_8, f0_9, c 3 (by decide)]
    exact hk
  · unfold rGr at hg ⊢
    rw [f0_9, f119_15, o12, t16, o13]
    exact ⟨hg.1, hg.2.1, by decide⟩
  · unfold rSh sTr sHr sNm sUq at hs ⊢
    simp only [sn, pl, cn, ms]
    simp only [f42_6, f42_10, f42_11, c 43 (by decide), c 44 (by decide), c 45 (by decide), c 46 (by decide), c 47 (by decide), c 49 (by decide), c 50 (by decide), f119_9, f119_10, f119_15, f119_55, f119_56, f119_57, f119_89, f119_92, f119_93, f119_94, f119_104, d 188 (by decide), d 189 (by decide), d 190 (by decide), d 191 (by decide), d 192 (by decide)]
    exact hs
  · intro s vs
    have vs' : 0 ≤ s ∧ s < σ 0 7 := by
      unfold vS at vs
      rw [f0_7, o10] at vs
      rcases vs with w | w
      · exact w
      · omega
    simp only [sn, cs]
    rw [c 4 (by decide), c 5 (by decide), f42_10]
    exact hc s (Or.inl vs')
  · obtain ⟨hb0, -⟩ := hb0
    unfold rRt at hb0 ⊢
    simp only [f8_12, f8_16, f8_19, f8_31, f119_55, f52_10, c 24 (by decide), c 25 (by decide), c 32 (by decide), c 33 (by decide), c 34 (by decide), c 53 (by decide), c 61 (by decide), d 156 (by decide), d 157 (by decide), d 163 (by decide), d 164 (by decide), d 165 (by decide)]
    exact hb0
  · unfold rCo
    obtain ⟨-, hb0⟩ := hb0
    simp only [f8_12, f8_16, f8_19, f8_31, f119_104, f52_10, f52_11, c 53 (by decide), c 54 (by decide), c 55 (by decide), c 56 (by decide), c 57 (by decide), c 58 (by decide), c 59 (by decide), c 60 (by decide), c 61 (by decide), c 62 (by decide), c 63 (by decide), c 64 (by decide), d 196 (by decide), d 197 (by decide), d 198 (by decide), d 199 (by decide), d 200 (by decide), d 201 (by decide), d 202 (by decide), d 203 (by decide), d 204 (by decide), d 205 (by decide), d 206 (by decide)]
    exact hb0
  · unfold rNd rN1 rEn at hN ⊢
    simp only [pl, f8_12, f8_16, f8_19, f8_31, f119_57, f42_6, f42_10, c 9 (by decide), c 10 (by decide), c 11 (by decide), c 12 (by decide), c 13 (by decide), c 18 (by decide), c 19 (by decide), c 26 (by decide), c 27 (by decide), d 158 (by decide), d 159 (by decide), d 168 (by decide), d 169 (by decide), d 174 (by decide), d 175 (by decide), d 178 (by decide), d 180 (by decide), d 181 (by decide), d 182 (by decide), d 183 (by decide), d 184 (by decide)]
    exact hN
  · unfold rCs at hCs ⊢
    simp only [f8_12, f8_16, f8_19, f8_31, c 9 (by decide), c 15 (by decide), c 16 (by decide), d 170 (by decide), d 171 (by decide), d 176 (by decide)]
    exact hCs
  · unfold rIn at hIn ⊢
    simp only [f8_12, f8_16, f8_19, f8_31, c 20 (by decide), c 21 (by decide), c 22 (by decide), c 26 (by decide), c 27 (by decide), c 28 (by decide), c 29 (by decide)]
    exact hIn
  · unfold rUn at hU ⊢
    simp only [f52_10, f52_11, f52_12, f52_19, c 53 (by decide), c 54 (by decide), c 55 (by decide), c 62 (by decide), c 63 (by decide), c 64 (by decide), c 26 (by decide), c 27 (by decide)]
    exact hU
  · unfold rCp cpC cp2 at hP ⊢
    simp only [f52_10, f52_11, f52_12, f52_19, c 54 (by decide), c 55 (by decide), c 62 (by decide), c 65 (by decide), c 66 (by decide), c 28 (by decide), c 29 (by decide), c 20 (by decide), c 21 (by decide), c 22 (by decide), c 9 (by decide)]
    exact hP
  · intro k k0 k1 kv
    simp only [f52_10, f52_11, f52_12, f52_19] at k1
    have := hV k k0 k1 (by rw [← c 61 (by decide)]; exact kv)
    unfold cFa at this ⊢
    rw [c 54 (by decide), c 55 (by decide), c 62 (by decide), c 64 (by decide), c 65 (by decide), c 29 (by decide), c 20 (by decide), c 22 (by decide), c 9 (by decide), c 11 (by decide), c 18 (by decide), c 19 (by decide)]
    exact this
  · unfold rQu at hQ ⊢
    simp only [f52_10, f52_11, f52_12, f52_19, c 67 (by decide), f8_12, f8_16, f8_19, f8_31, f119_9, f119_10, f119_15, f119_55, f119_56, f119_57, f119_89, f119_92, f119_93, f119_94, f119_104, d 185 (by decide)]
    exact hQ
  · intro r q0 q1
    simp only [f8_12, f8_16, f8_19, f8_31] at q1
    obtain ⟨k1, k2, ⟨dd, k3⟩, k4, k5, k6⟩ := hR r q0 q1
    unfold rR1
    rw [c 26 (by decide), c 27 (by decide), c 28 (by decide), c 29 (by decide), c 30 (by decide), c 31 (by decide), c 9 (by decide), c 13 (by decide), d 160 (by decide), d 161 (by decide), d 162 (by decide)]
    have si : ∀ P E, sI σ σ' P E := fun P E x _ _ => ⟨by rw [c 20 (by decide)], by rw [c 21 (by decide)], by rw [c 22 (by decide)]⟩
    exact ⟨k1, k2, ⟨dd, RT_fr (fun a n q _ _ => by rw [d a (by omega)]) (fun n _ _ => by rw [c 14 (by decide)]) dd 2 _ _ _ _ _ _ (si _ _) k3⟩, (si (σ 28 r + σ 29 r - 2) (σ 28 r + σ 29 r - 1)).ci k4 (Int.le_refl _) (by omega), (si (σ 28 r + σ 29 r - 1) (σ 28 r + σ 29 r)).ci k5 (Int.le_refl _) (by omega), k6⟩
  · refine ⟨fun n q0 q1 => ?_, by rw [c 27 (by decide), c 31 (by decide), d 159 (by decide), d 161 (by decide)]; exact hK.2.1, by simp only [cs]; rw [f8_19, c 23 (by decide), c 24 (by decide)]; exact hK.2.2⟩
    rw [f8_12] at q1
    obtain ⟨⟨k1, k2⟩, k3⟩ := hK.1 n q0 q1
    refine ⟨⟨?_, ?_⟩, by rw [c 9 (by decide)]; exact k3⟩
    · rw [c 9 (by decide), c 16 (by decide), c 17 (by decide), d 176 (by decide), d 177 (by decide), f0_7, f0_9, f119_10, f119_15]
      intro q
      have kc := (k1 q).2
      refine ⟨?_, kc⟩
      rcases (k1 q).1 with w | ⟨w1, w2, w3, w4, z, w5, w6⟩ | ⟨w1, w2, w3, w4, w5, w6⟩ | w | w | ⟨w1, w2, w3⟩ | w
      · exact Or.inl w
      · have k := kc.2.2 w1
        refine Or.inr (Or.inl ⟨w1, w2, by rw [f0_9]; exact Or.inl k.1, by rw [f119_15]; exact Or.inl k.2, z, ?_, ?_⟩)
        · unfold cB at w5 ⊢
          rw [c 6 (by decide), c 7 (by decide)]
          exact w5
        · unfold mB at w6 ⊢
          rw [d 128 (by decide)]
          exact w6
      · have k := kc.2.1 w1
        exact Or.inr (Or.inr (Or.inl ⟨w1, w2, Or.inl (by rw [f0_7]; exact k.1), Or.inl (by rw [f119_10]; exact k.2), by rw [cs, ms]; exact w5, by rw [c 3 (by decide)]; exact w6⟩))
      · exact Or.inr (Or.inr (Or.inr (Or.inl w)))
      · exact Or.inr (Or.inr (Or.inr (Or.inr (Or.inl w))))
      · exact Or.inr (Or.inr (Or.inr (Or.inr (Or.inr (Or.inl ⟨w1, w2, (fn _ _).mpr w3⟩)))))
      · exact absurd w.1 kc.1
    · rw [c 9 (by decide), c 14 (by decide), c 17 (by decide), c 3 (by decide), d 171 (by decide), d 177 (by decide), f0_7, f119_10, cs, ms]
      exact k2
  · intro r l q0 q1 q2 q3
    simp only [f8_12, f8_16, f8_19, f8_31] at q1
    rw [d 167 (by decide), c 35 (by decide)]
    exact hS r l q0 q1 q2 q3
  · intro r q0 q1
    simp only [f8_12, f8_16, f8_19, f8_31] at q1
    rw [d 166 (by decide), c 26 (by decide), c 27 (by decide), hCh r q0 q1]
    exact (congrArg w32 (chN_mv _ fun i _ => by rw [c 12 (by decide)])).symm
theorem rPg.nr2 (h : rPg σ τ) (o : nrC σ σ') (p : nrM2 τ τ') : rPg σ' τ' := by
  obtain ⟨c, o0, o10, o11, o12, o13⟩ := o
  obtain ⟨d, t, t16⟩ := p
  have f119_12 : τ' 119 12 = τ 119 12 := t 12 (by decide)
  have f119_13 : τ' 119 13 = τ 119 13 := t 13 (by decide)
  have f0_7 : σ' 0 7 = σ 0 7 := o0 7 (by decide)
  have f0_8 : σ' 0 8 = σ 0 8 := o0 8 (by decide)
  have f0_9 : σ' 0 9 = σ 0 9 := o0 9 (by decide)
  have f8_12 : σ' 8 12 = σ 8 12 := by rw [c 8 (by decide)]
  have f8_16 : σ' 8 16 = σ 8 16 := by rw [c 8 (by decide)]
  have f8_19 : σ' 8 19 = σ 8 19 := by rw [c 8 (by decide)]
  have f8_31 : σ' 8 31 = σ 8 31 := by rw [c 8 (by decide)]
  have f42_6 : σ' 42 6 = σ 42 6 := by rw [c 42 (by decide)]
  have f42_10 : σ' 42 10 = σ 42 10 := by rw [c 42 (by decide)]
  have f42_11 : σ' 42 11 = σ 42 11 := by rw [c 42 (by decide)]
  have f52_10 : σ' 52 10 = σ 52 10 := by rw [c 52 (by decide)]
  have f52_11 : σ' 52 11 = σ 52 11 := by rw [c 52 (by decide)]
  have f52_12 : σ' 52 12 = σ 52 12 := by rw [c 52 (by decide)]
  have f52_19 : σ' 52 19 = σ 52 19 := by rw [c 52 (by decide)]
  have f119_9 : τ' 119 9 = τ 119 9 := t 9 (by decide)
  have f119_10 : τ' 119 10 = τ 119 10 := t 10 (by decide)
  have f119_15 : τ' 119 15 = τ 119 15 := t 15 (by decide)
  have f119_55 : τ' 119 55 = τ 119 55 := t 55 (by decide)
  have f119_56 : τ' 119 56 = τ 119 56 := t 56 (by decide)
  have f119_57 : τ' 119 57 = τ 119 57 := t 57 (by decide)
  have f119_89 : τ' 119 89 = τ 119 89 := t 89 (by decide)
  have f119_92 : τ' 119 92 = τ 119 92 := t 92 (by decide)
  have f119_93 : τ' 119 93 = τ 119 93 := t 93 (by decide)
  have f119_94 : τ' 119 94 = τ 119 94 := t 94 (by decide)
  have f119_104 : τ' 119 104 = τ 119 104 := t 104 (by decide)
  have cs : ∀ s, cS σ' s = cS σ s := fun s => cS_mv (c 1 (by decide)) (c 2 (by decide)) (c 3 (by decide))
  have ms : ∀ s, mS τ' s = mS τ s := fun s => by unfold mS; rw [d 121 (by decide), d 122 (by decide), d 123 (by decide)]
  have fn : ∀ f g, rFn σ' τ' f g ↔ rFn σ τ f g := fun f g => by
    unfold rFn
    simp only [f8_12, f8_16, f8_19, f8_31, f119_9, f119_10, f119_15, f119_55, f119_56, f119_57, f119_89, f119_92, f119_93, f119_94, f119_104, cs, ms, c 23 (by decide), d 155 (by decide)]
  have sn : ∀ k, sN σ' k = sN σ k := fun k => by
    unfold sN
    rw [c 48 (by decide), c 49 (by decide), c 50 (by decide)]
  have pl : ∀ s n, plc σ' s n = plc σ s n := fun s n => plc_mv (c 43 (by decide)) (c 44 (by decide)) (c 47 (by decide))
  have cn : ∀ s, cn1 σ' s = cn1 σ s := fun s => cn1_mv (c 43 (by decide)) (c 45 (by decide))
  obtain ⟨⟨p1, p2, p3⟩, hv, hn, hk, hg, hs, hc, hb0, hN, hCs, hIn, ⟨hU, hP, hV⟩, hQ, hR, hK, hS, hCh⟩ := h
  refine ⟨⟨?_, ?_, ?_⟩, ⟨?_, ?_, ?_, ?_, ?_⟩, ?_, ?_, ?_, ?_, ?_, ⟨?_, ?_⟩, ?_, ?_, ?_, ⟨?_, ?_, ?_⟩, ?_, ?_, ?_, ?_, ?_⟩
  · obtain ⟨h1, h2, h3, h4, h5, h6⟩ := p1
    unfold hI
    simp only [cs]
    rw [f0_7, f0_8, o10, o11, o13, c 2 (by decide), c 3 (by decide)]
    exact ⟨h1, h2, h3, h4, by decide, fun s q1 q2 => by omega⟩
  · exact mI_mv p2 f119_9 f119_10 f119_12 f119_13 fun a q1 q2 => d a (by omega)
  · rw [d 121 (by decide)]; exact p3
  · exact fI_mvf hv.1 f0_7 (c 3 (by decide)) (c 23 (by decide)) (c 24 (by decide)) f8_19 f8_31
  · exact fJ_mv hv.2.1 f119_10 f119_56 (d 155 (by decide)) (d 186 (by decide))
  · intro f g q
    rw [d 156 (by decide), c 24 (by decide)]
    exact hv.2.2.1 f g ((fn f g).mp q)
  · intro g q0 q1 q
    simp only [f119_9, f119_10, f119_15, f119_55, f119_56, f119_57, f119_89, f119_92, f119_93, f119_94, f119_104] at q1
    rw [d 156 (by decide)]
    exact hv.2.2.2.1 g q0 q1 fun f w => q f ((fn f g).mpr w)
  · intro f q0 q1 q
    simp only [f8_12, f8_16, f8_19, f8_31] at q1
    rw [c 24 (by decide)]
    exact hv.2.2.2.2 f q0 q1 fun g w => q g ((fn f g).mpr w)
  · intro r q0 q1
    simp only [f8_12, f8_16, f8_19, f8_31] at q1
    rw [c 25 (by decide), d 157 (by decide), fn]
    exact hn r q0 q1
  · unfold rKn at hk ⊢
    simp only [cs, ms]
    simp only [d 187 (by decide), f119_9, f119_10, f119_15, f119_55, f119_56, f119_57, f119_89, f119_92, f119_93, f119_94, f119_104, c 40 (by decide), f0_7, f0_8, f0_9, c 3 (by decide)]
    exact hk
  · unfold rGr at hg ⊢
    rw [f0_9, f119_15, o12, t16, o13]
    exact ⟨hg.1, hg.2.1, by decide⟩
  · unfold rSh sTr sHr sNm sUq at hs ⊢
    simp only [sn, pl, cn, ms]
    simp only [f42_6, f42_10, f42_11, c 43 (by decide), c 44 (by decide), c 45 (by decide), c 46 (by decide), c 47 (by decide), c 49 (by decide), c 50 (by decide), f119_9, f119_10, f119_15, f119_55, f119_56, f119_57, f119_89, f119_92, f119_93, f119_94, f119_104, d 188 (by decide), d 189 (by decide), d 190 (by decide), d 191 (by decide), d 192 (by decide)]
    exact hs
  · intro s vs
    have vs' : 0 ≤ s ∧ s < σ 0 7 := by
      unfold vS at vs
      rw [f0_7, o10] at vs
      rcases vs with w | w
      · exact w
      · omega
    simp only [sn, cs]
    rw [c 4 (by decide), c 5 (by decide), f42_10]
    exact hc s (Or.inl vs')
  · obtain ⟨hb0, -⟩ := hb0
    unfold rRt at hb0 ⊢
    simp only [f8_12, f8_16, f8_19, f8_31, f119_55, f52_10, c 24 (by decide), c 25 (by decide), c 32 (by decide), c 33 (by decide), c 34 (by decide), c 53 (by decide), c 61 (by decide), d 156 (by decide), d 157 (by decide), d 163 (by decide), d 164 (by decide), d 165 (by decide)]
    exact hb0
  · unfold rCo
    obtain ⟨-, hb0⟩ := hb0
    simp only [f8_12, f8_16, f8_19, f8_31, f119_104, f52_10, f52_11, c 53 (by decide), c 54 (by decide), c 55 (by decide), c 56 (by decide), c 57 (by decide), c 58 (by decide), c 59 (by decide), c 60 (by decide), c 61 (by decide), c 62 (by decide), c 63 (by decide), c 64 (by decide), d 196 (by decide), d 197 (by decide), d 198 (by decide), d 199 (by decide), d 200 (by decide), d 201 (by decide), d 202 (by decide), d 203 (by decide), d 204 (by decide), d 205 (by decide), d 206 (by decide)]
    exact hb0
  · unfold rNd rN1 rEn at hN ⊢
    simp only [pl, f8_12, f8_16, f8_19, f8_31, f119_57, f42_6, f42_10, c 9 (by decide), c 10 (by decide), c 11 (by decide), c 12 (by decide), c 13 (by decide), c 18 (by decide), c 19 (by decide), c 26 (by decide), c 27 (by decide), d 158 (by decide), d 159 (by decide), d 168 (by decide), d 169 (by decide), d 174 (by decide), d 175 (by decide), d 178 (by decide), d 180 (by decide), d 181 (by decide), d 182 (by decide), d 183 (by decide), d 184 (by decide)]
    exact hN
  · unfold rCs at hCs ⊢
    simp only [f8_12, f8_16, f8_19, f8_31, c 9 (by decide), c 15 (by decide), c 16 (by decide), d 170 (by decide), d 171 (by decide), d 176 (by decide)]
    exact hCs
  · unfold rIn at hIn ⊢
    simp only [f8_12, f8_16, f8_19, f8_31, c 20 (by decide), c 21 (by decide), c 22 (by decide), c 26 (by decide), c 27 (by decide), c 28 (by decide), c 29 (by decide)]
    exact hIn
  · unfold rUn at hU ⊢
    simp only [f52_10, f52_11, f52_12, f52_19, c 53 (by decide), c 54 (by decide), c 55 (by decide), c 62 (by decide), c 63 (by decide), c 64 (by decide), c 26 (by decide), c 27 (by decide)]
    exact hU
  · unfold rCp cpC cp2 at hP ⊢
    simp only [f52_10, f52_11, f52_12, f52_19, c 54 (by decide), c 55 (by decide), c 62 (by decide), c 65 (by decide), c 66 (by decide), c 28 (by decide), c 29 (by decide), c 20 (by decide), c 21 (by decide), c 22 (by decide), c 9 (by decide)]
    exact hP
  · intro k k0 k1 kv
    simp only [f52_10, f52_11, f52_12, f52_19] at k1
    have := hV k k0 k1 (by rw [← c 61 (by decide)]; exact kv)
    unfold cFa at this ⊢
    rw [c 54 (by decide), c 55 (by decide), c 62 (by decide), c 64 (by decide), c 65 (by decide), c 29 (by decide), c 20 (by decide), c 22 (by decide), c 9 (by decide), c 11 (by decide), c 18 (by decide), c 19 (by decide)]
    exact this
  · unfold rQu at hQ ⊢
    simp only [f52_10, f52_11, f52_12, f52_19, c 67 (by decide), f8_12, f8_16, f8_19, f8_31, f119_9, f119_10, f119_15, f119_55, f119_56, f119_57, f119_89, f119_92, f119_93, f119_94, f119_104, d 185 (by decide)]
    exact hQ
  · intro r q0 q1
    simp only [f8_12, f8_16, f8_19, f8_31] at q1
    obtain ⟨k1, k2, ⟨dd, k3⟩, k4, k5, k6⟩ := hR r q0 q1
    unfold rR1
    rw [c 26 (by decide), c 27 (by decide), c 28 (by decide), c 29 (by decide), c 30 (by decide), c 31 (by decide), c 9 (by decide), c 13 (by decide), d 160 (by decide), d 161 (by decide), d 162 (by decide)]
    have si : ∀ P E, sI σ σ' P E := fun P E x _ _ => ⟨by rw [c 20 (by decide)], by rw [c 21 (by decide)], by rw [c 22 (by decide)]⟩
    exact ⟨k1, k2, ⟨dd, RT_fr (fun a n q _ _ => by rw [d a (by omega)]) (fun n _ _ => by rw [c 14 (by decide)]) dd 2 _ _ _ _ _ _ (si _ _) k3⟩, (si (σ 28 r + σ 29 r - 2) (σ 28 r + σ 29 r - 1)).ci k4 (Int.le_refl _) (by omega), (si (σ 28 r + σ 29 r - 1) (σ 28 r + σ 29 r)).ci k5 (Int.le_refl _) (by omega), k6⟩
  · refine ⟨fun n q0 q1 => ?_, by rw [c 27 (by decide), c 31 (by decide), d 159 (by decide), d 161 (by decide)]; exact hK.2.1, by simp only [cs]; rw [f8_19, c 23 (by decide), c 24 (by decide)]; exact hK.2.2⟩
    rw [f8_12] at q1
    obtain ⟨⟨k1, k2⟩, k3⟩ := hK.1 n q0 q1
    refine ⟨⟨?_, ?_⟩, by rw [c 9 (by decide)]; exact k3⟩
    · rw [c 9 (by decide), c 16 (by decide), c 17 (by decide), d 176 (by decide), d 177 (by decide), f0_7, f0_9, f119_10, f119_15]
      intro q
      have kc := (k1 q).2
      refine ⟨?_, kc⟩
      rcases (k1 q).1 with w | ⟨w1, w2, w3, w4, z, w5, w6⟩ | ⟨w1, w2, w3, w4, w5, w6⟩ | w | w | ⟨w1, w2, w3⟩ | w
      · exact Or.inl w
      · have k := kc.2.2 w1
        refine Or.inr (Or.inl ⟨w1, w2, by rw [f0_9]; exact Or.inl k.1, by rw [f119_15]; exact Or.inl k.2, z, ?_, ?_⟩)
        · unfold cB at w5 ⊢
          rw [c 6 (by decide), c 7 (by decide)]
          exact w5
        · unfold mB at w6 ⊢
          rw [d 128 (by decide)]
          exact w6
      · have k := kc.2.1 w1
        exact Or.inr (Or.inr (Or.inl ⟨w1, w2, Or.inl (by rw [f0_7]; exact k.1), Or.inl (by rw [f119_10]; exact k.2), by rw [cs, ms]; exact w5, by rw [c 3 (by decide)]; exact w6⟩))
      · exact Or.inr (Or.inr (Or.inr (Or.inl w)))
      · exact Or.inr (Or.inr (Or.inr (Or.inr (Or.inl w))))
      · exact Or.inr (Or.inr (Or.inr (Or.inr (Or.inr (Or.inl ⟨w1, w2, (fn _ _).mpr w3⟩)))))
      · exact absurd w.1 kc.1
    · rw [c 9 (by decide), c 14 (by decide), c 17 (by decide), c 3 (by decide), d 171 (by decide), d 177 (by decide), f0_7, f119_10, cs, ms]
      exact k2
  · intro r l q0 q1 q2 q3
    simp only [f8_12, f8_16, f8_19, f8_31] at q1
    rw [d 167 (by decide), c 35 (by decide)]
    exact hS r l q0 q1 q2 q3
  · intro r q0 q1
    simp only [f8_12, f8_16, f8_19, f8_31] at q1
    rw [d 166 (by decide), c 26 (by decide), c 27 (by decide), hCh r q0 q1]
    exact (congrArg w32 (chN_mv _ fun i _ => by rw [c 12 (by decide)])).symm
end NR
