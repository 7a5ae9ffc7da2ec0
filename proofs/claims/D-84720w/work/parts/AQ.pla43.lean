/-! codes end: all else stays related -/
section SK
variable {σ τ σ' τ' : gM}
theorem rPg.ef (h : rPg σ τ) (hb : rBk σ' τ') (e1 : eFr σ σ') (e2 : eFm τ τ') (e3 : ∀ i, σ' 61 i = σ 61 i ∨ σ' 61 i = 0) : rPg σ' τ' := by
  have c : ∀ a, a ≠ 32 → a ≠ 34 → a ≠ 61 → σ' a = σ a := fun a q1 q2 q3 => funext fun i => e1 a i q1 q2 q3
  have d : ∀ a, a ≠ 163 → a ≠ 164 → a ≠ 203 → τ' a = τ a := fun a q1 q2 q3 => funext fun i => e2 a i q1 q2 q3
  have hN' := h.2.2.2.2.2.2.2.2.1.ef e1 e2
  have cs : ∀ s, cS σ' s = cS σ s := fun s => cS_mv (c 1 (by decide) (by decide) (by decide)) (c 2 (by decide) (by decide) (by decide)) (c 3 (by decide) (by decide) (by decide))
  have ms : ∀ s, mS τ' s = mS τ s := fun s => mS_mv fun a q1 q2 => d a (by omega) (by omega) (by omega)
  have vs : ∀ s, vS σ' s ↔ vS σ s := fun s => by unfold vS; rw [c 0 (by decide) (by decide) (by decide)]
  have vm : ∀ s, vM τ' s ↔ vM τ s := fun s => by unfold vM; rw [d 119 (by decide) (by decide) (by decide)]
  have c8 := c 8 (by decide) (by decide) (by decide)
  have d119 := d 119 (by decide) (by decide) (by decide)
  have fn : ∀ f g, rFn σ' τ' f g ↔ rFn σ τ f g := fun f g => by
    unfold rFn
    rw [c8, d119, cs, ms, c 23 (by decide) (by decide) (by decide), d 155 (by decide) (by decide) (by decide)]
  have sn : ∀ k, sN σ' k = sN σ k := fun k => by
    unfold sN
    rw [c 48 (by decide) (by decide) (by decide), c 49 (by decide) (by decide) (by decide), c 50 (by decide) (by decide) (by decide)]
  have pl : ∀ s n, plc σ' s n = plc σ s n := fun s n => plc_mv (c 43 (by decide) (by decide) (by decide)) (c 44 (by decide) (by decide) (by decide)) (c 47 (by decide) (by decide) (by decide))
  have cn : ∀ s, cn1 σ' s = cn1 σ s := fun s => cn1_mv (c 43 (by decide) (by decide) (by decide)) (c 45 (by decide) (by decide) (by decide))
  have rv : ∀ k x t y, rVal σ' τ' k x t y ↔ rVal σ τ k x t y := fun k x t y => by
    unfold rVal cB mB
    simp only [fn, vs, vm, cs, ms]
    rw [c 0 (by decide) (by decide) (by decide), c 3 (by decide) (by decide) (by decide), c 6 (by decide) (by decide) (by decide), c 7 (by decide) (by decide) (by decide), c 87 (by decide) (by decide) (by decide), d119, d 128 (by decide) (by decide) (by decide)]
  have kk : ∀ n, kst σ' τ' n ↔ kst σ τ n := fun n => by
    unfold kst
    simp only [rv, cs, ms]
    rw [c 0 (by decide) (by decide) (by decide), c 3 (by decide) (by decide) (by decide), c 9 (by decide) (by decide) (by decide), c 14 (by decide) (by decide) (by decide), c 16 (by decide) (by decide) (by decide), c 17 (by decide) (by decide) (by decide), d119, d 171 (by decide) (by decide) (by decide), d 176 (by decide) (by decide) (by decide), d 177 (by decide) (by decide) (by decide)]
  obtain ⟨⟨p1, p2, p3⟩, hv, hn, hk, hg, hs, hc, hb0, hN, hCs, hIn, ⟨hU, hP, hV⟩, hQ, hR, hK, hS, hCh⟩ := h
  refine ⟨⟨?_, ?_, ?_⟩, ⟨?_, ?_, ?_, ?_, ?_⟩, ?_, ?_, ?_, ?_, ?_, hb, hN', ?_, ?_, ⟨?_, ?_, ?_⟩, ?_, ?_, ?_, ?_, ?_⟩
  · exact hI_mv p1 (c 0 (by decide) (by decide) (by decide)) (c 1 (by decide) (by decide) (by decide)) (c 2 (by decide) (by decide) (by decide)) (c 3 (by decide) (by decide) (by decide))
  · exact mI_mv p2 (by rw [d119]) (by rw [d119]) (by rw [d119]) (by rw [d119]) fun a q1 q2 => d a (by omega) (by omega) (by omega)
  · rw [d 121 (by decide) (by decide) (by decide)]; exact p3
  · exact fI_mv hv.1 (c 0 (by decide) (by decide) (by decide)) (c 3 (by decide) (by decide) (by decide)) (c 23 (by decide) (by decide) (by decide)) (c 24 (by decide) (by decide) (by decide)) (by rw [c8]) (by rw [c8])
  · exact fJ_mv hv.2.1 (by rw [d119]) (by rw [d119]) (d 155 (by decide) (by decide) (by decide)) (d 186 (by decide) (by decide) (by decide))
  · intro f g q
    rw [d 156 (by decide) (by decide) (by decide), c 24 (by decide) (by decide) (by decide)]
    exact hv.2.2.1 f g ((fn f g).mp q)
  · intro g q0 q1 q
    rw [d119] at q1
    rw [d 156 (by decide) (by decide) (by decide)]
    exact hv.2.2.2.1 g q0 q1 fun f w => q f ((fn f g).mpr w)
  · intro f q0 q1 q
    rw [c8] at q1
    rw [c 24 (by decide) (by decide) (by decide)]
    exact hv.2.2.2.2 f q0 q1 fun g w => q g ((fn f g).mpr w)
  · intro r q0 q1
    rw [c8] at q1
    rw [c 25 (by decide) (by decide) (by decide), d 157 (by decide) (by decide) (by decide), fn]
    exact hn r q0 q1
  · unfold rKn at hk ⊢
    simp only [cs, ms]
    rw [d 187 (by decide) (by decide) (by decide), d119, c 40 (by decide) (by decide) (by decide), c 0 (by decide) (by decide) (by decide), c 3 (by decide) (by decide) (by decide)]
    exact hk
  · unfold rGr at hg ⊢
    rw [c 0 (by decide) (by decide) (by decide), d119]
    exact hg
  · unfold rSh sTr sHr sNm sUq at hs ⊢
    simp only [sn, pl, cn, ms]
    rw [c 42 (by decide) (by decide) (by decide), c 43 (by decide) (by decide) (by decide), c 44 (by decide) (by decide) (by decide), c 45 (by decide) (by decide) (by decide), c 46 (by decide) (by decide) (by decide), c 47 (by decide) (by decide) (by decide), c 49 (by decide) (by decide) (by decide), c 50 (by decide) (by decide) (by decide), d119, d 188 (by decide) (by decide) (by decide), d 189 (by decide) (by decide) (by decide), d 190 (by decide) (by decide) (by decide), d 191 (by decide) (by decide) (by decide), d 192 (by decide) (by decide) (by decide)]
    exact hs
  · unfold sCa at hc ⊢
    simp only [vs, sn, cs]
    rw [c 4 (by decide) (by decide) (by decide), c 5 (by decide) (by decide) (by decide), c 42 (by decide) (by decide) (by decide)]
    exact hc
  · unfold rCs at hCs ⊢
    rw [c8, c 9 (by decide) (by decide) (by decide), c 15 (by decide) (by decide) (by decide), c 16 (by decide) (by decide) (by decide), d 170 (by decide) (by decide) (by decide), d 171 (by decide) (by decide) (by decide), d 176 (by decide) (by decide) (by decide)]
    exact hCs
  · unfold rIn at hIn ⊢
    rw [c8, c 20 (by decide) (by decide) (by decide), c 21 (by decide) (by decide) (by decide), c 22 (by decide) (by decide) (by decide), c 26 (by decide) (by decide) (by decide), c 27 (by decide) (by decide) (by decide), c 28 (by decide) (by decide) (by decide), c 29 (by decide) (by decide) (by decide)]
    exact hIn
  · unfold rUn at hU ⊢
    rw [c 52 (by decide) (by decide) (by decide), c 53 (by decide) (by decide) (by decide), c 54 (by decide) (by decide) (by decide), c 55 (by decide) (by decide) (by decide), c 62 (by decide) (by decide) (by decide), c 63 (by decide) (by decide) (by decide), c 64 (by decide) (by decide) (by decide), c 26 (by decide) (by decide) (by decide), c 27 (by decide) (by decide) (by decide)]
    exact hU
  · unfold rCp cpC cp2 at hP ⊢
    rw [c 52 (by decide) (by decide) (by decide), c 54 (by decide) (by decide) (by decide), c 55 (by decide) (by decide) (by decide), c 62 (by decide) (by decide) (by decide), c 65 (by decide) (by decide) (by decide), c 66 (by decide) (by decide) (by decide), c 28 (by decide) (by decide) (by decide), c 29 (by decide) (by decide) (by decide), c 20 (by decide) (by decide) (by decide), c 21 (by decide) (by decide) (by decide), c 22 (by decide) (by decide) (by decide), c 9 (by decide) (by decide) (by decide)]
    exact hP
  · intro k k0 k1 kv
    rw [c 52 (by decide) (by decide) (by decide)] at k1
    have := hV k k0 k1 (by rcases e3 k with z | z <;> omega)
    unfold cFa at this ⊢
    rw [c 54 (by decide) (by decide) (by decide), c 55 (by decide) (by decide) (by decide), c 62 (by decide) (by decide) (by decide), c 64 (by decide) (by decide) (by decide), c 65 (by decide) (by decide) (by decide), c 29 (by decide) (by decide) (by decide), c 20 (by decide) (by decide) (by decide), c 22 (by decide) (by decide) (by decide), c 9 (by decide) (by decide) (by decide), c 11 (by decide) (by decide) (by decide), c 18 (by decide) (by decide) (by decide), c 19 (by decide) (by decide) (by decide)]
    exact this
  · unfold rQu at hQ ⊢
    rw [c 52 (by decide) (by decide) (by decide), c 67 (by decide) (by decide) (by decide), c8, d119, d 185 (by decide) (by decide) (by decide)]
    exact hQ
  · intro r q0 q1
    rw [c8] at q1
    obtain ⟨k1, k2, ⟨dd, k3⟩, k4, k5, k6⟩ := hR r q0 q1
    unfold rR1
    rw [c 26 (by decide) (by decide) (by decide), c 27 (by decide) (by decide) (by decide), c 28 (by decide) (by decide) (by decide), c 29 (by decide) (by decide) (by decide), c 30 (by decide) (by decide) (by decide), c 31 (by decide) (by decide) (by decide), c 9 (by decide) (by decide) (by decide), c 13 (by decide) (by decide) (by decide), d 160 (by decide) (by decide) (by decide), d 161 (by decide) (by decide) (by decide), d 162 (by decide) (by decide) (by decide)]
    have si : ∀ P E, sI σ σ' P E := fun P E x _ _ => ⟨e1 20 x (by decide) (by decide) (by decide), e1 21 x (by decide) (by decide) (by decide), e1 22 x (by decide) (by decide) (by decide)⟩
    exact ⟨k1, k2, ⟨dd, RT_fr (fun a n q _ _ => e2 a n (by omega) (by omega) (by omega)) (fun n _ _ => e1 14 n (by decide) (by decide) (by decide)) dd 2 _ _ _ _ _ _ (si _ _) k3⟩, (si (σ 28 r + σ 29 r - 2) (σ 28 r + σ 29 r - 1)).ci k4 (Int.le_refl _) (by omega), (si (σ 28 r + σ 29 r - 1) (σ 28 r + σ 29 r)).ci k5 (Int.le_refl _) (by omega), k6⟩
  · refine ⟨fun n q0 q1 => ?_, ?_⟩
    · rw [c8] at q1
      rw [kk, c 9 (by decide) (by decide) (by decide)]
      exact hK.1 n q0 q1
    · unfold gv4
      refine ⟨by rw [c 27 (by decide) (by decide) (by decide), c 31 (by decide) (by decide) (by decide), d 159 (by decide) (by decide) (by decide), d 161 (by decide) (by decide) (by decide)]; exact hK.2.1, ?_⟩
      simp only [cs]
      rw [c8, c 23 (by decide) (by decide) (by decide), c 24 (by decide) (by decide) (by decide)]
      exact hK.2.2
  · intro r l q0 q1 q2 q3
    rw [c8] at q1
    rw [d 167 (by decide) (by decide) (by decide), c 35 (by decide) (by decide) (by decide)]
    exact hS r l q0 q1 q2 q3
  · intro r q0 q1
    rw [c8] at q1
    rw [d 166 (by decide) (by decide) (by decide), c 26 (by decide) (by decide) (by decide), c 27 (by decide) (by decide) (by decide), hCh r q0 q1]
    exact (congrArg w32 (chN_mv _ fun i _ => e1 12 _ (by decide) (by decide) (by decide))).symm
end SK
