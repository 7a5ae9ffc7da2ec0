/-! what is related stays so where its cells stay -/
/-- the component's cells of a program -/
def sameC (σ σ' : gM) : Prop := (∀ a, (1 ≤ a ∧ a ≤ 7) ∨ (9 ≤ a ∧ a ≤ 35) ∨ a = 40 ∨ (43 ≤ a ∧ a ≤ 50) ∨ (53 ≤ a ∧ a ≤ 67) → σ' a = σ a) ∧ σ' 0 7 = σ 0 7 ∧ σ' 0 8 = σ 0 8 ∧ σ' 0 9 = σ 0 9 ∧ σ' 0 10 = σ 0 10 ∧ σ' 0 11 = σ 0 11 ∧ σ' 0 12 = σ 0 12 ∧ σ' 0 13 = σ 0 13 ∧ σ' 8 12 = σ 8 12 ∧ σ' 8 16 = σ 8 16 ∧ σ' 8 19 = σ 8 19 ∧ σ' 8 31 = σ 8 31 ∧ σ' 42 6 = σ 42 6 ∧ σ' 42 10 = σ 42 10 ∧ σ' 42 11 = σ 42 11 ∧ σ' 52 10 = σ 52 10 ∧ σ' 52 11 = σ 52 11 ∧ σ' 52 12 = σ 52 12 ∧ σ' 52 19 = σ 52 19 ∧ σ' 87 31 = σ 87 31
/-- the model's -/
def sameT (τ τ' : gM) : Prop := (∀ a, (121 ≤ a ∧ a ≤ 128) ∨ (155 ≤ a ∧ a ≤ 192) ∨ (196 ≤ a ∧ a ≤ 206) → τ' a = τ a) ∧ τ' 119 9 = τ 119 9 ∧ τ' 119 10 = τ 119 10 ∧ τ' 119 12 = τ 119 12 ∧ τ' 119 13 = τ 119 13 ∧ τ' 119 15 = τ 119 15 ∧ τ' 119 16 = τ 119 16 ∧ τ' 119 55 = τ 119 55 ∧ τ' 119 56 = τ 119 56 ∧ τ' 119 57 = τ 119 57 ∧ τ' 119 89 = τ 119 89 ∧ τ' 119 92 = τ 119 92 ∧ τ' 119 93 = τ 119 93 ∧ τ' 119 94 = τ 119 94 ∧ τ' 119 104 = τ 119 104
section MV
variable {σ τ σ' τ' : gM}
theorem hI_mvf (h : hI σ) (f7 : σ' 0 7 = σ 0 7) (f8 : σ' 0 8 = σ 0 8) (f10 : σ' 0 10 = σ 0 10) (f11 : σ' 0 11 = σ 0 11) (f13 : σ' 0 13 = σ 0 13) (c1 : σ' 1 = σ 1) (c2 : σ' 2 = σ 2) (c3 : σ' 3 = σ 3) : hI σ' := by
  unfold hI cS at h ⊢
  rw [f7, f8, f10, f11, f13, c1, c2, c3]
  exact h
theorem fI_mvf (h : fI σ) (f7 : σ' 0 7 = σ 0 7) (c3 : σ' 3 = σ 3) (c23 : σ' 23 = σ 23) (c24 : σ' 24 = σ 24) (e19 : σ' 8 19 = σ 8 19) (e31 : σ' 8 31 = σ 8 31) : fI σ' := by
  unfold fI at h ⊢
  rw [f7, c3, c23, c24, e19, e31]
  exact h
theorem rVal_mv (e1 : sameC σ σ') (e2 : sameT τ τ') : (∀ k x t y, rVal σ' τ' k x t y ↔ rVal σ τ k x t y) ∧ ∀ f g, rFn σ' τ' f g ↔ rFn σ τ f g := by
  obtain ⟨c, f0_7, f0_8, f0_9, f0_10, f0_11, f0_12, f0_13, f8_12, f8_16, f8_19, f8_31, f42_6, f42_10, f42_11, f52_10, f52_11, f52_12, f52_19, f87⟩ := e1
  obtain ⟨d, f119_9, f119_10, f119_12, f119_13, f119_15, f119_16, f119_55, f119_56, f119_57, f119_89, f119_92, f119_93, f119_94, f119_104⟩ := e2
  have cs : ∀ s, cS σ' s = cS σ s := fun s => cS_mv (c 1 (by decide)) (c 2 (by decide)) (c 3 (by decide))
  have ms : ∀ s, mS τ' s = mS τ s := fun s => mS_mv fun a q1 q2 => d a (by omega)
  have vs : ∀ s, vS σ' s ↔ vS σ s := fun s => by unfold vS; simp only [f0_7, f0_8, f0_9, f0_10, f0_11, f0_12, f0_13]
  have vm : ∀ s, vM τ' s ↔ vM τ s := fun s => by unfold vM; simp only [f119_9, f119_10, f119_12, f119_13, f119_15, f119_16, f119_55, f119_56, f119_57, f119_89, f119_92, f119_93, f119_94, f119_104]
  have fn : ∀ f g, rFn σ' τ' f g ↔ rFn σ τ f g := fun f g => by
    unfold rFn
    simp only [f8_12, f8_16, f8_19, f8_31, f119_9, f119_10, f119_12, f119_13, f119_15, f119_16, f119_55, f119_56, f119_57, f119_89, f119_92, f119_93, f119_94, f119_104, cs, ms, c 23 (by decide), d 155 (by decide)]
  have rv : ∀ k x t y, rVal σ' τ' k x t y ↔ rVal σ τ k x t y := fun k x t y => by
    unfold rVal cB mB
    simp only [fn, vs, vm, cs, ms]
    simp only [f0_7, f0_8, f0_9, f0_10, f0_11, f0_12, f0_13, c 3 (by decide), c 6 (by decide), c 7 (by decide), f87, f119_9, f119_10, f119_12, f119_13, f119_15, f119_16, f119_55, f119_56, f119_57, f119_89, f119_92, f119_93, f119_94, f119_104, d 128 (by decide)]
  exact ⟨rv, fn⟩
theorem rPg.mv (h : rPg σ τ) (e1 : sameC σ σ') (e2 : sameT τ τ') : rPg σ' τ' := by
  obtain ⟨rv, fn⟩ := rVal_mv e1 e2
  obtain ⟨c, f0_7, f0_8, f0_9, f0_10, f0_11, f0_12, f0_13, f8_12, f8_16, f8_19, f8_31, f42_6, f42_10, f42_11, f52_10, f52_11, f52_12, f52_19, f87⟩ := e1
  obtain ⟨d, f119_9, f119_10, f119_12, f119_13, f119_15, f119_16, f119_55, f119_56, f119_57, f119_89, f119_92, f119_93, f119_94, f119_104⟩ := e2
  have cs : ∀ s, cS σ' s = cS σ s := fun s => cS_mv (c 1 (by decide)) (c 2 (by decide)) (c 3 (by decide))
  have ms : ∀ s, mS τ' s = mS τ s := fun s => mS_mv fun a q1 q2 => d a (by omega)
  have vs : ∀ s, vS σ' s ↔ vS σ s := fun s => by unfold vS; simp only [f0_7, f0_8, f0_9, f0_10, f0_11, f0_12, f0_13]
  have vm : ∀ s, vM τ' s ↔ vM τ s := fun s => by unfold vM; simp only [f119_9, f119_10, f119_12, f119_13, f119_15, f119_16, f119_55, f119_56, f119_57, f119_89, f119_92, f119_93, f119_94, f119_104]
  have sn : ∀ k, sN σ' k = sN σ k := fun k => by
    unfold sN
    rw [c 48 (by decide), c 49 (by decide), c 50 (by decide)]
  have pl : ∀ s n, plc σ' s n = plc σ s n := fun s n => plc_mv (c 43 (by decide)) (c 44 (by decide)) (c 47 (by decide))
  have cn : ∀ s, cn1 σ' s = cn1 σ s := fun s => cn1_mv (c 43 (by decide)) (c 45 (by decide))
  have kk : ∀ n, kst σ' τ' n ↔ kst σ τ n := fun n => by
    unfold kst
    simp only [rv, cs, ms]
    simp only [f0_7, f0_8, f0_9, f0_10, f0_11, f0_12, f0_13, c 3 (by decide), c 9 (by decide), c 14 (by decide), c 16 (by decide), c 17 (by decide), f119_9, f119_10, f119_12, f119_13, f119_15, f119_16, f119_55, f119_56, f119_57, f119_89, f119_92, f119_93, f119_94, f119_104, d 171 (by decide), d 176 (by decide), d 177 (by decide)]
  obtain ⟨⟨p1, p2, p3⟩, hv, hn, hk, hg, hs, hc, hb0, hN, hCs, hIn, ⟨hU, hP, hV⟩, hQ, hR, hK, hS, hCh⟩ := h
  refine ⟨⟨?_, ?_, ?_⟩, ⟨?_, ?_, ?_, ?_, ?_⟩, ?_, ?_, ?_, ?_, ?_, ⟨?_, ?_⟩, ?_, ?_, ?_, ⟨?_, ?_, ?_⟩, ?_, ?_, ?_, ?_, ?_⟩
  · exact hI_mvf p1 f0_7 f0_8 f0_10 f0_11 f0_13 (c 1 (by decide)) (c 2 (by decide)) (c 3 (by decide))
  · exact mI_mv p2 f119_9 f119_10 f119_12 f119_13 fun a q1 q2 => d a (by omega)
  · rw [d 121 (by decide)]; exact p3
  · exact fI_mvf hv.1 f0_7 (c 3 (by decide)) (c 23 (by decide)) (c 24 (by decide)) f8_19 f8_31
  · exact fJ_mv hv.2.1 f119_10 f119_56 (d 155 (by decide)) (d 186 (by decide))
  · intro f g q
    rw [d 156 (by decide), c 24 (by decide)]
    exact hv.2.2.1 f g ((fn f g).mp q)
  · intro g q0 q1 q
    simp only [f119_9, f119_10, f119_12, f119_13, f119_15, f119_16, f119_55, f119_56, f119_57, f119_89, f119_92, f119_93, f119_94, f119_104] at q1
    rw [d 156 (by decide)]
    exact hv.2.2.2.1 g q0 q1 fun f w => q f ((fn f g).mpr w)
  · intro f q0 q1 q
    simp only [f8_12, f8_16, f8_19, f8_31] at q1
    rw [c 24 (by decide)]
    exact hv.2.2.2.2 f q0 q1 fun g w => q g ((fn f g).mpr w)
  · intro r q0 q1
    simp only [f8_12, f8_16, f8_19, f8_31] at q1
    rw [c 25 (by decide), d 157 (by decide), fn]
    exact hn r q0 q1
  · unfold rKn at hk ⊢
    simp only [cs, ms]
    simp only [d 187 (by decide), f119_9, f119_10, f119_12, f119_13, f119_15, f119_16, f119_55, f119_56, f119_57, f119_89, f119_92, f119_93, f119_94, f119_104, c 40 (by decide), f0_7, f0_8, f0_9, f0_10, f0_11, f0_12, f0_13, c 3 (by decide)]
    exact hk
  · unfold rGr at hg ⊢
    simp only [f0_7, f0_8, f0_9, f0_10, f0_11, f0_12, f0_13, f119_9, f119_10, f119_12, f119_13, f119_15, f119_16, f119_55, f119_56, f119_57, f119_89, f119_92, f119_93, f119_94, f119_104]
    exact hg
  · unfold rSh sTr sHr sNm sUq at hs ⊢
    simp only [sn, pl, cn, ms]
    simp only [f42_6, f42_10, f42_11, c 43 (by decide), c 44 (by decide), c 45 (by decide), c 46 (by decide), c 47 (by decide), c 49 (by decide), c 50 (by decide), f119_9, f119_10, f119_12, f119_13, f119_15, f119_16, f119_55, f119_56, f119_57, f119_89, f119_92, f119_93, f119_94, f119_104, d 188 (by decide), d 189 (by decide), d 190 (by decide), d 191 (by decide), d 192 (by decide)]
    exact hs
  · unfold sCa at hc ⊢
    simp only [vs, sn, cs]
    simp only [c 4 (by decide), c 5 (by decide), f42_6, f42_10, f42_11]
    exact hc
  · obtain ⟨hb0, -⟩ := hb0
    unfold rRt at hb0 ⊢
    simp only [f8_12, f8_16, f8_19, f8_31, f119_55, f52_10, c 24 (by decide), c 25 (by decide), c 32 (by decide), c 33 (by decide), c 34 (by decide), c 53 (by decide), c 61 (by decide), d 156 (by decide), d 157 (by decide), d 163 (by decide), d 164 (by decide), d 165 (by decide)]
    exact hb0
  · unfold rCo
    obtain ⟨-, hb0⟩ := hb0
    simp only [f8_12, f8_16, f8_19, f8_31, f119_104, f52_10, f52_11, c 53 (by decide), c 54 (by decide), c 55 (by decide), c 56 (by decide), c 57 (by decide), c 58 (by decide), c 59 (by decide), c 60 (by decide), c 61 (by decide), c 62 (by decide), c 63 (by decide), c 64 (by decide), d 196 (by decide), d 197 (by decide), d 198 (by decide), d 199 (by decide), d 200 (by decide), d 201 (by decide), d 202 (by decide), d 203 (by decide), d 204 (by decide), d 205 (by decide), d 206 (by decide)]
    exact hb0
  · unfold rNd rN1 rEn at hN ⊢
    simp only [pl, f8_12, f8_16, f8_19, f8_31, f119_57, f42_6, f42_10, c 9 (by decide), c 10 (by decide), c 11 (by decide), c 12 (by decide), c 13 (by decide), c 18 (by decide), c 19 (by decide), c 26 (by decide), c 27 (by decide), d 158 (by decide), d 159 (by decide), d 168 (by decide), d 169 (by decide), d 174 (by decide), d 175 (by decide), d 178 (by decide), d 180 (by decide), d 181 (by decide), d 182 (by decide), d 183 (by decide), d 184 (by decide)]
    exact hN
  · unfold rCs at hCs ⊢
    simp only [f8_12, f8_16, f8_19, f8_31, c 9 (by decide), c 15 (by decide), c 16 (by decide), d 170 (by decide), d 171 (by decide), d 176 (by decide)]
    exact hCs
  · unfold rIn at hIn ⊢
    simp only [f8_12, f8_16, f8_19, f8_31, c 20 (by decide), c 21 (by decide), c 22 (by decide), c 26 (by decide), c 27 (by decide), c 28 (by decide), c 29 (by decide)]
    exact hIn
  · unfold rUn at hU ⊢
    simp only [f52_10, f52_11, f52_12, f52_19, c 53 (by decide), c 54 (by decide), c 55 (by decide), c 62 (by decide), c 63 (by decide), c 64 (by decide), c 26 (by decide), c 27 (by decide)]
    exact hU
  · unfold rCp cpC cp2 at hP ⊢
    simp only [f52_10, f52_11, f52_12, f52_19, c 54 (by decide), c 55 (by decide), c 62 (by decide), c 65 (by decide), c 66 (by decide), c 28 (by decide), c 29 (by decide), c 20 (by decide), c 21 (by decide), c 22 (by decide), c 9 (by decide)]
    exact hP
  · intro k k0 k1 kv
    simp only [f52_10, f52_11, f52_12, f52_19] at k1
    have := hV k k0 k1 (by rw [← c 61 (by decide)]; exact kv)
    unfold cFa at this ⊢
    rw [c 54 (by decide), c 55 (by decide), c 62 (by decide), c 64 (by decide), c 65 (by decide), c 29 (by decide), c 20 (by decide), c 22 (by decide), c 9 (by decide), c 11 (by decide), c 18 (by decide), c 19 (by decide)]
    exact this
  · unfold rQu at hQ ⊢
    simp only [f52_10, f52_11, f52_12, f52_19, c 67 (by decide), f8_12, f8_16, f8_19, f8_31, f119_9, f119_10, f119_12, f119_13, f119_15, f119_16, f119_55, f119_56, f119_57, f119_89, f119_92, f119_93, f119_94, f119_104, d 185 (by decide)]
    exact hQ
  · intro r q0 q1
    simp only [f8_12, f8_16, f8_19, f8_31] at q1
    obtain ⟨k1, k2, ⟨dd, k3⟩, k4, k5, k6⟩ := hR r q0 q1
    unfold rR1
    rw [c 26 (by decide), c 27 (by decide), c 28 (by decide), c 29 (by decide), c 30 (by decide), c 31 (by decide), c 9 (by decide), c 13 (by decide), d 160 (by decide), d 161 (by decide), d 162 (by decide)]
    have si : ∀ P E, sI σ σ' P E := fun P E x _ _ => ⟨by rw [c 20 (by decide)], by rw [c 21 (by decide)], by rw [c 22 (by decide)]⟩
    exact ⟨k1, k2, ⟨dd, RT_fr (fun a n q _ _ => by rw [d a (by omega)]) (fun n _ _ => by rw [c 14 (by decide)]) dd 2 _ _ _ _ _ _ (si _ _) k3⟩, (si (σ 28 r + σ 29 r - 2) (σ 28 r + σ 29 r - 1)).ci k4 (Int.le_refl _) (by omega), (si (σ 28 r + σ 29 r - 1) (σ 28 r + σ 29 r)).ci k5 (Int.le_refl _) (by omega), k6⟩
  · refine ⟨fun n q0 q1 => ?_, ?_⟩
    · simp only [f8_12, f8_16, f8_19, f8_31] at q1
      rw [kk, c 9 (by decide)]
      exact hK.1 n q0 q1
    · unfold gv4
      refine ⟨by rw [c 27 (by decide), c 31 (by decide), d 159 (by decide), d 161 (by decide)]; exact hK.2.1, ?_⟩
      simp only [cs]
      simp only [f8_12, f8_16, f8_19, f8_31, c 23 (by decide), c 24 (by decide)]
      exact hK.2.2
  · intro r l q0 q1 q2 q3
    simp only [f8_12, f8_16, f8_19, f8_31] at q1
    rw [d 167 (by decide), c 35 (by decide)]
    exact hS r l q0 q1 q2 q3
  · intro r q0 q1
    simp only [f8_12, f8_16, f8_19, f8_31] at q1
    rw [d 166 (by decide), c 26 (by decide), c 27 (by decide), hCh r q0 q1]
    exact (congrArg w32 (chN_mv _ fun i _ => by rw [c 12 (by decide)])).symm
end MV
