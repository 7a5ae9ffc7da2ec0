/-! strings and numbers of a run come: a program stays related -/
/-- what making strings and numbers in a run changes -/
def hpF (σ τ Z X : gM) : Prop := (hI Z ∧ mI X ∧ ∀ i, i8 (X 121 i)) ∧
  ((∀ a, (8 ≤ a ∧ a ≤ 35) ∨ a = 40 ∨ (42 ≤ a ∧ a ≤ 67) → Z a = σ a) ∧ σ 87 31 ≤ Z 87 31 ∧ (Z 0 7 = σ 0 7 ∧ Z 0 9 = σ 0 9) ∧ (∀ s, vS σ s → vS Z s ∧ cS Z s = cS σ s ∧ Z 4 s = σ 4 s ∧ Z 5 s = σ 5 s ∧ Z 3 s = σ 3 s) ∧ (∀ s, vS Z s → ¬ vS σ s → Z 4 s = -1 ∧ Z 5 s = 0) ∧ σ 0 12 ≤ Z 0 12 ∧ ∀ k x, k < σ 0 12 → cB σ k x → cB Z k x) ∧
  ((∀ a, (155 ≤ a ∧ a ≤ 192) ∨ (196 ≤ a ∧ a ≤ 206) → X a = τ a) ∧ (∀ i, i = 10 ∨ i = 15 ∨ (55 ≤ i ∧ i ≤ 57) ∨ (89 ≤ i ∧ i ≤ 94) ∨ i = 104 → X 119 i = τ 119 i) ∧ (∀ r, vM τ r → vM X r ∧ mS X r = mS τ r) ∧ τ 119 16 ≤ X 119 16 ∧ ∀ y x, y < τ 119 16 → mB τ y x → mB X y x) ∧ rGr Z X
section HP
variable {σ τ Z X : gM}
theorem hpF.rf (h : rPg σ τ) (F : hpF σ τ Z X) : (∀ f g, rFn Z X f g ↔ rFn σ τ f g) ∧ ∀ k x t y, rVal σ τ k x t y → rVal Z X k x t y := by
  obtain ⟨-, ⟨c, c31, ⟨f7, f9⟩, cs, -, g12, cb⟩, ⟨d, d119, ms, g16, mb⟩, -⟩ := F
  obtain ⟨-, ⟨hfi, hfj, -⟩, -, -, gr, -⟩ := h
  have fn : ∀ f g, rFn Z X f g ↔ rFn σ τ f g := fun f g => by
    unfold rFn
    rw [c 8 (by decide), c 23 (by decide), d 155 (by decide), d119 56 (by decide)]
    constructor
    · intro ⟨q1, q2, q3⟩
      rw [(cs _ (Or.inl (hfi.2.1 f q1.1 q1.2).1)).2.1, (ms _ (Or.inl (hfj.2.1 g q2.1 q2.2).1)).2] at q3
      exact ⟨q1, q2, q3⟩
    · intro ⟨q1, q2, q3⟩
      refine ⟨q1, q2, ?_⟩
      rw [(cs _ (Or.inl (hfi.2.1 f q1.1 q1.2).1)).2.1, (ms _ (Or.inl (hfj.2.1 g q2.1 q2.2).1)).2]
      exact q3
  refine ⟨fn, fun k x t y q => ?_⟩
  obtain ⟨r1, r2, r3⟩ := gr
  rcases q with q | ⟨q1, q2, q3, q4, z, q5, q6⟩ | ⟨q1, q2, q3, q4, q5, q6⟩ | q | q | ⟨q1, q2, q3⟩ | q
  · exact Or.inl q
  · exact Or.inr (Or.inl ⟨q1, q2, by rw [f9]; omega, by rw [d119 15 (by decide)]; omega, z, cb x z (by omega) q5, mb y z (by omega) q6⟩)
  · obtain ⟨s1, s2, -, -, s3⟩ := cs x q3
    obtain ⟨m1, m2⟩ := ms y q4
    exact Or.inr (Or.inr (Or.inl ⟨q1, q2, s1, m1, by rw [s2, m2]; exact q5, by rw [s3]; exact q6⟩))
  · exact Or.inr (Or.inr (Or.inr (Or.inl q)))
  · exact Or.inr (Or.inr (Or.inr (Or.inr (Or.inl q))))
  · exact Or.inr (Or.inr (Or.inr (Or.inr (Or.inr (Or.inl ⟨q1, q2, (fn x y).mpr q3⟩)))))
  · exact Or.inr (Or.inr (Or.inr (Or.inr (Or.inr (Or.inr ⟨q.1, q.2.1, q.2.2.1, q.2.2.2.1, by have := q.2.2.2.2; omega⟩)))))
theorem rPg.hp (h : rPg σ τ) (F : hpF σ τ Z X) : rPg Z X := by
  obtain ⟨fn, rv⟩ := hpF.rf h F
  obtain ⟨hX, ⟨c, c31, ⟨f7, f9⟩, cs, cn, g12, cb⟩, ⟨d, d119, ms, g16, mb⟩, gr⟩ := F
  obtain ⟨-, hv, hn, hk, -, hs, hca, hb0, hN, hCs, hIn, ⟨hU, hP, hV⟩, hQ, hR, hK, hS, hCh⟩ := h
  have k8 := c 8 (by decide)
  have k42 := c 42 (by decide)
  have k52 := c 52 (by decide)
  have t10 := d119 10 (by decide)
  have t15 := d119 15 (by decide)
  have t55 := d119 55 (by decide)
  have t56 := d119 56 (by decide)
  have t57 := d119 57 (by decide)
  have t89 := d119 89 (by decide)
  have t92 := d119 92 (by decide)
  have t93 := d119 93 (by decide)
  have t94 := d119 94 (by decide)
  have t104 := d119 104 (by decide)
  have sn : ∀ k, sN Z k = sN σ k := fun k => by
    unfold sN
    rw [c 48 (by decide), c 49 (by decide), c 50 (by decide)]
  have pl : ∀ s n, plc Z s n = plc σ s n := fun s n => plc_mv (c 43 (by decide)) (c 44 (by decide)) (c 47 (by decide))
  have cn1 : ∀ s, cn1 Z s = cn1 σ s := fun s => cn1_mv (c 43 (by decide)) (c 45 (by decide))
  refine ⟨hX, ⟨?_, ?_, ?_, ?_, ?_⟩, ?_, ?_, gr, ?_, ?_, ⟨?_, ?_⟩, ?_, ?_, ?_, ⟨?_, ?_, ?_⟩, ?_, ?_, ?_, ?_, ?_⟩
  · obtain ⟨i1, i2, i3, i4⟩ := hv.1
    refine ⟨by rw [k8]; exact i1, fun f q1 q2 => ?_, by rw [k8, c 23 (by decide)]; exact i3, by rw [k8]; exact i4⟩
    rw [k8] at q2
    have := i2 f q1 q2
    rw [c 23 (by decide), c 24 (by decide), f7, k8, (cs _ (Or.inl this.1)).2.2.2.2]
    exact this
  · unfold fJ
    rw [t56, t10, d 155 (by decide), d 186 (by decide)]
    exact hv.2.1
  · intro f g q
    rw [d 156 (by decide), c 24 (by decide)]
    exact hv.2.2.1 f g ((fn f g).mp q)
  · intro g q0 q1 q
    rw [t56] at q1
    rw [d 156 (by decide)]
    exact hv.2.2.2.1 g q0 q1 fun f w => q f ((fn f g).mpr w)
  · intro f q0 q1 q
    rw [k8] at q1
    rw [c 24 (by decide)]
    exact hv.2.2.2.2 f q0 q1 fun g w => q g ((fn f g).mpr w)
  · intro r q0 q1
    rw [k8] at q1
    rw [c 25 (by decide), d 157 (by decide), fn]
    exact hn r q0 q1
  · obtain ⟨k1, k2, ⟨k3, k3'⟩, ⟨k4, k4'⟩⟩ := hk
    have e0 : kT 4 = 0 := by decide
    have k0 := (k1 4 (by decide) (by decide)).1
    rw [e0] at k0
    refine ⟨fun k q1 q2 => ?_, ?_, ⟨?_, ?_⟩, ⟨?_, ?_⟩⟩
    · obtain ⟨a1, a2, a3, a4⟩ := k1 k q1 q2
      rw [d 187 (by decide), c 40 (by decide), t10, f7, (cs _ (Or.inl a2)).2.2.2.2, (cs _ (Or.inl a2)).2.1, (ms _ (Or.inl a1)).2]
      exact ⟨a1, a2, a3, a4⟩
    · rw [d 187 (by decide), (ms _ (Or.inl k0)).2]; exact k2
    · rw [t92, t10]; exact k3
    · rw [t92, (ms _ (Or.inl k3)).2]; exact k3'
    · rw [t93, t10]; exact k4
    · rw [t93, (ms _ (Or.inl k4)).2]; exact k4'
  · obtain ⟨h1, h2, h3, h4, h5, h6, h7, h8⟩ := hs
    refine ⟨by rw [k42, t94]; exact h1, by rw [k42]; exact h2, by rw [k42]; exact h3, by rw [c 47 (by decide), d 191 (by decide), c 43 (by decide), d 188 (by decide), c 45 (by decide)]; exact h4, fun s s0 s1 => ?_, ?_, ?_, ?_⟩
    · rw [k42] at s1
      obtain ⟨a1, a2, a3, a4, a5, a6, a7, a8, a9⟩ := h5 s s0 s1
      rw [c 43 (by decide), c 44 (by decide), c 45 (by decide), c 47 (by decide), k42, d 188 (by decide), d 189 (by decide), d 191 (by decide), d 192 (by decide), sn, t10, (ms _ (Or.inl a8)).2]
      exact ⟨a1, a2, a3, a4, a5, a6, a7, a8, a9⟩
    · unfold sHr at h6 ⊢
      simp only [cn1, pl]
      rw [c 46 (by decide), c 47 (by decide), k42, d 190 (by decide)]
      exact h6
    · unfold sNm at h7 ⊢
      rw [k42, c 49 (by decide), c 50 (by decide)]
      exact h7
    · unfold sUq at h8 ⊢
      simp only [sn]
      rw [k42]
      exact h8
  · intro s vs
    rw [k42]
    by_cases z : vS σ s
    · obtain ⟨m1, m2, m3, m4, m5⟩ := cs s z
      obtain ⟨q1, q2⟩ := hca s z
      rw [m3, m4, m2]
      refine ⟨q1, ?_⟩
      rcases q2 with ⟨z1, z2⟩ | ⟨z1, z2⟩
      · exact Or.inl ⟨z1, fun k q1 q2 => by rw [sn]; exact z2 k q1 q2⟩
      · exact Or.inr ⟨z1, by rw [sn]; exact z2⟩
    · obtain ⟨n1, n2⟩ := cn s vs z
      have h10 := hs.2.1
      rw [n1, n2]
      exact ⟨by omega, Or.inl ⟨rfl, fun k q1 q2 => by omega⟩⟩
  · obtain ⟨hb0, -⟩ := hb0
    unfold rRt at hb0 ⊢
    rw [k8, k52, t55, c 24 (by decide), c 25 (by decide), c 32 (by decide), c 33 (by decide), c 34 (by decide), c 53 (by decide), c 61 (by decide), d 156 (by decide), d 157 (by decide), d 163 (by decide), d 164 (by decide), d 165 (by decide)]
    exact hb0
  · obtain ⟨-, hb0⟩ := hb0
    unfold rCo at hb0 ⊢
    rw [k8, k52, t104, c 53 (by decide), c 54 (by decide), c 55 (by decide), c 56 (by decide), c 57 (by decide), c 58 (by decide), c 59 (by decide), c 60 (by decide), c 61 (by decide), c 62 (by decide), c 63 (by decide), c 64 (by decide), d 196 (by decide), d 197 (by decide), d 198 (by decide), d 199 (by decide), d 200 (by decide), d 201 (by decide), d 202 (by decide), d 203 (by decide), d 204 (by decide), d 205 (by decide), d 206 (by decide)]
    exact hb0
  · unfold rNd rN1 rEn at hN ⊢
    simp only [pl, t57]
    rw [k8, c 9 (by decide), c 10 (by decide), c 11 (by decide), c 12 (by decide), c 13 (by decide), c 18 (by decide), c 19 (by decide), c 26 (by decide), c 27 (by decide), k42, d 158 (by decide), d 159 (by decide), d 168 (by decide), d 169 (by decide), d 174 (by decide), d 175 (by decide), d 178 (by decide), d 180 (by decide), d 181 (by decide), d 182 (by decide), d 183 (by decide), d 184 (by decide)]
    exact hN
  · unfold rCs at hCs ⊢
    rw [k8, c 9 (by decide), c 15 (by decide), c 16 (by decide), d 170 (by decide), d 171 (by decide), d 176 (by decide)]
    exact hCs
  · unfold rIn at hIn ⊢
    rw [k8, c 20 (by decide), c 21 (by decide), c 22 (by decide), c 26 (by decide), c 27 (by decide), c 28 (by decide), c 29 (by decide)]
    exact hIn
  · unfold rUn at hU ⊢
    rw [k52, c 53 (by decide), c 54 (by decide), c 55 (by decide), c 62 (by decide), c 63 (by decide), c 64 (by decide), c 26 (by decide), c 27 (by decide)]
    exact hU
  · exact hP.mv' (fun a q => c a (by omega)) (by rw [k52]) (by rw [k52])
  · unfold rVc cFa at hV ⊢
    rw [k52, c 9 (by decide), c 11 (by decide), c 18 (by decide), c 19 (by decide), c 20 (by decide), c 22 (by decide), c 29 (by decide), c 54 (by decide), c 55 (by decide), c 61 (by decide), c 62 (by decide), c 64 (by decide), c 65 (by decide)]
    exact hV
  · unfold rQu at hQ ⊢
    rw [k8, k52, c 67 (by decide), t89, d 185 (by decide)]
    exact hQ
  · intro r q0 q1
    rw [k8] at q1
    obtain ⟨k1, k2, ⟨dd, k3⟩, k4, k5, k6⟩ := hR r q0 q1
    unfold rR1
    rw [c 26 (by decide), c 27 (by decide), c 28 (by decide), c 29 (by decide), c 30 (by decide), c 31 (by decide), c 9 (by decide), c 13 (by decide), d 160 (by decide), d 161 (by decide), d 162 (by decide)]
    have si : ∀ P E, sI σ Z P E := fun P E x _ _ => ⟨by rw [c 20 (by decide)], by rw [c 21 (by decide)], by rw [c 22 (by decide)]⟩
    exact ⟨k1, k2, ⟨dd, RT_fr (fun a n q _ _ => by rw [d a (by omega)]) (fun n _ _ => by rw [c 14 (by decide)]) dd 2 _ _ _ _ _ _ (si _ _) k3⟩, (si (σ 28 r + σ 29 r - 2) (σ 28 r + σ 29 r - 1)).ci k4 (Int.le_refl _) (by omega), (si (σ 28 r + σ 29 r - 1) (σ 28 r + σ 29 r)).ci k5 (Int.le_refl _) (by omega), k6⟩
  · refine ⟨fun n q0 q1 => ?_, by rw [c 27 (by decide), c 31 (by decide), d 159 (by decide), d 161 (by decide)]; exact hK.2.1, fun f q0 q1 q2 q3 => by rw [k8] at q1; rw [c 24 (by decide)] at q2 q3 ⊢; rw [c 23 (by decide), (cs _ (Or.inl (hv.1.2.1 f q0 q1).1)).2.1]; exact hK.2.2 f q0 q1 q2 q3⟩
    rw [k8] at q1
    obtain ⟨⟨k1, k2⟩, k3⟩ := hK.1 n q0 q1
    refine ⟨⟨?_, ?_⟩, by rw [c 9 (by decide)]; exact k3⟩
    · rw [c 9 (by decide), c 16 (by decide), c 17 (by decide), d 176 (by decide), d 177 (by decide), f7, f9, t10, t15]
      exact fun q => ⟨rv _ _ _ _ (k1 q).1, (k1 q).2⟩
    · rw [c 9 (by decide), c 14 (by decide), c 17 (by decide), d 171 (by decide), d 177 (by decide), f7, t10]
      intro q
      rcases k2 q with ⟨a1, a2, a3, a4, a5, a6⟩ | a
      · refine Or.inl ⟨a1, a2, a3, a4, ?_, ?_⟩
        · rw [(cs _ (Or.inl a3)).2.1, (ms _ (Or.inl a4)).2]; exact a5
        · rw [(cs _ (Or.inl a3)).2.2.2.2]; exact a6
      · exact Or.inr a
  · unfold rSo at hS ⊢
    rw [k8, c 35 (by decide), d 167 (by decide)]
    exact hS
  · intro r q0 q1
    rw [k8] at q1
    rw [d 166 (by decide), c 26 (by decide), c 27 (by decide), hCh r q0 q1]
    exact (congrArg w32 (chN_mv _ fun i _ => by rw [c 12 (by decide)])).symm
end HP
