/-! the model keeps a name, makes a function number: a program stays related -/
/-- what that changes -/
def kfM (τ X : gM) : Prop := (mI X ∧ fJ X ∧ ∀ i, i8 (X 121 i)) ∧ (∀ a, a ≠ 119 → (a < 121 ∨ 126 < a) → a ≠ 155 → a ≠ 156 → a ≠ 186 → a ≠ 225 → X a = τ a) ∧ (∀ i, i ≠ 9 → i ≠ 10 → i ≠ 56 → X 119 i = τ 119 i) ∧ mKeep τ X ∧ (τ 119 10 ≤ X 119 10 ∧ τ 119 56 ≤ X 119 56) ∧ (∀ g, g < τ 119 56 → X 155 g = τ 155 g ∧ X 156 g = τ 156 g) ∧ ∀ g, τ 119 56 ≤ g → g < X 119 56 → X 156 g = -1
section KF
variable {σ τ Z X : gM} {pT hT : Int → Int}
theorem kfM.rf (h : rPg σ τ) (F : kfM τ X) (ez : ∀ a, Z a = σ a) : (∀ f g, g < τ 119 56 → (rFn Z X f g ↔ rFn σ τ f g)) ∧ ∀ k x t y, rVal σ τ k x t y → rVal Z X k x t y := by
  obtain ⟨-, d, d119, mk, ⟨-, g56⟩, d155, -⟩ := F
  obtain ⟨-, ⟨hfi, hfj, -⟩, -, -, gr, -⟩ := h
  have e : Z = σ := funext ez
  subst e
  have fn : ∀ f g, g < τ 119 56 → (rFn Z X f g ↔ rFn Z τ f g) := fun f g gl => by
    unfold rFn
    rw [(d155 g gl).1]
    constructor
    · intro ⟨q1, q2, q3⟩
      rw [(mk _ (Or.inl (hfj.2.1 g q2.1 gl).1)).2.1] at q3
      exact ⟨q1, ⟨q2.1, gl⟩, q3⟩
    · intro ⟨q1, q2, q3⟩
      refine ⟨q1, by omega, ?_⟩
      rw [(mk _ (Or.inl (hfj.2.1 g q2.1 q2.2).1)).2.1]
      exact q3
  refine ⟨fn, fun k x t y q => ?_⟩
  rcases q with q | ⟨q1, q2, q3, q4, z, q5, q6⟩ | ⟨q1, q2, q3, q4, q5, q6⟩ | q | q | ⟨q1, q2, q3⟩ | q
  · exact Or.inl q
  · refine Or.inr (Or.inl ⟨q1, q2, q3, by rw [d119 15 (by decide) (by decide) (by decide), d119 16 (by decide) (by decide) (by decide)]; exact q4, z, q5, ?_⟩)
    unfold mB at q6 ⊢
    rw [d 128 (by decide) (by decide) (by decide) (by decide) (by decide) (by decide)]
    exact q6
  · exact Or.inr (Or.inr (Or.inl ⟨q1, q2, q3, (mk y q4).1, by rw [(mk y q4).2.1]; exact q5, q6⟩))
  · exact Or.inr (Or.inr (Or.inr (Or.inl q)))
  · exact Or.inr (Or.inr (Or.inr (Or.inr (Or.inl q))))
  · exact Or.inr (Or.inr (Or.inr (Or.inr (Or.inr (Or.inl ⟨q1, q2, (fn x y q3.2.1.2).mpr q3⟩)))))
  · exact Or.inr (Or.inr (Or.inr (Or.inr (Or.inr (Or.inr q)))))
theorem rPg.kf (h : rPg σ τ) (F : kfM τ X) (ez : ∀ a, Z a = σ a) : rPg Z X := by
  obtain ⟨fn, rv⟩ := kfM.rf h F ez
  obtain ⟨⟨hX1, hX2, hX3⟩, d', d119', mk, ⟨gt, g56⟩, d155, d156⟩ := F
  have cS' : ∀ s, cS Z s = cS σ s := fun s => cS_mv (ez 1) (ez 2) (ez 3)
  have c : ∀ a, 0 ≤ a ∧ a ≤ 118 → Z a = σ a := fun a _ => ez a
  have d : ∀ a, (127 ≤ a ∧ a ≤ 154) ∨ (157 ≤ a ∧ a ≤ 185) ∨ (187 ≤ a ∧ a ≤ 206) → X a = τ a := fun a q => d' a (by omega) (by omega) (by omega) (by omega) (by omega) (by omega)
  have f7 : Z 0 7 = σ 0 7 := by rw [c 0 (by decide)]
  have d119 : ∀ i, i = 15 ∨ i = 16 ∨ i = 55 ∨ i = 57 ∨ (89 ≤ i ∧ i ≤ 94) ∨ i = 104 → X 119 i = τ 119 i := fun i q => d119' i (by omega) (by omega) (by omega)
  have ms : ∀ r, vM τ r → vM X r ∧ mS X r = mS τ r := fun r q => ⟨(mk r q).1, (mk r q).2.1⟩
  obtain ⟨h1, hv, hn, hk, gr, hs, hca, hb0, hN, hCs, hIn, ⟨hU, hP, hV⟩, hQ, hR, hK, hS, hCh⟩ := h
  have k8 := c 8 (by decide)
  have k52 := c 52 (by decide)
  have t15 := d119 15 (by decide)
  have t55 := d119 55 (by decide)
  have t57 := d119 57 (by decide)
  have t89 := d119 89 (by decide)
  have t92 := d119 92 (by decide)
  have t93 := d119 93 (by decide)
  have t104 := d119 104 (by decide)
  have pl : ∀ s n, plc Z s n = plc σ s n := fun s n => plc_mv (c 43 (by decide)) (c 44 (by decide)) (c 47 (by decide))
  have gl : ∀ r, 0 ≤ r → r < σ 8 31 → τ 157 r < τ 119 56 := fun r q0 q1 => (hn r q0 q1).2.1.2
  have up : ∀ f g, rFn σ τ f g → rFn Z X f g := fun f g q => (fn f g q.2.1.2).mpr q
  refine ⟨⟨hI_same h1.1 fun a q => c a (by omega), hX1, hX3⟩, ⟨?_, hX2, ?_, ?_, ?_⟩, ?_, ?_, ?_, hs.mv (fun a q1 q2 => c a (by omega)) (fun a q1 q2 => d a (by omega)) (d119 94 (by decide)) mk h1.2.1.1.2, ?_, ⟨?_, ?_⟩, ?_, ?_, ?_, ⟨?_, ?_, ?_⟩, ?_, ?_, ?_, ?_, ?_⟩
  · obtain ⟨i1, i2, i3, i4⟩ := hv.1
    refine ⟨by rw [k8]; exact i1, fun f q1 q2 => ?_, by rw [k8, c 23 (by decide)]; exact i3, by rw [k8]; exact i4⟩
    rw [k8] at q2
    have := i2 f q1 q2
    rw [c 23 (by decide), c 24 (by decide), f7, k8, c 3 (by decide)]
    exact this
  · intro f g q
    rw [c 24 (by decide)]
    by_cases z : g < τ 119 56
    · rw [(d155 g z).2]
      exact hv.2.2.1 f g ((fn f g z).mp q)
    · rw [d156 g (by omega) q.2.1.2]
      have q1 := q.1
      rw [k8] at q1
      refine (hv.2.2.2.2 f q1.1 q1.2 fun g' w => ?_).symm
      have w' := up f g' w
      have e1 := hX2.2.1 g q.2.1.1 q.2.1.2
      have e2 := hX2.2.1 g' w'.2.1.1 w'.2.1.2
      have e3 := hX1.2.2.2.2.2.2.1 (X 155 g) (X 155 g') e1.1.1 e1.1.2 e2.1.1 e2.1.2 (by rw [← q.2.2, ← w'.2.2])
      have e4 := e1.2
      rw [e3, e2.2] at e4
      have := w.2.1.2
      omega
  · intro g q0 q1 q
    by_cases z : g < τ 119 56
    · rw [(d155 g z).2]
      exact hv.2.2.2.1 g q0 z fun f w => q f (up f g w)
    · exact d156 g (by omega) q1
  · intro f q0 q1 q
    rw [k8] at q1
    rw [c 24 (by decide)]
    exact hv.2.2.2.2 f q0 q1 fun g w => q g (up f g w)
  · intro r q0 q1
    rw [k8] at q1
    rw [c 25 (by decide), d 157 (by decide)]
    exact up _ _ (hn r q0 q1)
  · obtain ⟨k1, k2, ⟨k3, k3'⟩, ⟨k4, k4'⟩⟩ := hk
    have e0 : kT 4 = 0 := by decide
    have k0 := (k1 4 (by decide) (by decide)).1
    rw [e0] at k0
    refine ⟨fun k q1 q2 => ?_, ?_, ⟨?_, ?_⟩, ⟨?_, ?_⟩⟩
    · obtain ⟨a1, a2, a3, a4⟩ := k1 k q1 q2
      rw [d 187 (by decide), c 40 (by decide), f7, c 3 (by decide), cS', (ms _ (Or.inl a1)).2]
      exact ⟨by omega, a2, a3, a4⟩
    · rw [d 187 (by decide), (ms _ (Or.inl k0)).2]; exact k2
    · rw [t92]; omega
    · rw [t92, (ms _ (Or.inl k3)).2]; exact k3'
    · rw [t93]; omega
    · rw [t93, (ms _ (Or.inl k4)).2]; exact k4'
  · unfold rGr at gr ⊢
    rw [c 0 (by decide), d119 15 (by decide), d119 16 (by decide)]
    exact gr
  · intro s vs
    have vs' : vS σ s := by unfold vS at vs ⊢; rw [c 0 (by decide)] at vs; exact vs
    have sn : ∀ k, sN Z k = sN σ k := fun k => by unfold sN; rw [c 48 (by decide), c 49 (by decide), c 50 (by decide)]
    simp only [sn, cS']
    rw [c 4 (by decide), c 5 (by decide), c 42 (by decide)]
    exact hca s vs'
  · obtain ⟨hb0, -⟩ := hb0
    unfold rRt at hb0 ⊢
    rw [k8, k52, t55, c 24 (by decide), c 25 (by decide), c 32 (by decide), c 33 (by decide), c 34 (by decide), c 53 (by decide), c 61 (by decide), d 157 (by decide), d 163 (by decide), d 164 (by decide), d 165 (by decide)]
    refine ⟨hb0.1, fun r q0 q1 => ?_⟩
    rw [(d155 _ (gl r q0 q1)).2]
    exact hb0.2 r q0 q1
  · obtain ⟨-, hb0⟩ := hb0
    unfold rCo at hb0 ⊢
    rw [k8, k52, t104, c 53 (by decide), c 54 (by decide), c 55 (by decide), c 56 (by decide), c 57 (by decide), c 58 (by decide), c 59 (by decide), c 60 (by decide), c 61 (by decide), c 62 (by decide), c 63 (by decide), c 64 (by decide), d 196 (by decide), d 197 (by decide), d 198 (by decide), d 199 (by decide), d 200 (by decide), d 201 (by decide), d 202 (by decide), d 203 (by decide), d 204 (by decide), d 205 (by decide), d 206 (by decide)]
    exact hb0
  · obtain ⟨n1, n2, n3⟩ := hN
    refine ⟨by rw [k8, t57]; exact n1, ?_, fun n q0 q1 => ?_⟩
    · rw [k8, c 26 (by decide), c 27 (by decide), d 158 (by decide), d 159 (by decide), d 174 (by decide)]
      exact n2
    · rw [k8] at q1
      obtain ⟨a1, a2, a3, a4, a5, a6, a7⟩ := n3 n q0 q1
      unfold rN1
      rw [c 9 (by decide), c 10 (by decide), c 11 (by decide), c 12 (by decide), c 13 (by decide), c 18 (by decide), d 168 (by decide), d 169 (by decide), d 178 (by decide), d 180 (by decide), d 175 (by decide), d 181 (by decide)]
      refine ⟨a1, a2, a3, a4, a5, a6, fun i i0 i1 => ?_⟩
      obtain ⟨e0, e1⟩ := a7 i i0 i1
      unfold rEn
      rw [c 9 (by decide), c 19 (by decide), k8, d 182 (by decide), d 183 (by decide), d 184 (by decide)]
      refine ⟨e0, ?_⟩
      rcases e1 with e | ⟨w1, w2, w3, w4, w5, w6, w7⟩ | ⟨w1, w2, w3, w4, w5, w6, w7⟩
      · exact Or.inl e
      · exact Or.inr (Or.inl ⟨w1, by rw [c 42 (by decide)]; exact w2, by rw [c 42 (by decide)]; exact w3, w4, by rw [pl]; exact w5, w6, w7⟩)
      · exact Or.inr (Or.inr ⟨w1, by rw [c 42 (by decide)]; exact w2, by rw [c 42 (by decide)]; exact w3, by rw [c 42 (by decide)]; exact w4, by rw [pl]; exact w5, w6, w7⟩)
  · unfold rCs at hCs ⊢
    rw [k8, c 9 (by decide), c 15 (by decide), c 16 (by decide), d 170 (by decide), d 171 (by decide), d 176 (by decide)]
    exact hCs
  · unfold rIn at hIn ⊢
    rw [k8, c 20 (by decide), c 21 (by decide), c 22 (by decide), c 26 (by decide), c 27 (by decide), c 28 (by decide), c 29 (by decide)]
    exact hIn
  · unfold rUn at hU ⊢
    rw [k52, c 53 (by decide), c 54 (by decide), c 55 (by decide), c 62 (by decide), c 63 (by decide), c 64 (by decide), c 26 (by decide), c 27 (by decide)]
    exact hU
  · exact hP.mv' (fun a q => c a (by omega)) (by rw [k52]) (by rw [k52])
  · unfold rVc cFa at hV ⊢
    rw [k52, c 9 (by decide), c 11 (by decide), c 18 (by decide), c 19 (by decide), c 20 (by decide), c 22 (by decide), c 29 (by decide), c 54 (by decide), c 55 (by decide), c 61 (by decide), c 62 (by decide), c 64 (by decide), c 65 (by decide)]
    exact hV
  · unfold rQu at hQ ⊢
    rw [k8, k52, c 67 (by decide), t89, d 185 (by decide)]
    exact hQ
  · intro r q0 q1
    rw [k8] at q1
    obtain ⟨k1, k2, ⟨dd, k3⟩, k4, k5, k6⟩ := hR r q0 q1
    unfold rR1
    rw [c 26 (by decide), c 27 (by decide), c 28 (by decide), c 29 (by decide), c 30 (by decide), c 31 (by decide), c 9 (by decide), c 13 (by decide), d 160 (by decide), d 161 (by decide), d 162 (by decide)]
    have si : ∀ P E, sI σ Z P E := fun P E x _ _ => ⟨by rw [c 20 (by decide)], by rw [c 21 (by decide)], by rw [c 22 (by decide)]⟩
    exact ⟨k1, k2, ⟨dd, RT_fr (fun a n q _ _ => by rw [d a (by omega)]) (fun n _ _ => by rw [c 14 (by decide)]) dd 2 _ _ _ _ _ _ (si _ _) k3⟩, (si (σ 28 r + σ 29 r - 2) (σ 28 r + σ 29 r - 1)).ci k4 (Int.le_refl _) (by omega), (si (σ 28 r + σ 29 r - 1) (σ 28 r + σ 29 r)).ci k5 (Int.le_refl _) (by omega), k6⟩
  · refine ⟨fun n q0 q1 => ?_, by rw [c 27 (by decide), c 31 (by decide), d 159 (by decide), d 161 (by decide)]; exact hK.2.1, fun f q0 q1 q2 q3 => by rw [k8] at q1; rw [c 24 (by decide)] at q2 q3 ⊢; rw [c 23 (by decide), cS']; exact hK.2.2 f q0 q1 q2 q3⟩
    rw [k8] at q1
    obtain ⟨⟨k1, k2⟩, k3⟩ := hK.1 n q0 q1
    refine ⟨⟨?_, ?_⟩, by rw [c 9 (by decide)]; exact k3⟩
    · rw [c 9 (by decide), c 16 (by decide), c 17 (by decide), d 176 (by decide), d 177 (by decide), f7, show Z 0 9 = σ 0 9 by rw [c 0 (by decide)], t15]
      exact fun q => ⟨rv _ _ _ _ (k1 q).1, (k1 q).2.1, fun w => by have := (k1 q).2.2.1 w; omega, (k1 q).2.2.2⟩
    · rw [c 9 (by decide), c 14 (by decide), c 17 (by decide), d 171 (by decide), d 177 (by decide), f7]
      intro q
      rcases k2 q with ⟨a1, a2, a3, a4, a5, a6⟩ | a
      · refine Or.inl ⟨a1, a2, a3, by omega, ?_, ?_⟩
        · rw [cS', (ms _ (Or.inl a4)).2]; exact a5
        · rw [c 3 (by decide)]; exact a6
      · exact Or.inr a
  · unfold rSo at hS ⊢
    rw [k8, c 35 (by decide), d 167 (by decide)]
    exact hS
  · intro r q0 q1
    rw [k8] at q1
    rw [d 166 (by decide), c 26 (by decide), c 27 (by decide), hCh r q0 q1]
    exact (congrArg w32 (chN_mv _ fun i _ => by rw [c 12 (by decide)])).symm
end KF
