/-! shapes come: a program stays related -/
/-- what the coming of shapes changes -/
def shF (σ τ Z X : gM) : Prop := (hI Z ∧ mI X ∧ ∀ i, i8 (X 121 i)) ∧ (rSh Z X ∧ sCa Z) ∧
  ((∀ a, (a < 42 ∨ 51 < a) → a ≠ 4 → a ≠ 5 → Z a = σ a) ∧ (σ 42 6 ≤ Z 42 6 ∧ σ 42 10 ≤ Z 42 10) ∧ ∀ s, 0 ≤ s → s < σ 42 6 → Z 47 s = σ 47 s ∧ ∀ k, plc Z s k = plc σ s k) ∧
  (∀ a, a ≠ 119 → (a < 121 ∨ 126 < a) → (a < 188 ∨ 192 < a) → X a = τ a) ∧ (∀ i, i ≠ 9 → i ≠ 10 → i ≠ 94 → X 119 i = τ 119 i) ∧ mKeep τ X ∧ (τ 119 10 ≤ X 119 10 ∧ X 119 10 + (200 - Z 42 6) ≤ τ 119 10 + (200 - σ 42 6)) ∧ X 119 9 + 200 * (200 - Z 42 6) ≤ τ 119 9 + 200 * (200 - σ 42 6)
section SHF
variable {σ τ Z X : gM} {pT hT : Int → Int}
theorem shF.rf (h : rPg σ τ) (F : shF σ τ Z X) : (∀ s, cS Z s = cS σ s) ∧ (∀ s, vS Z s ↔ vS σ s) ∧ (∀ f g, rFn Z X f g ↔ rFn σ τ f g) ∧ ∀ k x t y, rVal σ τ k x t y → rVal Z X k x t y := by
  obtain ⟨-, -, ⟨c, -, -⟩, d, d119, mk, -⟩ := F
  obtain ⟨-, ⟨hfi, hfj, -⟩, -, -, gr, -⟩ := h
  have cs : ∀ s, cS Z s = cS σ s := fun s => cS_mv (c 1 (by decide) (by decide) (by decide)) (c 2 (by decide) (by decide) (by decide)) (c 3 (by decide) (by decide) (by decide))
  have vs : ∀ s, vS Z s ↔ vS σ s := fun s => by unfold vS; rw [c 0 (by decide) (by decide) (by decide)]
  have fn : ∀ f g, rFn Z X f g ↔ rFn σ τ f g := fun f g => by
    unfold rFn
    rw [c 8 (by decide) (by decide) (by decide), c 23 (by decide) (by decide) (by decide), d 155 (by decide) (by decide) (by decide), d119 56 (by decide) (by decide) (by decide), cs]
    constructor
    · intro ⟨q1, q2, q3⟩
      rw [(mk _ (Or.inl (hfj.2.1 g q2.1 q2.2).1)).2.1] at q3
      exact ⟨q1, q2, q3⟩
    · intro ⟨q1, q2, q3⟩
      refine ⟨q1, q2, ?_⟩
      rw [(mk _ (Or.inl (hfj.2.1 g q2.1 q2.2).1)).2.1]
      exact q3
  refine ⟨cs, vs, fn, fun k x t y q => ?_⟩
  rcases q with q | ⟨q1, q2, q3, q4, z, q5, q6⟩ | ⟨q1, q2, q3, q4, q5, q6⟩ | q | q | ⟨q1, q2, q3⟩ | q
  · exact Or.inl q
  · refine Or.inr (Or.inl ⟨q1, q2, by rw [c 0 (by decide) (by decide) (by decide)]; exact q3, by rw [d119 15 (by decide) (by decide) (by decide), d119 16 (by decide) (by decide) (by decide)]; exact q4, z, ?_, ?_⟩)
    · unfold cB at q5 ⊢
      rw [c 6 (by decide) (by decide) (by decide), c 7 (by decide) (by decide) (by decide)]
      exact q5
    · unfold mB at q6 ⊢
      rw [d 128 (by decide) (by decide) (by decide)]
      exact q6
  · exact Or.inr (Or.inr (Or.inl ⟨q1, q2, (vs x).mpr q3, (mk y q4).1, by rw [cs, (mk y q4).2.1]; exact q5, by rw [c 3 (by decide) (by decide) (by decide)]; exact q6⟩))
  · exact Or.inr (Or.inr (Or.inr (Or.inl q)))
  · exact Or.inr (Or.inr (Or.inr (Or.inr (Or.inl q))))
  · exact Or.inr (Or.inr (Or.inr (Or.inr (Or.inr (Or.inl ⟨q1, q2, (fn x y).mpr q3⟩)))))
  · exact Or.inr (Or.inr (Or.inr (Or.inr (Or.inr (Or.inr ⟨q.1, q.2.1, q.2.2.1, q.2.2.2.1, by rw [c 87 (by decide) (by decide) (by decide)]; exact q.2.2.2.2⟩)))))
theorem rPg.sh (h : rPg σ τ) (F : shF σ τ Z X) : rPg Z X := by
  obtain ⟨cS', vS', fn, rv⟩ := shF.rf h F
  obtain ⟨hX, ⟨hs, hca⟩, ⟨c', ⟨g6, g10⟩, cp⟩, d', d119', mk, ⟨gt, -⟩, -⟩ := F
  have c : ∀ a, (0 ≤ a ∧ a ≤ 3) ∨ (6 ≤ a ∧ a ≤ 41) ∨ (52 ≤ a ∧ a ≤ 87) → Z a = σ a := fun a q => c' a (by omega) (by omega) (by omega)
  have d : ∀ a, (127 ≤ a ∧ a ≤ 187) ∨ (193 ≤ a ∧ a ≤ 206) → X a = τ a := fun a q => d' a (by omega) (by omega) (by omega)
  have f7 : Z 0 7 = σ 0 7 := by rw [c 0 (by decide)]
  have d119 : ∀ i, i = 15 ∨ i = 16 ∨ (55 ≤ i ∧ i ≤ 57) ∨ (89 ≤ i ∧ i ≤ 93) ∨ i = 104 → X 119 i = τ 119 i := fun i q => d119' i (by omega) (by omega) (by omega)
  have ms : ∀ r, vM τ r → vM X r ∧ mS X r = mS τ r := fun r q => ⟨(mk r q).1, (mk r q).2.1⟩
  obtain ⟨-, hv, hn, hk, gr, -, -, hb0, hN, hCs, hIn, ⟨hU, hP, hV⟩, hQ, hR, hK, hS, hCh⟩ := h
  have k8 := c 8 (by decide)
  have k52 := c 52 (by decide)
  have t15 := d119 15 (by decide)
  have t55 := d119 55 (by decide)
  have t56 := d119 56 (by decide)
  have t57 := d119 57 (by decide)
  have t89 := d119 89 (by decide)
  have t92 := d119 92 (by decide)
  have t93 := d119 93 (by decide)
  have t104 := d119 104 (by decide)
  refine ⟨hX, ⟨?_, ?_, ?_, ?_, ?_⟩, ?_, ?_, ?_, hs, hca, ⟨?_, ?_⟩, ?_, ?_, ?_, ⟨?_, ?_, ?_⟩, ?_, ?_, ?_, ?_, ?_⟩
  · obtain ⟨i1, i2, i3, i4⟩ := hv.1
    refine ⟨by rw [k8]; exact i1, fun f q1 q2 => ?_, by rw [k8, c 23 (by decide)]; exact i3, by rw [k8]; exact i4⟩
    rw [k8] at q2
    have := i2 f q1 q2
    rw [c 23 (by decide), c 24 (by decide), f7, k8, c 3 (by decide)]
    exact this
  · obtain ⟨j1, j2, j3⟩ := hv.2.1
    unfold fJ
    rw [t56, d 155 (by decide), d 186 (by decide)]
    exact ⟨j1, fun g q1 q2 => ⟨⟨(j2 g q1 q2).1.1, by have := (j2 g q1 q2).1.2; omega⟩, (j2 g q1 q2).2⟩, j3⟩
  · intro f g q
    rw [d 156 (by decide), c 24 (by decide)]
    exact hv.2.2.1 f g ((fn f g).mp q)
  · intro g q0 q1 q
    rw [t56] at q1
    rw [d 156 (by decide)]
    exact hv.2.2.2.1 g q0 q1 fun f w => q f ((fn f g).mpr w)
  · intro f q0 q1 q
    rw [k8] at q1
    rw [c 24 (by decide)]
    exact hv.2.2.2.2 f q0 q1 fun g w => q g ((fn f g).mpr w)
  · intro r q0 q1
    rw [k8] at q1
    rw [c 25 (by decide), d 157 (by decide), fn]
    exact hn r q0 q1
  · obtain ⟨k1, k2, ⟨k3, k3'⟩, ⟨k4, k4'⟩⟩ := hk
    have e0 : kT 4 = 0 := by decide
    have k0 := (k1 4 (by decide) (by decide)).1
    rw [e0] at k0
    refine ⟨fun k q1 q2 => ?_, ?_, ⟨?_, ?_⟩, ⟨?_, ?_⟩⟩
    · obtain ⟨a1, a2, a3, a4⟩ := k1 k q1 q2
      rw [d 187 (by decide), c 40 (by decide), f7, c 3 (by decide), cS', (ms _ (Or.inl a1)).2]
      exact ⟨by omega, a2, a3, a4⟩
    · rw [d 187 (by decide), (ms _ (Or.inl k0)).2]; exact k2
    · rw [t92]; omega
    · rw [t92, (ms _ (Or.inl k3)).2]; exact k3'
    · rw [t93]; omega
    · rw [t93, (ms _ (Or.inl k4)).2]; exact k4'
  · unfold rGr at gr ⊢
    rw [c 0 (by decide), d119 15 (by decide), d119 16 (by decide)]
    exact gr
  · obtain ⟨hb0, -⟩ := hb0
    unfold rRt at hb0 ⊢
    rw [k8, k52, t55, c 24 (by decide), c 25 (by decide), c 32 (by decide), c 33 (by decide), c 34 (by decide), c 53 (by decide), c 61 (by decide), d 156 (by decide), d 157 (by decide), d 163 (by decide), d 164 (by decide), d 165 (by decide)]
    exact hb0
  · obtain ⟨-, hb0⟩ := hb0
    unfold rCo at hb0 ⊢
    rw [k8, k52, t104, c 53 (by decide), c 54 (by decide), c 55 (by decide), c 56 (by decide), c 57 (by decide), c 58 (by decide), c 59 (by decide), c 60 (by decide), c 61 (by decide), c 62 (by decide), c 63 (by decide), c 64 (by decide), d 196 (by decide), d 197 (by decide), d 198 (by decide), d 199 (by decide), d 200 (by decide), d 201 (by decide), d 202 (by decide), d 203 (by decide), d 204 (by decide), d 205 (by decide), d 206 (by decide)]
    exact hb0
  · obtain ⟨n1, n2, n3⟩ := hN
    refine ⟨by rw [k8, t57]; exact n1, ?_, fun n q0 q1 => ?_⟩
    · rw [k8, c 26 (by decide), c 27 (by decide), d 158 (by decide), d 159 (by decide), d 174 (by decide)]
      exact n2
    · rw [k8] at q1
      obtain ⟨a1, a2, a3, a4, a5, a6, a7⟩ := n3 n q0 q1
      unfold rN1
      rw [c 9 (by decide), c 10 (by decide), c 11 (by decide), c 12 (by decide), c 13 (by decide), c 18 (by decide), d 168 (by decide), d 169 (by decide), d 178 (by decide), d 180 (by decide), d 175 (by decide), d 181 (by decide)]
      refine ⟨a1, a2, a3, a4, a5, a6, fun i i0 i1 => ?_⟩
      obtain ⟨e0, e1⟩ := a7 i i0 i1
      unfold rEn
      rw [c 9 (by decide), c 19 (by decide), k8, d 182 (by decide), d 183 (by decide), d 184 (by decide)]
      refine ⟨e0, ?_⟩
      rcases e1 with e | ⟨w1, w2, w3, w4, w5, w6, w7⟩ | ⟨w1, w2, w3, w4, w5, w6, w7⟩
      · exact Or.inl e
      · exact Or.inr (Or.inl ⟨w1, by omega, by omega, w4, by rw [(cp _ w2.1 w2.2).2]; exact w5, w6, w7⟩)
      · exact Or.inr (Or.inr ⟨w1, by omega, by omega, by omega, by rw [(cp _ w4.1 w4.2).2]; exact w5, w6, w7⟩)
  · unfold rCs at hCs ⊢
    rw [k8, c 9 (by decide), c 15 (by decide), c 16 (by decide), d 170 (by decide), d 171 (by decide), d 176 (by decide)]
    exact hCs
  · unfold rIn at hIn ⊢
    rw [k8, c 20 (by decide), c 21 (by decide), c 22 (by decide), c 26 (by decide), c 27 (by decide), c 28 (by decide), c 29 (by decide)]
    exact hIn
  · unfold rUn at hU ⊢
    rw [k52, c 53 (by decide), c 54 (by decide), c 55 (by decide), c 62 (by decide), c 63 (by decide), c 64 (by decide), c 26 (by decide), c 27 (by decide)]
    exact hU
  · exact hP.mv' (fun a q => c a (by omega)) (by rw [k52]) (by rw [k52])
  · unfold rVc cFa at hV ⊢
    rw [k52, c 9 (by decide), c 11 (by decide), c 18 (by decide), c 19 (by decide), c 20 (by decide), c 22 (by decide), c 29 (by decide), c 54 (by decide), c 55 (by decide), c 61 (by decide), c 62 (by decide), c 64 (by decide), c 65 (by decide)]
    exact hV
  · unfold rQu at hQ ⊢
    rw [k8, k52, c 67 (by decide), t89, d 185 (by decide)]
    exact hQ
  · intro r q0 q1
    rw [k8] at q1
    obtain ⟨k1, k2, ⟨dd, k3⟩, k4, k5, k6⟩ := hR r q0 q1
    unfold rR1
    rw [c 26 (by decide), c 27 (by decide), c 28 (by decide), c 29 (by decide), c 30 (by decide), c 31 (by decide), c 9 (by decide), c 13 (by decide), d 160 (by decide), d 161 (by decide), d 162 (by decide)]
    have si : ∀ P E, sI σ Z P E := fun P E x _ _ => ⟨by rw [c 20 (by decide)], by rw [c 21 (by decide)], by rw [c 22 (by decide)]⟩
    exact ⟨k1, k2, ⟨dd, RT_fr (fun a n q _ _ => by rw [d a (by omega)]) (fun n _ _ => by rw [c 14 (by decide)]) dd 2 _ _ _ _ _ _ (si _ _) k3⟩, (si (σ 28 r + σ 29 r - 2) (σ 28 r + σ 29 r - 1)).ci k4 (Int.le_refl _) (by omega), (si (σ 28 r + σ 29 r - 1) (σ 28 r + σ 29 r)).ci k5 (Int.le_refl _) (by omega), k6⟩
  · refine ⟨fun n q0 q1 => ?_, by rw [c 27 (by decide), c 31 (by decide), d 159 (by decide), d 161 (by decide)]; exact hK.2.1, fun f q0 q1 q2 q3 => by rw [k8] at q1; rw [c 24 (by decide)] at q2 q3 ⊢; rw [c 23 (by decide), cS']; exact hK.2.2 f q0 q1 q2 q3⟩
    rw [k8] at q1
    obtain ⟨⟨k1, k2⟩, k3⟩ := hK.1 n q0 q1
    refine ⟨⟨?_, ?_⟩, by rw [c 9 (by decide)]; exact k3⟩
    · rw [c 9 (by decide), c 16 (by decide), c 17 (by decide), d 176 (by decide), d 177 (by decide), f7, show Z 0 9 = σ 0 9 by rw [c 0 (by decide)], t15]
      exact fun q => ⟨rv _ _ _ _ (k1 q).1, (k1 q).2.1, fun w => by have := (k1 q).2.2.1 w; omega, (k1 q).2.2.2⟩
    · rw [c 9 (by decide), c 14 (by decide), c 17 (by decide), d 171 (by decide), d 177 (by decide), f7]
      intro q
      rcases k2 q with ⟨a1, a2, a3, a4, a5, a6⟩ | a
      · refine Or.inl ⟨a1, a2, a3, by omega, ?_, ?_⟩
        · rw [cS', (ms _ (Or.inl a4)).2]; exact a5
        · rw [c 3 (by decide)]; exact a6
      · exact Or.inr a
  · unfold rSo at hS ⊢
    rw [k8, c 35 (by decide), d 167 (by decide)]
    exact hS
  · intro r q0 q1
    rw [k8] at q1
    rw [d 166 (by decide), c 26 (by decide), c 27 (by decide), hCh r q0 q1]
    exact (congrArg w32 (chN_mv _ fun i _ => by rw [c 12 (by decide)])).symm
/-- a run to whose shapes others come -/
theorem RQ.sh {f : Int} (R : RQ σ τ pT hT) (F : shF σ τ Z X) : RQ Z X pT hT ∧ kq σ τ Z X f := by
  have P := R.1.1.1.sh F
  have rv := (shF.rf R.1.1.1 F).2.2.2
  have R' := R
  obtain ⟨⟨⟨P1, P2⟩, N, M, B⟩, A, ⟨V2, V3⟩, K1, C, Fa⟩ := R'
  have ht := A.2.2.2.2.1
  obtain ⟨-, ⟨hs, -⟩, ⟨c', ⟨g6, g10⟩, cp⟩, d', d119', mk, ⟨gt, r1⟩, r2⟩ := F
  have c : ∀ a, (0 ≤ a ∧ a ≤ 3) ∨ (6 ≤ a ∧ a ≤ 41) ∨ 52 ≤ a → Z a = σ a := fun a q => c' a (by omega) (by omega) (by omega)
  have d : ∀ a, a = 120 ∨ (127 ≤ a ∧ a ≤ 187) ∨ 193 ≤ a → X a = τ a := fun a q => d' a (by omega) (by omega) (by omega)
  have d119 : ∀ i, i ≠ 9 → i ≠ 10 → i ≠ 94 → X 119 i = τ 119 i := d119'
  have k8 := c 8 (by decide)
  have k0 := c 0 (by decide)
  refine ⟨RQm.toQ (R.toM.hq ⟨P, ?_⟩ (N.mv (fun a q => c a (by omega)) (d 179 (by decide))) ?_ ⟨by rw [c 1 (by decide)]; exact B.1, by rw [d 134 (by decide)]; exact B.2.1, B.2.2.gr P1.2.1.2.1 (fun x _ => by rw [d 155 (by decide)]) (Int.le_of_eq (d119 56 (by decide) (by decide) (by decide)).symm) (fun r q => ⟨(mk r q).1, (mk r q).2.1⟩)⟩ ?_ ?_ ?_ rv (fun a q => c a (by omega)) (by rw [c 52 (by decide)]) (by rw [k8]; exact Int.le_refl _) (fun a r q1 q2 _ => by rw [c a (by omega)]) (fun a p q1 q2 _ => by rw [c a (by omega)]) (fun j _ => by rw [c 14 (by decide)]) (fun i q => by rw [c 87 (by decide)]) (fun a q1 q2 => d a (by omega)) (fun a j q _ => by rw [d a (by omega)]) (fun i q => d119 i (by omega) (by omega) (by omega))) ?_, ⟨⟨fun j _ => by rw [c 14 (by decide)], fun a p q1 q2 _ => by rw [c a (by omega)], fun a r q1 q2 _ => by rw [c a (by omega)]⟩, fun a q => c a (by omega), fun i q => by rw [c 87 (by decide)], fun a j q _ => by rw [d a (by omega)], fun a q => d a (by omega), fun a j q1 q2 _ => by rw [d a (by omega)], fun i q => d119 i (by omega) (by omega) (by omega), ?_, rv⟩⟩
  · unfold rRp at P2 ⊢
    rw [k8, c 24 (by decide), c 25 (by decide)]
    exact P2
  · have h6 := hs.1
    have s6 := P1.2.2.2.2.2.1.1
    unfold rRm cRm mRm at M ⊢
    rw [k0, k8, d119 15 (by decide) (by decide) (by decide), d119 56 (by decide) (by decide) (by decide)]
    omega
  · obtain ⟨o1, o2⟩ := V3
    refine ⟨by rw [c 87 (by decide), d119 95 (by decide) (by decide) (by decide)]; exact o1, fun o q1 q2 => ?_⟩
    rw [c 87 (by decide)] at q2
    obtain ⟨a1, a2, a3⟩ := o2 o q1 q2
    rw [d 193 (by decide), d 194 (by decide), d 195 (by decide), c 100 (by decide), c 101 (by decide), c 102 (by decide)]
    refine ⟨a1, by omega, fun p p0 p1 => rv _ _ _ _ (a3 p p0 ?_)⟩
    rw [(cp _ a2.1 a2.2).1] at p1
    exact p1
  · unfold rCt at C ⊢
    rw [c 87 (by decide), c 103 (by decide), k0, d 223 (by decide), d119 117 (by decide) (by decide) (by decide), d119 118 (by decide) (by decide) (by decide), d119 122 (by decide) (by decide) (by decide), d119 126 (by decide) (by decide) (by decide), d119 11 (by decide) (by decide) (by decide), d119 1 (by decide) (by decide) (by decide), d119 127 (by decide) (by decide) (by decide), d119 12 (by decide) (by decide) (by decide), d119 13 (by decide) (by decide) (by decide)]
    exact C
  · unfold rTo at ht ⊢
    rw [d 224 (by decide), c 87 (by decide)]
    exact ht
  · unfold rFa cFa at Fa ⊢
    rw [c 87 (by decide), c 93 (by decide), c 9 (by decide), c 11 (by decide), c 18 (by decide), c 19 (by decide), c 20 (by decide), c 22 (by decide), c 29 (by decide), c 54 (by decide), c 55 (by decide), c 62 (by decide), c 64 (by decide), c 65 (by decide)]
    exact Fa
  · rw [d119 123 (by decide) (by decide) (by decide), ccN_eq (S := Z) (σ := σ) _ fun j _ _ => by rw [c 93 (by decide)]]
/-- a run some of whose codes end -/
theorem RQ.ef (R : RQ σ τ pT hT) (hb : rBk Z X) (e1 : eFr σ Z) (e2 : eFm τ X) (e3 : ∀ i, Z 61 i = σ 61 i ∨ Z 61 i = 0) : RQ Z X pT hT ∧ ndX σ τ Z X := by
  have P := R.1.1.1.ef hb e1 e2 e3
  have R' := R
  obtain ⟨⟨⟨P1, P2⟩, N, M, B⟩, A, ⟨V2, V3⟩, K1, C, Fa⟩ := R'
  have ht := A.2.2.2.2.1
  have c : ∀ a, a ≠ 32 → a ≠ 34 → a ≠ 61 → Z a = σ a := fun a q1 q2 q3 => funext fun i => e1 a i q1 q2 q3
  have d : ∀ a, a ≠ 163 → a ≠ 164 → a ≠ 203 → X a = τ a := fun a q1 q2 q3 => funext fun i => e2 a i q1 q2 q3
  have cs : ∀ s, cS Z s = cS σ s := fun s => cS_mv (c 1 (by decide) (by decide) (by decide)) (c 2 (by decide) (by decide) (by decide)) (c 3 (by decide) (by decide) (by decide))
  have ms : ∀ s, mS X s = mS τ s := fun s => mS_mv fun a q1 q2 => d a (by omega) (by omega) (by omega)
  have rv : ∀ k x t y, rVal Z X k x t y ↔ rVal σ τ k x t y := fun k x t y => by
    unfold rVal rFn cB mB vS vM
    simp only [cs, ms]
    rw [c 0 (by decide) (by decide) (by decide), c 8 (by decide) (by decide) (by decide), c 3 (by decide) (by decide) (by decide), c 6 (by decide) (by decide) (by decide), c 7 (by decide) (by decide) (by decide), c 23 (by decide) (by decide) (by decide), c 87 (by decide) (by decide) (by decide), d 119 (by decide) (by decide) (by decide), d 128 (by decide) (by decide) (by decide), d 155 (by decide) (by decide) (by decide)]
  refine ⟨RQm.toQ (R.toM.hq ⟨P, ?_⟩ (N.mv (fun a q => c a (by omega) (by omega) (by omega)) (d 179 (by decide) (by decide) (by decide))) ?_ ⟨by rw [c 1 (by decide) (by decide) (by decide)]; exact B.1, by rw [d 134 (by decide) (by decide) (by decide)]; exact B.2.1, B.2.2.mv (fun a q => d a (by omega) (by omega) (by omega)) (by rw [d 119 (by decide) (by decide) (by decide)])⟩ ?_ ?_ ?_ (fun k x t y q => (rv k x t y).mpr q) (fun a q => c a (by omega) (by omega) (by omega)) (by rw [c 52 (by decide) (by decide) (by decide)]) (by rw [c 8 (by decide) (by decide) (by decide)]; exact Int.le_refl _) (fun a r q1 q2 _ => by rw [c a (by omega) (by omega) (by omega)]) (fun a p q1 q2 _ => by rw [c a (by omega) (by omega) (by omega)]) (fun j _ => by rw [c 14 (by decide) (by decide) (by decide)]) (fun i q => by rw [c 87 (by decide) (by decide) (by decide)]) (fun a q1 q2 => d a (by omega) (by omega) (by omega)) (fun a j q _ => by rw [d a (by omega) (by omega) (by omega)]) (fun i q => by rw [d 119 (by decide) (by decide) (by decide)])) ?_, ⟨⟨fun a q => c a (by omega) (by omega) (by omega), fun i q => by rw [c 87 (by decide) (by decide) (by decide)], fun a q => d a (by omega) (by omega) (by omega), ?_⟩, fun a q => c a (by omega) (by omega) (by omega), by rw [c 87 (by decide) (by decide) (by decide)], fun a q1 q2 => d a (by omega) (by omega) (by omega), fun i _ => by rw [d 119 (by decide) (by decide) (by decide)], fun k x t y q => (rv k x t y).mpr q⟩⟩
  · unfold rRp at P2 ⊢
    rw [c 8 (by decide) (by decide) (by decide), c 24 (by decide) (by decide) (by decide), c 25 (by decide) (by decide) (by decide)]
    exact P2
  · unfold rRm cRm mRm at M ⊢
    rw [c 0 (by decide) (by decide) (by decide), c 8 (by decide) (by decide) (by decide), c 42 (by decide) (by decide) (by decide), d 119 (by decide) (by decide) (by decide)]
    exact M
  · unfold rOb at V3 ⊢
    simp only [rv]
    rw [c 87 (by decide) (by decide) (by decide), d 119 (by decide) (by decide) (by decide), c 100 (by decide) (by decide) (by decide), c 101 (by decide) (by decide) (by decide), c 102 (by decide) (by decide) (by decide), c 42 (by decide) (by decide) (by decide), c 47 (by decide) (by decide) (by decide), d 193 (by decide) (by decide) (by decide), d 194 (by decide) (by decide) (by decide), d 195 (by decide) (by decide) (by decide)]
    exact V3
  · unfold rCt at C ⊢
    rw [c 87 (by decide) (by decide) (by decide), c 103 (by decide) (by decide) (by decide), c 0 (by decide) (by decide) (by decide), d 223 (by decide) (by decide) (by decide), d 119 (by decide) (by decide) (by decide)]
    exact C
  · unfold rTo at ht ⊢
    rw [d 224 (by decide) (by decide) (by decide), c 87 (by decide) (by decide) (by decide)]
    exact ht
  · unfold rFa cFa at Fa ⊢
    rw [c 87 (by decide) (by decide) (by decide), c 93 (by decide) (by decide) (by decide), c 9 (by decide) (by decide) (by decide), c 11 (by decide) (by decide) (by decide), c 18 (by decide) (by decide) (by decide), c 19 (by decide) (by decide) (by decide), c 20 (by decide) (by decide) (by decide), c 22 (by decide) (by decide) (by decide), c 29 (by decide) (by decide) (by decide), c 54 (by decide) (by decide) (by decide), c 55 (by decide) (by decide) (by decide), c 62 (by decide) (by decide) (by decide), c 64 (by decide) (by decide) (by decide), c 65 (by decide) (by decide) (by decide)]
    exact Fa
  · rw [d 119 (by decide) (by decide) (by decide), ccN_eq (S := Z) (σ := σ) _ fun j _ _ => by rw [c 93 (by decide) (by decide) (by decide)]]
end SHF
