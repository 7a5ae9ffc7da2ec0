/-! what is related stays related when a function is planted -/
/-- names of roots -/
def rRn (σ τ : gM) : Prop := ∀ r, 0 ≤ r → r < σ 8 31 → rFn σ τ (σ 25 r) (τ 157 r)
/-- functions: their names; the newest roots are the same -/
def rFv (σ τ : gM) : Prop := fI σ ∧ fJ τ ∧ (∀ f g, rFn σ τ f g → τ 156 g = σ 24 f) ∧ (∀ g, 0 ≤ g → g < τ 119 56 → (∀ f, ¬ rFn σ τ f g) → τ 156 g = -1) ∧ (∀ f, 0 ≤ f → f < σ 8 19 → (∀ g, ¬ rFn σ τ f g) → σ 24 f = -1)
/-- both sides before and behind: σ to Z, τ to X -/
def sFr (σ τ Z X : gM) (fn g : Int) : Prop := hI Z ∧ mI X ∧ fI Z ∧ fJ X ∧ (∀ i, i8 (X 121 i)) ∧
  ((∀ a, a = 19 ∨ 38 < a → Z a = σ a) ∧ (∀ a i, 9 ≤ a → a ≤ 18 → i < σ 8 12 → Z a i = σ a i) ∧ (∀ a p, 20 ≤ a → a ≤ 22 → p < σ 8 16 ∨ Z 8 16 ≤ p → Z a p = σ a p) ∧ (σ 8 12 ≤ Z 8 12 ∧ σ 8 16 ≤ Z 8 16 ∧ Z 8 31 = σ 8 31 + 1) ∧
   (∀ s, vS σ s → vS Z s ∧ cS Z s = cS σ s ∧ Z 4 s = σ 4 s ∧ Z 5 s = σ 5 s ∧ Z 3 s = σ 3 s) ∧ (∀ i, i ≠ 7 → i ≠ 8 → i ≠ 9 → Z 0 i = σ 0 i) ∧ (∀ s, 0 ≤ s → σ 0 7 ≤ s → s < Z 0 7 → Z 4 s = -1 ∧ Z 5 s = 0) ∧ (σ 0 7 ≤ Z 0 7 ∧ σ 0 9 ≤ Z 0 9 ∧ σ 8 19 ≤ Z 8 19) ∧
   (∀ f, f < σ 8 19 → Z 23 f = σ 23 f ∧ (f ≠ fn → Z 24 f = σ 24 f)) ∧ (∀ f, σ 8 19 ≤ f → f < Z 8 19 → f ≠ fn → Z 24 f = -1) ∧ (∀ k x, k < σ 0 9 ∨ 8000 ≤ k → cB σ k x → cB Z k x) ∧ (∀ a r, 25 ≤ a → a ≤ 34 → r < σ 8 31 → Z a r = σ a r) ∧ (∀ x, x < 12 * σ 8 31 → Z 35 x = σ 35 x)) ∧
  ((∀ a, a < 119 ∨ a = 120 ∨ a = 127 ∨ a = 129 ∨ a = 130 ∨ (181 < a ∧ a ≠ 186) → X a = τ a) ∧ (∀ i, i ≠ 9 → i ≠ 10 → i ≠ 15 → i ≠ 55 → i ≠ 56 → i ≠ 57 → X 119 i = τ 119 i) ∧ (∀ r, vM τ r → vM X r ∧ mS X r = mS τ r) ∧ (∀ x, x < τ 119 56 → X 155 x = τ 155 x ∧ (x ≠ g → X 156 x = τ 156 x)) ∧ (∀ x, τ 119 56 ≤ x → x < X 119 56 → x ≠ g → X 156 x = -1) ∧ (τ 119 10 ≤ X 119 10 ∧ τ 119 15 ≤ X 119 15 ∧ τ 119 56 ≤ X 119 56 ∧ X 119 55 = σ 8 31 + 1) ∧ (∀ y x, (0 ≤ y ∧ y < τ 119 15) ∨ 2000 ≤ y → mB τ y x → mB X y x) ∧
   (∀ a x, 157 ≤ a → a ≤ 166 → x ≠ σ 8 31 → X a x = τ a x) ∧ (∀ x, x < 12 * σ 8 31 → X 167 x = τ 167 x) ∧ (∀ a y, 168 ≤ a → a ≤ 181 → y < σ 8 12 → X a y = τ a y))
section SF
variable {σ τ Z W X : gM} {f b fn g w : Int}
theorem sFr.of (pF : pFr w σ Z fn) (mD : mDf w τ W (σ 8 31)) (nf : nwF σ τ Z W f b fn g) (rt : rtM W X g) (e55 : τ 119 55 = σ 8 31) (e57 : τ 119 57 = σ 8 12) (hg0 : g < 9000) : sFr σ τ Z X fn g ∧ W 119 55 = σ 8 31 := by
  obtain ⟨a1, a2, a3, a4, a5, a6, a7, a8, a9, a10, a11, a12, a13, a14, a15, a16, a17, a18, a19, a20⟩ := pF
  obtain ⟨b1, b2, b3, b4, b5, b6, b7, b8, b9, b10, b11, b12, b13, b14, b15, b16⟩ := mD
  obtain ⟨⟨n1, n2, n3⟩, ⟨n4, n4'⟩, n5, ⟨n6, n7, n8, n9⟩, -⟩ := nf
  obtain ⟨r1, r2, ⟨r3, r4, r5, r6, r7, r8⟩, r9, r10, r11, r12, r13⟩ := rt
  have w55 : W 119 55 = σ 8 31 := by rw [b5 55 (by decide) (by decide) (by decide) (by decide) (by decide), e55]
  rw [w55] at r1 r3 r4 r5 r6 r7 r8 r9 r12 r13
  have cX : ∀ a, a ≠ 119 → a ≠ 156 → a ≠ 157 → (a < 163 ∨ 167 < a) → X a = W a := fun a q1 q2 q3 q4 => funext fun i => r10 a i q1 q2 q3 q4
  have cc : ∀ a, 121 ≤ a → a ≤ 127 → X a = W a := fun a q1 q2 => cX a (by omega) (by omega) (by omega) (by omega)
  have mX : mI X := mI_mv b1 (r2 9 (by decide)) (r2 10 (by decide)) (r2 12 (by decide)) (r2 13 (by decide)) cc
  have fX : fJ X := fJ_mv b2 (r2 10 (by decide)) (r2 56 (by decide)) (cX 155 (by decide) (by decide) (by decide) (by decide)) (cX 186 (by decide) (by decide) (by decide) (by decide))
  refine ⟨⟨a1, mX, a2, fX, by rw [cc 121 (by decide) (by decide)]; exact b3, ⟨fun a q => a3 a q, a5, a6, by omega, fun s q => ?_, a9, a11, by omega, a12, a13, fun k x q h => ?_, a19, a20⟩, ⟨fun a q => ?_, fun i q1 q2 q3 q4 q5 q6 => ?_, fun r q => ?_, fun x q => ?_, fun x q1 q2 q3 => ?_, ⟨?_, ?_, ?_, r1⟩, fun y x q h => ?_, fun a x q1 q2 q3 => ?_, fun x q => ?_, fun a y q1 q2 q3 => ?_⟩⟩, w55⟩
  · obtain ⟨m1, m2, m3, m4, m5⟩ := a8 s q
    refine ⟨?_, m1, m2, m3, m5⟩
    unfold vS at q ⊢
    rw [a9 10 (by decide) (by decide) (by decide)]
    omega
  · obtain ⟨m1, m2, m3, m4, m5⟩ := a14 k q
    unfold cB at h ⊢
    rw [m1, m2, m3, m4, m5]
    exact h
  · rw [cX a (by omega) (by omega) (by omega) (by omega), b4 a (by omega)]
  · rw [r2 i q4, b5 i q1 q2 q3 q5 q6]
  · obtain ⟨m1, m2, -⟩ := b6 r q
    refine ⟨?_, by rw [mS_mv cc]; exact m2⟩
    unfold vM at m1 ⊢
    rw [r2 10 (by decide), r2 13 (by decide)]
    exact m1
  · obtain ⟨m1, m2⟩ := b8 x q
    exact ⟨by rw [cX 155 (by decide) (by decide) (by decide) (by decide), m1], fun z => by rw [r11 x z, m2]⟩
  · rw [r2 56 (by decide)] at q2
    rw [r11 x q3]
    exact b9 x q1 q2
  · rw [r2 10 (by decide)]; exact b11.1
  · rw [r2 15 (by decide)]; exact b13.1
  · rw [r2 56 (by decide)]; exact b14.1
  · unfold mB at h ⊢
    rw [cX 128 (by decide) (by decide) (by decide) (by decide), b10 _ (by omega), b10 _ (by omega), b10 _ (by omega), b10 _ (by omega), b10 _ (by omega)]
    exact h
  · by_cases z : a = 157 ∨ 163 ≤ a
    · rw [r12 a x (by omega) q3, b4 a (by omega)]
    · rw [r10 a x (by omega) (by omega) (by omega) (by omega), b15 a x (by omega) (by omega) q3]
  · rw [r13 x (Or.inl q), b4 167 (by decide)]
  · rw [r10 a y (by omega) (by omega) (by omega) (by omega), b16 a y q1 q2 (by omega)]
theorem rFn.fr {f' g' : Int} (F : sFr σ τ Z X fn g) (h1 : fI σ) (h2 : fJ τ) (h : rFn σ τ f' g') : rFn Z X f' g' := by
  obtain ⟨-, -, -, -, -, ⟨-, -, -, -, a5, -, -, ⟨-, -, a8⟩, a9, -⟩, ⟨-, -, b3, b4, -, ⟨-, -, b6, -⟩, -⟩⟩ := F
  obtain ⟨q1, q2, q3⟩ := h
  refine ⟨by omega, by omega, ?_⟩
  have s1 := (h1.2.1 f' q1.1 q1.2).1
  have s2 := (h2.2.1 g' q2.1 q2.2).1
  rw [(a9 f' q1.2).1, (b4 g' q2.2).1, (a5 _ (Or.inl s1)).2.1, (b3 _ (Or.inl s2)).2]
  exact q3
theorem rVal.fr {k x t y : Int} (F : sFr σ τ Z X fn g) (h1 : fI σ) (h2 : fJ τ) (gr : rGr σ τ) (h : rVal σ τ k x t y) : rVal Z X k x t y := by
  have F' := F
  obtain ⟨-, -, -, -, -, ⟨a1, -, -, -, a5, a6, -, ⟨-, a7, a8⟩, -, -, a11, -⟩, ⟨b1, b2, b3, b4, -, ⟨-, b6, -⟩, b7, -⟩⟩ := F'
  rcases h with h | ⟨e1, e2, e3, e4, z, e5, e6⟩ | ⟨e1, e2, e3, e4, e5, e6⟩ | h | h | ⟨e1, e2, h⟩ | h
  · exact Or.inl h
  · refine Or.inr (Or.inl ⟨e1, e2, ?_, ?_, z, a11 x z (by omega) e5, b7 y z (by omega) e6⟩)
    · rw [a6 12 (by decide) (by decide) (by decide)]; omega
    · rcases e4 with w | w
      · exact Or.inl (by omega)
      · refine Or.inr ⟨w.1, ?_⟩
        rw [b2 _ (by decide) (by decide) (by decide) (by decide) (by decide) (by decide)]
        exact w.2
  · obtain ⟨m1, m2, m3, m4, m5⟩ := a5 x e3
    obtain ⟨n1, n2⟩ := b3 y e4
    exact Or.inr (Or.inr (Or.inl ⟨e1, e2, m1, n1, by rw [m2, n2]; exact e5, by rw [m5]; exact e6⟩))
  · exact Or.inr (Or.inr (Or.inr (Or.inl h)))
  · exact Or.inr (Or.inr (Or.inr (Or.inr (Or.inl h))))
  · exact Or.inr (Or.inr (Or.inr (Or.inr (Or.inr (Or.inl ⟨e1, e2, h.fr F h1 h2⟩)))))
  · refine Or.inr (Or.inr (Or.inr (Or.inr (Or.inr (Or.inr ?_)))))
    rw [a1 _ (Or.inr (by decide))]
    exact h
theorem kst.fr {n : Int} (F : sFr σ τ Z X fn g) (h1 : fI σ) (h2 : fJ τ) (gr : rGr σ τ) (hn : n < σ 8 12) (h : kst σ τ n) : kst Z X n := by
  have F' := F
  obtain ⟨-, -, -, -, -, ⟨-, a2, -, -, a5, -, -, ⟨a7, a7', -⟩, -⟩, ⟨-, -, b3, -, -, ⟨b6, b6', -⟩, -, -, -, b10⟩⟩ := F'
  unfold kst at h ⊢
  rw [a2 9 n (by decide) (by decide) hn, a2 14 n (by decide) (by decide) hn, a2 16 n (by decide) (by decide) hn, a2 17 n (by decide) (by decide) hn, b10 171 n (by decide) (by decide) hn, b10 176 n (by decide) (by decide) hn, b10 177 n (by decide) (by decide) hn]
  refine ⟨fun q => ⟨(h.1 q).1.fr F h1 h2 gr, (h.1 q).2.1, fun w => by have := (h.1 q).2.2.1 w; omega, fun w => by have := (h.1 q).2.2.2 w; omega⟩, fun q => ?_⟩
  rcases h.2 q with ⟨e1, e2, e3, e4, e5, e6⟩ | z
  · obtain ⟨m1, m2, m3, m4, m5⟩ := a5 _ (Or.inl e3)
    obtain ⟨n1, n2⟩ := b3 _ (Or.inl e4)
    exact Or.inl ⟨e1, e2, by omega, by omega, by rw [m2, n2]; exact e5, by rw [m5]; exact e6⟩
  · exact Or.inr z
end SF
