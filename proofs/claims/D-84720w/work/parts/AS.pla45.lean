/-! what stays while functions are defined -/
/-- n functions more; w bounds the room that is taken -/
def dFr (w n : Int) (σ τ Z X : gM) : Prop := ((∀ k x t y, rVal σ τ k x t y → rVal Z X k x t y) ∧ (∀ f g, rFn σ τ f g → rFn Z X f g)) ∧
  ((∀ a, a = 19 ∨ 38 < a → a ≠ 61 → Z a = σ a) ∧ (∀ i, Z 61 i = σ 61 i ∨ Z 61 i = 0) ∧ (∀ a i, 9 ≤ a → a ≤ 18 → i < σ 8 12 → Z a i = σ a i) ∧ (∀ a p, 20 ≤ a → a ≤ 22 → p < σ 8 16 ∨ Z 8 16 ≤ p → Z a p = σ a p) ∧ (∀ a r, 25 ≤ a → a ≤ 33 → a ≠ 32 → r < σ 8 31 → Z a r = σ a r) ∧ (∀ x, x < 12 * σ 8 31 → Z 35 x = σ 35 x) ∧
   (∀ s, vS σ s → vS Z s ∧ cS Z s = cS σ s ∧ Z 4 s = σ 4 s ∧ Z 5 s = σ 5 s ∧ Z 3 s = σ 3 s ∧ Z 2 s = σ 2 s) ∧ (∀ i, i ≠ 7 → i ≠ 8 → i ≠ 9 → Z 0 i = σ 0 i) ∧ (∀ i, i ≠ 12 → i ≠ 16 → i ≠ 19 → (i < 31 ∨ 37 < i) → Z 8 i = σ 8 i) ∧ (∀ i, 24000 ≤ i ∨ i < σ 0 8 → Z 1 i = σ 1 i) ∧
   (σ 8 12 ≤ Z 8 12 ∧ σ 8 16 ≤ Z 8 16 ∧ Z 8 31 = σ 8 31 + n) ∧ (σ 0 7 ≤ Z 0 7 ∧ 2 * Z 0 7 ≤ 2 * σ 0 7 + w) ∧ (σ 0 8 ≤ Z 0 8 ∧ Z 0 8 ≤ σ 0 8 + w) ∧ (σ 0 9 ≤ Z 0 9 ∧ 20 * Z 0 9 ≤ 20 * σ 0 9 + w) ∧ (σ 8 19 ≤ Z 8 19 ∧ 2 * Z 8 19 ≤ 2 * σ 8 19 + w)) ∧
  ((∀ a, a < 119 ∨ a = 120 ∨ a = 127 ∨ a = 129 ∨ a = 130 ∨ (131 < a ∧ a < 155 ∧ a ≠ 144) ∨ (181 < a ∧ a ≠ 186 ∧ a ≠ 203) → X a = τ a) ∧ (∀ i, i ≠ 9 → i ≠ 10 → i ≠ 15 → i ≠ 55 → i ≠ 56 → i ≠ 57 → X 119 i = τ 119 i) ∧ (∀ r, vM τ r → vM X r ∧ mS X r = mS τ r) ∧ (∀ a x, 157 ≤ a → a ≤ 166 → a ≠ 163 → a ≠ 164 → x < σ 8 31 → X a x = τ a x) ∧ (∀ x, x < 12 * σ 8 31 → X 167 x = τ 167 x) ∧ (∀ a y, 168 ≤ a → a ≤ 181 → y < σ 8 12 → X a y = τ a y) ∧ (∀ i, 60000 ≤ i → X 121 i = τ 121 i) ∧
   (τ 119 10 ≤ X 119 10 ∧ 2 * X 119 10 ≤ 2 * τ 119 10 + w) ∧ (τ 119 9 ≤ X 119 9 ∧ X 119 9 ≤ τ 119 9 + w) ∧ (τ 119 15 ≤ X 119 15 ∧ 20 * X 119 15 ≤ 20 * τ 119 15 + w) ∧ (τ 119 56 ≤ X 119 56 ∧ 2 * X 119 56 ≤ 2 * τ 119 56 + w ∧ ∀ g, g < τ 119 56 → X 155 g = τ 155 g))
section SM
variable {σ τ Z W X Z' X' : gM} {f b fn g w w' n n' : Int}
theorem dFr.rf : dFr 0 0 σ τ σ τ := ⟨⟨fun _ _ _ _ h => h, fun _ _ h => h⟩, ⟨fun _ _ _ => rfl, fun _ => Or.inl rfl, fun _ _ _ _ _ => rfl, fun _ _ _ _ _ => rfl, fun _ _ _ _ _ _ => rfl, fun _ _ => rfl, fun s h => ⟨h, rfl, rfl, rfl, rfl, rfl⟩, fun _ _ _ _ => rfl, fun _ _ _ _ _ => rfl, fun _ _ => rfl, by omega, by omega, by omega, by omega, by omega⟩, ⟨fun _ _ => rfl, fun _ _ _ _ _ _ _ => rfl, fun _ h => ⟨h, rfl⟩, fun _ _ _ _ _ _ _ => rfl, fun _ _ => rfl, fun _ _ _ _ _ => rfl, fun _ _ => rfl, by omega, by omega, by omega, ⟨by omega, by omega, fun _ _ => rfl⟩⟩⟩
theorem dFr.tr (h : dFr w n σ τ Z X) (h' : dFr w' n' Z X Z' X') (hn : 0 ≤ n) (p8 : Z 8 16 ≤ Z' 8 16) : dFr (w + w') (n + n') σ τ Z' X' := by
  obtain ⟨⟨a1, a2⟩, ⟨b1, b2, b3, b4, b5, b6, b7, b8, b9, b10, b11, b12, b13, b14, b15⟩, ⟨c1, c2, c3, c4, c5, c6, c7, c8, c9, c10, c11⟩⟩ := h
  obtain ⟨⟨A1, A2⟩, ⟨B1, B2, B3, B4, B5, B6, B7, B8, B9, B10, B11, B12, B13, B14, B15⟩, ⟨C1, C2, C3, C4, C5, C6, C7, C8, C9, C10, C11⟩⟩ := h'
  refine ⟨⟨fun k x t y q => A1 k x t y (a1 k x t y q), fun f g q => A2 f g (a2 f g q)⟩, ⟨fun a q1 q2 => by rw [B1 a q1 q2, b1 a q1 q2], fun i => ?_, fun a i q1 q2 q3 => by rw [B3 a i q1 q2 (by omega), b3 a i q1 q2 q3], fun a p q1 q2 q3 => ?_, fun a r q1 q2 q3 q4 => by rw [B5 a r q1 q2 q3 (by omega), b5 a r q1 q2 q3 q4], fun x q => by rw [B6 x (by omega), b6 x q], fun s q => ?_, fun i q1 q2 q3 => by rw [B8 i q1 q2 q3, b8 i q1 q2 q3], fun i q1 q2 q3 q4 => by rw [B9 i q1 q2 q3 q4, b9 i q1 q2 q3 q4], fun i q => by rw [B10 i (by omega), b10 i q], by omega, by omega, by omega, by omega, by omega⟩, ⟨fun a q => by rw [C1 a q, c1 a q], fun i q1 q2 q3 q4 q5 q6 => by rw [C2 i q1 q2 q3 q4 q5 q6, c2 i q1 q2 q3 q4 q5 q6], fun r q => ?_, fun a x q1 q2 q3 q4 q5 => by rw [C4 a x q1 q2 q3 q4 (by omega), c4 a x q1 q2 q3 q4 q5], fun x q => by rw [C5 x (by omega), c5 x q], fun a y q1 q2 q3 => by rw [C6 a y q1 q2 (by omega), c6 a y q1 q2 q3], fun i q => by rw [C7 i q, c7 i q], by omega, by omega, by omega, ⟨by omega, by omega, fun g q => by rw [C11.2.2 g (by omega), c11.2.2 g q]⟩⟩⟩
  · rcases B2 i with z | z
    · rw [z]; exact b2 i
    · exact Or.inr z
  · rw [B4 a p q1 q2 (by omega), b4 a p q1 q2 (by omega)]
  · obtain ⟨m1, m2, m3, m4, m5, m6⟩ := b7 s q
    obtain ⟨M1, M2, M3, M4, M5, M6⟩ := B7 s m1
    exact ⟨M1, by rw [M2, m2], by rw [M3, m3], by rw [M4, m4], by rw [M5, m5], by rw [M6, m6]⟩
  · obtain ⟨m1, m2⟩ := c3 r q
    obtain ⟨M1, M2⟩ := C3 r m1
    exact ⟨M1, by rw [M2, m2]⟩
theorem dFr.le (h : dFr w n σ τ Z X) (hw : w ≤ w') : dFr w' n σ τ Z X := by
  obtain ⟨a, ⟨b1, b2, b3, b4, b5, b6, b7, b8, b9, b10, b11, b12, b13, b14, b15⟩, ⟨c1, c2, c3, c4, c5, c6, c7, c8, c9, c10, c11⟩⟩ := h
  exact ⟨a, ⟨b1, b2, b3, b4, b5, b6, b7, b8, b9, b10, b11, by omega, by omega, by omega, by omega⟩, ⟨c1, c2, c3, c4, c5, c6, c7, by omega, by omega, by omega, ⟨by omega, by omega, c11.2.2⟩⟩⟩
/-- one function -/
theorem dFr.of (pF : pFr w σ Z fn) (mD : mDf w τ W (σ 8 31)) (rt : rtM W X g) (F : sFr σ τ Z X fn g) (w55 : W 119 55 = σ 8 31) (h1 : fI σ) (h2 : fJ τ) (gr : rGr σ τ) : dFr w 1 σ τ Z X := by
  have F' := F
  obtain ⟨-, -, -, -, -, ⟨s1, s2, s3, s4, s5, s6, s7, s8, s9, s10, s11, s12, s13⟩, ⟨t1, t2, t3, t4, t5, t6, t7, t8, t9, t10⟩⟩ := F'
  obtain ⟨a1, a2, a3, a4, a5, a6, a7, a8, a9, a10, a11, a12, a13, a14, a15, a16, a17, a18, a19, a20⟩ := pF
  obtain ⟨b1, b2, b3, b4, b5, b6, b7, b8, b9, b10, b11, b12, b13, b14, b15, b16⟩ := mD
  obtain ⟨r1, r2, ⟨r3, r4, r5, r6, r7, r8⟩, r9, r10, r11, r12, r13⟩ := rt
  have cX : ∀ a, a ≠ 119 → a ≠ 156 → a ≠ 157 → (a < 163 ∨ 167 < a) → X a = W a := fun a q1 q2 q3 q4 => funext fun i => r10 a i q1 q2 q3 q4
  refine ⟨⟨fun k x t y q => q.fr F h1 h2 gr, fun f g q => q.fr F h1 h2⟩, ⟨fun a q1 _ => a3 a q1, fun i => Or.inl (by rw [a3 61 (by decide)]), s2, s3, fun a r q1 q2 _ q4 => s12 a r q1 (by omega) q4, s13, fun s q => ⟨(s5 s q).1, (s5 s q).2.1, (s5 s q).2.2.1, (s5 s q).2.2.2.1, (s5 s q).2.2.2.2, (a8 s q).2.2.2.1⟩, s6, a4, a10, by omega, a15, a16, a17, a18⟩, ⟨fun a q => ?_, t2, t3, fun a x q1 q2 _ _ q5 => t8 a x q1 q2 (by omega), t9, t10, fun i q => ?_, ?_, ?_, ?_, ?_⟩⟩
  · rw [cX a (by omega) (by omega) (by omega) (by omega), b4 a (by omega)]
  · rw [cX 121 (by decide) (by decide) (by decide) (by decide), b7 i q]
  · rw [r2 10 (by decide)]; exact b11
  · rw [r2 9 (by decide)]; exact b12
  · rw [r2 15 (by decide)]; exact b13
  · rw [r2 56 (by decide)]; exact ⟨b14.1, b14.2, fun x q => (t4 x q).1⟩
/-- codes end -/
theorem dFr.ef (h : dFr w n σ τ Z X) (e1 : eFr Z Z') (e2 : eFm X X') (e3 : ∀ i, Z' 61 i = Z 61 i ∨ Z' 61 i = 0) : dFr w n σ τ Z' X' := by
  have c : ∀ a, a ≠ 32 → a ≠ 34 → a ≠ 61 → Z' a = Z a := fun a q1 q2 q3 => funext fun i => e1 a i q1 q2 q3
  have d : ∀ a, a ≠ 163 → a ≠ 164 → a ≠ 203 → X' a = X a := fun a q1 q2 q3 => funext fun i => e2 a i q1 q2 q3
  have cs : ∀ s, cS Z' s = cS Z s := fun s => cS_mv (c 1 (by decide) (by decide) (by decide)) (c 2 (by decide) (by decide) (by decide)) (c 3 (by decide) (by decide) (by decide))
  have ms : ∀ s, mS X' s = mS X s := fun s => mS_mv fun a q1 q2 => d a (by omega) (by omega) (by omega)
  have vs : ∀ s, vS Z' s ↔ vS Z s := fun s => by unfold vS; rw [c 0 (by decide) (by decide) (by decide)]
  have vm : ∀ s, vM X' s ↔ vM X s := fun s => by unfold vM; rw [d 119 (by decide) (by decide) (by decide)]
  have c8 := c 8 (by decide) (by decide) (by decide)
  have d119 := d 119 (by decide) (by decide) (by decide)
  have fn : ∀ f g, rFn Z' X' f g ↔ rFn Z X f g := fun f g => by
    unfold rFn
    rw [c8, d119, cs, ms, c 23 (by decide) (by decide) (by decide), d 155 (by decide) (by decide) (by decide)]
  have rv : ∀ k x t y, rVal Z' X' k x t y ↔ rVal Z X k x t y := fun k x t y => by
    unfold rVal cB mB
    simp only [fn, vs, vm, cs, ms]
    rw [c 0 (by decide) (by decide) (by decide), c 3 (by decide) (by decide) (by decide), c 6 (by decide) (by decide) (by decide), c 7 (by decide) (by decide) (by decide), c 87 (by decide) (by decide) (by decide), d119, d 128 (by decide) (by decide) (by decide)]
  obtain ⟨⟨a1, a2⟩, ⟨b1, b2, b3, b4, b5, b6, b7, b8, b9, b10, b11, b12, b13, b14, b15⟩, ⟨c1, c2, c3, c4, c5, c6, c7, c8', c9, c10, c11⟩⟩ := h
  refine ⟨⟨fun k x t y q => (rv k x t y).mpr (a1 k x t y q), fun f g q => (fn f g).mpr (a2 f g q)⟩, ⟨fun a q1 q2 => by rw [c a (by omega) (by omega) q2, b1 a q1 q2], fun i => ?_, fun a i q1 q2 q3 => by rw [c a (by omega) (by omega) (by omega), b3 a i q1 q2 q3], fun a p q1 q2 q3 => ?_, fun a r q1 q2 q3 q4 => by rw [c a (by omega) (by omega) (by omega), b5 a r q1 q2 q3 q4], fun x q => by rw [c 35 (by decide) (by decide) (by decide), b6 x q], fun s q => ?_, fun i q1 q2 q3 => by rw [c 0 (by decide) (by decide) (by decide), b8 i q1 q2 q3], fun i q1 q2 q3 q4 => by rw [c8, b9 i q1 q2 q3 q4], fun i q => by rw [c 1 (by decide) (by decide) (by decide), b10 i q], by rw [c8]; exact b11, by rw [c 0 (by decide) (by decide) (by decide)]; exact b12, by rw [c 0 (by decide) (by decide) (by decide)]; exact b13, by rw [c 0 (by decide) (by decide) (by decide)]; exact b14, by rw [c8]; exact b15⟩, ⟨fun a q => by rw [d a (by omega) (by omega) (by omega), c1 a q], fun i q1 q2 q3 q4 q5 q6 => by rw [d119, c2 i q1 q2 q3 q4 q5 q6], fun r q => ?_, fun a x q1 q2 q3 q4 q5 => by rw [d a q3 q4 (by omega), c4 a x q1 q2 q3 q4 q5], fun x q => by rw [d 167 (by decide) (by decide) (by decide), c5 x q], fun a y q1 q2 q3 => by rw [d a (by omega) (by omega) (by omega), c6 a y q1 q2 q3], fun i q => by rw [d 121 (by decide) (by decide) (by decide), c7 i q], by rw [d119]; exact c8', by rw [d119]; exact c9, by rw [d119]; exact c10, ⟨by rw [d119]; exact c11.1, by rw [d119]; exact c11.2.1, fun g q => by rw [d 155 (by decide) (by decide) (by decide)]; exact c11.2.2 g q⟩⟩⟩
  · rcases e3 i with z | z
    · rw [z]; exact b2 i
    · exact Or.inr z
  · rw [c8] at q3
    rw [c a (by omega) (by omega) (by omega), b4 a p q1 q2 q3]
  · obtain ⟨m1, m2, m3, m4, m5, m6⟩ := b7 s q
    rw [vs, cs, c 4 (by decide) (by decide) (by decide), c 5 (by decide) (by decide) (by decide), c 3 (by decide) (by decide) (by decide), c 2 (by decide) (by decide) (by decide)]
    exact ⟨m1, m2, m3, m4, m5, m6⟩
  · obtain ⟨m1, m2⟩ := c3 r q
    rw [vm, ms]
    exact ⟨m1, m2⟩
end SM
