/-! the model lays nodes: what stays, strings, functions -/
/-- functions of the model by their names -/
def fJ (τ : gM) : Prop := (0 ≤ τ 119 56 ∧ τ 119 56 ≤ 9000) ∧ (∀ g, 0 ≤ g → g < τ 119 56 → (0 ≤ τ 155 g ∧ τ 155 g < τ 119 10) ∧ τ 186 (τ 155 g) = g) ∧ (∀ n, 0 ≤ n → n < 9000 → τ 186 n = -1 ∨ ((0 ≤ τ 186 n ∧ τ 186 n < τ 119 56) ∧ τ 155 (τ 186 n) = n))
/-- what stays while nodes are laid (rows of nodes apart); w bounds the room that is taken -/
def mFr (w : Int) (τ T : gM) : Prop := mI T ∧ fJ T ∧ (∀ i, i8 (T 121 i)) ∧ (∀ a, a < 119 ∨ a = 120 ∨ a = 127 ∨ a = 129 ∨ a = 130 ∨ (131 < a ∧ a < 155) ∨ (156 < a ∧ a < 168) ∨ (181 < a ∧ a ≠ 186) → T a = τ a) ∧ (∀ i, i ≠ 9 → i ≠ 10 → i ≠ 15 → i ≠ 56 → T 119 i = τ 119 i) ∧
  mKeep τ T ∧ (∀ i, 60000 ≤ i → T 121 i = τ 121 i) ∧ (∀ g, g < τ 119 56 → T 155 g = τ 155 g ∧ T 156 g = τ 156 g) ∧ (∀ g, τ 119 56 ≤ g → g < T 119 56 → T 156 g = -1) ∧ (∀ i, i < 5 * τ 119 15 ∨ 10000 ≤ i → T 128 i = τ 128 i) ∧
  (τ 119 10 ≤ T 119 10 ∧ 2 * T 119 10 ≤ 2 * τ 119 10 + w) ∧ (τ 119 9 ≤ T 119 9 ∧ T 119 9 ≤ τ 119 9 + w) ∧ (τ 119 15 ≤ T 119 15 ∧ 20 * T 119 15 ≤ 20 * τ 119 15 + w) ∧ (τ 119 56 ≤ T 119 56 ∧ 2 * T 119 56 ≤ 2 * τ 119 56 + w)
/-- room is left -/
def mRm (τ : gM) (w : Int) : Prop := 2 * τ 119 10 + w ≤ 18000 ∧ τ 119 9 + w ≤ 60000 ∧ 20 * τ 119 15 + w ≤ 40000 ∧ 2 * τ 119 56 + w ≤ 18000 ∧ 0 ≤ τ 119 15
section MF
variable {τ T U : gM} {w w' k x y p q : Int} {n : Nat}
theorem mKeep.rf : mKeep τ τ := fun _ h => ⟨h, rfl, rfl, rfl⟩
theorem mKeep.tr (h : mKeep τ T) (h2 : mKeep T U) : mKeep τ U := fun r q => by
  obtain ⟨a1, a2, a3, a4⟩ := h r q
  obtain ⟨b1, b2, b3, b4⟩ := h2 r a1
  exact ⟨b1, b2.trans a2, b3.trans a3, b4.trans a4⟩
theorem mFr.rf (h : mI τ) (g : fJ τ) (h8 : ∀ i, i8 (τ 121 i)) (hw : 0 ≤ w) : mFr w τ τ :=
  ⟨h, g, h8, fun _ _ => rfl, fun _ _ _ _ _ => rfl, mKeep.rf, fun _ _ => rfl, fun _ _ => ⟨rfl, rfl⟩, fun _ _ _ => by omega, fun _ _ => rfl, ⟨Int.le_refl _, by omega⟩, ⟨Int.le_refl _, by omega⟩, ⟨Int.le_refl _, by omega⟩, ⟨Int.le_refl _, by omega⟩⟩
theorem mFr.tr (h : mFr w τ T) (h2 : mFr w' T U) : mFr (w + w') τ U := by
  obtain ⟨a1, a2, a3, a4, a5, a6, a7, a8, a9, a10, a11, a12, a13, a14⟩ := h
  obtain ⟨b1, b2, b3, b4, b5, b6, b7, b8, b9, b10, b11, b12, b13, b14⟩ := h2
  refine ⟨b1, b2, b3, fun a q => (b4 a q).trans (a4 a q), fun i q1 q2 q3 q4 => (b5 i q1 q2 q3 q4).trans (a5 i q1 q2 q3 q4), a6.tr b6, fun i q => (b7 i q).trans (a7 i q), fun g q => ?_, fun g q1 q2 => ?_, fun i q => (b10 i (by omega)).trans (a10 i q), ⟨by omega, by omega⟩, ⟨by omega, by omega⟩, ⟨by omega, by omega⟩, ⟨by omega, by omega⟩⟩
  · obtain ⟨c1, c2⟩ := a8 g q
    obtain ⟨d1, d2⟩ := b8 g (by omega)
    exact ⟨d1.trans c1, d2.trans c2⟩
  · by_cases z : g < T 119 56
    · exact (b8 g z).2.trans (a9 g q1 z)
    · exact b9 g (by omega) q2
theorem mFr.le (h : mFr w τ T) (hw : w ≤ w') : mFr w' τ T := by
  obtain ⟨a1, a2, a3, a4, a5, a6, a7, a8, a9, a10, a11, a12, a13, a14⟩ := h
  exact ⟨a1, a2, a3, a4, a5, a6, a7, a8, a9, a10, ⟨a11.1, by omega⟩, ⟨a12.1, by omega⟩, ⟨a13.1, by omega⟩, ⟨a14.1, by omega⟩⟩
theorem mI_mv (h : mI T) (c9 : U 119 9 = T 119 9) (c10 : U 119 10 = T 119 10) (c12 : U 119 12 = T 119 12) (c13 : U 119 13 = T 119 13) (c : ∀ a, 121 ≤ a → a ≤ 127 → U a = T a) : mI U := by
  unfold mI mKr mRr mS at h ⊢
  rw [c9, c10, c12, c13, c 121 (by decide) (by decide), c 122 (by decide) (by decide), c 123 (by decide) (by decide), c 124 (by decide) (by decide), c 125 (by decide) (by decide), c 126 (by decide) (by decide), c 127 (by decide) (by decide)]
  exact h
theorem mS_mv (c : ∀ a, 121 ≤ a → a ≤ 127 → U a = T a) {r : Int} : mS U r = mS T r := by
  unfold mS
  rw [c 121 (by decide) (by decide), c 122 (by decide) (by decide), c 123 (by decide) (by decide)]
theorem fJ_mv (h : fJ T) (c10 : U 119 10 = T 119 10) (c56 : U 119 56 = T 119 56) (c155 : U 155 = T 155) (c186 : U 186 = T 186) : fJ U := by
  unfold fJ at h ⊢
  rw [c10, c56, c155, c186]
  exact h
/-- rows of nodes, or what is reckoned with, are written to -/
theorem mFr.mv (h : mFr w τ T) (c : ∀ a, a < 131 ∨ (131 < a ∧ a < 168) ∨ 181 < a → U a = T a) : mFr w τ U := by
  obtain ⟨a1, a2, a3, a4, a5, a6, a7, a8, a9, a10, a11, a12, a13, a14⟩ := h
  have e := c 119 (by decide)
  have cc : ∀ a, 121 ≤ a → a ≤ 127 → U a = T a := fun a q1 q2 => c a (by omega)
  refine ⟨mI_mv a1 (by rw [e]) (by rw [e]) (by rw [e]) (by rw [e]) cc, fJ_mv a2 (by rw [e]) (by rw [e]) (c 155 (by decide)) (c 186 (by decide)), by rw [c 121 (by decide)]; exact a3, fun a q => (c a (by omega)).trans (a4 a q), by rw [e]; exact a5, fun r q => ?_, by rw [c 121 (by decide)]; exact a7, by rw [c 155 (by decide), c 156 (by decide)]; exact a8, by rw [e, c 156 (by decide)]; exact a9, by rw [c 128 (by decide)]; exact a10, by rw [e]; exact a11, by rw [e]; exact a12, by rw [e]; exact a13, by rw [e]; exact a14⟩
  obtain ⟨b1, b2, b3, b4⟩ := a6 r q
  refine ⟨?_, by rw [mS_mv cc]; exact b2, by rw [cc 122 (by decide) (by decide)]; exact b3, by rw [cc 123 (by decide) (by decide)]; exact b4⟩
  unfold vM at b1 ⊢
  rw [e]
  exact b1
/-- a function more, nothing else -/
theorem mFr.fn (h : mFr w τ T) (e56 : T 119 56 = τ 119 56) (h2 : mFr 2 T U) (e10 : U 119 10 = T 119 10) (e9 : U 119 9 = T 119 9) (e15 : U 119 15 = T 119 15) (hw : 2 ≤ w) : mFr w τ U := by
  have h3 := h.tr h2
  obtain ⟨a1, a2, a3, a4, a5, a6, a7, a8, a9, a10, a11, a12, a13, a14⟩ := h
  obtain ⟨b1, b2, b3, b4, b5, b6, b7, b8, b9, b10, b11, b12, b13, b14⟩ := h3
  obtain ⟨-, -, -, -, -, -, -, -, -, -, -, -, -, d14⟩ := h2
  exact ⟨b1, b2, b3, b4, b5, b6, b7, b8, b9, b10, by rw [e10]; exact a11, by rw [e9]; exact a12, by rw [e15]; exact a13, ⟨b14.1, by omega⟩⟩
theorem mRm.fr (h : mRm τ (w + w')) (f : mFr w τ T) : mRm T w' := by
  obtain ⟨a1, a2, a3, a4, a5, a6, a7, a8, a9, a10, a11, a12, a13, a14⟩ := f
  obtain ⟨b1, b2, b3, b4, b5⟩ := h
  exact ⟨by omega, by omega, by omega, by omega, by omega⟩
/-- a row of the text is kept -/
theorem md_str (h : mI τ) (g : fJ τ) (h8 : ∀ i, i8 (τ 121 i)) (t8 : ∀ i, i8 (τ 134 i)) (hp : 0 ≤ p ∧ p + n = q ∧ q ≤ 4000) (hw : (n : Int) ≤ w ∧ 2 ≤ w) (hr : mRm τ w) :
    ∃ T k, md_keep_2 τ 134 p q = some (T, k) ∧ mFr w τ T ∧ (0 ≤ k ∧ k < T 119 10) ∧ mS T k = lt (τ 134) p n ∧ (∀ a i, 127 < a → T a i = τ a i) ∧ (∀ i, i ≠ 9 → i ≠ 10 → T 119 i = τ 119 i) := by
  obtain ⟨r1, r2, r3, r4, r5⟩ := hr
  obtain ⟨T, k, e, hT, k0, ek, kp, n10, n9, old, new, c, c119, c121, i8k⟩ := md_keep_2_s (n := n) h (Or.inl rfl) hp.1 hp.2.1 (by have := hp.2.2; exact this) (by omega) t8 (by omega) (by omega)
  have cc : ∀ a i, 127 < a → T a i = τ a i := fun a i z => c a i (by omega) (by omega) (by omega) (by omega) (by omega) (by omega) (by omega)
  have e56 := c119 56 (by decide) (by decide)
  refine ⟨T, k, e, ⟨hT, ?_, i8k h8, fun a z => funext fun i => c a i (by omega) (by omega) (by omega) (by omega) (by omega) (by omega) (by omega), fun i q1 q2 q3 q4 => c119 i q1 q2, kp, c121, fun g _ => ⟨cc 155 g (by decide), cc 156 g (by decide)⟩, fun g q1 q2 => by omega, fun i _ => cc 128 i (by decide), ⟨n10.1, by omega⟩, ⟨n9.1, by omega⟩, ?_, ?_⟩, k0, ek, cc, c119⟩
  · obtain ⟨g1, g2, g3⟩ := g
    unfold fJ
    rw [e56, funext fun i => cc 155 i (by decide), funext fun i => cc 186 i (by decide)]
    exact ⟨g1, fun x q1 q2 => by have := g2 x q1 q2; exact ⟨by omega, this.2⟩, g3⟩
  · rw [c119 15 (by decide) (by decide)]; exact ⟨Int.le_refl _, by omega⟩
  · rw [e56]; exact ⟨Int.le_refl _, by omega⟩
/-- a function by its name -/
theorem md_functionOf_s (h : mI τ) (g : fJ τ) (h8 : ∀ i, i8 (τ 121 i)) (hx : 0 ≤ x ∧ x < τ 119 10) (hw : 2 ≤ w) (h9 : τ 119 10 ≤ 9000) (h56 : τ 119 56 < 9000) :
    ∃ T k, md_functionOf τ x = some (T, k) ∧ mFr w τ T ∧ (0 ≤ k ∧ k < T 119 56) ∧ T 155 k = x ∧ (∀ a i, 127 < a → a ≠ 155 → a ≠ 156 → a ≠ 186 → T a i = τ a i) ∧ T 119 10 = τ 119 10 ∧ T 119 9 = τ 119 9 ∧ (∀ a, 121 ≤ a → a ≤ 127 → T a = τ a) ∧ T 119 15 = τ 119 15 := by
  have h' := h
  obtain ⟨g1, g2, g3⟩ := g
  have x9 : 0 ≤ x ∧ x < 9000 := by omega
  rw [md_functionOf_e, if_pos x9]
  rcases g3 x x9.1 x9.2 with e | ⟨e, e2⟩
  · have r56 : 0 ≤ τ 119 56 ∧ τ 119 56 < 9000 := by omega
    rw [if_pos (by omega), if_pos r56, if_pos r56, if_pos x9, w32_e (x := τ 119 56 + 1) (by omega) (by omega), w32_e (by omega) (by omega), show τ 119 56 + 1 - 1 = τ 119 56 by omega]
    have u : ∀ a i, a ≠ 155 → a ≠ 156 → a ≠ 186 → (a ≠ 119 ∨ i ≠ 56) → gW (gW (gW (gW τ 155 (τ 119 56) x) 156 (τ 119 56) (-1)) 186 x (τ 119 56)) 119 56 (τ 119 56 + 1) a i = τ a i := fun a i q1 q2 q3 q4 => by
      unfold gW
      rw [if_neg (by omega), if_neg (by omega), if_neg (by omega), if_neg (by omega)]
    have u56 : gW (gW (gW (gW τ 155 (τ 119 56) x) 156 (τ 119 56) (-1)) 186 x (τ 119 56)) 119 56 (τ 119 56 + 1) 119 56 = τ 119 56 + 1 := gW_at _ _ _ _
    have u155 : ∀ i, gW (gW (gW (gW τ 155 (τ 119 56) x) 156 (τ 119 56) (-1)) 186 x (τ 119 56)) 119 56 (τ 119 56 + 1) 155 i = if i = τ 119 56 then x else τ 155 i := fun i => by
      rw [gW_c (by decide), gW_c (by decide), gW_c (by decide)]
      by_cases z : i = τ 119 56
      · rw [if_pos z, z, gW_at]
      · rw [if_neg z, gW_i z]
    have u156 : ∀ i, gW (gW (gW (gW τ 155 (τ 119 56) x) 156 (τ 119 56) (-1)) 186 x (τ 119 56)) 119 56 (τ 119 56 + 1) 156 i = if i = τ 119 56 then -1 else τ 156 i := fun i => by
      rw [gW_c (by decide), gW_c (by decide)]
      by_cases z : i = τ 119 56
      · rw [if_pos z, z, gW_at]
      · rw [if_neg z, gW_i z, gW_c (by decide)]
    have u186 : ∀ i, gW (gW (gW (gW τ 155 (τ 119 56) x) 156 (τ 119 56) (-1)) 186 x (τ 119 56)) 119 56 (τ 119 56 + 1) 186 i = if i = x then τ 119 56 else τ 186 i := fun i => by
      rw [gW_c (by decide)]
      by_cases z : i = x
      · rw [if_pos z, z, gW_at]
      · rw [if_neg z, gW_i z, gW_c (by decide), gW_c (by decide)]
    generalize gW (gW (gW (gW τ 155 (τ 119 56) x) 156 (τ 119 56) (-1)) 186 x (τ 119 56)) 119 56 (τ 119 56 + 1) = T at *
    have u119 : ∀ i, i ≠ 56 → T 119 i = τ 119 i := fun i z => u 119 i (by decide) (by decide) (by decide) (Or.inr z)
    have cc : ∀ a, 121 ≤ a → a ≤ 127 → T a = τ a := fun a q1 q2 => funext fun i => u a i (by omega) (by omega) (by omega) (by omega)
    refine ⟨T, τ 119 56, rfl, ⟨mI_mv h (u119 9 (by decide)) (u119 10 (by decide)) (u119 12 (by decide)) (u119 13 (by decide)) cc, ⟨by omega, fun f q1 q2 => ?_, fun m q1 q2 => ?_⟩, by rw [cc 121 (by decide) (by decide)]; exact h8, fun a z => funext fun i => u a i (by omega) (by omega) (by omega) (by omega), fun i _ _ _ q => u119 i q, fun r q => ?_, by rw [cc 121 (by decide) (by decide)]; exact fun _ _ => rfl, fun f q => ?_, fun f q1 q2 => ?_, fun i _ => u 128 i (by decide) (by decide) (by decide) (Or.inl (by decide)), ?_, ?_, ?_, by omega⟩, by omega, by rw [u155, if_pos rfl], fun a i q1 q2 q3 q4 => u a i q2 q3 q4 (by omega), u119 10 (by decide), u119 9 (by decide), cc, u119 15 (by decide)⟩
    · rw [u119 10 (by decide)]
      by_cases z : f = τ 119 56
      · rw [u155, if_pos z, u186, if_pos rfl]
        exact ⟨hx, z.symm⟩
      · rw [u155, if_neg z]
        obtain ⟨b1, b2⟩ := g2 f q1 (by omega)
        refine ⟨b1, ?_⟩
        rw [u186, if_neg, b2]
        intro w
        rw [w] at b2
        omega
    · rw [u186]
      by_cases z : m = x
      · rw [if_pos z, u155, if_pos rfl, z]
        exact Or.inr ⟨by omega, rfl⟩
      · rw [if_neg z]
        rcases g3 m q1 q2 with w | ⟨w, w2⟩
        · exact Or.inl w
        · refine Or.inr ⟨by omega, ?_⟩
          rw [u155, if_neg (by omega)]; exact w2
    · refine ⟨?_, mS_mv cc, by rw [cc 122 (by decide) (by decide)], by rw [cc 123 (by decide) (by decide)]⟩
      unfold vM at q ⊢
      rw [u119 10 (by decide), u119 13 (by decide)]
      exact q
    · rw [u155, if_neg (by omega), u156, if_neg (by omega)]
      exact ⟨rfl, rfl⟩
    · rw [u156, if_pos (by omega)]
    · rw [u119 10 (by decide)]; omega
    · rw [u119 9 (by decide)]; omega
    · rw [u119 15 (by decide)]; omega
  · rw [if_neg (by omega), if_pos x9]
    exact ⟨τ, τ 186 x, rfl, mFr.rf h ⟨g1, g2, g3⟩ h8 (by omega), e, e2, fun _ _ _ _ _ _ => rfl, rfl, rfl, fun _ _ _ => rfl, rfl⟩
end MF
