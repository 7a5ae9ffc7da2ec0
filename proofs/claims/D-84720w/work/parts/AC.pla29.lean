/-! the model defines a function -/
section LF
variable {σ τ T U : gM} {f b k r A i : Int}
theorem nh_v {x : Int} (h : -1 ≤ x ∧ x < b) (hb : nd σ b ≤ 4003) : nh σ x = -1 ∨ (0 ≤ nh σ x ∧ nh σ x < 4004) := by
  unfold nh
  by_cases z : x < 0
  · rw [if_pos z]; exact Or.inl rfl
  · rw [if_neg z]
    have := nd_r (σ := σ) (i := x) (j := b) (by omega) (by omega)
    have := nd_pos (σ := σ) (i := x) (by omega)
    exact Or.inr (by omega)
theorem ph_v {x : Int} (h : -1 ≤ x ∧ x < b) (hb : nd σ b ≤ 4003) (h30 : σ 70 x = 30 → 0 ≤ σ 72 x ∧ σ 72 x < b) : ph σ x = -1 ∨ (0 ≤ ph σ x ∧ ph σ x < 4004) := by
  unfold ph ps
  by_cases z : x < 0
  · rw [if_pos z]; exact Or.inl rfl
  · rw [if_neg z]
    by_cases q : σ 70 x = 30
    · rw [if_pos q]
      have w := h30 q
      have := nd_r (σ := σ) (i := σ 72 x) (j := b) (by omega) (by omega)
      have := nd_pos (σ := σ) (i := σ 72 x) (by omega)
      exact Or.inr (by omega)
    · rw [if_neg q]
      have := nd_r (σ := σ) (i := x) (j := b) (by omega) (by omega)
      have := nd_pos (σ := σ) (i := x) (by omega)
      exact Or.inr (by omega)
/-- what laying needs of a node -/
theorem NB.lV (hX : tX σ τ) (nb : NB σ τ 1 f A b) (hi : A ≤ i ∧ i < b) (A0 : 0 ≤ A) (hb : nd σ b ≤ 4003) (k30 : σ 70 i ≠ 30) (h144 : 0 ≤ τ 144 (nd σ i) ∧ τ 144 (nd σ i) < 16000) (h141 : τ 141 (nd σ i) = -1 ∨ (0 ≤ τ 141 (nd σ i) ∧ τ 141 (nd σ i) < 4004)) : lV σ τ f i (nd σ i) := by
  have rn := (nb i hi.1 hi.2).1 k30
  obtain ⟨⟨r1, r1', r1''⟩, r2, r3, r4, r5, r6, r7, r8, r9⟩ := rn
  obtain ⟨q1, q2, q3, q4, q5, q6, q7⟩ := r3
  have np := nd_pos (σ := σ) (i := i) (by omega)
  have nr := nd_r (σ := σ) (i := i) (j := b) (by omega) (by omega)
  have hl := hX.2.1
  have p73 : σ 70 i = 24 ∨ σ 70 i = 25 → ph σ (σ 73 i) = -1 ∨ (0 ≤ ph σ (σ 73 i) ∧ ph σ (σ 73 i) < 4004) := fun w => by
    rcases (q7 w).1 with y | y
    · rw [y]; exact Or.inl rfl
    · exact ph_v (b := b) ⟨q3, q4⟩ hb fun z => (nb (σ 73 i) (by omega) q4).2 z
  have p74 : σ 70 i = 24 ∨ σ 70 i = 25 → ph σ (σ 74 i) = -1 ∨ (0 ≤ ph σ (σ 74 i) ∧ ph σ (σ 74 i) < 4004) := fun w => by
    rcases (q7 w).2 with y | y
    · rw [y]; exact Or.inl rfl
    · exact ph_v (b := b) ⟨q5, q6⟩ hb fun z => (nb (σ 74 i) (by omega) q6).2 z
  have n72 := nh_v (σ := σ) (b := b) (x := σ 72 i) ⟨q1, q2⟩ hb
  have n73 := nh_v (σ := σ) (b := b) (x := σ 73 i) ⟨q3, q4⟩ hb
  have n74 := nh_v (σ := σ) (b := b) (x := σ 74 i) ⟨q5, q6⟩ hb
  have wn : 0 ≤ wt σ i := by
    unfold wt
    split
    · rename_i z
      have : 1 ≤ σ 77 i := by
        rcases z with z | z | z | z
        · exact (r8 (Or.inl z)).2.2.1.2.1
        · exact (r8 (Or.inr (Or.inl z))).2.2.1.2.1
        · exact (r8 (Or.inr (Or.inr (Or.inr (Or.inl z))))).2.2.1.2.1
        · exact (r8 (Or.inr (Or.inr (Or.inr (Or.inr z))))).2.2.1.2.1
      omega
    · omega
  refine ⟨by omega, h144, ⟨r1, r1', r1''⟩, ?_, fun z => ?_, ?_, h141, fun z => ?_, wn, fun z => r9 (by omega)⟩
  · rw [r4]
    split
    · exact n74
    · exact n72
  · rw [r5 z]
    split
    · rename_i w; exact p73 w
    · exact n73
  · rw [r6]
    split
    · exact Or.inl rfl
    · split
      · rename_i w; exact p74 (Or.inl w)
      · exact n74
  · have z' : σ 70 i = 1 ∨ σ 70 i = 2 ∨ (σ 70 i = 5 ∧ (1 : Int) = 0) ∨ σ 70 i = 7 ∨ ((σ 70 i = 21 ∨ σ 70 i = 22) ∧ σ 73 i = -1) := by
      rcases z with z | z | z | ⟨z, z2⟩
      · exact Or.inl z
      · exact Or.inr (Or.inl z)
      · exact Or.inr (Or.inr (Or.inr (Or.inl z)))
      · refine Or.inr (Or.inr (Or.inr (Or.inr ⟨z, ?_⟩)))
        rw [r5 (by omega), if_neg (by omega)] at z2
        unfold nh at z2
        by_cases y : σ 73 i < 0
        · omega
        · rw [if_neg y] at z2
          have := nd_pos (σ := σ) (i := σ 73 i) (by omega)
          omega
    obtain ⟨e1, e2, e3, e4, e5, e6, e7⟩ := r8 z'
    have w1 : wt σ i = σ 77 i + 1 := wt_1 (by rcases z' with z | z | z | z | z <;> omega)
    rw [e1, e2, w1]
    exact ⟨by omega, by omega, fun y => ⟨by have := (e4 y).1; omega, (e4 y).2⟩, fun y => by have := (e5 y).1; omega⟩
/-- the model's frame while a function is defined, its nodes apart -/
def mDf (w : Int) (τ T : gM) (r : Int) : Prop := mI T ∧ fJ T ∧ (∀ i, i8 (T 121 i)) ∧ (∀ a, a < 119 ∨ a = 120 ∨ a = 127 ∨ a = 129 ∨ a = 130 ∨ (131 < a ∧ a < 155 ∧ a ≠ 144) ∨ a = 157 ∨ (162 < a ∧ a < 168) ∨ (181 < a ∧ a ≠ 186) → T a = τ a) ∧ (∀ i, i ≠ 9 → i ≠ 10 → i ≠ 15 → i ≠ 56 → i ≠ 57 → T 119 i = τ 119 i) ∧
  mKeep τ T ∧ (∀ i, 60000 ≤ i → T 121 i = τ 121 i) ∧ (∀ g, g < τ 119 56 → T 155 g = τ 155 g ∧ T 156 g = τ 156 g) ∧ (∀ g, τ 119 56 ≤ g → g < T 119 56 → T 156 g = -1) ∧ (∀ i, i < 5 * τ 119 15 ∨ 10000 ≤ i → T 128 i = τ 128 i) ∧
  (τ 119 10 ≤ T 119 10 ∧ 2 * T 119 10 ≤ 2 * τ 119 10 + w) ∧ (τ 119 9 ≤ T 119 9 ∧ T 119 9 ≤ τ 119 9 + w) ∧ (τ 119 15 ≤ T 119 15 ∧ 20 * T 119 15 ≤ 20 * τ 119 15 + w) ∧ (τ 119 56 ≤ T 119 56 ∧ 2 * T 119 56 ≤ 2 * τ 119 56 + w) ∧ (∀ a x, 158 ≤ a → a ≤ 162 → x ≠ r → T a x = τ a x) ∧ (∀ a y, 168 ≤ a → a ≤ 181 → y < τ 119 57 → T a y = τ a y)
/-- a function is defined, up to its root -/
def mPl (σ τ W : gM) (f b fn : Int) : Prop := W 119 57 = τ 119 57 + (nd σ b - nd σ (σ 81 f)) ∧ (W 158 (τ 119 55) = τ 119 57 ∧ W 159 (τ 119 55) = nd σ b - nd σ (σ 81 f) ∧ W 160 (τ 119 55) = σ 83 f ∧ W 161 (τ 119 55) = σ 84 f ∧ W 162 (τ 119 55) = nO W (ph σ (σ 82 f))) ∧
  (∀ x, σ 81 f ≤ x → x < b → σ 70 x ≠ 30 → mN1 W (nd σ x) (W 144 (nd σ x)) (τ 119 55) (lcN σ x)) ∧ (∀ i, 0 ≤ i → i < σ 83 f → W 144 (nd σ (σ 81 f + i)) = τ 119 57 + i) ∧ (∃ d, QT σ (fun i => W 144 (nd σ i)) d 2 (σ 81 f + σ 83 f) b (σ 82 f) (τ 119 57 + σ 83 f)) ∧ (0 ≤ fn ∧ fn < W 119 56) ∧ (0 ≤ W 155 fn ∧ W 155 fn < W 119 10) ∧ mS W (W 155 fn) = lt (τ 134) (σ 79 f) (σ 80 f).toNat
end LF
