/-! the model lays one node -/
def nO (τ : gM) (x : Int) : Int := if x = -1 then -1 else τ 144 x
/-- what a node gets whatever it is -/
def lay0 (τ X : gM) (j k r : Int) : Prop := (∀ a i, ¬ (168 ≤ a ∧ a ≤ 181 ∧ i = k) → X a i = τ a i) ∧ X 168 k = τ 135 j ∧ X 169 k = τ 136 j ∧ X 170 k = nO τ (τ 138 j) ∧ X 171 k = (if τ 135 j = 3 then -1 else nO τ (τ 139 j)) ∧ X 172 k = nO τ (τ 140 j) ∧ X 173 k = nO τ (τ 141 j) ∧ X 174 k = r ∧ X 175 k = -1 ∧ (X 176 k = 0 ∧ X 177 k = 0) ∧ X 178 k = 0 ∧ X 179 k = 0 ∧ X 180 k = 0 ∧ X 181 k = 0
/-- what it gets by its kind -/
noncomputable def layT (X : gM) (f j k e b p q : Int) : Option (gM × Int) :=
  if e = 0 then md_lay_b295 X f j k 0
  else if e = 1 then ((md_number_2 X k p q).bind fun p3 => some (p3.1, 0))
  else if e = 2 then ((md_keep_2 (gW X 176 k 4) 134 (w32 (p + 1)) (w32 (q - 1))).bind fun p4 => if 0 ≤ k ∧ k < 20000 then some (gW p4.1 177 k p4.2, 0) else none)
  else if e = 3 then (if b = 17 then md_lay_b461 (gW X 176 k 1) 1 k else md_lay_b461 (gW X 176 k 1) 0 k)
  else if e = 5 then md_lay_b295 X f j k 0
  else if e = 6 then md_lay_b295 X f j k 0
  else if e = 7 then ((md_keep_2 (gW X 176 k 5) 134 p q).bind fun p5 => (md_functionOf p5.1 p5.2).bind fun p6 => if 0 ≤ k ∧ k < 20000 then some (gW p6.1 177 k p6.2, 0) else none)
  else if e = 21 then (if b = -1 then ((md_keep_2 X 134 p q).bind fun p7 => if 0 ≤ k ∧ k < 20000 then some (gW p7.1 177 k p7.2, 0) else none) else some (X, 0))
  else if e = 22 then (if b = -1 then ((md_keep_2 X 134 p q).bind fun p8 => if 0 ≤ k ∧ k < 20000 then some (gW p8.1 177 k p8.2, 0) else none) else some (X, 0))
  else some (X, 0)
section LY
variable {σ τ T X : gM} {f j k r : Int}
theorem nO_of {Y : gM} {x : Int} (h : Y 144 = τ 144) (hx : x = -1 ∨ (0 ≤ x ∧ x < 4004)) : md_numberOf Y x = some (Y, nO τ x) := by
  rw [md_numberOf_s hx, h]
  rfl
theorem lay_b81 {Y : gM} {y : Int} (hj : 0 ≤ j ∧ j < 4004) (hk : 0 ≤ k ∧ k < 20000) (h140 : τ 140 j = -1 ∨ (0 ≤ τ 140 j ∧ τ 140 j < 4004)) (h141 : τ 141 j = -1 ∨ (0 ≤ τ 141 j ∧ τ 141 j < 4004)) (c : ∀ a i, a < 168 → Y a i = τ a i) :
    md_lay_b81 Y f j r k y k = layT (gW (gW (gW (gW (gW (gW (gW (gW (gW (gW (gW Y 171 k y) 172 k (nO τ (τ 140 j))) 173 k (nO τ (τ 141 j))) 174 k r) 175 k (-1)) 178 k 0) 179 k 0) 180 k 0) 181 k 0) 176 k 0) 177 k 0) f j k (τ 135 j) (τ 139 j) (τ 142 j) (τ 143 j) := by
  have c1 : ∀ a i, a < 168 → gW Y 171 k y a i = τ a i := fun a i q => by rw [gW_c (by omega)]; exact c a i q
  rw [md_lay_b81_e, if_pos hk, if_pos hj, c 140 j (by decide), nO_of (τ := τ) (funext fun i => c1 144 i (by decide)) h140]
  simp only [Option.bind_some]
  have c2 : ∀ a i, a < 168 → gW (gW Y 171 k y) 172 k (nO τ (τ 140 j)) a i = τ a i := fun a i q => by rw [gW_c (by omega)]; exact c1 a i q
  rw [if_pos hk, if_pos hj, c1 141 j (by decide), nO_of (τ := τ) (funext fun i => c2 144 i (by decide)) h141]
  simp only [Option.bind_some]
  rw [if_pos hk, if_pos hk, if_pos hk, if_pos hk, if_pos hk, if_pos hk, if_pos hk, if_pos hk, if_pos hk, if_pos hj, c2 135 j (by decide), c2 139 j (by decide), c2 142 j (by decide), c2 143 j (by decide)]
  unfold layT
  simp only [if_pos hk, if_pos hj]
theorem lay_head (hj : 0 ≤ j ∧ j < 4004) (hk : 0 ≤ τ 144 j ∧ τ 144 j < 20000) (h138 : τ 138 j = -1 ∨ (0 ≤ τ 138 j ∧ τ 138 j < 4004)) (h139 : τ 135 j ≠ 3 → τ 139 j = -1 ∨ (0 ≤ τ 139 j ∧ τ 139 j < 4004)) (h140 : τ 140 j = -1 ∨ (0 ≤ τ 140 j ∧ τ 140 j < 4004)) (h141 : τ 141 j = -1 ∨ (0 ≤ τ 141 j ∧ τ 141 j < 4004)) :
    ∃ X, md_lay τ f j r = layT X f j (τ 144 j) (τ 135 j) (τ 139 j) (τ 142 j) (τ 143 j) ∧ lay0 τ X j (τ 144 j) r := by
  have c1 : ∀ a i, a < 168 → gW (gW τ 168 (τ 144 j) (τ 135 j)) 169 (τ 144 j) (τ 136 j) a i = τ a i := fun a i q => by rw [gW_c (by omega), gW_c (by omega)]
  have c2 : ∀ a i, a < 168 → gW (gW (gW τ 168 (τ 144 j) (τ 135 j)) 169 (τ 144 j) (τ 136 j)) 170 (τ 144 j) (nO τ (τ 138 j)) a i = τ a i := fun a i q => by rw [gW_c (by omega)]; exact c1 a i q
  rw [md_lay_e, if_pos hj, if_pos hj, if_pos hk, if_pos hj, if_pos hk, if_pos hj, nO_of (τ := τ) (funext fun i => c1 144 i (by decide)) h138]
  simp only [Option.bind_some]
  rw [if_pos hk, if_pos hj, c1 135 j (by decide)]
  have fin : ∀ y, lay0 τ (gW (gW (gW (gW (gW (gW (gW (gW (gW (gW (gW (gW (gW (gW τ 168 (τ 144 j) (τ 135 j)) 169 (τ 144 j) (τ 136 j)) 170 (τ 144 j) (nO τ (τ 138 j))) 171 (τ 144 j) y) 172 (τ 144 j) (nO τ (τ 140 j))) 173 (τ 144 j) (nO τ (τ 141 j))) 174 (τ 144 j) r) 175 (τ 144 j) (-1)) 178 (τ 144 j) 0) 179 (τ 144 j) 0) 180 (τ 144 j) 0) 181 (τ 144 j) 0) 176 (τ 144 j) 0) 177 (τ 144 j) 0) j (τ 144 j) r ↔ (y = if τ 135 j = 3 then -1 else nO τ (τ 139 j)) := fun y => by
    constructor
    · intro h
      have := h.2.2.2.2.1
      simp [gW] at this
      exact this
    · intro h
      refine ⟨fun a i q => ?_, ?_, ?_, ?_, ?_, ?_, ?_, ?_, ?_, ⟨?_, ?_⟩, ?_, ?_, ?_, ?_⟩
      · unfold gW
        rw [if_neg (by omega), if_neg (by omega), if_neg (by omega), if_neg (by omega), if_neg (by omega), if_neg (by omega), if_neg (by omega), if_neg (by omega), if_neg (by omega), if_neg (by omega), if_neg (by omega), if_neg (by omega), if_neg (by omega), if_neg (by omega)]
      all_goals simp [gW]
      exact h
  by_cases z : τ 135 j = 3
  · rw [if_pos z, lay_b81 hj hk h140 h141 c2]
    exact ⟨_, rfl, (fin _).mpr (by rw [if_pos z])⟩
  · rw [if_neg z, if_pos hj, c1 139 j (by decide), nO_of (τ := τ) (funext fun i => c2 144 i (by decide)) (h139 z)]
    simp only [Option.bind_some]
    rw [lay_b81 hj hk h140 h141 c2]
    exact ⟨_, rfl, (fin _).mpr (by rw [if_neg z])⟩
/-- which local a node is for -/
theorem lay_loc {L : Int} (hX : tX σ X) (hL : pL σ X f) (hf : 0 ≤ f ∧ f < 51) (hj : 0 ≤ j ∧ j < 4004) (hk : 0 ≤ k ∧ k < 20000) (il : isLoc σ X f L (X 142 j) (X 143 j)) (h1 : X 175 k = -1) :
    ∃ U, md_lay_b295 X f j k 0 = some (U, 0) ∧ (∀ a i, ¬ (a = 175 ∧ i = k) → U a i = X a i) ∧ U 175 k = L := by
  obtain ⟨l1, l2, l3, l4⟩ := hL
  obtain ⟨i1, i2, i3⟩ := il
  have hl := hX.2.1
  have loop : ∀ (m : Nat) (l : Int) (Y : gM), 0 ≤ l → l + m = σ 84 f → (∀ a i, ¬ (a = 175 ∧ i = k) → Y a i = X a i) → (Y 175 k = if L < l then L else -1) → ∃ U, md_lay_b295 Y f j k l = some (U, 0) ∧ (∀ a i, ¬ (a = 175 ∧ i = k) → U a i = X a i) ∧ U 175 k = L := by
    intro m
    induction m with
    | zero =>
      intro l Y l0 hl' c e
      refine ⟨Y, ?_, c, by rw [e, if_pos (by omega)]⟩
      rw [md_lay_b295_e, if_pos hf, c 152 f (by omega), l2, if_neg (by omega)]
    | succ m ih =>
      intro l Y l0 hl' c e
      obtain ⟨b1, b2, b3, b4, b5⟩ := l3 l l0 (by omega)
      have hXY : tX σ Y := by
        unfold tX at hX ⊢
        rw [c 119 23 (by omega), show Y 134 = X 134 from funext fun i => c 134 i (by omega)]
        exact hX
      obtain ⟨r, r01, -, e2, e3⟩ := isSame_s hXY (p := σ 85 (12 * f + l)) (n := σ 86 (12 * f + l)) (q := X 142 j) (m := X 143 j - X 142 j) (by omega) (by omega)
      rw [show X 142 j + (X 143 j - X 142 j) = X 143 j by omega] at e2
      have tEY : ∀ p n q m, tE Y p n q m ↔ tE X p n q m := fun p n q m => tE.mv (show Y 134 = X 134 from funext fun i => c 134 i (by omega))
      rw [md_lay_b295_e, if_pos hf, c 152 f (by omega), l2, if_pos (by omega), w32_e (x := 12 * f) (by omega) (by omega), w32_e (x := 12 * f + l) (by omega) (by omega), if_pos (by omega), if_pos (by omega), if_pos hj, if_pos hj, c 153 _ (by omega), c 154 _ (by omega), c 142 j (by omega), c 143 j (by omega), b1, b2, e2]
      simp only [Option.bind_some]
      have hit : tE X (σ 85 (12 * f + l)) (σ 86 (12 * f + l)) (X 142 j) (X 143 j - X 142 j) ↔ l = L := by
        constructor
        · intro h
          by_cases z : l = L
          · exact z
          · exfalso
            rcases Int.lt_trichotomy l L with w | w | w
            · exact l4 l L l0 w (by omega) (h.trans i2.symm)
            · exact z w
            · exact l4 L l i1.1 w (by omega) (i2.trans h.symm)
        · intro h
          rw [h]; exact i2
      rw [tEY, hit] at e3
      rcases r01 with q | q
      · rw [q, if_pos rfl, md_lay_b358_e, w32_e (by omega) (by omega)]
        refine ih (l + 1) Y (by omega) (by omega) c ?_
        have : l ≠ L := fun w => by have := e3.mpr w; omega
        rw [e]
        by_cases w : L < l
        · rw [if_pos w, if_pos (by omega)]
        · rw [if_neg w, if_neg (by omega)]
      · rw [q, if_neg (by decide), if_pos hk, md_lay_b358_e, w32_e (by omega) (by omega)]
        have : l = L := e3.mp q
        refine ih (l + 1) _ (by omega) (by omega) (fun a i z => by unfold gW; rw [if_neg z]; exact c a i z) ?_
        rw [gW_at, if_pos (by omega), this]
  exact loop (σ 84 f).toNat 0 X (Int.le_refl _) (by omega) (fun _ _ _ => rfl) (by rw [h1, if_neg (by omega)])
end LY
