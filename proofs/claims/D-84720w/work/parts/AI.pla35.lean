/-! nodes of a function on both sides -/
/-- constants of a node -/
def kst (Z W : gM) (x : Int) : Prop := ((Z 9 x = 1 ∨ Z 9 x = 2 ∨ Z 9 x = 3 ∨ Z 9 x = 4 ∨ Z 9 x = 7) → rVal Z W (Z 16 x) (Z 17 x) (W 176 x) (W 177 x) ∧ Z 16 x ≠ 6 ∧ (Z 16 x = 2 → (0 ≤ Z 17 x ∧ Z 17 x < Z 0 7) ∧ 0 ≤ W 177 x ∧ W 177 x < W 119 10) ∧ (Z 16 x = 1 → (0 ≤ Z 17 x ∧ Z 17 x < Z 0 9) ∧ 0 ≤ W 177 x ∧ W 177 x < W 119 15)) ∧ ((Z 9 x = 21 ∨ Z 9 x = 22) → (W 171 x = -1 ∧ Z 14 x = 1 ∧ (0 ≤ Z 17 x ∧ Z 17 x < Z 0 7) ∧ (0 ≤ W 177 x ∧ W 177 x < W 119 10) ∧ cS Z (Z 17 x) = mS W (W 177 x) ∧ Z 3 (Z 17 x) ≤ 12) ∨ (0 ≤ W 171 x ∧ Z 14 x = 0))
/-- a new node -/
def nwN (Z W : gM) (hi r L x : Int) : Prop := rN1 Z W x ∧ W 174 x = r ∧ (Z 18 x = 0 ∧ Z 12 x = 0 ∧ Z 11 x = 0 ∧ W 179 x = 0) ∧ (8 ≤ Z 9 x → Z 9 x ≤ 17 → W 170 x = x + 1 ∧ W 171 x = Z 15 (x + 1) ∧ x + 1 < hi ∧ 0 ≤ Z 15 (x + 1) ∧ Z 15 (x + 1) < hi) ∧ (Z 9 x = 6 → W 170 x = x + 1 ∧ x + 1 < hi) ∧ kst Z W x ∧ ((Z 9 x = 0 ∨ Z 9 x = 5 ∨ Z 9 x = 6) → 0 ≤ Z 13 x ∧ Z 13 x < L) ∧ (0 ≤ Z 9 x ∧ Z 9 x ≤ 28)
section NW
variable {σ Z W : gM} {N : Int → Int} {f b A lo hi r i : Int}
theorem cS_sz {s : Int} {g : Int → Int} {a : Int} {n : Nat} (h : hI Z) (hs : vS Z s) (e : cS Z s = lt g a n) : Z 3 s = n := by
  have := congrArg List.length e
  unfold cS at this
  rw [lt_len, lt_len] at this
  have := (h.v hs).2.2.2.1
  omega
/-- the constant of a node of the body -/
theorem kst_of (hZ : hI Z) (nb : NB σ W 1 f A b) (hi1 : A ≤ i ∧ i < b) (k30 : σ 70 i ≠ 30) (cz : ∀ e, 69 ≤ e → e ≤ 78 → Z e = σ e) (tx : ∀ j, 0 ≤ j → j < σ 69 2 → tl Z j = W 134 j) (c1 : cN1 Z i (N i)) (m1 : mN1 W (nd σ i) (N i) r (lcN σ i)) (cl : cell σ Z W N lo hi i) (p73 : σ 73 i = -1 ∨ 0 ≤ σ 73 i) (lo0 : ∀ y, 0 ≤ y → A ≤ y → y < b → σ 70 y ≠ 30 → 0 ≤ N y) (q73 : (σ 70 i = 21 ∨ σ 70 i = 22) → 0 ≤ σ 73 i → 0 ≤ N (σ 73 i)) : kst Z W (N i) := by
  obtain ⟨⟨r1, r1', r1''⟩, r2, r3, r4, r5, r6, r7, r8, r9⟩ := (nb i hi1.1 hi1.2).1 k30
  obtain ⟨⟨o9, -, -, -, -, -, o14⟩, k1, k2, k3, k4, k5, k6⟩ := c1
  obtain ⟨⟨w168, -⟩, n1, n2, n3, n4, n5, n6⟩ := m1
  rw [cz 70 (by decide) (by decide)] at o9 o14 k1 k2 k3 k4 k5 k6
  rw [cz 73 (by decide) (by decide)] at o14 k6
  rw [cz 76 (by decide) (by decide)] at k1 k2 k5 k6
  rw [cz 77 (by decide) (by decide)] at k1 k2 k3 k5 k6
  rw [r1] at n1 n2 n3 n4 n5 n6 w168
  have c171 := cl.2.2.1
  have txl : ∀ (z : Int) (n : Nat), 0 ≤ z → z + n ≤ σ 69 2 → lt (tl Z) z n = lt (W 134) z n := fun z n z0 z1 => lt_eq.mpr fun j hj => tx _ (by omega) (by omega)
  constructor
  · intro hk
    rw [o9] at hk
    rcases hk with e | e | e | e | e
    · -- a number
      obtain ⟨e1, e2, e3, e4, -⟩ := r8 (Or.inl e)
      have k1 := k1 e
      have n1 := n1 e
      rw [e1, e2, show σ 76 i + σ 77 i - σ 76 i = σ 77 i by omega] at n1
      rw [dvN_congr (g := W 134) _ fun j hj => tx _ (by omega) (by omega)] at k1
      rcases k1 with ⟨x1, x2, x3⟩ | ⟨x1, x2, x3, x4⟩
      · rcases n1 with ⟨y1, y2, y3⟩ | ⟨y1, -⟩
        · exact ⟨Or.inl ⟨x2, y2, by rw [x3, y3], by rw [x3]; exact x1⟩, by omega, fun _ => by omega, fun _ => by omega⟩
        · exact (y1 x1).elim
      · rcases n1 with ⟨y1, -⟩ | ⟨y1, y2, y3, y4⟩
        · exact (x1 y1).elim
        · exact ⟨Or.inr (Or.inl ⟨x2, y2, Or.inl x3, Or.inl y3, _, x4, y4⟩), by omega, fun _ => by omega, fun _ => ⟨x3, y3⟩⟩
    · -- a string
      obtain ⟨e1, e2, e3, -, e5, -⟩ := r8 (Or.inr (Or.inl e))
      have e5 := e5 e
      obtain ⟨x1, x2, x3⟩ := k2 e
      obtain ⟨y1, y2, y3⟩ := n2 e
      rw [e1, e2, show σ 76 i + σ 77 i - σ 76 i - 2 = σ 77 i - 2 by omega] at y3
      have sz := cS_sz hZ (Or.inl x2) x3
      rw [txl _ _ (by omega) (by omega)] at x3
      exact ⟨Or.inr (Or.inr (Or.inl ⟨x1, y1, Or.inl x2, Or.inl y2, by rw [x3, y3], by omega⟩)), by omega, fun _ => ⟨x2, y2⟩, fun _ => by omega⟩
    · obtain ⟨x1, x2⟩ := k3 e
      obtain ⟨y1, y2⟩ := n3 e
      refine ⟨Or.inr (Or.inr (Or.inr (Or.inl ⟨x1, y1, ?_, ?_⟩))), by omega, fun _ => by omega, fun _ => by omega⟩
      · rw [x2, y2]
        rcases r7 e with ⟨z1, z2⟩ | ⟨z1, z2⟩
        · rw [if_pos z1, if_pos z2]
        · rw [if_neg (by omega), if_neg (by omega)]
      · rw [x2]; split <;> omega
    · obtain ⟨x1, x2⟩ := k4 e
      obtain ⟨y1, y2⟩ := n4 e
      exact ⟨Or.inr (Or.inr (Or.inr (Or.inr (Or.inl ⟨x1, y1, x2, y2⟩)))), by omega, fun _ => by omega, fun _ => by omega⟩
    · obtain ⟨e1, e2, e3, -⟩ := r8 (Or.inr (Or.inr (Or.inr (Or.inl e))))
      obtain ⟨x1, x2, x3⟩ := k5 e
      obtain ⟨y1, y2, y3⟩ := n5 e
      rw [e1, e2, show σ 76 i + σ 77 i - σ 76 i = σ 77 i by omega] at y3
      rw [txl _ _ (by omega) (by omega)] at x3
      exact ⟨Or.inr (Or.inr (Or.inr (Or.inr (Or.inr (Or.inl ⟨x1, y1, x2, y2, by rw [x3, y3]⟩))))), by omega, fun _ => by omega, fun _ => by omega⟩
  · intro hk
    rw [o9] at hk
    have c171 := c171 (by omega)
    rw [if_neg (by omega)] at c171
    rcases p73 with e | e
    · obtain ⟨e1, e2, e3, -, -, e6, -⟩ := r8 (Or.inr (Or.inr (Or.inr (Or.inr ⟨hk, e⟩))))
      have e6 := e6 (by omega) (by omega)
      obtain ⟨x1, x2, x3⟩ := k6 hk e
      have w139 : W 139 (nd σ i) = -1 := by rw [r5 (by omega), if_neg (by omega), e]; rfl
      obtain ⟨y2, y3⟩ := n6 hk w139
      rw [e1, e2, show σ 76 i + σ 77 i - σ 76 i = σ 77 i by omega] at y3
      have sz := cS_sz hZ (Or.inl x2) x3
      rw [txl _ _ (by omega) (by omega)] at x3
      refine Or.inl ⟨by rw [c171, e]; rfl, ?_, x2, y2, by rw [x3, y3], by omega⟩
      rw [o14, if_neg (by omega), if_pos ⟨hk, e⟩]
    · refine Or.inr ⟨by rw [c171, Nh_p e]; exact q73 hk e, ?_⟩
      rw [o14, if_neg (by omega), if_neg (by omega)]
theorem rN1_new {x k p : Int} (o9 : Z 9 x = k) (w168 : W 168 x = k) (o10 : Z 10 x = p) (w169 : W 169 x = p) (o11 : Z 11 x = 0) (w178 : W 178 x = 0) (o12 : Z 12 x = 0) (w180 : W 180 x = 0) (loc : W 175 x = Z 13 x) (o18 : Z 18 x = 0) (w181 : W 181 x = 0) : rN1 Z W x :=
  ⟨by rw [w168, o9], by rw [w169, o10], ⟨by rw [w178, o11], by rw [o11]; decide, by rw [o11]; decide⟩, by rw [w180, o12], loc, ⟨by rw [w181, o18], by rw [o18]; decide, by rw [o18]; decide⟩, fun j j0 j1 => by rw [o18] at j1; omega⟩
theorem loc_eq {k a : Int} (h : k ≠ 0) : (if k = 0 ∨ k = 5 ∨ k = 6 then a else -1) = (if k = 5 ∨ k = 6 then a else -1) := by
  by_cases z : k = 5 ∨ k = 6
  · rw [if_pos z, if_pos (Or.inr z)]
  · rw [if_neg z, if_neg (by omega)]
/-- a node of the body -/
theorem nwN_of (hZ : hI Z) (nb : NB σ W 1 f A b) (hi1 : A ≤ i ∧ i < b) (k30 : σ 70 i ≠ 30) (k0 : σ 70 i ≠ 0) (cz : ∀ e, 69 ≤ e → e ≤ 78 → Z e = σ e) (c1 : cN1 Z i (N i)) (en : cEn Z N hi i) (m1 : mN1 W (nd σ i) (N i) r (lcN σ i)) (cl : cell σ Z W N lo hi i) (lo0 : 0 ≤ lo) (ks : kst Z W (N i)) (p73 : 8 ≤ σ 70 i → σ 70 i ≤ 17 → 0 ≤ σ 72 i ∧ 0 ≤ σ 73 i ∧ lo ≤ N (σ 73 i)) (p74 : σ 70 i = 6 → 0 ≤ σ 74 i) : nwN Z W hi r (σ 84 f) (N i) := by
  obtain ⟨⟨r1, r1', r1''⟩, r2, -, -, -, -, -, -, r9⟩ := (nb i hi1.1 hi1.2).1 k30
  clear nb
  obtain ⟨⟨o9, o10, o11, o12, o18, o13, -⟩, -⟩ := c1
  obtain ⟨⟨w168, w169, -, -, -, -, w174, w175, w178, w179, w180, w181⟩, -⟩ := m1
  obtain ⟨c168, c170, c171, -, crg, -⟩ := cl
  rw [cz 70 (by decide) (by decide)] at o9 o13
  rw [cz 71 (by decide) (by decide)] at o10
  rw [cz 76 (by decide) (by decide)] at o13
  unfold cEn at en
  rw [cz 70 (by decide) (by decide), cz 72 (by decide) (by decide), cz 73 (by decide) (by decide), cz 74 (by decide) (by decide)] at en
  rw [r1] at w168
  rw [r2] at w169
  unfold lcN at w175
  rw [loc_eq k0] at w175
  refine ⟨rN1_new o9 w168 o10 w169 o11 w178 o12 w180 (w175.trans o13.symm) o18 w181, w174, ⟨o18, o12, o11, w179⟩, fun q1 q2 => ?_, fun q => ?_, ks, fun q => ?_, by rw [o9]; exact ⟨r1', r1''⟩⟩
  · rw [o9] at q1 q2
    obtain ⟨x1, x2, x3, x4⟩ := en.1 q1 q2
    obtain ⟨y1, y2, y3⟩ := p73 q1 q2
    have c171 := c171 (by clear c170 c171 o13 w175; omega)
    clear o13 w175 r9 p73 p74 en
    rw [if_neg (by clear c170 c171; omega), Nh_p y1] at c170
    rw [if_neg (by clear c170 c171; omega), Nh_p y2] at c171
    exact ⟨by omega, by omega, x3, by omega, by omega⟩
  · rw [o9] at q
    obtain ⟨x1, x2⟩ := en.2 q
    rw [if_pos q, Nh_p (p74 q)] at c170
    exact ⟨by rw [c170, x1], x2⟩
  · rw [o9] at q
    have il := r9 (by clear c170 c171 o13 w175; omega)
    rw [o13, if_pos (by clear c170 c171 o13 w175; omega)]
    exact il.1
/-- a thing given -/
theorem nwN_par (nb : NB σ W 1 f A b) (hi1 : A ≤ i ∧ i < b) (k0 : σ 70 i = 0) (o : oN Z 0 (σ 71 i) (i - A) 0 (N i)) (h76 : σ 76 i = i - A) (m1 : mN1 W (nd σ i) (N i) r (lcN σ i)) : nwN Z W hi r (σ 84 f) (N i) := by
  obtain ⟨⟨r1, r1', r1''⟩, r2, -, -, -, -, -, -, r9⟩ := (nb i hi1.1 hi1.2).1 (by omega)
  clear nb
  obtain ⟨o9, o10, o11, o12, o18, o13, -⟩ := o
  obtain ⟨⟨w168, w169, -, -, -, -, w174, w175, w178, w179, w180, w181⟩, -⟩ := m1
  rw [r1, k0] at w168
  rw [r2] at w169
  unfold lcN at w175
  rw [if_pos (Or.inl k0), h76] at w175
  have il := (r9 (Or.inl k0)).1
  exact ⟨rN1_new o9 w168 o10 w169 o11 w178 o12 w180 (w175.trans o13.symm) o18 w181, w174, ⟨o18, o12, o11, w179⟩, fun q1 q2 => by omega, fun q => by omega, ⟨fun q => by omega, fun q => by omega⟩, fun q => by omega, by omega⟩
end NW
