/-! all that is related of a program; it stays so when a function is planted -/
/-- roots: what they are given, their locals, their trees -/
def rR1 (σ τ : gM) (r : Int) : Prop := (τ 160 r = σ 30 r ∧ τ 161 r = σ 31 r ∧ (0 ≤ σ 30 r ∧ σ 30 r ≤ 6) ∧ (σ 30 r ≤ σ 31 r ∧ σ 31 r ≤ 12) ∧ σ 30 r ≤ σ 27 r) ∧ (∀ i, 0 ≤ i → i < σ 30 r → σ 9 (σ 26 r + i) = 0 ∧ σ 13 (σ 26 r + i) = i) ∧ RX σ τ (σ 26 r) (σ 26 r + σ 27 r) (-1) (-1) 2 (τ 162 r) 0 (σ 28 r) (σ 28 r + σ 29 r - 2) ∧ cI σ (σ 28 r + σ 29 r - 2) 17 0 (-1) ∧ cI σ (σ 28 r + σ 29 r - 1) 16 0 (-1) ∧ (∀ n, σ 26 r ≤ n → n < σ 26 r + σ 27 r → (σ 9 n = 0 ∨ σ 9 n = 5 ∨ σ 9 n = 6) → 0 ≤ σ 13 n ∧ σ 13 n < σ 31 r)
def rRo (σ τ : gM) : Prop := ∀ r, 4 ≤ r → r < σ 8 31 → rR1 σ τ r
/-- the given functions' rows -/
def gv4 (σ τ : gM) : Prop := (∀ r, 0 ≤ r → r < 4 → σ 27 r = 0 ∧ τ 159 r = 0 ∧ σ 31 r = 0 ∧ τ 161 r = 0) ∧ ∀ f, 0 ≤ f → f < σ 8 19 → 0 ≤ σ 24 f → σ 24 f < 4 → cS σ (σ 23 f) = tx (σ 24 f + 1)
/-- constants and kinds of nodes -/
def rKs (σ τ : gM) : Prop := (∀ n, 0 ≤ n → n < σ 8 12 → kst σ τ n ∧ 0 ≤ σ 9 n ∧ σ 9 n ≤ 28) ∧ gv4 σ τ
/-- sorts of locals -/
def rSo (σ τ : gM) : Prop := ∀ r l, 0 ≤ r → r < σ 8 31 → 0 ≤ l → l < 12 → τ 167 (12 * r + l) = σ 35 (12 * r + l) ∧ 0 ≤ σ 35 (12 * r + l) ∧ σ 35 (12 * r + l) ≤ 3
def chN (σ : gM) (a : Int) : Nat → Int
  | 0 => 0
  | n + 1 => chN σ a n + σ 12 (a + n)
/-- how often nodes of a root have changed -/
def rCh (σ τ : gM) : Prop := ∀ r, 0 ≤ r → r < σ 8 31 → τ 166 r = w32 (chN σ (σ 26 r) (σ 27 r).toNat)
/-- all of a program -/
def rPg (σ τ : gM) : Prop := (hI σ ∧ mI τ ∧ ∀ i, i8 (τ 121 i)) ∧ rFv σ τ ∧ rRn σ τ ∧ rKn σ τ ∧ rGr σ τ ∧ rSh σ τ ∧ sCa σ ∧ rBk σ τ ∧ rNd σ τ ∧ rCs σ τ ∧ rIn σ ∧ (rUn σ ∧ rCp σ ∧ rVc σ) ∧ rQu σ τ ∧ rRo σ τ ∧ rKs σ τ ∧ rSo σ τ ∧ rCh σ τ
section SI
variable {σ τ Z W X : gM} {f b fn g w L : Int}
theorem c1F_mv (c43 : Z 43 = σ 43) (c45 : Z 45 = σ 45) : ∀ (d : Nat) (s : Int), c1F d Z s = c1F d σ s
  | 0, _ => rfl
  | d + 1, s => by
    unfold c1F
    rw [c43, c45, c1F_mv c43 c45 d]
theorem cn1_mv (c43 : Z 43 = σ 43) (c45 : Z 45 = σ 45) {s : Int} : cn1 Z s = cn1 σ s := c1F_mv c43 c45 _ _
theorem rSh.fr (F : sFr σ τ Z X fn g) (h : rSh σ τ) : rSh Z X := by
  obtain ⟨-, -, -, -, -, ⟨a1, -⟩, ⟨b1, b2, b3, -, -, ⟨b6, -⟩, -⟩⟩ := F
  obtain ⟨h1, h2, h3, h4, h5, h6, h7, h8⟩ := h
  have c : ∀ a, 42 ≤ a → a ≤ 51 → Z a = σ a := fun a q1 q2 => a1 a (by omega)
  have sn : ∀ k, sN Z k = sN σ k := fun k => by
    unfold sN
    rw [c 48 (by decide) (by decide), c 49 (by decide) (by decide), c 50 (by decide) (by decide)]
  refine ⟨?_, by rw [c 42 (by decide) (by decide)]; exact h2, by rw [c 42 (by decide) (by decide)]; exact h3, by rw [c 47 (by decide) (by decide), b1 191 (by decide), c 43 (by decide) (by decide), b1 188 (by decide), c 45 (by decide) (by decide)]; exact h4, ?_, ?_, ?_, ?_⟩
  · rw [c 42 (by decide) (by decide), b2 94 (by decide) (by decide) (by decide) (by decide) (by decide) (by decide)]; exact h1
  · intro s s0 s1
    rw [c 42 (by decide) (by decide)] at s1
    obtain ⟨k1, k2, k3, k4, k5, k6, k7, k8, k9⟩ := h5 s s0 s1
    rw [c 43 (by decide) (by decide), c 44 (by decide) (by decide), c 45 (by decide) (by decide), c 47 (by decide) (by decide), c 42 (by decide) (by decide), b1 188 (by decide), b1 189 (by decide), b1 191 (by decide), b1 192 (by decide), sn, (b3 _ (Or.inl k8)).2]
    exact ⟨k1, k2, k3, k4, k5, k6, k7, by omega, k9⟩
  · intro s s0 s1
    rw [c 42 (by decide) (by decide)] at s1
    have k := h6 s s0 s1
    rw [c 46 (by decide) (by decide), c 47 (by decide) (by decide), c 42 (by decide) (by decide), b1 190 (by decide)]
    refine ⟨k.1, ?_⟩
    rcases k.2 with z | ⟨z1, z2, z3, z4⟩
    · exact Or.inl z
    · refine Or.inr ⟨z1, z2, ?_, fun n => ?_⟩
      · rw [cn1_mv (c 43 (by decide) (by decide)) (c 45 (by decide) (by decide)), cn1_mv (c 43 (by decide) (by decide)) (c 45 (by decide) (by decide))]; exact z3
      · rw [plc_mv (c 43 (by decide) (by decide)) (c 44 (by decide) (by decide)) (c 47 (by decide) (by decide)), plc_mv (c 43 (by decide) (by decide)) (c 44 (by decide) (by decide)) (c 47 (by decide) (by decide))]; exact z4 n
  · intro k k0 k1
    rw [c 42 (by decide) (by decide)] at k1 ⊢
    rw [c 49 (by decide) (by decide), c 50 (by decide) (by decide)]
    exact h7 k k0 k1
  · intro j k j0 j1 k0 k1 e
    rw [c 42 (by decide) (by decide)] at j1 k1
    rw [sn, sn] at e
    exact h8 j k j0 j1 k0 k1 e
theorem sCa.fr (F : sFr σ τ Z X fn g) (hs : rSh σ τ) (h : sCa σ) : sCa Z := by
  obtain ⟨hZ, -, -, -, -, ⟨a1, -, -, -, a5, a6, a7, -⟩, -⟩ := F
  have c : ∀ a, 42 ≤ a → a ≤ 51 → Z a = σ a := fun a q1 q2 => a1 a (by omega)
  have sn : ∀ k, sN Z k = sN σ k := fun k => by
    unfold sN
    rw [c 48 (by decide) (by decide), c 49 (by decide) (by decide), c 50 (by decide) (by decide)]
  have h10 := hs.2.1
  intro s vs
  rw [c 42 (by decide) (by decide)]
  by_cases z : vS σ s
  · obtain ⟨m1, m2, m3, m4, m5⟩ := a5 s z
    obtain ⟨k1, k2⟩ := h s z
    rw [m3, m4, m2]
    refine ⟨k1, ?_⟩
    rcases k2 with ⟨z1, z2⟩ | ⟨z1, z2⟩
    · exact Or.inl ⟨z1, fun k q1 q2 => by rw [sn]; exact z2 k q1 q2⟩
    · exact Or.inr ⟨z1, by rw [sn]; exact z2⟩
  · have : 0 ≤ s ∧ σ 0 7 ≤ s ∧ s < Z 0 7 := by
      unfold vS at vs z
      rw [a6 10 (by decide) (by decide) (by decide)] at vs
      omega
    obtain ⟨n1, n2⟩ := a7 s this.1 this.2.1 this.2.2
    rw [n1, n2]
    exact ⟨by omega, Or.inl ⟨rfl, fun k q1 q2 => by omega⟩⟩
theorem rKn.fr (F : sFr σ τ Z X fn g) (h : rKn σ τ) : rKn Z X := by
  obtain ⟨-, -, -, -, -, ⟨a1, -, -, -, a5, -, -, ⟨a8, -⟩, -⟩, ⟨b1, b2, b3, -, -, ⟨b6, -⟩, -⟩⟩ := F
  obtain ⟨h1, h2, ⟨h3, h3'⟩, ⟨h4, h4'⟩⟩ := h
  have x187 := b1 187 (by decide)
  have k0 := (h1 4 (by decide) (by decide)).1
  have e0 : kT 4 = 0 := by decide
  rw [e0] at k0
  refine ⟨fun k q1 q2 => ?_, ?_, ⟨?_, ?_⟩, ⟨?_, ?_⟩⟩
  · obtain ⟨k1, k2, k3, k4⟩ := h1 k q1 q2
    rw [x187, a1 40 (by decide), (a5 _ (Or.inl k2)).2.2.2.2, (a5 _ (Or.inl k2)).2.1, (b3 _ (Or.inl k1)).2]
    exact ⟨by omega, by omega, k3, k4⟩
  · rw [x187, (b3 _ (Or.inl k0)).2]; exact h2
  · rw [b2 92 (by decide) (by decide) (by decide) (by decide) (by decide) (by decide)]; omega
  · rw [b2 92 (by decide) (by decide) (by decide) (by decide) (by decide) (by decide), (b3 _ (Or.inl h3)).2]; exact h3'
  · rw [b2 93 (by decide) (by decide) (by decide) (by decide) (by decide) (by decide)]; omega
  · rw [b2 93 (by decide) (by decide) (by decide) (by decide) (by decide) (by decide), (b3 _ (Or.inl h4)).2]; exact h4'
theorem rGr.fr (F : sFr σ τ Z X fn g) (h : rGr σ τ) (r1 : Z 0 9 ≤ 2000) (r2 : X 119 15 ≤ 2000) : rGr Z X := by
  obtain ⟨-, -, -, -, -, ⟨-, -, -, -, -, a6, -, ⟨-, a8, -⟩, -⟩, ⟨-, b2, -, -, -, ⟨-, b6, -⟩, -⟩⟩ := F
  obtain ⟨h1, h2, h3⟩ := h
  unfold rGr
  rw [a6 12 (by decide) (by decide) (by decide), a6 13 (by decide) (by decide) (by decide), b2 16 (by decide) (by decide) (by decide) (by decide) (by decide) (by decide)]
  exact ⟨by omega, by omega, h3⟩
theorem rR1.fr {r : Int} (F : sFr σ τ Z X fn g) (hN : rNd σ τ) (hI' : rIn σ) (h : rR1 σ τ r) (r0 : 4 ≤ r) (r1 : r < σ 8 31) : rR1 Z X r := by
  obtain ⟨-, -, -, -, -, ⟨-, a2, a3, -, -, -, -, -, -, -, -, a12, -⟩, ⟨-, -, -, -, -, -, -, b8, -, b10⟩⟩ := F
  obtain ⟨-, -, n3, n4, n5, -⟩ := hN.2.1 r r0 r1
  obtain ⟨i1, i2, i3, -⟩ := hI'.2 r r0 r1
  obtain ⟨h1, h2, ⟨d, h3⟩, h4, h5, h6⟩ := h
  have si : sI σ Z (σ 28 r) (σ 28 r + σ 29 r) := fun p p0 p1 => ⟨a3 20 p (by decide) (by decide) (by omega), a3 21 p (by decide) (by decide) (by omega), a3 22 p (by decide) (by decide) (by omega)⟩
  unfold rR1
  rw [a12 26 r (by decide) (by decide) r1, a12 27 r (by decide) (by decide) r1, a12 28 r (by decide) (by decide) r1, a12 29 r (by decide) (by decide) r1, a12 30 r (by decide) (by decide) r1, a12 31 r (by decide) (by decide) r1, b8 160 r (by decide) (by decide) (by omega), b8 161 r (by decide) (by decide) (by omega), b8 162 r (by decide) (by decide) (by omega)]
  refine ⟨h1, fun i i0 i1 => ?_, ⟨d, RT_fr (fun a n q q1 q2 => b10 a n (by omega) (by omega) (by omega)) (fun n q1 q2 => a2 14 n (by decide) (by decide) (by omega)) d 2 _ _ _ _ _ _ (si.sub (Int.le_refl _) (by omega)) h3⟩, si.ci h4 (by omega) (by omega), si.ci h5 (by omega) (by omega), fun n q1 q2 q => ?_⟩
  · rw [a2 9 _ (by decide) (by decide) (by omega), a2 13 _ (by decide) (by decide) (by omega)]
    exact h2 i i0 i1
  · rw [a2 9 n (by decide) (by decide) (by omega)] at q
    rw [a2 13 n (by decide) (by decide) (by omega)]
    exact h6 n q1 q2 q
theorem chN_mv {a : Int} : ∀ n : Nat, (∀ i : Nat, i < n → Z 12 (a + i) = σ 12 (a + i)) → chN Z a n = chN σ a n
  | 0, _ => rfl
  | n + 1, h => by
    show chN Z a n + Z 12 (a + n) = chN σ a n + σ 12 (a + n)
    rw [chN_mv n fun i hi => h i (by omega), h n (by omega)]
theorem chN_0 {a : Int} : ∀ n : Nat, (∀ i : Nat, i < n → Z 12 (a + i) = 0) → chN Z a n = 0
  | 0, _ => rfl
  | n + 1, h => by
    show chN Z a n + Z 12 (a + n) = 0
    rw [chN_0 n fun i hi => h i (by omega), h n (by omega)]
    rfl
end SI
