/-! a node has changed: a program stays related -/
theorem w32_k (x : Int) : ∃ k, w32 x = x + 4294967296 * k := by
  unfold w32 Int.bmod
  simp only []
  split
  · exact ⟨-(x / 4294967296), by omega⟩
  · exact ⟨-(x / 4294967296) - 1, by omega⟩
theorem w32_c (x k : Int) : w32 (x + 4294967296 * k) = w32 x := by
  unfold w32 Int.bmod
  have e : (x + 4294967296 * k) % ((4294967296 : Nat) : Int) = x % ((4294967296 : Nat) : Int) := by omega
  simp only [e]
section CP
variable {σ τ S T : gM} {n r : Int}
theorem chN_upd {a : Int} (o : ∀ m, m ≠ n → S 12 m = σ 12 m) : ∀ k : Nat, a ≤ n → n < a + k → chN S a k = chN σ a k + (S 12 n - σ 12 n)
  | 0, h1, h2 => by omega
  | k + 1, h1, h2 => by
    show chN S a k + S 12 (a + k) = chN σ a k + σ 12 (a + k) + _
    by_cases z : n = a + k
    · rw [chN_mv k fun i hi => o _ (by omega), ← z]
      omega
    · rw [chN_upd o k h1 (by omega), o (a + k) (by omega)]
      omega
theorem rPg.chg (h : rPg σ τ) (e1 : stlC σ S) (e2 : stlT τ T) (HB : rBk S T) (q1 : S 67 = σ 67) (q2 : S 52 19 = σ 52 19) (q3 : T 185 = τ 185) (q4 : T 119 89 = τ 119 89) (HS : rSo S T) (r4 : 4 ≤ r ∧ r < σ 8 31) (hn : σ 26 r ≤ n ∧ n < σ 26 r + σ 27 r)
    (o11 : ∀ m, m ≠ n → (S 11 m = σ 11 m ∧ S 12 m = σ 12 m ∧ S 18 m = σ 18 m) ∧ T 178 m = τ 178 m ∧ T 180 m = τ 180 m ∧ T 181 m = τ 181 m) (o19 : ∀ i, i < 9 * n ∨ 9 * n + 9 ≤ i → S 19 i = σ 19 i) (o182 : ∀ a i, 182 ≤ a → a ≤ 184 → i < 3 * n ∨ 3 * n + 3 ≤ i → T a i = τ a i) (n1 : rN1 S T n)
    (s12 : S 12 n = w32 (σ 12 n + 1)) (t166 : T 166 r = w32 (τ 166 r + 1) ∧ ∀ i, i ≠ r → T 166 i = τ 166 i) (e61 : ∀ i, S 61 i = σ 61 i ∨ S 61 i = 0) (no : ∀ c, 0 ≤ c → c < S 52 10 → S 61 c ≠ 0 → ∀ u, 0 ≤ u → u < S 55 c → S 62 (S 54 c + u) ≠ r) : rPg S T := by
  have h0 := h
  obtain ⟨-, -, -, -, -, -, -, hb0, hN, -, hIn, ⟨hU, hP, hV⟩, hQ, -, hK, -, hCh⟩ := h
  have E1 := e1
  have E2 := e2
  obtain ⟨c, f0_7, f0_8, f0_9, f0_10, f0_11, f0_12, f0_13, f8_12, f8_16, f8_19, f8_31, f42_6, f42_10, f42_11, f52_10, f52_11, f52_12, f87⟩ := e1
  obtain ⟨d, f119_9, f119_10, f119_12, f119_13, f119_15, f119_16, f119_55, f119_56, f119_57, f119_92, f119_93, f119_94, f119_104⟩ := e2
  have pl : ∀ s n, plc S s n = plc σ s n := fun s n => plc_mv (c 43 (by decide)) (c 44 (by decide)) (c 47 (by decide))
  have own : ∀ r' m, 4 ≤ r' → r' < σ 8 31 → σ 26 r' ≤ m → m < σ 26 r' + σ 27 r' → r' ≠ r → m ≠ n := fun r' m a1 a2 a3 a4 a5 a6 => by
    have b1 := (hN.2.1 r' a1 a2).2.2.2.2.2 m a3 a4
    have b2 := (hN.2.1 r r4.1 r4.2).2.2.2.2.2 n hn.1 hn.2
    rw [a6] at b1
    omega
  refine h0.up E1 E2 HB ⟨?_, ?_, ?_⟩ ?_ ?_ HS ?_
  · rw [f8_12, f119_57]; exact hN.1
  · intro r' a1 a2
    rw [f8_31] at a2
    rw [c 26 (by decide), c 27 (by decide), d 158 (by decide), d 159 (by decide), d 174 (by decide), f8_12]
    exact hN.2.1 r' a1 a2
  · intro m m0 m1
    rw [f8_12] at m1
    by_cases z : m = n
    · rw [z]; exact n1
    obtain ⟨⟨x1, x2, x3⟩, x4, x5, x6⟩ := o11 m z
    obtain ⟨k1, k2, k3, k4, k5, k6, k7⟩ := hN.2.2 m m0 m1
    unfold rN1
    rw [c 9 (by decide), c 10 (by decide), c 13 (by decide), d 168 (by decide), d 169 (by decide), d 175 (by decide), x1, x2, x3, x4, x5, x6]
    refine ⟨k1, k2, k3, k4, k5, k6, fun i i0 i1 => ?_⟩
    have k7 := k7 i i0 i1
    unfold rEn at k7 ⊢
    rw [o182 182 _ (by decide) (by decide) (by omega), o182 183 _ (by decide) (by decide) (by omega), o182 184 _ (by decide) (by decide) (by omega), o19 (9 * m + 3 * i) (by omega), o19 (9 * m + 3 * i + 1) (by omega), o19 (9 * m + 3 * i + 2) (by omega), c 9 (by decide), f8_31, f42_6, f42_10, pl, pl]
    exact k7
  · intro k k0 k1 kv
    have nk := no k k0 k1 (by omega)
    rw [f52_10] at k1
    rw [c 55 (by decide), c 54 (by decide), c 62 (by decide)] at nk
    have kv' : σ 61 k = 1 := by
      rcases e61 k with y | y <;> omega
    have := hV k k0 k1 kv'
    have g := (hb0.2.2.2 k k0 k1).2.2.2.2.2.2.2.2.2
    unfold cFa at this ⊢
    rw [c 54 (by decide), c 55 (by decide), c 62 (by decide), c 64 (by decide), c 65 (by decide), c 29 (by decide), c 20 (by decide), c 22 (by decide), c 9 (by decide)]
    intro u u0 u1
    obtain ⟨t1, t2⟩ := this u u0 u1
    have gu := (g u u0 u1).1
    refine ⟨fun j j0 j1 jo => ?_, fun u2 => ?_⟩
    · have ne : σ 22 (σ 65 (σ 54 k + u) + j) ≠ n := by
        obtain ⟨b1, b2⟩ := hP.2 k u k0 k1 u0 u1
        have b3 := (b2 j j0 j1).1
        obtain ⟨-, b4, b5⟩ := b3
        have i3 := hIn.2 (σ 62 (σ 54 k + u)) gu.2.1 gu.2.2
        have i4 := i3.2.2.2 (σ 28 (σ 62 (σ 54 k + u)) + j) (by omega) (by omega)
        have o3 : σ 20 (σ 28 (σ 62 (σ 54 k + u)) + j) = 3 := by
          rcases b5 with y | y | y <;> omega
        have i5 := i4.2.1 (Or.inr o3)
        rw [b4]
        exact own _ _ gu.2.1 gu.2.2 i5.1 i5.2 (nk u u0 u1)
      rw [(o11 _ ne).1.1]
      exact t1 j j0 j1 jo
    · have ne : σ 64 (σ 54 k + u) ≠ n := by
        obtain ⟨-, b2⟩ := hU k k0 k1
        obtain ⟨-, b3⟩ := b2 u u0 u1
        obtain ⟨b4, b5, b6⟩ := b3 u2
        have gv := (g _ b4.1 (by omega)).1
        exact own _ _ gv.2.1 gv.2.2 b5 b6 (nk _ b4.1 (by omega))
      rw [(o11 _ ne).1.2.2, o19 _ (by omega)]
      exact t2 u2
  · unfold rQu at hQ ⊢
    rw [q1, q2, q3, q4, f8_31]
    exact hQ
  · intro r' a1 a2
    rw [f8_31] at a2
    rw [c 26 (by decide), c 27 (by decide)]
    by_cases y : r' < 4
    · rw [t166.2 r' (by omega), hCh r' a1 a2, (hK.2.1 r' a1 y).1]; rfl
    have hr' := hN.2.1 r' (by omega) a2
    by_cases z : r' = r
    · rw [z] at hr' ⊢
      rw [t166.1, hCh r (by omega) r4.2, chN_upd (σ := σ) (S := S) (n := n) (fun m q => (o11 m q).1.2.1) _ hn.1 (by omega), s12]
      obtain ⟨k1, e1⟩ := w32_k (chN σ (σ 26 r) (σ 27 r).toNat)
      obtain ⟨k2, e2⟩ := w32_k (σ 12 n + 1)
      rw [e1, e2, show chN σ (σ 26 r) (σ 27 r).toNat + 4294967296 * k1 + 1 = chN σ (σ 26 r) (σ 27 r).toNat + 1 + 4294967296 * k1 by omega, w32_c, show chN σ (σ 26 r) (σ 27 r).toNat + (σ 12 n + 1 + 4294967296 * k2 - σ 12 n) = chN σ (σ 26 r) (σ 27 r).toNat + 1 + 4294967296 * k2 by omega, w32_c]
    · rw [t166.2 r' z, hCh r' a1 a2]
      exact (congrArg w32 (chN_mv _ fun i hi => (o11 _ (own r' _ (by omega) a2 (by omega) (by omega) z)).1.2.1)).symm
end CP
