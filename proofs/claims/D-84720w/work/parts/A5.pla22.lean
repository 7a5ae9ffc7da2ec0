/-! numbers of a text, on the model's side -/
/-- a number by its last digits -/
def svN (f : Int → Int) (b : Int) : Nat → Int
  | 0 => 0
  | i + 1 => svN f b i + (f (b - 1 - i) - 48) * 10 ^ i
theorem svN_s {f : Int → Int} {b : Int} : ∀ i : Nat, svN f (b + 1) (i + 1) = (f b - 48) + 10 * svN f b i
  | 0 => by
    show 0 + (f (b + 1 - 1 - ((0 : Nat) : Int)) - 48) * 10 ^ 0 = (f b - 48) + 10 * 0
    rw [show b + 1 - 1 - ((0 : Nat) : Int) = b by omega, Int.pow_zero]
    omega
  | i + 1 => by
    have ih := svN_s (f := f) (b := b) i
    show svN f (b + 1) (i + 1) + (f (b + 1 - 1 - ((i + 1 : Nat) : Int)) - 48) * 10 ^ (i + 1) = (f b - 48) + 10 * (svN f b i + (f (b - 1 - i) - 48) * 10 ^ i)
    rw [ih, show b + 1 - 1 - ((i + 1 : Nat) : Int) = b - 1 - i by omega, tps, Int.mul_add, Int.mul_left_comm (f (b - 1 - i) - 48) 10]
    omega
theorem dvN_sv {f : Int → Int} {a : Int} : ∀ n : Nat, dvN f a n = svN f (a + n) n
  | 0 => rfl
  | n + 1 => by
    show dvN f a n * 10 + (f (a + n) - 48) = _
    rw [show a + ((n + 1 : Nat) : Int) = a + n + 1 by omega, svN_s, dvN_sv n]
    omega
/-- a constant number of the model -/
def mumIs (T : gM) (v x y : Int) : Prop := (i64 v ∧ x = 2 ∧ y = v) ∨ (¬ i64 v ∧ x = 3 ∧ (0 ≤ y ∧ y < T 119 15) ∧ mB T y v)
section MN
variable {τ T : gM} {k p q : Int}
theorem md_number_2_b3_s {x : Int} : md_number_2_b3 τ k p q 0 = md_number_2_b34 (gW (gW (gW (gW (gW τ 131 0 0) 131 1 0) 131 2 0) 131 3 0) 131 4 0) k p 1 1 (w32 (q - 1)) := by
  rw [md_number_2_b3_e, if_pos (by decide), if_pos (by decide), show w32 (0 + 1) = 1 by decide, md_number_2_b3_e, if_pos (by decide), if_pos (by decide), show w32 (1 + 1) = 2 by decide, md_number_2_b3_e, if_pos (by decide), if_pos (by decide), show w32 (2 + 1) = 3 by decide, md_number_2_b3_e, if_pos (by decide), if_pos (by decide), show w32 (3 + 1) = 4 by decide, md_number_2_b3_e, if_pos (by decide), if_pos (by decide), show w32 (4 + 1) = 5 by decide, md_number_2_b3_e, if_neg (by decide)]
/-- the state while digits are taken: i of them so far -/
def mSt (τ : gM) (i : Nat) : Prop := ∀ kk : Nat, kk < 4 → 0 ≤ τ 131 ((kk : Int) + 1) ∧ (kk < i / 9 → τ 131 ((kk : Int) + 1) < 1000000000) ∧ (kk = i / 9 → τ 131 ((kk : Int) + 1) < 10 ^ (i % 9)) ∧ (i / 9 < kk → τ 131 ((kk : Int) + 1) = 0)
theorem md_number_2_b34_s (hp : 0 ≤ p ∧ q ≤ 4000) (dg : ∀ j, p ≤ j → j < q → isD (τ 134 j)) : ∀ (m i : Nat) (T : gM), (i : Int) + m = q - p → i + m ≤ 36 → (∀ a j, a ≠ 131 → T a j = τ a j) → T 131 0 = 0 → mSt T i → mm T 131 = svN (τ 134) q i →
    ∃ U x y, md_number_2_b34 T k p (10 ^ (i % 9)) ((i / 9 : Nat) + 1) (q - 1 - i) = md_number_2_b34 U k p x y (p - 1) ∧ (∀ a j, a ≠ 131 → U a j = τ a j) ∧ U 131 0 = 0 ∧ mOk U 131 ∧ mm U 131 = svN (τ 134) q (q - p).toNat
  | 0, i, T, hi, h36, c, c0, st, em => by
    refine ⟨T, _, _, by rw [show q - 1 - (i : Int) = p - 1 by omega], c, c0, ?_, by rw [show (q - p).toNat = i by omega]; exact em⟩
    have key : ∀ kk : Nat, kk < 4 → 0 ≤ T 131 ((kk : Int) + 1) ∧ T 131 ((kk : Int) + 1) < 1000000000 := fun kk hk => by
      obtain ⟨s1, s2, s3, s4⟩ := st kk hk
      refine ⟨s1, ?_⟩
      have p9 := tenp (e := i % 9) (by omega)
      rcases Nat.lt_trichotomy kk (i / 9) with z | z | z
      · exact s2 z
      · have := s3 z; omega
      · rw [s4 z]; decide
    exact ⟨key 0 (by decide), key 1 (by decide), key 2 (by decide), key 3 (by decide)⟩
  | m + 1, i, T, hi, h36, c, c0, st, em => by
    have d := dg (q - 1 - i) (by omega) (by omega)
    unfold isD at d
    have p9 := tenp (e := i % 9) (by omega)
    have hk : i / 9 < 4 := by omega
    obtain ⟨s1, -, s3, -⟩ := st (i / 9) hk
    have s3 := s3 rfl
    have e134 : T 134 (q - 1 - i) = τ 134 (q - 1 - i) := c 134 _ (by decide)
    have b5 : 0 ≤ ((i / 9 : Nat) : Int) + 1 ∧ ((i / 9 : Nat) : Int) + 1 < 5 := by omega
    have dm : 0 ≤ (τ 134 (q - 1 - i) - 48) * 10 ^ (i % 9) ∧ (τ 134 (q - 1 - i) - 48) * 10 ^ (i % 9) ≤ 9 * 10 ^ (i % 9) := ⟨Int.mul_nonneg (by omega) (by omega), Int.mul_le_mul_of_nonneg_right (by omega) (by omega)⟩
    rw [md_number_2_b34_e, if_neg (by omega), if_pos b5, if_pos (by omega), if_pos b5, e134, w32_e (x := τ 134 (q - 1 - i) - 48) (by omega) (by omega), w32_e (x := (τ 134 (q - 1 - i) - 48) * 10 ^ (i % 9)) (by omega) (by omega), w32_e (x := T 131 (((i / 9 : Nat) : Int) + 1) + (τ 134 (q - 1 - i) - 48) * 10 ^ (i % 9)) (by omega) (by omega), w32_e (x := 10 ^ (i % 9) * 10) (by omega) (by omega)]
    have nx : (if 10 ^ (i % 9) * 10 = (1000000000 : Int) then md_number_2_b84 (gW T 131 (((i / 9 : Nat) : Int) + 1) (T 131 (((i / 9 : Nat) : Int) + 1) + (τ 134 (q - 1 - i) - 48) * 10 ^ (i % 9))) k p 1 (w32 (((i / 9 : Nat) : Int) + 1 + 1)) (q - 1 - i) else md_number_2_b84 (gW T 131 (((i / 9 : Nat) : Int) + 1) (T 131 (((i / 9 : Nat) : Int) + 1) + (τ 134 (q - 1 - i) - 48) * 10 ^ (i % 9))) k p (10 ^ (i % 9) * 10) (((i / 9 : Nat) : Int) + 1) (q - 1 - i)) = md_number_2_b34 (gW T 131 (((i / 9 : Nat) : Int) + 1) (T 131 (((i / 9 : Nat) : Int) + 1) + (τ 134 (q - 1 - i) - 48) * 10 ^ (i % 9))) k p (10 ^ ((i + 1) % 9)) (((i + 1) / 9 : Nat) + 1) (q - 1 - ((i + 1 : Nat) : Int)) := by
      by_cases z : i % 9 = 8
      · rw [z, if_pos (by decide), md_number_2_b84_e, w32_e (by omega) (by omega), w32_e (by omega) (by omega), show (i + 1) % 9 = 0 by omega, show (i + 1) / 9 = i / 9 + 1 by omega, show q - 1 - (i : Int) + -1 = q - 1 - ((i + 1 : Nat) : Int) by omega, show (((i / 9 + 1 : Nat) : Nat) : Int) + 1 = ((i / 9 : Nat) : Int) + 1 + 1 by omega]
        rfl
      · have p8 : (10 : Int) ^ (i % 9) * 10 ≤ 100000000 := by
          have h1 := tenp (e := i % 9 + 1) (by omega)
          have h2 := tps (i % 9)
          omega
        rw [if_neg (by omega), md_number_2_b84_e, w32_e (by omega) (by omega), show (i + 1) % 9 = i % 9 + 1 by omega, show (i + 1) / 9 = i / 9 by omega, tps, Int.mul_comm 10 (10 ^ (i % 9)), show q - 1 - (i : Int) + -1 = q - 1 - ((i + 1 : Nat) : Int) by omega]
    rw [nx]
    have vv : svN (τ 134) q (i + 1) = svN (τ 134) q i + (τ 134 (q - 1 - i) - 48) * 10 ^ i := rfl
    refine md_number_2_b34_s hp dg m (i + 1) _ (by omega) (by omega) (fun a j z => by rw [gW_c z]; exact c a j z) (by rw [gW_i (by omega)]; exact c0) (fun kk hkk => ?_) ?_
    · by_cases z : kk = i / 9
      · rw [z, gW_at]
        refine ⟨by omega, fun w => ?_, fun w => ?_, fun w => by omega⟩
        · have h2 := tps (i % 9)
          have : i % 9 = 8 := by omega
          rw [this] at *
          have p8 : (10 : Int) ^ 8 = 100000000 := by decide
          omega
        · have h2 := tps (i % 9)
          rw [show (i + 1) % 9 = i % 9 + 1 by omega]
          omega
      · obtain ⟨s1, s2, s3', s4⟩ := st kk hkk
        rw [gW_i (by omega)]
        refine ⟨s1, fun w => s2 (by omega), fun w => ?_, fun w => s4 (by omega)⟩
        rw [s4 (by omega)]
        exact tp _
    · rw [mm_set hk, em, vv, show T 131 (((i / 9 : Nat) : Int) + 1) + (τ 134 (q - 1 - i) - 48) * 10 ^ (i % 9) - T 131 (((i / 9 : Nat) : Int) + 1) = (τ 134 (q - 1 - i) - 48) * 10 ^ (i % 9) by omega, Int.mul_assoc, ← Int.pow_add, show i % 9 + 9 * (i / 9) = i by omega]
/-- a number of a text -/
theorem md_number_2_s (hk : 0 ≤ k ∧ k < 20000) (hp : 0 ≤ p ∧ p < q ∧ q ≤ 4000) (h36 : q - p ≤ 36) (dg : ∀ j, p ≤ j → j < q → isD (τ 134 j)) (hg : 0 ≤ τ 119 15 ∧ τ 119 15 < 2000) :
    ∃ T, md_number_2 τ k p q = some (T, 0) ∧ mumIs T (dvN (τ 134) p (q - p).toNat) (T 176 k) (T 177 k) ∧ (τ 119 15 ≤ T 119 15 ∧ 20 * T 119 15 ≤ 20 * τ 119 15 + (q - p + 1)) ∧ (∀ a i, a ≠ 119 → a ≠ 128 → a ≠ 131 → ((a ≠ 176 ∧ a ≠ 177) ∨ i ≠ k) → T a i = τ a i) ∧ (∀ i, i ≠ 15 → T 119 i = τ 119 i) ∧ (∀ i, i < 5 * τ 119 15 ∨ 5 * τ 119 15 + 5 ≤ i → T 128 i = τ 128 i) := by
  rw [md_number_2_e, md_number_2_b3_s (x := 0), w32_e (by omega) (by omega)]
  have g0 : ∀ a j, a ≠ 131 → gW (gW (gW (gW (gW τ 131 0 0) 131 1 0) 131 2 0) 131 3 0) 131 4 0 a j = τ a j := fun a j z => by rw [gW_c z, gW_c z, gW_c z, gW_c z, gW_c z]
  have g1 : ∀ j, 0 ≤ j → j < 5 → gW (gW (gW (gW (gW τ 131 0 0) 131 1 0) 131 2 0) 131 3 0) 131 4 0 131 j = 0 := fun j j0 j1 => by
    have : j = 0 ∨ j = 1 ∨ j = 2 ∨ j = 3 ∨ j = 4 := by omega
    rcases this with e | e | e | e | e <;> subst e <;> simp [gW]
  generalize gW (gW (gW (gW (gW τ 131 0 0) 131 1 0) 131 2 0) 131 3 0) 131 4 0 = T0 at *
  obtain ⟨U, x, y, e1, c, c0, ok, em⟩ := md_number_2_b34_s (k := k) (τ := τ) (p := p) (q := q) ⟨hp.1, hp.2.2⟩ dg (q - p).toNat 0 T0 (by omega) (by omega) g0 (g1 0 (by decide) (by decide)) (fun kk hkk => by
    rw [g1 ((kk : Int) + 1) (by omega) (by omega)]
    exact ⟨by decide, fun _ => by decide, fun _ => by decide, fun _ => rfl⟩) (by
    unfold mm
    rw [g1 1 (by decide) (by decide), g1 2 (by decide) (by decide), g1 3 (by decide) (by decide), g1 4 (by decide) (by decide)]
    rfl)
  have e1' : md_number_2_b34 T0 k p 1 1 (q - 1) = md_number_2_b34 U k p x y (p - 1) := by
    have := e1
    rw [show q - 1 - ((0 : Nat) : Int) = q - 1 by omega] at this
    exact this
  have ev : dvN (τ 134) p (q - p).toNat = svN (τ 134) q (q - p).toNat := by
    rw [dvN_sv, show p + ((q - p).toNat : Int) = q by omega]
  have rng := dvN_r (f := τ 134) (a := p) (q - p).toNat fun i hi => dg _ (by omega) (by omega)
  rw [e1', md_number_2_b34_e, if_pos (by omega)]
  rw [ev] at rng ⊢
  generalize svN (τ 134) q (q - p).toNat = v at *
  have mi : mIs U 131 v := ⟨ok, Or.inr ⟨c0, em⟩⟩
  obtain ⟨r, f1, f2, f3⟩ := md_fitsLong_s mi
  rw [f1]
  simp only [Option.bind_some]
  by_cases li : i64 v
  · rw [f2 li, if_neg (by decide), if_pos hk]
    have mi2 : mIs (gW U 176 k 2) 131 v := by
      unfold mIs mOk mm at mi ⊢
      simp only [gW_c (show (131 : Int) ≠ 176 by decide)]
      exact mi
    rw [md_asLong_s mi2 li]
    simp only [Option.bind_some]
    rw [if_pos hk]
    refine ⟨_, rfl, Or.inl ⟨li, by rw [gW_c (by decide), gW_at], gW_at _ _ _ _⟩, ?_, fun a i q1 q2 q3 q4 => ?_, fun i q => by rw [gW_c (by decide), gW_c (by decide)]; exact c 119 i (by decide), fun i q => by rw [gW_c (by decide), gW_c (by decide)]; exact c 128 i (by decide)⟩
    · rw [gW_c (by decide), gW_c (by decide), c 119 15 (by decide)]; omega
    · unfold gW
      rw [if_neg (by omega), if_neg (by omega)]
      exact c a i q3
  · rw [f3 li, if_pos rfl, if_pos hk, if_pos hk]
    have e15 : U 119 15 = τ 119 15 := c 119 15 (by decide)
    rw [e15]
    have n19 : 19 ≤ q - p := by
      by_cases z : 19 ≤ q - p
      · exact z
      · have pj : (10 : Int) ^ (q - p).toNat ≤ 10 ^ 18 := ten_le (by omega)
        have p18 : (10 : Int) ^ 18 = 1000000000000000000 := by decide
        exact (li (by unfold i64; omega)).elim
    have w15 : gW (gW U 176 k 3) 177 k (τ 119 15) 119 15 = τ 119 15 := by rw [gW_c (by decide), gW_c (by decide), e15]
    have w131 : ∀ i, gW (gW U 176 k 3) 177 k (τ 119 15) 131 i = U 131 i := fun i => by rw [gW_c (by decide), gW_c (by decide)]
    have w176 : gW (gW U 176 k 3) 177 k (τ 119 15) 176 k = 3 := by rw [gW_c (by decide), gW_at]
    have w177 : gW (gW U 176 k 3) 177 k (τ 119 15) 177 k = τ 119 15 := gW_at _ _ _ _
    have wc : ∀ a i, a ≠ 131 → ((a ≠ 176 ∧ a ≠ 177) ∨ i ≠ k) → gW (gW U 176 k 3) 177 k (τ 119 15) a i = τ a i := fun a i q1 q2 => by
      unfold gW
      rw [if_neg (by omega), if_neg (by omega)]
      exact c a i q1
    generalize gW (gW U 176 k 3) 177 k (τ 119 15) = W at *
    have step : ∀ (S : gM) (i i' : Int), S 119 15 = τ 119 15 → 0 ≤ i → i < 5 → i + 1 = i' → md_number_2_b136 S i = md_number_2_b136 (gW S 128 (5 * τ 119 15 + i) (S 131 i)) i' := fun S i i' h15 h0 h4 hi => by
      rw [md_number_2_b136_e, if_pos h4, if_pos ⟨h0, h4⟩, h15, w32_e (x := 5 * τ 119 15) (by omega) (by omega), w32_e (x := 5 * τ 119 15 + i) (by omega) (by omega), w32_e (x := i + 1) (by omega) (by omega), hi, if_pos (by omega)]
    have s15 : ∀ (S : gM) j v, gW S 128 j v 119 15 = S 119 15 := fun S j v => gW_c (by decide)
    have s131 : ∀ (S : gM) j v i, gW S 128 j v 131 i = S 131 i := fun S j v i => gW_c (by decide)
    rw [step W 0 1 w15 (by decide) (by decide) (by decide), step _ 1 2 (by rw [s15, w15]) (by decide) (by decide) (by decide), step _ 2 3 (by rw [s15, s15, w15]) (by decide) (by decide) (by decide), step _ 3 4 (by rw [s15, s15, s15, w15]) (by decide) (by decide) (by decide), step _ 4 5 (by rw [s15, s15, s15, s15, w15]) (by decide) (by decide) (by decide), md_number_2_b136_e, if_neg (by decide)]
    simp only [s131, s15, w15, w131, Int.add_zero]
    rw [w32_e (by omega) (by omega)]
    refine ⟨_, rfl, Or.inr ⟨li, ?_, ?_, ?_⟩, ?_, fun a i q1 q2 q3 q4 => ?_, fun i q => ?_, fun i q => ?_⟩
    · rw [gW_c (by decide), gW_c (by decide), gW_c (by decide), gW_c (by decide), gW_c (by decide), gW_c (by decide), w176]
    · rw [gW_at, gW_c (by decide), gW_c (by decide), gW_c (by decide), gW_c (by decide), gW_c (by decide), gW_c (by decide), w177]; omega
    · rw [gW_c (by decide), gW_c (by decide), gW_c (by decide), gW_c (by decide), gW_c (by decide), gW_c (by decide), w177]
      unfold mB
      simp only [gW_c (show (128 : Int) ≠ 119 by decide)]
      have E : ∀ (S : gM) (a b v : Int), a ≠ b → gW S 128 b v 128 a = S 128 a := fun S a b v q => gW_i q
      have n1 : ∀ i j : Int, i ≠ j → 5 * τ 119 15 + i ≠ 5 * τ 119 15 + j := fun i j q => by omega
      have e0 : gW (gW (gW (gW (gW W 128 (5 * τ 119 15) (U 131 0)) 128 (5 * τ 119 15 + 1) (U 131 1)) 128 (5 * τ 119 15 + 2) (U 131 2)) 128 (5 * τ 119 15 + 3) (U 131 3)) 128 (5 * τ 119 15 + 4) (U 131 4) 128 (5 * τ 119 15) = U 131 0 := by
        rw [E _ _ _ _ (by omega), E _ _ _ _ (by omega), E _ _ _ _ (by omega), E _ _ _ _ (by omega), gW_at]
      have e1 : gW (gW (gW (gW (gW W 128 (5 * τ 119 15) (U 131 0)) 128 (5 * τ 119 15 + 1) (U 131 1)) 128 (5 * τ 119 15 + 2) (U 131 2)) 128 (5 * τ 119 15 + 3) (U 131 3)) 128 (5 * τ 119 15 + 4) (U 131 4) 128 (5 * τ 119 15 + 1) = U 131 1 := by
        rw [E _ _ _ _ (by omega), E _ _ _ _ (by omega), E _ _ _ _ (by omega), gW_at]
      have e2 : gW (gW (gW (gW (gW W 128 (5 * τ 119 15) (U 131 0)) 128 (5 * τ 119 15 + 1) (U 131 1)) 128 (5 * τ 119 15 + 2) (U 131 2)) 128 (5 * τ 119 15 + 3) (U 131 3)) 128 (5 * τ 119 15 + 4) (U 131 4) 128 (5 * τ 119 15 + 2) = U 131 2 := by
        rw [E _ _ _ _ (by omega), E _ _ _ _ (by omega), gW_at]
      have e3 : gW (gW (gW (gW (gW W 128 (5 * τ 119 15) (U 131 0)) 128 (5 * τ 119 15 + 1) (U 131 1)) 128 (5 * τ 119 15 + 2) (U 131 2)) 128 (5 * τ 119 15 + 3) (U 131 3)) 128 (5 * τ 119 15 + 4) (U 131 4) 128 (5 * τ 119 15 + 3) = U 131 3 := by
        rw [E _ _ _ _ (by omega), gW_at]
      have e4 : gW (gW (gW (gW (gW W 128 (5 * τ 119 15) (U 131 0)) 128 (5 * τ 119 15 + 1) (U 131 1)) 128 (5 * τ 119 15 + 2) (U 131 2)) 128 (5 * τ 119 15 + 3) (U 131 3)) 128 (5 * τ 119 15 + 4) (U 131 4) 128 (5 * τ 119 15 + 4) = U 131 4 := gW_at _ _ _ _
      rw [e0, e1, e2, e3, e4]
      refine ⟨ok, Or.inr ⟨by omega, c0, em⟩⟩
    · rw [gW_at]; omega
    · rw [gW_c q1, gW_c q2, gW_c q2, gW_c q2, gW_c q2, gW_c q2]
      exact wc a i q3 q4
    · rw [gW_i q, gW_c (by decide), gW_c (by decide), gW_c (by decide), gW_c (by decide), gW_c (by decide)]
      exact wc 119 i (by decide) (Or.inl (by decide))
    · rw [gW_c (by decide)]
      unfold gW
      rw [if_neg (by omega), if_neg (by omega), if_neg (by omega), if_neg (by omega), if_neg (by omega)]
      exact wc 128 i (by decide) (Or.inl (by decide))
end MN
