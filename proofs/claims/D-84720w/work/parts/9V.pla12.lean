/-! the component plants: strings, functions, numbers -/
/-- a number by its digits -/
def dvN (f : Int → Int) (a : Int) : Nat → Int
  | 0 => 0
  | n + 1 => dvN f a n * 10 + (f (a + n) - 48)
theorem dvN_congr {f g : Int → Int} {a : Int} : ∀ n : Nat, (∀ i : Nat, i < n → f (a + i) = g (a + i)) → dvN f a n = dvN g a n
  | 0, _ => rfl
  | n + 1, h => by
    show dvN f a n * 10 + (f (a + n) - 48) = dvN g a n * 10 + (g (a + n) - 48)
    rw [dvN_congr n fun i hi => h i (by omega), h n (by omega)]
theorem dvN_r {f : Int → Int} {a : Int} : ∀ n : Nat, (∀ i : Nat, i < n → isD (f (a + i))) → 0 ≤ dvN f a n ∧ dvN f a n < 10 ^ n
  | 0, _ => by show (0 : Int) ≤ 0 ∧ (0 : Int) < 10 ^ 0; decide
  | n + 1, h => by
    have ih := dvN_r n fun i hi => h i (by omega)
    have d := h n (by omega)
    unfold isD at d
    show 0 ≤ dvN f a n * 10 + (f (a + n) - 48) ∧ dvN f a n * 10 + (f (a + n) - 48) < 10 ^ (n + 1)
    rw [tps]
    omega
theorem ten_le {n m : Nat} (h : n ≤ m) : (10 : Int) ^ n ≤ 10 ^ m := by
  obtain ⟨k, rfl⟩ := Nat.le.dest h
  clear h
  induction k with
  | zero => exact Int.le_refl _
  | succ k ih =>
    have := tps (n + k)
    have := tp (n + k)
    show (10 : Int) ^ n ≤ 10 ^ (n + k + 1)
    omega
/-- a constant number of the component -/
def numIs (S : gM) (v x y : Int) : Prop := (i64 v ∧ x = 0 ∧ y = v) ∨ (¬ i64 v ∧ x = 1 ∧ (0 ≤ y ∧ y < S 0 9) ∧ cB S y v)
section PS
variable {σ S T : gM} {f w k x y e : Int} {n : Nat}
theorem lt_tl : lt (σ (σ 8 33)) (σ 8 34 + f) n = lt (tl σ) f n := lt_eq.mpr fun i _ => by
  unfold tl
  rw [Int.add_assoc]
/-- a string of the text is kept -/
theorem fr_str (h : hI σ) (g : fI σ) (t : tI σ) (hf : 0 ≤ f ∧ f + n ≤ σ 69 2) (hw : (n : Int) ≤ w ∧ 2 ≤ w) (hr : cRm σ w) :
    ∃ S k, hp_string σ (σ 8 33) (σ 8 34 + f) n = some (S, k) ∧ cFr w σ S ∧ (0 ≤ k ∧ k < S 0 7) ∧ cS S k = lt (tl σ) f n ∧ S 3 k = n ∧ (∀ a i, 6 ≤ a → S a i = σ a i) ∧ S 0 9 = σ 0 9 := by
  have gn := tI_gN t
  have rw' := t.row
  obtain ⟨t1, t2, t3, t4⟩ := t
  obtain ⟨r1, r2, r3, r4, r5⟩ := hr
  obtain ⟨S, k, es, hS, k0, ek, n7, n8, st, new, old, c0, c1, c2⟩ := hp_string_s (n := n) (f := σ 8 34 + f) h rw' ⟨by omega, by omega⟩ (by omega) (by omega) (by omega)
  have c : ∀ a i, 6 ≤ a → S a i = σ a i := fun a i q => c0 a i (by omega) (by omega) (by omega) (by omega) (by omega) (by omega)
  have cc : ∀ a, 6 ≤ a → S a = σ a := fun a q => funext fun i => c a i q
  have e8 := cc 8 (by decide)
  have sz : S 3 k = n := by
    have := congrArg List.length ek
    unfold cS at this
    rw [lt_len, lt_len] at this
    have := (hS.2.2.1 k k0.1 k0.2).2.1
    omega
  refine ⟨S, k, es, ⟨hS, ?_, fun a q => cc a (by omega), fun i _ _ _ _ _ => c 8 i (by decide), fun a i q1 _ _ => c a i (by omega), fun a p q1 _ _ => c a p (by omega), ?_, st, fun i q1 q2 _ => c1 i q1 q2, c2, fun s _ q1 q2 => ?_, fun f _ => ⟨c 23 f (by decide), c 24 f (by decide)⟩, fun f q1 q2 => ?_, fun k _ => ?_, ⟨n7.1, by omega⟩, ⟨n8.1, by omega⟩, ?_, ?_⟩, k0, by rw [ek, lt_tl], sz, c, c1 9 (by decide) (by decide)⟩
  · obtain ⟨g1, g2, g3, g4⟩ := g
    unfold fI
    rw [e8, cc 23 (by decide), cc 24 (by decide)]
    refine ⟨g1, fun f q1 q2 => ?_, g3, g4⟩
    obtain ⟨b1, b2, b3⟩ := g2 f q1 q2
    exact ⟨by omega, by rw [(st _ (Or.inl b1)).2.2.2.2]; exact b2, b3⟩
  · rw [e8]; exact ⟨Int.le_refl _, Int.le_refl _⟩
  · by_cases z : k = σ 0 7
    · obtain ⟨z1, z2, z3, -⟩ := new z
      have : s = k := by omega
      rw [this]
      exact ⟨z2, z3⟩
    · have := old z
      rw [this] at q2
      omega
  · rw [e8] at q2; omega
  · rw [cc 6 (by decide), cc 7 (by decide)]
    exact ⟨rfl, rfl, rfl, rfl, rfl⟩
  · rw [c1 9 (by decide) (by decide)]; exact ⟨Int.le_refl _, by omega⟩
  · rw [e8]; exact ⟨Int.le_refl _, by omega⟩
theorem fr_function_b15_s (h : 0 ≤ σ 8 19 ∧ σ 8 19 < 9000) : ∀ (m : Nat) (j : Int), 0 ≤ j → j + m = σ 8 19 → (∀ f, 0 ≤ f → f < j → σ 23 f ≠ x) →
    ∃ S k, fr_function_b15 σ x j = some (S, k) ∧ ((S = σ ∧ (0 ≤ k ∧ k < σ 8 19) ∧ σ 23 k = x) ∨ (k = σ 8 19 ∧ S = gW (gW (gW σ 23 (σ 8 19) x) 24 (σ 8 19) (-1)) 8 19 (σ 8 19 + 1) ∧ ∀ f, 0 ≤ f → f < σ 8 19 → σ 23 f ≠ x))
  | 0, j, j0, hj, hn => by
    rw [fr_function_b15_e, if_neg (by omega), if_pos h, if_pos h, w32_e (by omega) (by omega), w32_e (by omega) (by omega), show σ 8 19 + 1 - 1 = σ 8 19 by omega]
    exact ⟨_, _, rfl, Or.inr ⟨rfl, rfl, fun f q1 q2 => hn f q1 (by omega)⟩⟩
  | m + 1, j, j0, hj, hn => by
    rw [fr_function_b15_e, if_pos (by omega), if_pos (by omega)]
    by_cases z : σ 23 j = x
    · rw [if_pos z]
      exact ⟨_, _, rfl, Or.inl ⟨rfl, by omega, z⟩⟩
    · rw [if_neg z, w32_e (by omega) (by omega)]
      refine fr_function_b15_s h m (j + 1) (by omega) (by omega) fun f q1 q2 => ?_
      by_cases q : f = j
      · rw [q]; exact z
      · exact hn f q1 (by omega)
/-- a function by its name -/
theorem fr_function_s (h : hI σ) (g : fI σ) (t : tI σ) (hf : 0 ≤ f ∧ f + n ≤ σ 69 2) (hw : (n : Int) ≤ w ∧ 2 ≤ w) (hr : cRm σ w) (h12 : n ≤ 12) :
    ∃ S k, fr_function σ (σ 8 33) (σ 8 34 + f) n = some (S, k) ∧ cFr w σ S ∧ (0 ≤ k ∧ k < S 8 19) ∧ cS S (S 23 k) = lt (tl σ) f n ∧ (∀ a i, 9 ≤ a → a ≠ 23 → a ≠ 24 → S a i = σ a i) ∧ (∀ i, i ≠ 19 → S 8 i = σ 8 i) ∧ S 0 9 = σ 0 9 := by
  have rm := hr
  obtain ⟨S, s, e1, F, s0, es, sz, c, e9⟩ := fr_str h g t hf hw hr
  obtain ⟨r1, r2, r3, r4, r5⟩ := rm
  have e8 : S 8 = σ 8 := funext fun i => c 8 i (by decide)
  have g0 := g.1
  rw [fr_function_e, e1]
  simp only [Option.bind_some]
  obtain ⟨T, k, e2, alt⟩ := fr_function_b15_s (σ := S) (x := s) (by rw [e8]; omega) (S 8 19).toNat 0 (by decide) (by rw [e8]; omega) (fun f q1 q2 => by omega)
  rw [e2]
  rcases alt with ⟨rfl, k0, k1⟩ | ⟨k0, rfl, k1⟩
  · exact ⟨_, k, rfl, F, k0, by rw [k1]; exact es, fun a i q _ _ => c a i (by omega), fun i _ => c 8 i (by decide), e9⟩
  · have u : ∀ a i, a ≠ 23 → a ≠ 24 → (a ≠ 8 ∨ i ≠ 19) → gW (gW (gW S 23 (S 8 19) s) 24 (S 8 19) (-1)) 8 19 (S 8 19 + 1) a i = S a i := fun a i q1 q2 q3 => by
      unfold gW
      rw [if_neg (by omega), if_neg (by omega), if_neg (by omega)]
    have u19 : gW (gW (gW S 23 (S 8 19) s) 24 (S 8 19) (-1)) 8 19 (S 8 19 + 1) 8 19 = S 8 19 + 1 := gW_at _ _ _ _
    have u23 : gW (gW (gW S 23 (S 8 19) s) 24 (S 8 19) (-1)) 8 19 (S 8 19 + 1) 23 (S 8 19) = s := by rw [gW_c (by decide), gW_c (by decide), gW_at]
    have u24 : gW (gW (gW S 23 (S 8 19) s) 24 (S 8 19) (-1)) 8 19 (S 8 19 + 1) 24 (S 8 19) = -1 := by rw [gW_c (by decide), gW_at]
    have v23 : ∀ f, f ≠ S 8 19 → gW (gW (gW S 23 (S 8 19) s) 24 (S 8 19) (-1)) 8 19 (S 8 19 + 1) 23 f = S 23 f := fun f q => by rw [gW_c (by decide), gW_c (by decide), gW_i q]
    have v24 : ∀ f, f ≠ S 8 19 → gW (gW (gW S 23 (S 8 19) s) 24 (S 8 19) (-1)) 8 19 (S 8 19 + 1) 24 f = S 24 f := fun f q => by rw [gW_c (by decide), gW_i q, gW_c (by decide)]
    generalize gW (gW (gW S 23 (S 8 19) s) 24 (S 8 19) (-1)) 8 19 (S 8 19 + 1) = T at *
    have cc : ∀ a, a ≠ 8 → a ≠ 23 → a ≠ 24 → T a = S a := fun a q1 q2 q3 => funext fun i => u a i q2 q3 (Or.inl q1)
    have e0 := cc 0 (by decide) (by decide) (by decide)
    have e3 := cc 3 (by decide) (by decide) (by decide)
    have eS : S 8 19 = σ 8 19 := c 8 19 (by decide)
    have e16T := u 8 16 (by decide) (by decide) (by decide)
    obtain ⟨a1, a2, a3, a4, a5, a6, a7, a8, a9, a10, a11, a12, a13, a14, a15, a16, a17, a18⟩ := F
    refine ⟨T, k, rfl, ⟨hI_mv a1 e0 (cc 1 (by decide) (by decide) (by decide)) (cc 2 (by decide) (by decide) (by decide)) e3, ?_, fun a q => (cc a (by omega) (by omega) (by omega)).trans (a3 a q), fun i q1 q2 q3 q4 q5 => (u 8 i (by decide) (by decide) (Or.inr q3)).trans (a4 i q1 q2 q3 q4 q5), fun a i q1 q2 q3 => (u a i (by omega) (by omega) (by omega)).trans (a5 a i q1 q2 q3), fun a p q1 q2 q3 => (u a p (by omega) (by omega) (by omega)).trans (a6 a p q1 q2 (by omega)), ?_, fun q r => ?_, fun i q1 q2 q3 => by rw [e0]; exact a9 i q1 q2 q3, fun i q => by rw [cc 1 (by decide) (by decide) (by decide)]; exact a10 i q, fun r z0 q1 q2 => ?_, fun f q => ?_, fun f q1 q2 => ?_, fun r q => by rw [cc 6 (by decide) (by decide) (by decide), cc 7 (by decide) (by decide) (by decide)]; exact a14 r q, by rw [e0]; exact a15, by rw [e0]; exact a16, by rw [e0]; exact a17, by rw [u19]; omega⟩, by rw [u19]; omega, ?_, fun a i q1 q2 q3 => (u a i q2 q3 (by omega)).trans (c a i (by omega)), fun i q => (u 8 i (by decide) (by decide) (Or.inr q)).trans (c 8 i (by decide)), by rw [e0]; exact e9⟩
    · obtain ⟨b1, b2, b3, b4⟩ := a2
      unfold fI
      rw [u19, e0, e3, u 8 31 (by decide) (by decide) (by decide)]
      refine ⟨by omega, fun f q1 q2 => ?_, fun f f' q1 q2 q3 q4 q5 => ?_, b4⟩
      · by_cases z : f = S 8 19
        · rw [z, u23, u24]
          exact ⟨s0, by rw [sz]; omega, by omega⟩
        · rw [v23 f z, v24 f z]
          exact b2 f q1 (by omega)
      · by_cases z : f = S 8 19
        · by_cases z' : f' = S 8 19
          · omega
          · rw [z, u23, v23 f' z'] at q5
            exact (k1 f' q3 (by omega) q5.symm).elim
        · by_cases z' : f' = S 8 19
          · rw [z', u23, v23 f z] at q5
            exact (k1 f q1 (by omega) q5).elim
          · rw [v23 f z, v23 f' z'] at q5
            exact b3 f f' q1 (by omega) q3 (by omega) q5
    · rw [u 8 12 (by decide) (by decide) (by decide), u 8 16 (by decide) (by decide) (by decide)]; exact a7
    · rw [cS_mv (cc 1 (by decide) (by decide) (by decide)) (cc 2 (by decide) (by decide) (by decide)) e3, cc 4 (by decide) (by decide) (by decide), cc 5 (by decide) (by decide) (by decide), cc 2 (by decide) (by decide) (by decide), e3]
      exact a8 q r
    · rw [cc 4 (by decide) (by decide) (by decide), cc 5 (by decide) (by decide) (by decide)]
      exact a11 r z0 q1 (by rw [e0] at q2; exact q2)
    · rw [v23 f (by omega), v24 f (by omega)]
      exact a12 f q
    · by_cases z : f = S 8 19
      · rw [z]; exact u24
      · omega
    · rw [k0, u23, cS_mv (cc 1 (by decide) (by decide) (by decide)) (cc 2 (by decide) (by decide) (by decide)) e3]
      exact es
theorem fr_constant_s (hk : 0 ≤ k ∧ k < 16000) (h : 0 ≤ σ 8 16 ∧ σ 8 16 < 164000) : fr_constant σ k x y = some (cPt (gW (gW σ 16 k x) 17 k y) 0 0 k, 0) := by
  rw [fr_constant_e, if_pos hk, if_pos hk, fr_put_s (by rw [gW_c (by decide), gW_c (by decide)]; exact h)]
  rfl
/-- a great number of the text is kept -/
theorem hp_whole_s (hk : 0 ≤ σ 0 9 ∧ σ 0 9 < 8000) (hx : wIs σ 36 x) : ∃ S, hp_whole σ 36 1 = some (S, σ 0 9) ∧ S 0 9 = σ 0 9 + 1 ∧ cB S (σ 0 9) x ∧ (∀ a i, (a ≠ 0 ∨ i ≠ 9) → (a ≠ 6 ∨ i ≠ σ 0 9) → (a ≠ 7 ∨ i < 4 * σ 0 9 ∨ 4 * σ 0 9 + 4 ≤ i) → S a i = σ a i) := by
  have hwc : gWc 36 := Or.inl rfl
  have step : ∀ (S : gM) (i i' : Int), 0 ≤ i → i < 4 → i + 1 = i' → hp_whole_b56 S 36 (σ 0 9) i = hp_whole_b56 (gW S 7 (4 * σ 0 9 + i) (S 37 i)) 36 (σ 0 9) i' := fun S i i' h0 h4 hi => by
    rw [hp_whole_b56_e, if_pos h4, w32_e (x := 4 * σ 0 9) (by omega) (by omega), w32_e (x := 4 * σ 0 9 + i) (by omega) (by omega), w32_e (x := i + 1) (by omega) (by omega), hi, gWc_R1 hwc, gWc_is _ hwc, gWc_is1 _ hwc, gWc_N1 hwc, if_pos (by omega), if_pos (by omega)]
    rfl
  rw [hp_whole_e, if_neg (by decide), hp_whole_b15_e, if_neg (by decide), hp_whole_b43_e, gWc_is _ hwc, if_pos (by omega), step _ 0 1 (by decide) (by decide) (by decide), step _ 1 2 (by decide) (by decide) (by decide), step _ 2 3 (by decide) (by decide) (by decide), step _ 3 4 (by decide) (by decide) (by decide), hp_whole_b56_e, if_neg (by decide), w32_e (by omega) (by omega)]
  simp only [gW_c (show (37 : Int) ≠ 7 by decide), gW_c (show (37 : Int) ≠ 6 by decide), gW_c (show (37 : Int) ≠ 0 by decide), gW_c (show (36 : Int) ≠ 0 by decide), Int.add_zero]
  refine ⟨_, rfl, ?_, ?_, fun a i q1 q2 q3 => ?_⟩
  · rw [gW_c (by decide), gW_c (by decide), gW_c (by decide), gW_c (by decide), gW_c (by decide), gW_at]
  · obtain ⟨h1, h2⟩ := hx
    unfold wOk wm at *
    unfold cB
    have e6 : ∀ (u v p q : Int), gW (gW (gW (gW (gW (gW σ 0 9 (σ 0 9 + 1)) 6 (σ 0 9) (σ 36 0)) 7 (4 * σ 0 9) u) 7 (4 * σ 0 9 + 1) v) 7 (4 * σ 0 9 + 2) p) 7 (4 * σ 0 9 + 3) q 6 (σ 0 9) = σ 36 0 := fun u v p q => by
      rw [gW_c (by decide), gW_c (by decide), gW_c (by decide), gW_c (by decide), gW_at]
    rw [e6, gW_at, gW_i (show 4 * σ 0 9 ≠ 4 * σ 0 9 + 3 by omega), gW_i (show 4 * σ 0 9 ≠ 4 * σ 0 9 + 2 by omega), gW_i (show 4 * σ 0 9 ≠ 4 * σ 0 9 + 1 by omega), gW_at, gW_i (show 4 * σ 0 9 + 1 ≠ 4 * σ 0 9 + 3 by omega), gW_i (show 4 * σ 0 9 + 1 ≠ 4 * σ 0 9 + 2 by omega), gW_at, gW_i (show 4 * σ 0 9 + 2 ≠ 4 * σ 0 9 + 3 by omega), gW_at]
    exact ⟨h1, h2⟩
  · unfold gW
    rw [if_neg (by omega), if_neg (by omega), if_neg (by omega), if_neg (by omega), if_neg (by omega), if_neg (by omega)]
theorem fr_number_b10_s (t : tI σ) (he : 0 ≤ e ∧ e < 4200) (hn : 0 ≤ σ 76 e ∧ 0 ≤ σ 77 e ∧ σ 77 e ≤ 36 ∧ σ 76 e + σ 77 e ≤ σ 69 2) (dg : ∀ j, σ 76 e ≤ j → j < σ 76 e + σ 77 e → isD (tl σ j)) : ∀ (m j : Nat) (S : gM), (j : Int) + m = σ 77 e → wFr σ S 36 → wOk S 36 → wm S 36 = dvN (tl σ) (σ 76 e) j → (S 36 0 = if wm S 36 = 0 then 0 else 1) →
    ∃ T, fr_number_b10 S k e j = fr_number_b10 T k e (σ 77 e) ∧ wFr σ T 36 ∧ wIs T 36 (dvN (tl σ) (σ 76 e) (σ 77 e).toNat)
  | 0, j, S, hj, F, ok, em, es => by
    refine ⟨S, by rw [show (j : Int) = σ 77 e by omega], F, ok, ?_⟩
    rw [show (σ 77 e).toNat = j by omega, ← em]
    have := (wm_rng ok).1
    by_cases z : wm S 36 = 0
    · rw [if_pos z] at es
      exact Or.inr (Or.inl ⟨z, es, z⟩)
    · rw [if_neg z] at es
      exact Or.inr (Or.inr ⟨by omega, es, rfl⟩)
  | m + 1, j, S, hj, F, ok, em, es => by
    have c : ∀ a i, a ≠ 36 → a ≠ 37 → a ≠ 38 → S a i = σ a i := fun a i q1 q2 q3 => F a i q1 q2 q3
    have d := dg (σ 76 e + j) (by omega) (by omega)
    have rng := dvN_r (f := tl σ) (a := σ 76 e) j fun i hi => dg _ (by omega) (by omega)
    have pj : (10 : Int) ^ (j + 1) ≤ 10 ^ 36 := ten_le (by omega)
    have p36 : (10 : Int) ^ 36 = 1000000000000000000000000000000000000 := by decide
    have ps1 := tps j
    obtain ⟨t1, t2, t3, t4⟩ := id t
    have row : gisb 119 (σ 8 33) (some ()) = some () := by rcases t.row with q | q | q <;> rw [q] <;> rfl
    have gn := tI_gN t
    have ngn : gN (σ 8 33) ≤ 1000000 := by rcases t.row with q | q | q <;> rw [q] <;> decide
    unfold isD at d
    unfold tl at d
    have eD : S (σ 8 33) (σ 8 34 + σ 76 e + j) = σ (σ 8 33) (σ 8 34 + (σ 76 e + j)) := by
      rw [show σ 8 34 + σ 76 e + j = σ 8 34 + (σ 76 e + j) by omega]
      exact c _ _ (by omega) (by omega) (by omega)
    rw [fr_number_b10_e, c 8 32 (by decide) (by decide) (by decide), c 8 33 (by decide) (by decide) (by decide), c 8 34 (by decide) (by decide) (by decide), c 76 e (by decide) (by decide) (by decide), c 77 e (by decide) (by decide) (by decide), if_pos (show 0 ≤ σ 8 32 by omega), if_pos he, if_pos (by omega), if_pos (by omega), if_pos (by omega), if_pos he, gisb_ok row, w32_e (x := σ 8 34 + σ 76 e) (by omega) (by omega), w32_e (x := σ 8 34 + σ 76 e + j) (by omega) (by omega), if_pos (by omega), eD, w32_e (x := σ (σ 8 33) (σ 8 34 + (σ 76 e + j)) - 48) (by omega) (by omega), w32_e (x := (j : Int) + 1) (by omega) (by omega)]
    obtain ⟨T, x1, x2, x3, x4, x5⟩ := wl_more_s (σ := S) (w := 36) (Or.inl rfl) (d := σ (σ 8 33) (σ 8 34 + (σ 76 e + j)) - 48) ok (by omega)
    rw [x1]
    simp only [Option.bind_some]
    have nx : dvN (tl σ) (σ 76 e) (j + 1) = dvN (tl σ) (σ 76 e) j * 10 + (σ (σ 8 33) (σ 8 34 + (σ 76 e + j)) - 48) := rfl
    rw [em, Int.emod_eq_of_lt (by omega) (by omega), ← nx] at x3
    rw [show (j : Int) + 1 = ((j + 1 : Nat) : Int) by omega]
    exact fr_number_b10_s t he hn dg m (j + 1) T (by omega) (F.tr x5) x2 x3 x4
/-- a number of the text -/
theorem fr_number_s (h : hI σ) (g : fI σ) (t : tI σ) (hk : 0 ≤ k ∧ k < 16000) (he : 0 ≤ e ∧ e < 4200) (hn : 0 ≤ σ 76 e ∧ 1 ≤ σ 77 e ∧ σ 77 e ≤ 36 ∧ σ 76 e + σ 77 e ≤ σ 69 2) (dg : ∀ j, σ 76 e ≤ j → j < σ 76 e + σ 77 e → isD (tl σ j)) (hr : cRm σ (σ 77 e + 1)) (h16 : 0 ≤ σ 8 16 ∧ σ 8 16 < 164000) :
    ∃ S x y, fr_number σ k e = some (cPt (gW (gW S 16 k x) 17 k y) 0 0 k, 0) ∧ cFr (σ 77 e + 1) σ S ∧ numIs S (dvN (tl σ) (σ 76 e) (σ 77 e).toNat) x y ∧ (∀ a i, 8 ≤ a → a ≠ 36 → a ≠ 37 → a ≠ 38 → S a i = σ a i) := by
  obtain ⟨r1, r2, r3, r4, r5⟩ := hr
  rw [fr_number_e]
  obtain ⟨S0, y1, y2, y3⟩ := wl_of_s (σ := σ) (w := 36) (Or.inl rfl) (v := 0) (by unfold i64; decide)
  rw [y1]
  simp only [Option.bind_some]
  have ok0 : wm S0 36 = 0 ∧ S0 36 0 = 0 := by
    obtain ⟨-, q | q | q⟩ := y2
    · omega
    · exact ⟨q.2.2, q.2.1⟩
    · omega
  obtain ⟨S1, z1, F, wi⟩ := fr_number_b10_s (k := k) t he ⟨hn.1, by omega, hn.2.2⟩ dg (σ 77 e).toNat 0 S0 (by omega) y3 y2.1 ok0.1 (by rw [ok0.2, if_pos ok0.1])
  have z1' : fr_number_b10 S0 k e 0 = fr_number_b10 S1 k e (σ 77 e) := z1
  rw [z1']
  have rng := dvN_r (f := tl σ) (a := σ 76 e) (σ 77 e).toNat fun i hi => dg _ (by omega) (by omega)
  generalize dvN (tl σ) (σ 76 e) (σ 77 e).toNat = v at *
  have c : ∀ a i, a ≠ 36 → a ≠ 37 → a ≠ 38 → S1 a i = σ a i := fun a i q1 q2 q3 => F a i q1 q2 q3
  rw [fr_number_b10_e, c 8 32 (by decide) (by decide) (by decide), c 77 e (by decide) (by decide) (by decide), if_pos (show 0 ≤ σ 8 32 by have := t.1; omega), if_pos he, if_neg (by omega)]
  obtain ⟨tt, r, q1, q2, q3⟩ := wl_isLong_s (a := 36) (Or.inl rfl) wi
  rw [q1]
  simp only [Option.bind_some]
  have fr0 := cFr.rf h g (w := σ 77 e + 1) (by omega)
  have frm : ∀ X : gM, (∀ a i, a ≠ 36 → a ≠ 37 → a ≠ 38 → X a i = σ a i) → cFr (σ 77 e + 1) σ X := fun X cX => by
    refine fr0.mv (fun a q => funext fun i => cX a i (by omega) (by omega) (by omega)) (fun i _ _ _ _ => cX 8 i (by decide) (by decide) (by decide)) (fun a i q1 q2 _ => cX a i (by omega) (by omega) (by omega)) (fun a i q1 q2 _ => cX a i (by omega) (by omega) (by omega)) ⟨?_, ?_⟩
    · rw [cX 8 12 (by decide) (by decide) (by decide)]; exact Int.le_refl _
    · rw [cX 8 16 (by decide) (by decide) (by decide)]; exact Int.le_refl _
  have cg : ∀ a i, a ≠ 36 → a ≠ 37 → a ≠ 38 → gW S1 36 3 tt a i = σ a i := fun a i q1 q2 q3 => by rw [gW_c q1]; exact c a i q1 q2 q3
  by_cases li : i64 v
  · obtain ⟨w1, w2⟩ := q2 li
    rw [w1, if_neg (by decide), gW_at, w2, fr_constant_s hk (by rw [gW_c (by decide), c 8 16 (by decide) (by decide) (by decide)]; exact h16)]
    refine ⟨gW S1 36 3 v, 0, v, rfl, frm _ (by rw [w2] at cg; exact cg), Or.inl ⟨li, rfl, rfl⟩, fun a i _ q2 q3 q4 => ?_⟩
    rw [w2] at cg
    exact cg a i q2 q3 q4
  · rw [q3 li, if_pos rfl]
    have wi2 : wIs (gW S1 36 3 tt) 36 v := by
      obtain ⟨o1, o2⟩ := wi
      unfold wIs wOk wm at *
      rw [gW_i (show (0 : Int) ≠ 3 by decide)]
      simp only [gW_c (show (36 : Int) + 1 ≠ 36 by decide)]
      exact ⟨o1, o2⟩
    have e09 := cg 0 9 (by decide) (by decide) (by decide)
    obtain ⟨T, u1, u2, u3, u4⟩ := hp_whole_s (σ := gW S1 36 3 tt) (x := v) (by rw [e09]; omega) wi2
    rw [u1]
    simp only [Option.bind_some]
    rw [e09] at u2 u3 u4
    rw [e09]
    have fr1 := frm _ cg
    generalize gW S1 36 3 tt = X at *
    rw [fr_constant_s hk (by rw [u4 8 16 (by omega) (by omega) (by omega), cg 8 16 (by decide) (by decide) (by decide)]; exact h16)]
    have n19 : 19 ≤ σ 77 e := by
      by_cases z : 19 ≤ σ 77 e
      · exact z
      · have pj : (10 : Int) ^ (σ 77 e).toNat ≤ 10 ^ 18 := ten_le (by omega)
        have p18 : (10 : Int) ^ 18 = 1000000000000000000 := by decide
        exact (li (by unfold i64; omega)).elim
    refine ⟨T, 1, σ 0 9, rfl, ?_, Or.inr ⟨li, rfl, by omega, u3⟩, fun a i q1 q2 q3 q4 => ?_⟩
    · have cT : ∀ a, a ≠ 0 → a ≠ 6 → a ≠ 7 → T a = X a := fun a q1 q2 q3 => funext fun i => u4 a i (Or.inl q1) (Or.inl q2) (Or.inl q3)
      have e0 : ∀ i, i ≠ 9 → T 0 i = X 0 i := fun i q => u4 0 i (Or.inr q) (by omega) (by omega)
      obtain ⟨a1, a2, a3, a4, a5, a6, a7, a8, a9, a10, a11, a12, a13, a14, a15, a16, a17, a18⟩ := fr1
      have e1 := cT 1 (by decide) (by decide) (by decide)
      have e2 := cT 2 (by decide) (by decide) (by decide)
      have e3 := cT 3 (by decide) (by decide) (by decide)
      have e4 := cT 4 (by decide) (by decide) (by decide)
      have e5 := cT 5 (by decide) (by decide) (by decide)
      have e8 := cT 8 (by decide) (by decide) (by decide)
      refine ⟨?_, ?_, fun a q => (cT a (by omega) (by omega) (by omega)).trans (a3 a q), by rw [e8]; exact a4, fun a i q1 q2 q3 => by rw [cT a (by omega) (by omega) (by omega)]; exact a5 a i q1 q2 q3, fun a i q1 q2 q3 => by rw [e8] at q3; rw [cT a (by omega) (by omega) (by omega)]; exact a6 a i q1 q2 q3, by rw [e8]; exact a7, fun s q => ?_, fun i q1 q2 q3 => by rw [e0 i q3]; exact a9 i q1 q2 q3, by rw [e1]; exact a10, fun s z0 q1 q2 => ?_, fun f q => by rw [cT 23 (by decide) (by decide) (by decide), cT 24 (by decide) (by decide) (by decide)]; exact a12 f q, fun f q1 q2 => ?_, fun z q => ?_, by rw [e0 7 (by decide)]; exact a15, by rw [e0 8 (by decide)]; exact a16, by rw [u2]; omega, by rw [e8]; exact a18⟩
      · unfold hI at a1 ⊢
        rw [e0 7 (by decide), e0 8 (by decide), e0 10 (by decide), e0 11 (by decide), e0 13 (by decide), e2, e3]
        unfold cS at a1 ⊢
        rw [e1, e2, e3]
        exact a1
      · unfold fI at a2 ⊢
        rw [e8, e0 7 (by decide), e3, cT 23 (by decide) (by decide) (by decide), cT 24 (by decide) (by decide) (by decide)]
        exact a2
      · rw [cS_mv e1 e2 e3, e4, e5, e2, e3]; exact a8 s q
      · rw [e4, e5]; exact a11 s z0 q1 (by rw [e0 7 (by decide)] at q2; exact q2)
      · rw [cT 24 (by decide) (by decide) (by decide)]; exact a13 f q1 (by rw [e8] at q2; exact q2)
      · have nz : z ≠ σ 0 9 := by omega
        rw [u4 6 z (by omega) (Or.inr nz) (by omega), u4 7 (4 * z) (by omega) (by omega) (by omega), u4 7 (4 * z + 1) (by omega) (by omega) (by omega), u4 7 (4 * z + 2) (by omega) (by omega) (by omega), u4 7 (4 * z + 3) (by omega) (by omega) (by omega)]
        exact a14 z q
    · rw [u4 a i (by omega) (by omega) (by omega)]
      exact cg a i q2 q3 q4
end PS
