/-! words that are no names -/
section IX
variable {σ : gM} {s c : Int}
theorem ixc_b7 (h : 0 ≤ s ∧ s < 23) : ∀ (m : Nat) (k : Int), 0 ≤ k → k + m = gsl s → ∃ r, sl_indexOfChar_b7 σ s (gsl s) c k = some (σ, r) ∧ ((r = -1 ∧ ∀ i, k ≤ i → i < gsl s → gsc s i ≠ c) ∨ (k ≤ r ∧ r < gsl s ∧ gsc s r = c ∧ ∀ i, k ≤ i → i < r → gsc s i ≠ c))
  | 0, k, h0, hk => by
    rw [sl_indexOfChar_b7_e, if_neg (by omega)]
    exact ⟨-1, rfl, Or.inl ⟨rfl, fun i a b => by omega⟩⟩
  | m + 1, k, h0, hk => by
    have gl := gsl_r h
    rw [sl_indexOfChar_b7_e, if_pos (by omega), gtx_ok h, if_pos (by omega)]
    by_cases q : gsc s k = c
    · rw [if_pos q]
      exact ⟨k, rfl, Or.inr ⟨Int.le_refl _, by omega, q, fun i a b => by omega⟩⟩
    · rw [if_neg q, w32_e (by omega) (by omega)]
      obtain ⟨r, e, hr⟩ := ixc_b7 h m (k + 1) (by omega) (by omega)
      refine ⟨r, e, ?_⟩
      rcases hr with ⟨r1, r2⟩ | ⟨r1, r2, r3, r4⟩
      · left
        refine ⟨r1, fun i a b => ?_⟩
        by_cases z : i = k
        · rw [z]; exact q
        · exact r2 i (by omega) b
      · right
        refine ⟨by omega, r2, r3, fun i a b => ?_⟩
        by_cases z : i = k
        · rw [z]; exact q
        · exact r4 i (by omega) b
theorem st_indexOf_s (h : 0 ≤ s ∧ s < 23) {k : Int} (hc : 0 ≤ c ∧ c ≤ 255) (h0 : 0 ≤ k) (hk : k < gsl s) : ∃ r, st_indexOf σ s c k = some (σ, r) ∧ ((r = -1 ∧ ∀ i, k ≤ i → i < gsl s → gsc s i ≠ w8 c) ∨ (k ≤ r ∧ r < gsl s ∧ gsc s r = w8 c ∧ ∀ i, k ≤ i → i < r → gsc s i ≠ w8 c)) := by
  have gl := gsl_r h
  obtain ⟨r, e, hr⟩ := ixc_b7 (σ := σ) (c := w8 c) h (gsl s - k).toNat k h0 (by omega)
  refine ⟨r, ?_, hr⟩
  rw [st_indexOf_e, gtx_ok h, st_isLatin1_s h]
  simp only [Option.bind_some, show ¬ ((1 : Int) = 0) by decide, if_false]
  rw [gtx_ok h, gtx_ok h, st_length_s h]
  simp only [Option.bind_some]
  rw [sl_indexOf_e, sl_canEncode_e, if_neg (by omega), if_neg (by omega)]
  simp only [Option.bind_some, show ¬ ((1 : Int) = 0) by decide, if_false]
  rw [jm_max_e, if_neg (by omega)]
  simp only [Option.bind_some]
  rw [gtx_ok h, jm_min_e, if_neg (by omega)]
  simp only [Option.bind_some]
  rw [if_pos (by omega), sl_indexOfChar_e, e]
  rfl
theorem w8_c (h : 0 ≤ c ∧ c ≤ 255) : w8 c = if c ≤ 127 then c else c - 256 := by
  by_cases q : c ≤ 127
  · rw [if_pos q, w8_e (by omega) q]
  · rw [if_neg q]
    unfold w8
    have h1 := @Int.le_bmod c 256 (by decide)
    have h2 := @Int.bmod_lt c 256 (by decide)
    have h3 := @Int.bmod_emod c 256
    omega
end IX
/-- where words end -/
theorem wd_sp : ∀ i : Fin 61, (gsc 13 i.val = 32 ↔ i.val = 8 ∨ i.val = 11 ∨ i.val = 16 ∨ i.val = 22 ∨ i.val = 29 ∨ i.val = 35 ∨ i.val = 44 ∨ i.val = 49 ∨ i.val = 55 ∨ i.val = 60) := by decide +kernel
theorem wd_s {i : Int} (h : 0 ≤ i ∧ i < 61) : gsc 13 i = 32 ↔ i = 8 ∨ i = 11 ∨ i = 16 ∨ i = 22 ∨ i = 29 ∨ i = 35 ∨ i = 44 ∨ i = 49 ∨ i = 55 ∨ i = 60 := by
  have := wd_sp ⟨i.toNat, by omega⟩
  simp only [show ((i.toNat : Nat) : Int) = i by omega] at this
  rw [this]
  omega
theorem gsl_13 : gsl 13 = 61 := by decide
theorem w8_32 : w8 32 = 32 := by decide
/-- a word of the language: where it begins, how many letters -/
def wdA (a n : Int) : Prop := (a = 0 ∧ n = 8) ∨ (a = 9 ∧ n = 2) ∨ (a = 12 ∧ n = 4) ∨ (a = 17 ∧ n = 5) ∨ (a = 23 ∧ n = 6) ∨ (a = 30 ∧ n = 5) ∨ (a = 36 ∧ n = 8) ∨ (a = 45 ∧ n = 4) ∨ (a = 50 ∧ n = 5) ∨ (a = 56 ∧ n = 4)
theorem wd_ix {σ : gM} {a n : Int} (h : wdA a n) : st_indexOf σ 13 32 a = some (σ, a + n) := by
  unfold wdA at h
  obtain ⟨r, e, hr⟩ := st_indexOf_s (σ := σ) (s := 13) (c := 32) (k := a) (by decide) (by decide) (by omega) (by rw [gsl_13]; omega)
  rw [e]
  rw [gsl_13, w8_32] at hr
  have : r = a + n := by
    rcases hr with ⟨r1, r2⟩ | ⟨r1, r2, r3, r4⟩
    · exact absurd ((wd_s (by omega)).mpr (by omega)) (r2 (a + n) (by omega) (by omega))
    · by_cases z : r < a + n
      · have := (wd_s (i := r) (by omega)).mp r3
        omega
      · by_cases z2 : a + n < r
        · exact absurd ((wd_s (by omega)).mpr (by omega)) (r4 (a + n) (by omega) z2)
        · omega
  rw [this]
section WD
variable {σ τ : gM} {a : Int} {n : Nat}
theorem word_c0 {e k : Int} : tk_word_b39 σ a e 0 k = tk_word_b87 σ a e 0 := by
  rw [tk_word_b39_e]
  simp only [if_true, ite_self]
theorem word_c (h : tX σ τ) (hp : 0 ≤ σ 69 5) (hz : σ 69 6 = n) (hn : σ 69 5 + n ≤ σ 69 2) (ha : 0 ≤ a ∧ a + n ≤ 60) {e : Int} : ∀ (m k : Nat), k + m = n → ∃ r, (r = 0 ∨ r = 1) ∧ tk_word_b39 σ a e 1 k = tk_word_b87 σ a e r ∧ (r = 1 ↔ ∀ i : Nat, k ≤ i → i < n → τ 134 (σ 69 5 + i) = gsc 13 (a + i))
  | 0, k, hk => by
    rw [tk_word_b39_e, if_neg (by omega)]
    exact ⟨1, Or.inr rfl, rfl, fun _ i h1 h2 => by omega, fun _ => rfl⟩
  | m + 1, k, hk => by
    have hb := h.2.1
    have gc := gsc_r (s := 13) (i := a + k) (by decide) (by omega)
    have tk := (h.2.2.2 (σ 69 5 + k) (by omega) (by omega)).2
    unfold i8 at tk
    rw [tk_word_b39_e, if_pos (by omega), if_neg (by decide), w32_e (x := a + k) (by omega) (by omega), st_charAt_s (by decide) (by rw [gsl_13]; omega)]
    simp only [Option.bind_some]
    rw [w32_e (x := σ 69 5 + k) (by omega) (by omega), tk_byteAt_s h (by omega) (by omega)]
    simp only [Option.bind_some]
    have ce : cb σ τ (σ 69 5 + k) = τ 134 (σ 69 5 + k) % 256 := by unfold cb; rw [if_pos (by omega)]
    rw [ce]
    by_cases q : gsc 13 (a + k) = τ 134 (σ 69 5 + k) % 256
    · rw [if_pos q, tk_word_b80_e, w32_e (by omega) (by omega), show (k : Int) + 1 = ((k + 1 : Nat) : Int) by omega]
      obtain ⟨r, i1, i2, i3⟩ := word_c h hp hz hn ha (e := e) m (k + 1) (by omega)
      refine ⟨r, i1, i2, i3.trans ⟨fun w i x y => ?_, fun w i x y => w i (by omega) y⟩⟩
      by_cases hi : i = k
      · subst hi; omega
      · exact w i (by omega) y
    · rw [if_neg q, tk_word_b80_e, word_c0]
      refine ⟨0, Or.inl rfl, rfl, fun w => by omega, fun w => ?_⟩
      have := w k (Nat.le_refl k) (by omega)
      omega
theorem word_st (h : tX σ τ) (hp : 0 ≤ σ 69 5) (hz : 0 ≤ σ 69 6) (hn : σ 69 5 + σ 69 6 ≤ σ 69 2) (hw : wdA a n) : tk_word_b2 σ a = if lt (τ 134) (σ 69 5) (σ 69 6).toNat = lt (gsc 13) a n then some (σ, a) else tk_word_b2 σ (a + n + 1) := by
  have hw' := hw
  unfold wdA at hw'
  have hb := h.2.1
  rw [tk_word_b2_e, st_length_s (by decide)]
  simp only [Option.bind_some, gsl_13]
  rw [if_pos (by omega), wd_ix hw]
  simp only [Option.bind_some]
  rw [w32_e (x := a + n - a) (by omega) (by omega)]
  by_cases q : a + n - a = σ 69 6
  · rw [if_pos q, tk_word_b35_e]
    obtain ⟨r, i1, i2, i3⟩ := word_c (a := a) (n := n) (e := a + n) h hp (by omega) (by omega) (by omega) n 0 (by omega)
    have i2' : tk_word_b39 σ a (a + n) 1 0 = tk_word_b87 σ a (a + n) r := i2
    rw [i2', tk_word_b87_e, w32_e (by omega) (by omega)]
    have ee : lt (τ 134) (σ 69 5) (σ 69 6).toNat = lt (gsc 13) a n ↔ r = 1 := by
      rw [show (σ 69 6).toNat = n by omega, lt_eq, i3]
      exact ⟨fun w i _ y => w i y, fun w i y => w i (Nat.zero_le _) y⟩
    rcases i1 with i1 | i1
    · rw [if_pos i1, if_neg (by rw [ee]; omega)]
    · rw [if_neg (by omega), if_pos (ee.mpr i1)]
  · rw [if_neg q, tk_word_b35_e, word_c0, tk_word_b87_e, if_pos rfl, w32_e (by omega) (by omega), if_neg]
    intro w
    have := lt_n w
    omega
theorem mword_c0 {w e k : Int} : md_word_b60 τ w a e 0 k = md_word_b108 τ w e 0 := by
  rw [md_word_b60_e]
  simp only [if_true, ite_self]
theorem mword_c (h : tX σ τ) (hp : 0 ≤ τ 119 26) (hn : τ 119 26 + n ≤ σ 69 2) (ha : 0 ≤ a ∧ a + n ≤ 60) {w : Int} : ∀ (m k : Nat), k + m = n → ∃ r, (r = 0 ∨ r = 1) ∧ md_word_b60 τ w a (a + n) 1 (a + k) = md_word_b108 τ w (a + n) r ∧ (r = 1 ↔ ∀ i : Nat, k ≤ i → i < n → τ 134 (τ 119 26 + i) = gsc 13 (a + i))
  | 0, k, hk => by
    rw [md_word_b60_e, if_neg (by omega)]
    exact ⟨1, Or.inr rfl, rfl, fun _ i h1 h2 => by omega, fun _ => rfl⟩
  | m + 1, k, hk => by
    have hb := h.2.1
    rw [md_word_b60_e, if_pos (by omega), if_neg (by decide), st_charAt_s (by decide) (by rw [gsl_13]; omega)]
    simp only [Option.bind_some]
    rw [w32_e (x := τ 119 26 + (a + k)) (by omega) (by omega), w32_e (x := τ 119 26 + (a + k) - a) (by omega) (by omega), show τ 119 26 + (a + (k : Int)) - a = τ 119 26 + k by omega, md_sign_s h (by omega)]
    simp only [Option.bind_some]
    have ce : tb σ τ (τ 119 26 + k) = τ 134 (τ 119 26 + k) := by unfold tb; rw [if_pos (by omega)]
    rw [ce]
    by_cases q : gsc 13 (a + k) = τ 134 (τ 119 26 + k)
    · rw [if_pos q, md_word_b100_e, w32_e (by omega) (by omega), show a + (k : Int) + 1 = a + ((k + 1 : Nat) : Int) by omega]
      obtain ⟨r, i1, i2, i3⟩ := mword_c h hp hn ha (w := w) m (k + 1) (by omega)
      refine ⟨r, i1, i2, i3.trans ⟨fun w i x y => ?_, fun w i x y => w i (by omega) y⟩⟩
      by_cases hi : i = k
      · subst hi; omega
      · exact w i (by omega) y
    · rw [if_neg q, md_word_b100_e, mword_c0]
      refine ⟨0, Or.inl rfl, rfl, fun w => by omega, fun w => ?_⟩
      have := w k (Nat.le_refl k) (by omega)
      omega
theorem mword_sp (hw : wdA a n) {w : Int} : ∀ (m k : Nat), k + m = n → md_word_b17 τ w a (a + k) = md_word_b17 τ w a (a + n)
  | 0, k, hk => by rw [show k = n by omega]
  | m + 1, k, hk => by
    have hw' := hw
    unfold wdA at hw'
    rw [md_word_b17_e, st_charAt_s (by decide) (by rw [gsl_13]; omega)]
    simp only [Option.bind_some]
    rw [if_neg (by rw [wd_s (by omega)]; omega), w32_e (by omega) (by omega), show a + (k : Int) + 1 = a + ((k + 1 : Nat) : Int) by omega]
    exact mword_sp hw m (k + 1) (by omega)
theorem mword_st (h : tX σ τ) (hp : 0 ≤ τ 119 26) (hz : τ 119 26 ≤ τ 119 24) (hn : τ 119 24 ≤ σ 69 2) (hw : wdA a n) {w : Int} (hw1 : 0 ≤ w ∧ w ≤ 100) : md_word_b5 τ w a = if lt (τ 134) (τ 119 26) (τ 119 24 - τ 119 26).toNat = lt (gsc 13) a n then some (τ, w) else md_word_b5 τ (w + 1) (a + n + 1) := by
  have hw' := hw
  unfold wdA at hw'
  have hb := h.2.1
  have s0 := mword_sp (τ := τ) hw (w := w) n 0 (by omega)
  rw [show a + ((0 : Nat) : Int) = a by omega] at s0
  rw [md_word_b5_e, st_length_s (by decide)]
  simp only [Option.bind_some, gsl_13]
  rw [if_pos (by omega), s0, md_word_b17_e, st_charAt_s (by decide) (by rw [gsl_13]; omega)]
  simp only [Option.bind_some]
  rw [if_pos (by rw [wd_s (by omega)]; omega), w32_e (x := a + n - a) (by omega) (by omega), w32_e (x := τ 119 24 - τ 119 26) (by omega) (by omega)]
  by_cases q : a + n - a = τ 119 24 - τ 119 26
  · rw [if_pos q, md_word_b55_e]
    obtain ⟨r, i1, i2, i3⟩ := mword_c (a := a) (n := n) h hp (by omega) (by omega) (w := w) n 0 (by omega)
    rw [show a + ((0 : Nat) : Int) = a by omega] at i2
    rw [i2, md_word_b108_e, w32_e (x := w + 1) (by omega) (by omega), w32_e (by omega) (by omega)]
    have ee : lt (τ 134) (τ 119 26) (τ 119 24 - τ 119 26).toNat = lt (gsc 13) a n ↔ r = 1 := by
      rw [show (τ 119 24 - τ 119 26).toNat = n by omega, lt_eq, i3]
      exact ⟨fun w i _ y => w i y, fun w i y => w i (Nat.zero_le _) y⟩
    rcases i1 with i1 | i1
    · rw [if_pos i1, if_neg (by rw [ee]; omega)]
    · rw [if_neg (by omega), if_pos (ee.mpr i1)]
  · rw [if_neg q, md_word_b55_e, mword_c0, md_word_b108_e, if_pos rfl, w32_e (x := w + 1) (by omega) (by omega), w32_e (by omega) (by omega), if_neg]
    intro w
    have := lt_n w
    omega
end WD
/-- the word that letters are: where it stands in the row of words, its token -/
def wV (L : List Int) : Int × Int := if L = lt (gsc 13) 0 8 then (0, 10) else if L = lt (gsc 13) 9 2 then (9, 11) else if L = lt (gsc 13) 12 4 then (12, 12) else if L = lt (gsc 13) 17 5 then (17, 13) else if L = lt (gsc 13) 23 6 then (23, 14) else if L = lt (gsc 13) 30 5 then (30, 15) else if L = lt (gsc 13) 36 8 then (36, 16) else if L = lt (gsc 13) 45 4 then (45, 17) else if L = lt (gsc 13) 50 5 then (50, 18) else if L = lt (gsc 13) 56 4 then (56, 19) else (-1, 1)
def wR (a t : Int) : Prop := (a = -1 ∧ t = 1) ∨ (a = 0 ∧ t = 10) ∨ (a = 9 ∧ t = 11) ∨ (a = 12 ∧ t = 12) ∨ (a = 17 ∧ t = 13) ∨ (a = 23 ∧ t = 14) ∨ (a = 30 ∧ t = 15) ∨ (a = 36 ∧ t = 16) ∨ (a = 45 ∧ t = 17) ∨ (a = 50 ∧ t = 18) ∨ (a = 56 ∧ t = 19)
theorem wV_r (L : List Int) : wR (wV L).1 (wV L).2 := by
  have st : ∀ {c : Prop} [Decidable c] {x y : Int × Int}, wR x.1 x.2 → wR y.1 y.2 → wR (if c then x else y).1 (if c then x else y).2 := by
    intro c _ x y hx hy
    split
    · exact hx
    · exact hy
  unfold wV
  refine st ?_ (st ?_ (st ?_ (st ?_ (st ?_ (st ?_ (st ?_ (st ?_ (st ?_ (st ?_ ?_))))))))) <;> (unfold wR; omega)
theorem w_st1 {c : Prop} [Decidable c] {σ : gM} {X : Option (gM × Int)} {a t : Int} {y : Int × Int} (h : X = some (σ, y.1)) : (if c then some (σ, a) else X) = some (σ, (if c then (a, t) else y).1) := by
  by_cases q : c
  · rw [if_pos q, if_pos q]
  · rw [if_neg q, if_neg q, h]
theorem w_st2 {c : Prop} [Decidable c] {σ : gM} {X : Option (gM × Int)} {a t : Int} {y : Int × Int} (h : X = some (σ, y.2)) : (if c then some (σ, t) else X) = some (σ, (if c then (a, t) else y).2) := by
  by_cases q : c
  · rw [if_pos q, if_pos q]
  · rw [if_neg q, if_neg q, h]
section WW
variable {σ τ : gM}
theorem tk_word_s (h : tX σ τ) (hp : 0 ≤ σ 69 5) (hz : 0 ≤ σ 69 6) (hn : σ 69 5 + σ 69 6 ≤ σ 69 2) : tk_word σ = some (σ, (wV (lt (τ 134) (σ 69 5) (σ 69 6).toNat)).1) := by
  have st : ∀ {a : Int} {n : Nat}, wdA a n → tk_word_b2 σ a = if lt (τ 134) (σ 69 5) (σ 69 6).toNat = lt (gsc 13) a n then some (σ, a) else tk_word_b2 σ (a + n + 1) := fun hw => word_st h hp hz hn hw
  unfold wV
  rw [tk_word_e, st (a := 0) (n := 8) (by unfold wdA; omega)]
  refine w_st1 ?_
  rw [show (0 : Int) + ((8 : Nat) : Int) + 1 = 9 by decide, st (a := 9) (n := 2) (by unfold wdA; omega)]
  refine w_st1 ?_
  rw [show (9 : Int) + ((2 : Nat) : Int) + 1 = 12 by decide, st (a := 12) (n := 4) (by unfold wdA; omega)]
  refine w_st1 ?_
  rw [show (12 : Int) + ((4 : Nat) : Int) + 1 = 17 by decide, st (a := 17) (n := 5) (by unfold wdA; omega)]
  refine w_st1 ?_
  rw [show (17 : Int) + ((5 : Nat) : Int) + 1 = 23 by decide, st (a := 23) (n := 6) (by unfold wdA; omega)]
  refine w_st1 ?_
  rw [show (23 : Int) + ((6 : Nat) : Int) + 1 = 30 by decide, st (a := 30) (n := 5) (by unfold wdA; omega)]
  refine w_st1 ?_
  rw [show (30 : Int) + ((5 : Nat) : Int) + 1 = 36 by decide, st (a := 36) (n := 8) (by unfold wdA; omega)]
  refine w_st1 ?_
  rw [show (36 : Int) + ((8 : Nat) : Int) + 1 = 45 by decide, st (a := 45) (n := 4) (by unfold wdA; omega)]
  refine w_st1 ?_
  rw [show (45 : Int) + ((4 : Nat) : Int) + 1 = 50 by decide, st (a := 50) (n := 5) (by unfold wdA; omega)]
  refine w_st1 ?_
  rw [show (50 : Int) + ((5 : Nat) : Int) + 1 = 56 by decide, st (a := 56) (n := 4) (by unfold wdA; omega)]
  refine w_st1 ?_
  rw [show (56 : Int) + ((4 : Nat) : Int) + 1 = 61 by decide, tk_word_b2_e, st_length_s (by decide)]
  simp only [Option.bind_some, gsl_13]
  rw [if_neg (by decide)]
theorem md_word_s (h : tX σ τ) (hp : 0 ≤ τ 119 26) (hz : τ 119 26 ≤ τ 119 24) (hn : τ 119 24 ≤ σ 69 2) : md_word τ = some (τ, (wV (lt (τ 134) (τ 119 26) (τ 119 24 - τ 119 26).toNat)).2) := by
  have st : ∀ {a : Int} {n : Nat} {w : Int}, wdA a n → (0 ≤ w ∧ w ≤ 100) → md_word_b5 τ w a = if lt (τ 134) (τ 119 26) (τ 119 24 - τ 119 26).toNat = lt (gsc 13) a n then some (τ, w) else md_word_b5 τ (w + 1) (a + n + 1) := fun hw h1 => mword_st h hp hz hn hw h1
  unfold wV
  rw [md_word_e, st (a := 0) (n := 8) (by unfold wdA; omega) (by decide)]
  refine w_st2 ?_
  rw [show (0 : Int) + ((8 : Nat) : Int) + 1 = 9 by decide, st (a := 9) (n := 2) (by unfold wdA; omega) (by decide)]
  refine w_st2 ?_
  rw [show (9 : Int) + ((2 : Nat) : Int) + 1 = 12 by decide, st (a := 12) (n := 4) (by unfold wdA; omega) (by decide)]
  refine w_st2 ?_
  rw [show (12 : Int) + ((4 : Nat) : Int) + 1 = 17 by decide, st (a := 17) (n := 5) (by unfold wdA; omega) (by decide)]
  refine w_st2 ?_
  rw [show (17 : Int) + ((5 : Nat) : Int) + 1 = 23 by decide, st (a := 23) (n := 6) (by unfold wdA; omega) (by decide)]
  refine w_st2 ?_
  rw [show (23 : Int) + ((6 : Nat) : Int) + 1 = 30 by decide, st (a := 30) (n := 5) (by unfold wdA; omega) (by decide)]
  refine w_st2 ?_
  rw [show (30 : Int) + ((5 : Nat) : Int) + 1 = 36 by decide, st (a := 36) (n := 8) (by unfold wdA; omega) (by decide)]
  refine w_st2 ?_
  rw [show (36 : Int) + ((8 : Nat) : Int) + 1 = 45 by decide, st (a := 45) (n := 4) (by unfold wdA; omega) (by decide)]
  refine w_st2 ?_
  rw [show (45 : Int) + ((4 : Nat) : Int) + 1 = 50 by decide, st (a := 50) (n := 5) (by unfold wdA; omega) (by decide)]
  refine w_st2 ?_
  rw [show (50 : Int) + ((5 : Nat) : Int) + 1 = 56 by decide, st (a := 56) (n := 4) (by unfold wdA; omega) (by decide)]
  refine w_st2 ?_
  rw [show (56 : Int) + ((4 : Nat) : Int) + 1 = 61 by decide, md_word_b5_e, st_length_s (by decide)]
  simp only [Option.bind_some, gsl_13]
  rw [if_neg (by decide)]
end WW
