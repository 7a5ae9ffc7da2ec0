/-! values of both sides; as they are shown -/
/-- kinds of the component as those of the model -/
def kT (k : Int) : Int := if k ≤ 2 then k + 2 else if k = 3 then 1 else if k = 4 then 0 else k
/-- functions of one name -/
def rFn (σ τ : gM) (f g : Int) : Prop := (0 ≤ f ∧ f < σ 8 19) ∧ (0 ≤ g ∧ g < τ 119 56) ∧ cS σ (σ 23 f) = mS τ (τ 155 g)
/-- one value on both sides -/
def rVal (σ τ : gM) (k x t y : Int) : Prop := (k = 0 ∧ t = 2 ∧ x = y ∧ i64 x) ∨ (k = 1 ∧ t = 3 ∧ ((0 ≤ x ∧ x < σ 0 9) ∨ (8000 ≤ x ∧ x < σ 0 12)) ∧ ((0 ≤ y ∧ y < τ 119 15) ∨ (2000 ≤ y ∧ y < τ 119 16)) ∧ ∃ z, cB σ x z ∧ mB τ y z) ∨ (k = 2 ∧ t = 4 ∧ vS σ x ∧ vM τ y ∧ cS σ x = mS τ y ∧ σ 3 x ≤ 200) ∨
  (k = 3 ∧ t = 1 ∧ x = y ∧ (x = 0 ∨ x = 1)) ∨ (k = 4 ∧ t = 0 ∧ x = 0 ∧ y = 0) ∨ (k = 5 ∧ t = 5 ∧ rFn σ τ x y) ∨ (k = 6 ∧ t = 6 ∧ x = y ∧ 0 ≤ x ∧ x < σ 87 31)
/-- functions: their names; the newest roots are the same -/
def rFu (σ τ : gM) : Prop := (0 ≤ σ 8 19 ∧ σ 8 19 ≤ 9000) ∧ (0 ≤ τ 119 56 ∧ τ 119 56 ≤ 9000) ∧ (∀ f, 0 ≤ f → f < σ 8 19 → (0 ≤ σ 23 f ∧ σ 23 f < σ 0 7) ∧ σ 3 (σ 23 f) ≤ 12 ∧ (-1 ≤ σ 24 f ∧ σ 24 f < σ 8 31)) ∧ (∀ f f', 0 ≤ f → f < σ 8 19 → 0 ≤ f' → f' < σ 8 19 → σ 23 f = σ 23 f' → f = f') ∧
  (∀ g, 0 ≤ g → g < τ 119 56 → (0 ≤ τ 155 g ∧ τ 155 g < τ 119 10) ∧ τ 186 (τ 155 g) = g) ∧ (∀ n, 0 ≤ n → n < 9000 → τ 186 n = -1 ∨ ((0 ≤ τ 186 n ∧ τ 186 n < τ 119 56) ∧ τ 155 (τ 186 n) = n)) ∧
  (∀ f g, rFn σ τ f g → τ 156 g = σ 24 f) ∧ (∀ g, 0 ≤ g → g < τ 119 56 → (∀ f, ¬ rFn σ τ f g) → τ 156 g = -1) ∧ (∀ f, 0 ≤ f → f < σ 8 19 → ∃ g, rFn σ τ f g)
/-- names that are there from the beginning -/
def rKn (σ τ : gM) : Prop := (∀ k, 0 ≤ k → k < 7 → (0 ≤ τ 187 (kT k) ∧ τ 187 (kT k) < τ 119 10) ∧ (0 ≤ σ 40 k ∧ σ 40 k < σ 0 7) ∧ σ 3 (σ 40 k) ≤ 200 ∧ cS σ (σ 40 k) = mS τ (τ 187 (kT k))) ∧ mS τ (τ 187 0) = tx 5 ∧
  ((0 ≤ τ 119 92 ∧ τ 119 92 < τ 119 10) ∧ mS τ (τ 119 92) = tx 11) ∧ ((0 ≤ τ 119 93 ∧ τ 119 93 < τ 119 10) ∧ mS τ (τ 119 93) = tx 12)
/-- great numbers are within their rooms -/
def rGr (σ τ : gM) : Prop := (0 ≤ σ 0 9 ∧ σ 0 9 ≤ 2000) ∧ (0 ≤ τ 119 15 ∧ τ 119 15 ≤ 2000) ∧ (8000 ≤ σ 0 12 ∧ 2000 ≤ τ 119 16 ∧ τ 119 16 - 2000 = σ 0 12 - 8000 ∧ 4 * (σ 0 12 - 8000) ≤ σ 0 13)
section SW
variable {σ τ : gM}
theorem lt_sz {s r : Int} (h : cS σ s = mS τ r) (h1 : 0 ≤ σ 3 s) (h2 : 0 ≤ τ 123 r) : τ 123 r = σ 3 s := by
  have := lt_n h
  omega
theorem mS_len {r : Int} (h : 0 ≤ τ 123 r) : ((mS τ r).length : Int) = τ 123 r := by unfold mS; rw [lt_len]; omega
theorem cS_len {r : Int} (h : 0 ≤ σ 3 r) : ((cS σ r).length : Int) = σ 3 r := by unfold cS; rw [lt_len]; omega
theorem tx_len {s : Int} (h : 0 ≤ s ∧ s < 23) : ((tx s).length : Int) = gsl s := by unfold tx; rw [lt_len]; have := gsl_r h; omega
/-- a value is shown alike -/
theorem mc_shows_s (h : hI σ) (hm : mI τ) (h8 : ∀ i, i8 (σ 1 i)) (m8 : ∀ i, i8 (τ 121 i)) (kn : rKn σ τ) (fu : rFu σ τ) (gr : rGr σ τ) (hl : σ 0 11 ≤ σ 0 14) (hr : σ 0 14 + 200 ≤ 124600) (ml : 0 ≤ τ 119 151) (mr : τ 119 151 + 200 ≤ 420) {k x t y : Int} (hv : rVal σ τ k x t y) :
    ∃ σ1 τ1 L, mc_shows σ k x = some (put1 σ1 L, 0) ∧ md_show τ t y = some (put2 τ1 L, 0) ∧ L.length ≤ 200 ∧ (∀ z ∈ L, i8 z) ∧ wFr σ σ1 105 ∧ (∀ b i, b ≠ 129 → τ1 b i = τ b i) ∧ (k = 5 → L.length ≤ 12) ∧ (k ≠ 2 → L.length ≤ 37) := by
  have h11 := h.2.2.2.2.1
  have w0 : wFr σ σ 105 := fun _ _ _ _ _ => rfl
  have gWc5 : gWc 105 := by unfold gWc; omega
  -- a number's letters
  have num : ∀ (σ1 τ1 : gM) (z : Int), wIs σ1 105 z → wFr σ σ1 105 → mIs τ1 129 z → (z < 0 → τ1 129 0 = 1) → (0 ≤ z → τ1 129 0 = 0) → (∀ b i, b ≠ 129 → τ1 b i = τ b i) → md_spread τ t y 129 = some (τ1, 0) →
      ∃ L, mc_digits σ1 105 = some (put1 σ1 L, 0) ∧ md_digits τ t y = some (put2 τ1 L, 0) ∧ L.length ≤ 37 ∧ (∀ z ∈ L, i8 z) := fun σ1 τ1 z a1 a2 a3 a4 a5 a6 a7 => by
    have e14 : σ1 0 14 = σ 0 14 := a2 0 14 (by decide) (by decide) (by decide)
    obtain ⟨n, d1, d2, d3⟩ := mc_digits_s gWc5 a1 (by omega) (by omega)
    have e151 : τ1 119 151 = τ 119 151 := a6 119 151 (by decide)
    have d4 := md_digits_s a7 a3 a4 a5 (by omega) (by omega) d1 d2
    exact ⟨nLt z n, d3, d4, nLt_len d1, nLt_8⟩
  -- letters of a string
  have str : ∀ s r, vS σ s → vM τ r → cS σ s = mS τ r → σ 3 s ≤ 200 → mc_letters σ s = some (put1 σ (cS σ s), 0) ∧ md_write τ r = some (put2 τ (cS σ s), 0) ∧ ((cS σ s).length : Int) = σ 3 s := fun s r a1 a2 a3 a4 => by
    have b1 := h.v a1
    have b2 := hm.v a2
    have b3 := lt_sz a3 b1.2.2.2.1 b2.2.2.2.1
    have b4 : σ 2 s + σ 3 s ≤ σ 0 14 := by
      rcases a1 with a1 | a1
      · have := h.2.2.1 s a1.1 a1.2; have := h.2.1; omega
      · have := h.2.2.2.2.2 s a1.1 a1.2; omega
    refine ⟨mc_letters_s (by omega) (by omega) (by omega) h8, ?_, cS_len (by omega)⟩
    rw [a3]
    exact md_write_s hm a2 m8 ml (by omega)
  rw [mc_shows_e, md_show_e]
  rcases hv with ⟨e1, e2, e3, e4⟩ | ⟨e1, e2, ex, ey, z, e3, e4⟩ | ⟨e1, e2, e3, e4, e5, e6⟩ | ⟨e1, e2, e3, e4⟩ | ⟨e1, e2, e3, e4⟩ | ⟨e1, e2, e3⟩ | ⟨e1, e2, e3, e4⟩
  · subst e1 e2 e3
    obtain ⟨σ1, a1, a2, a3⟩ := wl_of_s (σ := σ) gWc5 e4
    obtain ⟨τ1, b1, b2, b3, b4⟩ := md_spread_l1 (σ := τ) (c := 129) (Or.inl rfl) (t := 2) (by decide) e4
    obtain ⟨L, c1, c2, c3, c4⟩ := num σ1 τ1 x a2 a3 b2 (fun q => by rcases b2.2 with w | w
                                                                    · exact w.1
                                                                    · have := mm_rng b2.1; omega) (fun q => by rcases b2.2 with w | w
                                                                                                               · have := mm_rng b2.1; exact b3 (by omega)
                                                                                                               · exact w.1) b4 b1
    refine ⟨σ1, τ1, L, ?_, ?_, by omega, c4, a3, b4, fun q => absurd q (by decide), fun _ => c3⟩
    · rw [if_pos rfl, a1]
      simp only [Option.bind_some, c1]
    · rw [if_neg (by decide), if_neg (by decide), if_pos rfl, c2]
      rfl
  · subst e1 e2
    have bx : 0 ≤ x ∧ x < 33000 := by obtain ⟨g1, g2, g3⟩ := gr; omega
    have byy : 0 ≤ y ∧ y < 27004 := by obtain ⟨g1, g2, g3⟩ := gr; omega
    obtain ⟨σ1, a1, a2, a3⟩ := hp_get_s (σ := σ) (Or.inl rfl) bx e3
    obtain ⟨τ1, b1, b2, b3, b4, b5⟩ := md_spread_s (τ := τ) (c := 129) (Or.inl rfl) byy e4
    obtain ⟨L, c1, c2, c3, c4⟩ := num σ1 τ1 z a2 a3 b2 b4 b3 b5 b1
    refine ⟨σ1, τ1, L, ?_, ?_, by omega, c4, a3, b5, fun q => absurd q (by decide), fun _ => c3⟩
    · rw [if_neg (by decide), if_pos rfl, w32_e (by omega) (by omega), a1]
      simp only [Option.bind_some, c1]
    · rw [if_neg (by decide), if_neg (by decide), if_neg (by decide), if_pos rfl, c2]
      rfl
  · subst e1 e2
    have v := h.v e3
    obtain ⟨a1, a2, a3⟩ := str x y e3 e4 e5 e6
    refine ⟨σ, τ, cS σ x, ?_, ?_, by omega, lt_8 h8, w0, fun _ _ _ => rfl, fun q => absurd q (by decide), fun q => absurd rfl q⟩
    · rw [if_neg (by decide), if_neg (by decide), if_pos rfl, w32_e (by omega) (by omega), a1]
      rfl
    · rw [if_neg (by decide), if_neg (by decide), if_neg (by decide), if_neg (by decide), if_pos rfl, a2]
      rfl
  · subst e1 e2 e3
    have tt : ∀ (n r : Int), (n = 11 ∨ n = 12) → (0 ≤ r ∧ r < τ 119 10) → mS τ r = tx n → mc_shows_b108 σ n = some (put1 σ (tx n), 0) ∧ md_show_b71 τ r = some (put2 τ (tx n), 0) ∧ (tx n).length ≤ 37 ∧ (∀ z ∈ tx n, i8 z) := fun n r n1 n2 n3 => by
      have nb : 0 ≤ n ∧ n < 23 := by omega
      have gl : gsl n ≤ 5 := by rcases n1 with q | q <;> subst q <;> decide
      have ln := tx_len nb
      have v := hm.v (s := r) (Or.inl n2)
      have := mS_len (τ := τ) (r := r) v.2.2.2.1
      rw [n3] at this
      rw [mc_shows_b108_e, md_show_b71_e, mc_says_s nb (by omega) (by omega), md_write_s hm (Or.inl n2) m8 ml (by omega), n3]
      exact ⟨rfl, rfl, by omega, tx_8 nb⟩
    rcases e4 with e4 | e4 <;> subst e4
    · rw [if_neg (by decide), if_neg (by decide), if_neg (by decide), if_pos rfl, if_neg (by decide), if_neg (by decide), if_pos rfl, if_neg (by decide)]
      obtain ⟨a1, a2, a3, a4⟩ := tt 12 _ (Or.inr rfl) kn.2.2.2.1 kn.2.2.2.2
      exact ⟨σ, τ, _, a1, a2, by omega, a4, w0, fun _ _ _ => rfl, fun q => absurd q (by decide), fun _ => a3⟩
    · rw [if_neg (by decide), if_neg (by decide), if_neg (by decide), if_pos rfl, if_pos (by decide), if_neg (by decide), if_pos rfl, if_pos (by decide)]
      obtain ⟨a1, a2, a3, a4⟩ := tt 11 _ (Or.inl rfl) kn.2.2.1.1 kn.2.2.1.2
      exact ⟨σ, τ, _, a1, a2, by omega, a4, w0, fun _ _ _ => rfl, fun q => absurd q (by decide), fun _ => a3⟩
  · subst e1 e2
    have gl : gsl 5 = 4 := by decide
    have ln := tx_len (s := 5) (by omega)
    have nb : 0 ≤ τ 187 0 ∧ τ 187 0 < τ 119 10 := (kn.1 4 (by decide) (by decide)).1
    have v := hm.v (s := τ 187 0) (Or.inl nb)
    have := mS_len (τ := τ) (r := τ 187 0) v.2.2.2.1
    rw [kn.2.1] at this
    refine ⟨σ, τ, tx 5, ?_, ?_, by omega, tx_8 (by omega), w0, fun _ _ _ => rfl, fun q => absurd q (by decide), fun _ => by omega⟩
    · rw [if_neg (by decide), if_neg (by decide), if_neg (by decide), if_neg (by decide), if_pos rfl, mc_says_s (by omega) (by omega) (by omega)]
      rfl
    · rw [if_pos rfl, if_pos (by decide), md_write_s hm (Or.inl nb) m8 ml (by omega), kn.2.1]
      rfl
  · subst e1 e2
    obtain ⟨f1, f2, f3⟩ := e3
    have u1 := fu.2.2.1 x f1.1 f1.2
    have u2 := (fu.2.2.2.2.1 y f2.1 f2.2).1
    have bx : 0 ≤ w32 x ∧ w32 x < 9000 := by have := fu.1; rw [w32_e (by omega) (by omega)]; omega
    have byy : 0 ≤ w32 y ∧ w32 y < 9000 := by have := fu.2.1; rw [w32_e (by omega) (by omega)]; omega
    obtain ⟨a1, a2, a3⟩ := str (σ 23 x) (τ 155 y) (Or.inl u1.1) (Or.inl u2) f3 (by omega)
    refine ⟨σ, τ, cS σ (σ 23 x), ?_, ?_, by omega, lt_8 h8, w0, fun _ _ _ => rfl, fun _ => by omega, fun _ => by omega⟩
    · rw [if_neg (by decide), if_neg (by decide), if_neg (by decide), if_neg (by decide), if_neg (by decide), if_pos rfl]
      simp only [bx, and_self, if_true]
      rw [w32_e (by have := fu.1; omega) (by have := fu.1; omega), a1]
      rfl
    · rw [if_neg (by decide), if_neg (by decide), if_neg (by decide), if_neg (by decide), if_neg (by decide), if_pos rfl]
      simp only [byy, and_self, if_true]
      rw [w32_e (by have := fu.2.1; omega) (by have := fu.2.1; omega), a2]
      rfl
  · subst e1 e2
    have gl : gsl 22 = 2 := by decide
    have ln := tx_len (s := 22) (by omega)
    refine ⟨σ, τ, tx 22, ?_, ?_, by omega, tx_8 (by omega), w0, fun _ _ _ => rfl, fun q => absurd q (by decide), fun _ => by omega⟩
    · rw [if_neg (by decide), if_neg (by decide), if_neg (by decide), if_neg (by decide), if_neg (by decide), if_neg (by decide), mc_says_s (by omega) (by omega) (by omega)]
      rfl
    · rw [if_neg (by decide), if_neg (by decide), if_neg (by decide), if_neg (by decide), if_neg (by decide), if_neg (by decide), w32_e (x := τ 119 151 + 1) (by omega) (by omega), w32_e (x := τ 119 151 + 2) (by omega) (by omega)]
      have b1 : 0 ≤ τ 119 151 ∧ τ 119 151 < 420 := by omega
      have b2 : 0 ≤ τ 119 151 + 1 ∧ τ 119 151 + 1 < 420 := by omega
      simp only [b1, b2, and_self, if_true]
      have e : tx 22 = [123] ++ [125] := by decide
      rw [e]
      unfold put2
      rw [← wrL_app, wrL_one, wrL_one]
      rfl
end SW
