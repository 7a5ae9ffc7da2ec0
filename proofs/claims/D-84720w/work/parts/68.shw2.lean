/-! digits; great numbers of both sides; values as they are shown -/
theorem le_mul1 {a b : Int} (h : 0 ≤ a) (h2 : 1 ≤ b) : a ≤ a * b := by
  have := Int.mul_le_mul_of_nonneg_left h2 h
  omega
/-- the last n digits -/
def dD (m : Int) : Nat → List Int
  | 0 => []
  | n + 1 => (48 + m / 10 ^ n % 10) :: dD m n
/-- digits from the first that is not 0 on -/
def dZ (m : Int) : Int → Nat → List Int
  | _, 0 => []
  | f, n + 1 => if f ≠ 0 ∨ 0 < m / 10 ^ n % 10 ∨ n = 0 then (48 + m / 10 ^ n % 10) :: dZ m 1 n else dZ m 0 n
theorem dZ_1 {m : Int} : ∀ n, dZ m 1 n = dD m n
  | 0 => rfl
  | n + 1 => by
    unfold dZ dD
    rw [if_pos (Or.inl (by decide)), dZ_1 n]
theorem dZ_s {m : Int} {n : Nat} (h0 : 0 ≤ m) (h : nDig m n) : ∀ d, dZ m 0 (n + d) = dD m n
  | 0 => by
    obtain ⟨h1, h2, h3⟩ := h
    cases n with
    | zero => omega
    | succ n =>
      show dZ m 0 (n + 1) = _
      unfold dZ dD
      rw [if_pos, dZ_1]
      rcases h3 with h3 | h3
      · exact Or.inr (Or.inr (by omega))
      · right; left
        rw [show n + 1 - 1 = n by omega] at h3
        have a : m / 10 ^ n < 10 := Int.ediv_lt_of_lt_mul (tp n) (by rw [tps] at h2; exact h2)
        have b : 1 ≤ m / 10 ^ n := Int.le_ediv_of_mul_le (tp n) (by omega)
        omega
  | d + 1 => by
    obtain ⟨h1, h2, h3⟩ := h
    have lt : m < 10 ^ (n + d) := Int.lt_of_lt_of_le h2 (by
      rw [Int.pow_add]
      have := tp d
      have := tp n
      exact le_mul1 (by omega) (by omega))
    have z : m / 10 ^ (n + d) = 0 := Int.ediv_eq_zero_of_lt h0 lt
    show dZ m 0 (n + d + 1) = _
    unfold dZ
    rw [z, if_neg (by simp; omega)]
    exact dZ_s h0 ⟨h1, h2, h3⟩ d
theorem dD_8 {m : Int} : ∀ n, ∀ x ∈ dD m n, i8 x
  | 0 => fun x h => absurd h (List.not_mem_nil)
  | n + 1 => fun x h => by
    unfold dD at h
    rcases List.mem_cons.mp h with e | e
    · rw [e]; unfold i8; omega
    · exact dD_8 n x e
theorem dD_len {m : Int} : ∀ n, (dD m n).length = n
  | 0 => rfl
  | n + 1 => by unfold dD; rw [List.length_cons, dD_len n]
/-- a number's letters -/
def nLt (x : Int) (n : Nat) : List Int := (if x < 0 then [45] else []) ++ dD (if x < 0 then -x else x) n
theorem nLt_8 {x : Int} {n : Nat} : ∀ y ∈ nLt x n, i8 y := fun y h => by
  unfold nLt at h
  rcases List.mem_append.mp h with e | e
  · split at e
    · rw [List.mem_singleton] at e; rw [e]; unfold i8; omega
    · exact absurd e List.not_mem_nil
  · exact dD_8 n y e
theorem nLt_len {x : Int} {n : Nat} (h : n ≤ 36) : (nLt x n).length ≤ 37 := by
  unfold nLt
  rw [List.length_append, dD_len]
  split <;> simp <;> omega
section DG
variable {σ τ : gM}
theorem wm_put1 {w : Int} (hw : gWc w) {L : List Int} : wm (put1 σ L) w = wm σ w ∧ (wOk (put1 σ L) w ↔ wOk σ w) ∧ put1 σ L w 0 = σ w 0 := by
  have hn : w + 1 ≠ 1 ∧ w + 1 ≠ 0 ∧ w ≠ 1 ∧ w ≠ 0 := by rcases hw with h | h | h | h | h <;> subst h <;> decide
  have e : ∀ i, put1 σ L (w + 1) i = σ (w + 1) i := fun i => put1_c hn.1 (fun q => hn.2.1 q.1)
  refine ⟨?_, ?_, put1_c hn.2.2.1 (fun q => hn.2.2.2 q.1)⟩
  · unfold wm; rw [e, e, e, e]
  · unfold wOk; rw [e, e, e, e]
theorem mc_digits_b23_s {w : Int} (hw : gWc w) (ho : wOk σ w) (h0 : 0 ≤ σ 0 14) : ∀ (n : Nat) (L : List Int), n ≤ 36 → σ 0 14 + L.length + n ≤ 124600 → mc_digits_b23 (put1 σ L) w ((n : Int) - 1) = some (put1 σ (L ++ dD (wm σ w) n), 0)
  | 0, L, _, _ => by
    rw [mc_digits_b23_e, if_pos (by omega)]
    show _ = some (put1 σ (L ++ []), 0)
    rw [List.append_nil]
  | n + 1, L, hn, hr => by
    have q := wm_put1 (σ := σ) hw (L := L)
    rw [mc_digits_b23_e, if_neg (by omega), gWc_is _ hw, show ((n + 1 : Nat) : Int) - 1 = (n : Int) by omega, wl_digit_s hw (q.2.1.mpr ho) (by omega), q.1]
    have hd : 0 ≤ wm σ w / 10 ^ n % 10 ∧ wm σ w / 10 ^ n % 10 ≤ 9 := by omega
    simp only [Option.bind_some]
    rw [w32_e (x := 48 + wm σ w / 10 ^ n % 10) (by omega) (by omega), hp_put_s (by rw [put1_14]; omega) (by unfold i8; omega)]
    simp only [Option.bind_some]
    rw [w32_e (by omega) (by omega), put1_app, show (n : Int) + -1 = (n : Int) - 1 by omega, mc_digits_b23_s hw ho h0 n (L ++ [48 + wm σ w / 10 ^ n % 10]) (by omega) (by rw [List.length_append, List.length_singleton]; omega)]
    rw [List.append_assoc]
    rfl
theorem mc_digits_s {w x : Int} (hw : gWc w) (hx : wIs σ w x) (h0 : 0 ≤ σ 0 14) (hr : σ 0 14 + 37 ≤ 124600) : ∃ n : Nat, n ≤ 36 ∧ nDig (if x < 0 then -x else x) n ∧ mc_digits σ w = some (put1 σ (nLt x n), 0) := by
  obtain ⟨ho, hs⟩ := hx
  have em : wm σ w = if x < 0 then -x else x := by rcases hs with h | h | h <;> split <;> omega
  obtain ⟨n, d1, d2, d3⟩ := wl_digits_s hw ho
  rw [em] at d3
  refine ⟨n, d2, d3, ?_⟩
  rw [mc_digits_e, gWc_is _ hw]
  have go : ∀ L : List Int, L.length ≤ 1 → mc_digits_b16 (put1 σ L) w = some (put1 σ (L ++ dD (wm σ w) n), 0) := fun L hL => by
    have q := wm_put1 (σ := σ) hw (L := L)
    obtain ⟨n', e1, e2, e3⟩ := wl_digits_s hw (q.2.1.mpr ho)
    have : n' = n := by
      rw [q.1, em] at e3
      obtain ⟨a1, a2, a3⟩ := d3
      obtain ⟨b1, b2, b3⟩ := e3
      have mono : ∀ a b : Nat, a ≤ b → (10 : Int) ^ a ≤ 10 ^ b := fun a b h => by
        obtain ⟨c, rfl⟩ := Nat.le.dest h
        rw [Int.pow_add]
        have := tp c
        exact le_mul1 (by have := tp a; omega) (by omega)
      by_cases h1 : n' < n
      · have := mono n' (n - 1) (by omega); omega
      · by_cases h2 : n < n'
        · have := mono n (n' - 1) (by omega); omega
        · omega
    rw [mc_digits_b16_e, gWc_is _ hw, e1, this]
    simp only [Option.bind_some]
    rw [w32_e (by omega) (by omega)]
    exact mc_digits_b23_s hw ho h0 n L d2 (by omega)
  unfold nLt
  rw [← em]
  by_cases hx0 : x < 0
  · rw [if_pos (by rcases hs with h | h | h <;> omega), hp_put_s (by omega) (by unfold i8; omega), if_pos hx0]
    simp only [Option.bind_some]
    exact go [45] (by decide)
  · rw [if_neg (by rcases hs with h | h | h <;> omega), if_neg hx0]
    have := go [] (by decide)
    rw [put1_nil] at this
    exact this
theorem mm_put2 {L : List Int} : mm (put2 τ L) 129 = mm τ 129 ∧ (mOk (put2 τ L) 129 ↔ mOk τ 129) ∧ (∀ i, put2 τ L 129 i = τ 129 i) := by
  have e : ∀ i, put2 τ L 129 i = τ 129 i := fun i => put2_c (by decide) (fun q => absurd q.1 (by decide))
  exact ⟨by unfold mm; rw [e, e, e, e], by unfold mOk; rw [e, e, e, e], e⟩
theorem md_digits_b104_s {k p d y : Int} {L : List Int} (hl : 0 ≤ τ 119 151 ∧ τ 119 151 + L.length < 420) (hd : 0 ≤ d ∧ d ≤ 9) :
    md_digits_b104 (put2 τ L) k p d y = md_digits_b57 (put2 τ (if y = 0 then L else L ++ [48 + d])) y k (w32 (Int.tdiv p 10)) := by
  rw [md_digits_b104_e]
  by_cases hy : y = 0
  · rw [if_pos hy, if_pos hy, md_digits_b139_e, if_neg (by decide)]
  · rw [if_neg hy, if_neg hy, put2_151]
    have b : 0 ≤ τ 119 151 + (L.length : Int) ∧ τ 119 151 + (L.length : Int) < 420 := by omega
    simp only [b, and_self, if_true]
    rw [w32_e (x := 48 + d) (by omega) (by omega), w8_e (x := 48 + d) (by omega) (by omega), w8_e (x := 48 + d) (by omega) (by omega), w32_e (x := τ 119 151 + L.length + 1) (by omega) (by omega), md_digits_b139_e, if_neg (by decide)]
    congr 1
    rw [← put2_app]
    conv => rhs; unfold put2
    rw [wrL_one]
    rfl
/-- the digits of one part, from one on -/
theorem md_digits_part (ho : mOk τ 129) {kk : Nat} (hk : kk < 4) (h0 : 0 ≤ τ 119 151) : ∀ (e : Nat) (f : Int) (L : List Int), e ≤ 8 → (f = 0 ∨ f = 1) → τ 119 151 + L.length + (9 * kk + e + 1) ≤ 420 →
    ∃ f' L', (f' = 0 ∨ f' = 1) ∧ L ++ dZ (mm τ 129) f (9 * kk + e + 1) = L' ++ dZ (mm τ 129) f' (9 * kk) ∧ τ 119 151 + L'.length + (9 * kk) ≤ 420 ∧ md_digits_b57 (put2 τ L) f ((kk : Int) + 1) (10 ^ e) = md_digits_b57 (put2 τ L') f' ((kk : Int) + 1) 0
  | e, f, L, he, hf, hr => by
    have hp := tenp he
    have q := mm_put2 (τ := τ) (L := L)
    have dg := mdig (σ := put2 τ L) (kk := kk) hk he (q.2.1.mpr ho)
    rw [q.1] at dg
    have hd : 0 ≤ mm τ 129 / 10 ^ (9 * kk + e) % 10 ∧ mm τ 129 / 10 ^ (9 * kk + e) % 10 ≤ 9 := by omega
    have bk : 0 ≤ (kk : Int) + 1 ∧ (kk : Int) + 1 < 5 := by omega
    -- what comes of this digit
    have one : ∃ y, (y = 0 ∨ y = 1) ∧ (y = 1 ↔ (f ≠ 0 ∨ 0 < mm τ 129 / 10 ^ (9 * kk + e) % 10 ∨ 9 * kk + e = 0)) ∧ md_digits_b57 (put2 τ L) f ((kk : Int) + 1) (10 ^ e) = md_digits_b57 (put2 τ (if y = 0 then L else L ++ [48 + mm τ 129 / 10 ^ (9 * kk + e) % 10])) y ((kk : Int) + 1) (w32 (Int.tdiv (10 ^ e) 10)) := by
      rw [md_digits_b57_e, if_pos (by omega)]
      simp only [bk, and_self, if_true, if_neg (show ¬ ((10 : Int) ^ e = 0) by omega), show ¬ ((10 : Int) = 0) by decide, if_false, dg]
      rw [md_digits_b99_e, md_digits_b103_e, md_digits_b104_s (by omega) hd, md_digits_b104_s (by omega) hd]
      rcases hf with hf | hf <;> subst hf
      · simp only [if_true]
        by_cases d0 : 0 < mm τ 129 / 10 ^ (9 * kk + e) % 10
        · rw [if_pos d0]
          exact ⟨1, Or.inr rfl, ⟨fun _ => Or.inr (Or.inl d0), fun _ => rfl⟩, rfl⟩
        · rw [if_neg d0]
          by_cases k0 : kk = 0
          · subst k0
            rw [if_pos (by omega)]
            by_cases e0 : e = 0
            · subst e0
              rw [if_pos (by rfl)]
              exact ⟨1, Or.inr rfl, ⟨fun _ => Or.inr (Or.inr (by omega)), fun _ => rfl⟩, rfl⟩
            · rw [if_neg (by
                obtain ⟨e', rfl⟩ := Nat.exists_eq_succ_of_ne_zero e0
                have := tps e'
                have := tp e'
                rw [show (e'.succ : Nat) = e' + 1 by rfl]
                omega)]
              exact ⟨0, Or.inl rfl, ⟨fun z => absurd z (by decide), fun z => by rcases z with z | z | z
                                                                                · exact absurd rfl z
                                                                                · exact absurd z d0
                                                                                · omega⟩, rfl⟩
          · rw [if_neg (by omega)]
            exact ⟨0, Or.inl rfl, ⟨fun z => absurd z (by decide), fun z => by rcases z with z | z | z
                                                                              · exact absurd rfl z
                                                                              · exact absurd z d0
                                                                              · omega⟩, rfl⟩
      · rw [if_neg (by decide)]
        exact ⟨1, Or.inr rfl, ⟨fun _ => Or.inl (by decide), fun _ => rfl⟩, rfl⟩
    obtain ⟨y, y1, y2, y3⟩ := one
    have eL : L ++ dZ (mm τ 129) f (9 * kk + e + 1) = (if y = 0 then L else L ++ [48 + mm τ 129 / 10 ^ (9 * kk + e) % 10]) ++ dZ (mm τ 129) y (9 * kk + e) := by
      rw [show dZ (mm τ 129) f (9 * kk + e + 1) = if f ≠ 0 ∨ 0 < mm τ 129 / 10 ^ (9 * kk + e) % 10 ∨ 9 * kk + e = 0 then (48 + mm τ 129 / 10 ^ (9 * kk + e) % 10) :: dZ (mm τ 129) 1 (9 * kk + e) else dZ (mm τ 129) 0 (9 * kk + e) from rfl]
      rcases y1 with y1 | y1
      · rw [if_neg (fun z => by have := y2.mpr z; omega), if_pos y1, y1]
      · rw [if_pos (y2.mp y1), if_neg (by omega), y1, List.append_assoc]
        rfl
    have hL : ((if y = 0 then L else L ++ [48 + mm τ 129 / 10 ^ (9 * kk + e) % 10]).length : Int) ≤ L.length + 1 := by
      split
      · omega
      · rw [List.length_append, List.length_singleton]; omega
    rw [y3, eL]
    cases e with
    | zero =>
      refine ⟨y, _, y1, rfl, by omega, ?_⟩
      rfl
    | succ e =>
      have : w32 (Int.tdiv (10 ^ (e + 1)) 10) = 10 ^ e := by
        have hp2 := tenp (e := e) (by omega)
        rw [tps, tdv (by omega), show (10 * (10 : Int) ^ e) / 10 = 10 ^ e by omega, w32_e (by omega) (by omega)]
      rw [this]
      exact md_digits_part ho hk h0 e y _ (by omega) y1 (by omega)
theorem md_digits_b47_s (ho : mOk τ 129) (h0 : 0 ≤ τ 119 151) : ∀ (kk : Nat) (f : Int) (L : List Int), kk ≤ 4 → (f = 0 ∨ f = 1) → τ 119 151 + L.length + 9 * kk ≤ 420 → md_digits_b47 (put2 τ L) f kk = some (put2 τ (L ++ dZ (mm τ 129) f (9 * kk)), 0)
  | 0, f, L, _, _, _ => by
    rw [md_digits_b47_e, if_neg (by omega)]
    show _ = some (put2 τ (L ++ []), 0)
    rw [List.append_nil]
  | kk + 1, f, L, hk, hf, hr => by
    rw [md_digits_b47_e, if_pos (by omega)]
    obtain ⟨f', L', a1, a2, a3, a4⟩ := md_digits_part ho (kk := kk) (by omega) h0 8 f L (by omega) hf (by omega)
    rw [show ((kk + 1 : Nat) : Int) = (kk : Int) + 1 by omega, show (100000000 : Int) = 10 ^ 8 by decide, a4, md_digits_b57_e, if_neg (by decide), w32_e (by omega) (by omega), show (kk : Int) + 1 + -1 = (kk : Int) by omega, md_digits_b47_s ho h0 kk f' L' (by omega) a1 a3, ← a2]
    rfl
/-- a great number of the component, of the model -/
def cB (σ : gM) (k x : Int) : Prop := ((0 ≤ σ 7 (4 * k) ∧ σ 7 (4 * k) < 1000000000) ∧ (0 ≤ σ 7 (4 * k + 1) ∧ σ 7 (4 * k + 1) < 1000000000) ∧ (0 ≤ σ 7 (4 * k + 2) ∧ σ 7 (4 * k + 2) < 1000000000) ∧ (0 ≤ σ 7 (4 * k + 3) ∧ σ 7 (4 * k + 3) < 1000000000)) ∧
  ((x < 0 ∧ σ 6 k = -1 ∧ σ 7 (4 * k) + 1000000000 * σ 7 (4 * k + 1) + 1000000000000000000 * σ 7 (4 * k + 2) + 1000000000000000000000000000 * σ 7 (4 * k + 3) = -x) ∨ (x = 0 ∧ σ 6 k = 0 ∧ σ 7 (4 * k) + 1000000000 * σ 7 (4 * k + 1) + 1000000000000000000 * σ 7 (4 * k + 2) + 1000000000000000000000000000 * σ 7 (4 * k + 3) = 0) ∨
   (0 < x ∧ σ 6 k = 1 ∧ σ 7 (4 * k) + 1000000000 * σ 7 (4 * k + 1) + 1000000000000000000 * σ 7 (4 * k + 2) + 1000000000000000000000000000 * σ 7 (4 * k + 3) = x))
def mB (τ : gM) (v x : Int) : Prop := ((0 ≤ τ 128 (5 * v + 1) ∧ τ 128 (5 * v + 1) < 1000000000) ∧ (0 ≤ τ 128 (5 * v + 2) ∧ τ 128 (5 * v + 2) < 1000000000) ∧ (0 ≤ τ 128 (5 * v + 3) ∧ τ 128 (5 * v + 3) < 1000000000) ∧ (0 ≤ τ 128 (5 * v + 4) ∧ τ 128 (5 * v + 4) < 1000000000)) ∧
  ((x < 0 ∧ τ 128 (5 * v) = 1 ∧ τ 128 (5 * v + 1) + 1000000000 * τ 128 (5 * v + 2) + 1000000000000000000 * τ 128 (5 * v + 3) + 1000000000000000000000000000 * τ 128 (5 * v + 4) = -x) ∨ (0 ≤ x ∧ τ 128 (5 * v) = 0 ∧ τ 128 (5 * v + 1) + 1000000000 * τ 128 (5 * v + 2) + 1000000000000000000 * τ 128 (5 * v + 3) + 1000000000000000000000000000 * τ 128 (5 * v + 4) = x))
theorem gWc_hpget {ρ : Type} {w : Int} (x : Option ρ) (h : w = 105 ∨ w = 108) : gwr 24227587787227680242996183141042265400644274563352017343858361682490010613500890323204207710303182943436953965533314456975336030601216 w 0 x = x ∧ gwr 24227587787227680242996183141042265400644274563352017343858361682490010613500890323204207710303182943436953965533314456975336030601216 (w + 1) 0 x = x := by rcases h with h | h <;> subst h <;> exact ⟨rfl, rfl⟩
theorem hp_get_s {k w x : Int} (hw : w = 105 ∨ w = 108) (hk : 0 ≤ k ∧ k < 33000) (hx : cB σ k x) : ∃ σ', hp_get σ k w = some (σ', 0) ∧ wIs σ' w x ∧ wFr σ σ' w := by
  have hwc : gWc w := by unfold gWc; omega
  have step : ∀ (S : gM) (i i' : Int), 0 ≤ i → i < 4 → i + 1 = i' → hp_get_b12 S k w i = hp_get_b12 (gW S (w + 1) i (S 7 (4 * k + i))) k w i' := fun S i i' h0 h4 hi => by
    have b1 : 0 ≤ 4 * k + i ∧ 4 * k + i < 132000 := by omega
    rw [hp_get_b12_e, if_pos h4, w32_e (x := 4 * k) (by omega) (by omega), w32_e (x := 4 * k + i) (by omega) (by omega), w32_e (x := i + 1) (by omega) (by omega), hi]
    simp only [gWc_is _ hwc, gWc_is1 _ hwc, gWc_R1 hwc, gWc_N1 hwc, (gWc_hpget _ hw).2, b1, h0, h4, and_self, if_true]
  rw [hp_get_e]
  simp only [hk, and_self, if_true, gWc_is _ hwc, (gWc_hpget _ hw).1]
  rw [step _ 0 1 (by decide) (by decide) (by decide), step _ 1 2 (by decide) (by decide) (by decide), step _ 2 3 (by decide) (by decide) (by decide), step _ 3 4 (by decide) (by decide) (by decide), hp_get_b12_e, if_neg (by decide)]
  have n7 : w ≠ 7 ∧ w + 1 ≠ 7 ∧ (7 : Int) ≠ w ∧ (7 : Int) ≠ w + 1 := by omega
  simp only [gW_c n7.2.2.1, gW_c n7.2.2.2, Int.add_zero]
  refine ⟨_, rfl, ?_, ?_⟩
  · obtain ⟨h1, h2⟩ := hx
    have ok := w4_ok (σ := gW σ w 0 (σ 6 k)) (w := w) h1.1 h1.2.1 h1.2.2.1 h1.2.2.2
    refine ⟨ok.1, ?_⟩
    have e0 : (w4 (gW σ w 0 (σ 6 k)) (w + 1) (σ 7 (4 * k)) (σ 7 (4 * k + 1)) (σ 7 (4 * k + 2)) (σ 7 (4 * k + 3))) w 0 = σ 6 k := by
      rw [w4_c (by omega), gW_at]
    have e1 := ok.2
    show (x < 0 ∧ (w4 (gW σ w 0 (σ 6 k)) (w + 1) (σ 7 (4 * k)) (σ 7 (4 * k + 1)) (σ 7 (4 * k + 2)) (σ 7 (4 * k + 3))) w 0 = -1 ∧ wm (w4 (gW σ w 0 (σ 6 k)) (w + 1) (σ 7 (4 * k)) (σ 7 (4 * k + 1)) (σ 7 (4 * k + 2)) (σ 7 (4 * k + 3))) w = -x) ∨ (x = 0 ∧ (w4 (gW σ w 0 (σ 6 k)) (w + 1) (σ 7 (4 * k)) (σ 7 (4 * k + 1)) (σ 7 (4 * k + 2)) (σ 7 (4 * k + 3))) w 0 = 0 ∧ wm (w4 (gW σ w 0 (σ 6 k)) (w + 1) (σ 7 (4 * k)) (σ 7 (4 * k + 1)) (σ 7 (4 * k + 2)) (σ 7 (4 * k + 3))) w = 0) ∨ (0 < x ∧ (w4 (gW σ w 0 (σ 6 k)) (w + 1) (σ 7 (4 * k)) (σ 7 (4 * k + 1)) (σ 7 (4 * k + 2)) (σ 7 (4 * k + 3))) w 0 = 1 ∧ wm (w4 (gW σ w 0 (σ 6 k)) (w + 1) (σ 7 (4 * k)) (σ 7 (4 * k + 1)) (σ 7 (4 * k + 2)) (σ 7 (4 * k + 3))) w = x)
    rw [e0, e1]
    exact h2
  · intro a i q1 q2 q3
    rw [gW_c q2, gW_c q2, gW_c q2, gW_c q2, gW_c q1]
/-- a great number of the model is spread -/
theorem md_spread_s {c v x : Int} (hc : gMc c) (hv : 0 ≤ v ∧ v < 27004) (hx : mB τ v x) : ∃ τ', md_spread τ 3 v c = some (τ', 0) ∧ mIs τ' c x ∧ (0 ≤ x → τ' c 0 = 0) ∧ (x < 0 → τ' c 0 = 1) ∧ (∀ b k, b ≠ c → τ' b k = τ b k) := by
  rw [md_spread_b hc hv]
  obtain ⟨h1, h2⟩ := hx
  have ok := m4_ok (σ := gW τ c 0 (τ 128 (5 * v))) (c := c) h1.1 h1.2.1 h1.2.2.1 h1.2.2.2
  have e0 : m4 (gW τ c 0 (τ 128 (5 * v))) c (τ 128 (5 * v + 1)) (τ 128 (5 * v + 2)) (τ 128 (5 * v + 3)) (τ 128 (5 * v + 4)) c 0 = τ 128 (5 * v) := by rw [m4_0, gW_at]
  refine ⟨_, rfl, ⟨ok.1, ?_⟩, ?_, ?_, fun b k q => by rw [m4_c q, gW_c q]⟩
  · rw [e0, ok.2]
    rcases h2 with h | h
    · exact Or.inl ⟨h.2.1, h.2.2⟩
    · exact Or.inr ⟨h.2.1, h.2.2⟩
  · intro q; rw [e0]; rcases h2 with h | h
    · omega
    · exact h.2.1
  · intro q; rw [e0]; rcases h2 with h | h
    · exact h.2.1
    · omega
/-- the model's digits, once the number is spread -/
theorem md_digits_s {τ1 : gM} {t v x : Int} {n : Nat} (hs : md_spread τ t v 129 = some (τ1, 0)) (hx : mIs τ1 129 x) (h1 : x < 0 → τ1 129 0 = 1) (h2 : 0 ≤ x → τ1 129 0 = 0) (h0 : 0 ≤ τ1 119 151) (hr : τ1 119 151 + 37 ≤ 420) (hn : n ≤ 36) (hd : nDig (if x < 0 then -x else x) n) :
    md_digits τ t v = some (put2 τ1 (nLt x n), 0) := by
  have em : mm τ1 129 = if x < 0 then -x else x := by
    rcases hx.2 with h | h
    · by_cases q : x < 0
      · rw [if_pos q]; exact h.2
      · have := h2 (by omega); omega
    · by_cases q : x < 0
      · have := h1 q; omega
      · rw [if_neg q]; exact h.2
  have ab : 0 ≤ (if x < 0 then -x else x) := by split <;> omega
  have dz := dZ_s ab hd (36 - n)
  rw [show n + (36 - n) = 36 by omega, ← em] at dz
  rw [md_digits_e, hs]
  simp only [Option.bind_some]
  rw [if_pos (by decide), md_digits_b41_e]
  have go : ∀ L : List Int, L.length ≤ 1 → md_digits_b47 (put2 τ1 L) 0 4 = some (put2 τ1 (L ++ dD (mm τ1 129) n), 0) := fun L hL => by
    have := md_digits_b47_s hx.1 h0 4 0 L (by omega) (Or.inl rfl) (by omega)
    rw [show 9 * 4 = 36 by rfl, dz] at this
    exact this
  unfold nLt
  rw [← em]
  by_cases q : x < 0
  · have b : 0 ≤ τ1 119 151 ∧ τ1 119 151 < 420 := by omega
    rw [if_pos (h1 q), if_pos q]
    simp only [b, and_self, if_true]
    rw [w8_e (by omega) (by omega), w32_e (by omega) (by omega)]
    have e := go [45] (by decide)
    unfold put2 at e
    rw [wrL_one] at e
    unfold put2
    exact e
  · rw [if_neg (by have := h2 (by omega); omega), if_neg q]
    have e := go [] (by decide)
    rw [put2_nil] at e
    rw [md_digits_b41_e]
    exact e
end DG
