/-! strings of the model -/
theorem lt_cons {f : Int → Int} {a : Int} {n : Nat} : lt f a (n + 1) = f a :: lt f (a + 1) n := by
  rw [show n + 1 = 1 + n by omega, lt_append, lt_one]
  rfl
/-- the letters of a row -/
def mS (τ : gM) (r : Int) : List Int := lt (τ 121) (τ 122 r) (τ 123 r).toNat
def hst (h c : Int) : Int := w32 (w32 (31 * h) + c)
def hsh (L : List Int) : Int := i_xor (L.foldl hst (L.length : Int)) (i_ushr (L.foldl hst (L.length : Int)) 15)
def bk4 (L : List Int) : Int := i_and (hsh L) 4095
def bk6 (L : List Int) : Int := i_and (hsh L) 16383
theorem bk4_r (L : List Int) : 0 ≤ bk4 L ∧ bk4 L < 4096 := by
  unfold bk4
  have := i_and_lo (hsh L) 12 (by decide)
  rw [show ((2 : Int) ^ 12 - 1) = 4095 by decide, show ((2 : Int) ^ 12) = 4096 by decide] at this
  rw [this]
  omega
theorem bk6_r (L : List Int) : 0 ≤ bk6 L ∧ bk6 L < 16384 := by
  unfold bk6
  have := i_and_lo (hsh L) 14 (by decide)
  rw [show ((2 : Int) ^ 14 - 1) = 16383 by decide, show ((2 : Int) ^ 14) = 16384 by decide] at this
  rw [this]
  omega
theorem md_hash_b7_s {τ : gM} {row t : Int} (hr : gisb 227 row (some ()) = some ()) (ht : t ≤ gN row) (hl : gN row ≤ 1000000) : ∀ (n : Nat) (k h : Int), 0 ≤ k → k + n = t →
    md_hash_b7 τ row t h k = some (τ, i_xor ((lt (τ row) k n).foldl hst h) (i_ushr ((lt (τ row) k n).foldl hst h) 15))
  | 0, k, h, h0, hk => by
    rw [md_hash_b7_e, if_neg (by omega)]
    rfl
  | n + 1, k, h, h0, hk => by
    have hb : 0 ≤ k ∧ k < gN row := by omega
    rw [md_hash_b7_e, if_pos (by omega)]
    simp only [gisb_ok hr, hb, and_self, if_true]
    rw [w32_e (x := k + 1) (by omega) (by omega), md_hash_b7_s hr ht hl n (k + 1) _ (by omega) (by omega), lt_cons]
    rfl
theorem md_hash_s {τ : gM} {row a t : Int} {n : Nat} (hr : gisb 227 row (some ()) = some ()) (ha : 0 ≤ a) (hn : a + n = t) (ht : t ≤ gN row) (hl : gN row ≤ 1000000) : md_hash τ row a t = some (τ, hsh (lt (τ row) a n)) := by
  rw [md_hash_e, w32_e (by omega) (by omega), md_hash_b7_s hr ht hl n a _ ha hn]
  unfold hsh
  rw [lt_len, show t - a = (n : Int) by omega]
/-- the greatest below m, from lo on, with P; or -1 -/
def lgst (P : Int → Prop) (lo m v : Int) : Prop := (v = -1 ∧ ∀ s, lo ≤ s → s < m → ¬ P s) ∨ (lo ≤ v ∧ v < m ∧ P v ∧ ∀ s, v < s → s < m → ¬ P s)
theorem lgst.up {P : Int → Prop} {lo m v : Int} (h : lgst P lo m v) (hn : ¬ P m) : lgst P lo (m + 1) v := by
  rcases h with ⟨h1, h2⟩ | ⟨h1, h2, h3, h4⟩
  · left
    refine ⟨h1, fun s a b => ?_⟩
    by_cases e : s = m
    · subst e; exact hn
    · exact h2 s a (by omega)
  · right
    refine ⟨h1, by omega, h3, fun s a b => ?_⟩
    by_cases e : s = m
    · subst e; exact hn
    · exact h4 s a (by omega)
theorem lgst.top {P : Int → Prop} {lo m : Int} (hm : lo ≤ m) (hp : P m) : lgst P lo (m + 1) m := Or.inr ⟨hm, by omega, hp, fun s a b => by omega⟩
theorem lgst.congr {P Q : Int → Prop} {lo m v : Int} (h : lgst P lo m v) (hq : ∀ s, lo ≤ s → s < m → (P s ↔ Q s)) : lgst Q lo m v := by
  rcases h with ⟨h1, h2⟩ | ⟨h1, h2, h3, h4⟩
  · exact Or.inl ⟨h1, fun s a b q => h2 s a b ((hq s a b).mpr q)⟩
  · exact Or.inr ⟨h1, h2, (hq v h1 h2).mp h3, fun s a b q => h4 s a b ((hq s (by omega) b).mpr q)⟩
/-- one row is held against letters -/
theorem md_find_b33_s {τ : gM} {row a t s : Int} {n : Nat} (hr : gisb 227 row (some ()) = some ()) (ha : 0 ≤ a) (hn : a + n = t) (ht : t ≤ gN row) (hl : gN row ≤ 1000000) (hs : 0 ≤ s ∧ s < 109004) (hv : 0 ≤ τ 122 s ∧ τ 122 s + n ≤ 160400) :
    ∀ (m k : Nat), k + m = n → ∃ r, md_find_b33 τ row a t s 1 (a + k) = md_find_b82 τ row a t s r ∧ (r = 0 ∨ r = 1) ∧ (r = 1 ↔ ∀ i : Nat, k ≤ i → i < n → τ 121 (τ 122 s + i) = τ row (a + i))
  | 0, k, hk => by
    rw [md_find_b33_e, if_neg (by omega)]
    exact ⟨1, rfl, Or.inr rfl, ⟨fun _ i h1 h2 => by omega, fun _ => rfl⟩⟩
  | m + 1, k, hk => by
    rw [md_find_b33_e, if_pos (by omega), if_neg (by decide), w32_e (x := τ 122 s + (a + k)) (by omega) (by omega), show τ 122 s + (a + k) - a = τ 122 s + k by omega, w32_e (x := τ 122 s + k) (by omega) (by omega)]
    have b1 : 0 ≤ τ 122 s + (k : Int) ∧ τ 122 s + (k : Int) < 160400 := by omega
    have b2 : 0 ≤ a + (k : Int) ∧ a + (k : Int) < gN row := by omega
    simp only [hs, b1, b2, and_self, if_true, gisb_ok hr, md_find_b74_e]
    rw [w32_e (x := a + (k : Int) + 1) (by omega) (by omega), show a + (k : Int) + 1 = a + ((k + 1 : Nat) : Int) by omega]
    by_cases he : τ 121 (τ 122 s + k) = τ row (a + k)
    · rw [if_pos he]
      obtain ⟨r, i1, i2, i3⟩ := md_find_b33_s hr ha hn ht hl hs hv m (k + 1) (by omega)
      refine ⟨r, i1, i2, i3.trans ⟨fun q i x y => ?_, fun q i x y => q i (by omega) y⟩⟩
      by_cases hi : i = k
      · subst hi; exact he
      · exact q i (by omega) y
    · rw [if_neg he]
      refine ⟨0, ?_, Or.inl rfl, ⟨fun q => absurd q (by decide), fun q => absurd (q k (Nat.le_refl k) (by omega)) he⟩⟩
      rw [md_find_b33_e]
      by_cases hz : a + ((k + 1 : Nat) : Int) < t
      · rw [if_pos hz, if_pos rfl]
      · rw [if_neg hz]
theorem md_find_b3_s {τ : gM} {row a t s : Int} {n : Nat} (hr : gisb 227 row (some ()) = some ()) (ha : 0 ≤ a) (hn : a + n = t) (ht : t ≤ gN row) (hl : gN row ≤ 1000000) (hs : 0 ≤ s ∧ s < 109004) (hv : 0 ≤ τ 122 s ∧ 0 ≤ τ 123 s ∧ τ 122 s + τ 123 s ≤ 160400) :
    md_find_b3 τ row a t s = if mS τ s = lt (τ row) a n then some (τ, s) else md_find_b3 τ row a t (τ 124 s) := by
  have e82 : ∀ r, (r = 0 ∨ r = 1) → md_find_b82 τ row a t s r = if r = 1 then some (τ, s) else md_find_b3 τ row a t (τ 124 s) := by
    intro r hr
    rw [md_find_b82_e]
    simp only [hs, and_self, if_true]
    rcases hr with hr | hr <;> subst hr <;> rfl
  rw [md_find_b3_e, if_neg (by omega)]
  simp only [hs, and_self, if_true, md_find_b28_e]
  rw [w32_e (x := t - a) (by omega) (by omega)]
  by_cases he : τ 123 s = t - a
  · rw [if_pos he]
    obtain ⟨r, i1, i2, i3⟩ := md_find_b33_s (τ := τ) (s := s) hr ha hn ht hl hs (by omega) n 0 (by omega)
    have i1' : md_find_b33 τ row a t s 1 a = md_find_b82 τ row a t s r := by
      have := i1
      simpa using this
    rw [i1', e82 r i2]
    have e : (r = 1) ↔ mS τ s = lt (τ row) a n := by
      rw [i3]
      unfold mS
      rw [he, show t - a = (n : Int) by omega, Int.toNat_natCast, lt_eq]
      exact ⟨fun q i a => q i (Nat.zero_le _) a, fun q i _ a => q i a⟩
    by_cases hq : mS τ s = lt (τ row) a n
    · rw [if_pos hq, if_pos (e.mpr hq)]
    · rw [if_neg hq, if_neg (fun z => hq (e.mp z))]
  · rw [if_neg he]
    have hq : ¬ mS τ s = lt (τ row) a n := by
      intro q
      have := lt_n q
      omega
    rw [if_neg hq]
    have : md_find_b33 τ row a t s 0 a = md_find_b82 τ row a t s 0 := by
      rw [md_find_b33_e]
      by_cases hz : a < t
      · rw [if_pos hz, if_pos rfl]
      · rw [if_neg hz]
    rw [this, e82 0 (Or.inl rfl), if_neg (by decide)]
/-- a chain is searched -/
theorem md_find_s {τ : gM} {row a t lo : Int} {n : Nat} {P : Int → Prop} (hr : gisb 227 row (some ()) = some ()) (ha : 0 ≤ a) (hn : a + n = t) (ht : t ≤ gN row) (hl : gN row ≤ 1000000) (h0 : 0 ≤ lo) (hP : ∀ s, mS τ s = lt (τ row) a n → P s) :
    ∀ (d : Nat) (m v : Int), m ≤ lo + d → m ≤ 109004 → (∀ s, lo ≤ s → s < m → (0 ≤ τ 122 s ∧ 0 ≤ τ 123 s ∧ τ 122 s + τ 123 s ≤ 160400) ∧ (P s → lgst P lo s (τ 124 s))) → lgst P lo m v →
      ∃ r, md_find τ v row a t = some (τ, r) ∧ ((r = -1 ∧ ∀ s, lo ≤ s → s < m → mS τ s ≠ lt (τ row) a n) ∨ (lo ≤ r ∧ r < m ∧ mS τ r = lt (τ row) a n))
  | d, m, v, hd, hm, hrows, hv => by
    rw [md_find_e]
    rcases hv with ⟨h1, h2⟩ | ⟨h1, h2, h3, h4⟩
    · subst h1
      rw [md_find_b3_e, if_pos rfl]
      exact ⟨-1, rfl, Or.inl ⟨rfl, fun s q1 q2 q3 => h2 s q1 q2 (hP s q3)⟩⟩
    · have hv := hrows v h1 h2
      rw [md_find_b3_s hr ha hn ht hl (by omega) hv.1]
      by_cases hq : mS τ v = lt (τ row) a n
      · rw [if_pos hq]
        exact ⟨v, rfl, Or.inr ⟨h1, h2, hq⟩⟩
      · rw [if_neg hq]
        cases d with
        | zero => omega
        | succ d =>
          obtain ⟨r, i1, i2⟩ := md_find_s hr ha hn ht hl h0 hP d v (τ 124 v) (by omega) (by omega) (fun s q1 q2 => hrows s q1 (by omega)) (hv.2 h3)
          rw [md_find_e] at i1
          refine ⟨r, i1, ?_⟩
          rcases i2 with ⟨i2, i3⟩ | ⟨i2, i3, i4⟩
          · left
            refine ⟨i2, fun s q1 q2 q3 => ?_⟩
            by_cases e : s < v
            · exact i3 s q1 e q3
            · by_cases e2 : s = v
              · subst e2; exact hq q3
              · exact h4 s (by omega) q2 (hP s q3)
          · right
            exact ⟨i2, by omega, i4⟩
