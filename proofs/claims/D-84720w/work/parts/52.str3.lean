/-! strings of the model: what is kept, what a run made -/
def vM (τ : gM) (r : Int) : Prop := (0 ≤ r ∧ r < τ 119 10) ∨ (9000 ≤ r ∧ r < 9000 + τ 119 13)
def mKr (τ : gM) : Prop := ∀ s, 0 ≤ s → s < τ 119 10 → (0 ≤ τ 122 s ∧ 0 ≤ τ 123 s ∧ τ 122 s + τ 123 s ≤ τ 119 9) ∧ τ 125 s = s ∧ lgst (fun q => bk4 (mS τ q) = bk4 (mS τ s)) 0 s (τ 124 s)
def mRr (τ : gM) : Prop := ∀ s, 9000 ≤ s → s < 9000 + τ 119 13 → (60000 ≤ τ 122 s ∧ 0 ≤ τ 123 s ∧ τ 122 s + τ 123 s ≤ τ 119 12) ∧ lgst (fun q => bk6 (mS τ q) = bk6 (mS τ s)) 9000 s (τ 124 s) ∧
  ((∃ k, 0 ≤ k ∧ k < τ 119 10 ∧ mS τ k = mS τ s ∧ τ 125 s = k) ∨ ((∀ k, 0 ≤ k → k < τ 119 10 → mS τ k ≠ mS τ s) ∧ τ 125 s = s))
def mI (τ : gM) : Prop := (0 ≤ τ 119 10 ∧ τ 119 10 ≤ 9000) ∧ (0 ≤ τ 119 9 ∧ τ 119 9 ≤ 60000) ∧ (0 ≤ τ 119 13 ∧ τ 119 13 ≤ 100000) ∧ (60000 ≤ τ 119 12 ∧ τ 119 12 ≤ 160000) ∧ mKr τ ∧ mRr τ ∧
  (∀ s t, 0 ≤ s → s < τ 119 10 → 0 ≤ t → t < τ 119 10 → mS τ s = mS τ t → s = t) ∧ (∀ s t, 9000 ≤ s → s < 9000 + τ 119 13 → 9000 ≤ t → t < 9000 + τ 119 13 → mS τ s = mS τ t → s = t) ∧
  (∀ b, 0 ≤ b → b < 4096 → lgst (fun q => bk4 (mS τ q) = b) 0 (τ 119 10) (τ 126 b)) ∧ (∀ b, 0 ≤ b → b < 16384 → lgst (fun q => bk6 (mS τ q) = b) 9000 (9000 + τ 119 13) (τ 127 b))
theorem mI.v {τ : gM} (h : mI τ) {s : Int} (hs : vM τ s) : 0 ≤ s ∧ s < 109004 ∧ 0 ≤ τ 122 s ∧ 0 ≤ τ 123 s ∧ τ 122 s + τ 123 s ≤ 160000 := by
  obtain ⟨h1, h2, h3, h4, h5, h6, -⟩ := h
  rcases hs with hs | hs
  · have := (h5 s hs.1 hs.2).1
    omega
  · have := (h6 s hs.1 hs.2).1
    omega
/-- letters alike are told by like -/
theorem mI.like {τ : gM} (h : mI τ) {r s : Int} (hr : vM τ r) (hs : vM τ s) : τ 125 r = τ 125 s ↔ mS τ r = mS τ s := by
  obtain ⟨h1, h2, h3, h4, h5, h6, h7, h8, -⟩ := h
  have kk : ∀ k, 0 ≤ k → k < τ 119 10 → τ 125 k = k := fun k a b => (h5 k a b).2.1
  rcases hr with hr | hr <;> rcases hs with hs | hs
  · rw [kk r hr.1 hr.2, kk s hs.1 hs.2]
    exact ⟨fun q => by rw [q], fun q => h7 r s hr.1 hr.2 hs.1 hs.2 q⟩
  · rw [kk r hr.1 hr.2]
    rcases (h6 s hs.1 hs.2).2.2 with ⟨k, a, b, c, d⟩ | ⟨a, b⟩
    · rw [d, ← c]
      exact ⟨fun q => by rw [q], fun q => h7 r k hr.1 hr.2 a b q⟩
    · rw [b]
      exact ⟨fun q => by omega, fun q => absurd q (a r hr.1 hr.2)⟩
  · rw [kk s hs.1 hs.2]
    rcases (h6 r hr.1 hr.2).2.2 with ⟨k, a, b, c, d⟩ | ⟨a, b⟩
    · rw [d, ← c]
      exact ⟨fun q => by rw [q], fun q => h7 k s a b hs.1 hs.2 q⟩
    · rw [b]
      exact ⟨fun q => by omega, fun q => absurd q.symm (a s hs.1 hs.2)⟩
  · rcases (h6 r hr.1 hr.2).2.2 with ⟨k, a, b, c, d⟩ | ⟨a, b⟩ <;> rcases (h6 s hs.1 hs.2).2.2 with ⟨k', a', b', c', d'⟩ | ⟨a', b'⟩
    · rw [d, d', ← c, ← c']
      exact ⟨fun q => by rw [q], fun q => h7 k k' a b a' b' q⟩
    · rw [d, b']
      refine ⟨fun q => by omega, fun q => ?_⟩
      exact absurd (c.trans q) (a' k a b)
    · rw [b, d']
      refine ⟨fun q => by omega, fun q => ?_⟩
      exact absurd (c'.trans q.symm) (a k' a' b')
    · rw [b, b']
      exact ⟨fun q => by rw [q], fun q => h8 r s hr.1 hr.2 hs.1 hs.2 q⟩
theorem md_isSame_s {τ : gM} (h : mI τ) {r s : Int} (hr : vM τ r) (hs : vM τ s) : md_isSame τ r s = some (τ, if mS τ r = mS τ s then 1 else 0) := by
  have v1 := h.v hr
  have v2 := h.v hs
  rw [md_isSame_e, w32_e (x := r) (by omega) (by omega), w32_e (x := s) (by omega) (by omega)]
  have b1 : 0 ≤ r ∧ r < 109004 := by omega
  have b2 : 0 ≤ s ∧ s < 109004 := by omega
  simp only [b1, b2, and_self, if_true]
  by_cases hq : mS τ r = mS τ s
  · rw [if_pos hq, if_pos ((h.like hr hs).mpr hq)]
  · rw [if_neg hq, if_neg (fun z => hq ((h.like hr hs).mp z))]
theorem md_sizeOf_s {τ : gM} {s : Int} (hs : 0 ≤ s ∧ s < 109004) : md_sizeOf τ s = some (τ, τ 123 s) := by
  rw [md_sizeOf_e, w32_e (by omega) (by omega)]
  simp only [hs, and_self, if_true]
theorem md_letter_s {τ : gM} (h : mI τ) {s k : Int} (hs : vM τ s) (hk : i32 k) : md_letter τ s k = some (τ, if 0 ≤ k ∧ k < τ 123 s then τ 121 (τ 122 s + k) else -1) := by
  have v := h.v hs
  have b1 : 0 ≤ s ∧ s < 109004 := by omega
  rw [md_letter_e]
  by_cases k0 : k < 0
  · rw [if_pos k0, md_letter_b13_e, if_neg (by omega)]
  · rw [if_neg k0, md_sizeOf_s b1]
    simp only [Option.bind_some]
    by_cases k1 : k < τ 123 s
    · rw [if_pos k1, w32_e (x := s) (by omega) (by omega), w32_e (x := τ 122 s + k) (by omega) (by omega)]
      have b2 : 0 ≤ τ 122 s + k ∧ τ 122 s + k < 160400 := by omega
      have b3 : 0 ≤ k ∧ k < τ 123 s := by omega
      simp only [b1, b2, b3, and_self, if_true]
    · rw [if_neg k1, md_letter_b13_e, if_neg (by omega)]
/-- letters are copied to what is kept -/
theorem md_keep_2_b76_s {row a t hh s : Int} {n : Nat} (hr : gisb 227 row (some ()) = some ()) (ha : 0 ≤ a) (hn : a + n = t) (ht : t ≤ gN row) (hl : gN row ≤ 1000000) (b : Int) (hb : 0 ≤ b ∧ b + n ≤ 60000) (f : Int → Int) (hov : row = 121 → 60000 ≤ a) :
    ∀ (m k : Nat) (σ : gM), k + m = n → σ 119 9 = b → (∀ i, i8 (σ row i)) → (∀ i : Nat, i < n → σ row (a + i) = f i) →
      ∃ σ', md_keep_2_b76 σ row a t hh s (a + k) = md_keep_2_b76 σ' row a t hh s t ∧ (∀ c i, c ≠ 121 → σ' c i = σ c i) ∧ (∀ i : Nat, k ≤ i → i < n → σ' 121 (b + i) = f i) ∧ (∀ i, i < b + k ∨ b + n ≤ i → σ' 121 i = σ 121 i)
  | 0, k, σ, hk, h9, h8, hf => by
    rw [show a + (k : Int) = t by omega]
    exact ⟨σ, rfl, fun _ _ _ => rfl, fun i q1 q2 => by omega, fun _ _ => rfl⟩
  | m + 1, k, σ, hk, h9, h8, hf => by
    rw [md_keep_2_b76_e, if_pos (by omega), h9, w32_e (x := b + (a + k)) (by omega) (by omega), show b + (a + (k : Int)) - a = b + k by omega, w32_e (x := b + k) (by omega) (by omega), w32_e (x := a + k + 1) (by omega) (by omega)]
    have b1 : 0 ≤ a + (k : Int) ∧ a + (k : Int) < gN row := by omega
    have b2 : 0 ≤ b + (k : Int) ∧ b + (k : Int) < 160400 := by omega
    simp only [gisb_ok hr, b1, b2, and_self, if_true]
    have h8k := h8 (a + k)
    unfold i8 at h8k
    rw [w8_e h8k.1 h8k.2, hf k (by omega), show a + (k : Int) + 1 = a + ((k + 1 : Nat) : Int) by omega]
    have g8 : ∀ i, i8 (gW σ 121 (b + k) (f k) row i) := by
      intro i
      by_cases hq : row = 121
      · subst hq
        rw [gW_if]
        split
        · have := hf k (by omega)
          rw [← this]; exact h8 _
        · exact h8 i
      · rw [gW_c hq]; exact h8 i
    have gf : ∀ i : Nat, i < n → gW σ 121 (b + k) (f k) row (a + i) = f i := by
      intro i hi
      by_cases hq : row = 121
      · subst hq
        rw [gW_i (by have := hov rfl; omega)]; exact hf i hi
      · rw [gW_c hq]; exact hf i hi
    obtain ⟨σ', i1, i2, i3, i4⟩ := md_keep_2_b76_s (hh := hh) (s := s) hr ha hn ht hl b hb f hov m (k + 1) (gW σ 121 (b + k) (f k)) (by omega) (by rw [gW_c (by decide)]; exact h9) g8 gf
    refine ⟨σ', i1, fun c i hc => (i2 c i hc).trans (gW_c hc), fun i q1 q2 => ?_, fun i q => ?_⟩
    · by_cases e : i = k
      · subst e
        rw [i4 _ (by omega), gW_at]
      · exact i3 i (by omega) q2
    · rw [i4 i (by omega), gW_i (by omega)]
/-- rows that are there stay, with their letters -/
def mKeep (τ τ' : gM) : Prop := ∀ r, vM τ r → vM τ' r ∧ mS τ' r = mS τ r ∧ τ' 122 r = τ 122 r ∧ τ' 123 r = τ 123 r
theorem md_keep_2_s {τ : gM} {row a t : Int} {n : Nat} (h : mI τ) (hrow : row = 134 ∨ row = 225 ∨ row = 121) (ha : 0 ≤ a) (hn : a + n = t) (ht : t ≤ gN row) (hov : row = 121 → 60000 ≤ a) (h8 : ∀ i, i8 (τ row i)) (r1 : τ 119 10 < 9000) (r2 : τ 119 9 + n ≤ 60000) :
    ∃ τ' k, md_keep_2 τ row a t = some (τ', k) ∧ mI τ' ∧ (0 ≤ k ∧ k < τ' 119 10) ∧ mS τ' k = lt (τ row) a n ∧ mKeep τ τ' ∧ (τ 119 10 ≤ τ' 119 10 ∧ τ' 119 10 ≤ τ 119 10 + 1) ∧ (τ 119 9 ≤ τ' 119 9 ∧ τ' 119 9 ≤ τ 119 9 + n) ∧
      (k ≠ τ 119 10 → τ' = τ) ∧ (k = τ 119 10 → τ' 119 10 = τ 119 10 + 1 ∧ ∀ s, 0 ≤ s → s < τ 119 10 → mS τ s ≠ lt (τ row) a n) ∧
      (∀ c i, c ≠ 119 → c ≠ 121 → c ≠ 122 → c ≠ 123 → c ≠ 124 → c ≠ 125 → c ≠ 126 → τ' c i = τ c i) ∧ (∀ i, i ≠ 9 → i ≠ 10 → τ' 119 i = τ 119 i) ∧ (∀ i, 60000 ≤ i → τ' 121 i = τ 121 i) ∧ ((∀ i, i8 (τ 121 i)) → ∀ i, i8 (τ' 121 i)) := by
  have hr : gisb 227 row (some ()) = some () := by rcases hrow with e | e | e <;> subst e <;> rfl
  have hl : gN row ≤ 1000000 := by rcases hrow with e | e | e <;> subst e <;> decide
  have hn5 : row ≠ 119 ∧ row ≠ 122 ∧ row ≠ 123 ∧ row ≠ 124 ∧ row ≠ 125 ∧ row ≠ 126 := by rcases hrow with e | e | e <;> subst e <;> decide
  have hh := h
  obtain ⟨g1, g2, g3, g4, g5, g6, g7, g8, g9, g10⟩ := hh
  have bL := bk4_r (lt (τ row) a n)
  have bL6 := bk6_r (lt (τ row) a n)
  rw [md_keep_2_e, md_hash_s hr ha hn ht hl]
  simp only [Option.bind_some]
  rw [show i_and (hsh (lt (τ row) a n)) 4095 = bk4 (lt (τ row) a n) from rfl]
  simp only [bL, and_self, if_true]
  obtain ⟨r, e1, e2⟩ := md_find_s (τ := τ) (lo := 0) (P := fun q => bk4 (mS τ q) = bk4 (lt (τ row) a n)) hr ha hn ht hl (by omega) (fun s q => by rw [q]) (τ 119 10).toNat (τ 119 10) (τ 126 (bk4 (lt (τ row) a n))) (by omega) (by omega) (fun s q1 q2 => ⟨by have := (g5 s q1 q2).1; omega, fun q3 => by
    have := (g5 s q1 q2).2.2
    rw [q3] at this
    exact this⟩) (g9 _ bL.1 bL.2)
  rw [e1]
  simp only [Option.bind_some]
  rcases e2 with ⟨e2, e3⟩ | ⟨e2, e3, e4⟩
  · subst e2
    rw [if_pos (by decide)]
    have b1 : 0 ≤ τ 119 10 ∧ τ 119 10 < 109004 := by omega
    simp only [b1, and_self, if_true]
    rw [w32_e (x := τ 119 10 + 1) (by omega) (by omega), w32_e (x := t - a) (by omega) (by omega)]
    generalize hS : gW (gW (gW τ 119 10 (τ 119 10 + 1)) 122 (τ 119 10) (τ 119 9)) 123 (τ 119 10) (t - a) = S
    have s119 : ∀ i, S 119 i = if i = 10 then τ 119 10 + 1 else τ 119 i := by intro i; rw [← hS, gW_c (by decide), gW_c (by decide), gW_if]
    have s122 : ∀ i, S 122 i = if i = τ 119 10 then τ 119 9 else τ 122 i := by intro i; rw [← hS, gW_c (by decide), gW_if, gW_c (by decide)]
    have s123 : ∀ i, S 123 i = if i = τ 119 10 then (n : Int) else τ 123 i := by intro i; rw [← hS, gW_if, gW_c (by decide), gW_c (by decide), show t - a = (n : Int) by omega]
    have so : ∀ c i, c ≠ 119 → c ≠ 122 → c ≠ 123 → S c i = τ c i := by intro c i q1 q2 q3; rw [← hS, gW_c q3, gW_c q2, gW_c q1]
    clear hS
    have srow : ∀ i, S row i = τ row i := fun i => so row i hn5.1 hn5.2.1 hn5.2.2.1
    obtain ⟨S2, i1, i2, i3, i4⟩ := md_keep_2_b76_s (hh := hsh (lt (τ row) a n)) (s := τ 119 10) hr ha hn ht hl (τ 119 9) (by omega) (fun i => τ row (a + i)) hov n 0 S (by omega) (by rw [s119, if_neg (by decide)]) (fun i => by rw [srow]; exact h8 i) (fun i _ => srow _)
    have i1' : md_keep_2_b76 S row a t (hsh (lt (τ row) a n)) (τ 119 10) a = md_keep_2_b76 S2 row a t (hsh (lt (τ row) a n)) (τ 119 10) t := by simpa using i1
    rw [i1', md_keep_2_b76_e, if_neg (by omega)]
    rw [show i_and (hsh (lt (τ row) a n)) 4095 = bk4 (lt (τ row) a n) from rfl, show i_and (hsh (lt (τ row) a n)) 16383 = bk6 (lt (τ row) a n) from rfl]
    simp only [bL, bL6, b1, and_self, if_true]
    have t9 : S2 119 9 = τ 119 9 := by rw [i2 _ _ (by decide), s119, if_neg (by decide)]
    rw [t9, w32_e (x := t - a) (by omega) (by omega), w32_e (x := τ 119 9 + (t - a)) (by omega) (by omega)]
    generalize hT : gW (gW (gW (gW S2 119 9 (τ 119 9 + (t - a))) 124 (τ 119 10) (S2 126 (bk4 (lt (τ row) a n)))) 126 (bk4 (lt (τ row) a n)) (τ 119 10)) 125 (τ 119 10) (τ 119 10) = T
    have u119 : ∀ i, T 119 i = if i = 9 then τ 119 9 + n else if i = 10 then τ 119 10 + 1 else τ 119 i := by intro i; rw [← hT, gW_c (by decide), gW_c (by decide), gW_c (by decide), gW_if, i2 _ _ (by decide), s119, show t - a = (n : Int) by omega]
    have u121 : ∀ i, i < τ 119 9 ∨ τ 119 9 + n ≤ i → T 121 i = τ 121 i := by intro i q; rw [← hT, gW_c (by decide), gW_c (by decide), gW_c (by decide), gW_c (by decide), i4 i (by omega), so _ _ (by decide) (by decide) (by decide)]
    have u121' : ∀ i : Nat, i < n → T 121 (τ 119 9 + i) = τ row (a + i) := by intro i q; rw [← hT, gW_c (by decide), gW_c (by decide), gW_c (by decide), gW_c (by decide), i3 i (Nat.zero_le _) q]
    have u122 : ∀ i, T 122 i = if i = τ 119 10 then τ 119 9 else τ 122 i := by intro i; rw [← hT, gW_c (by decide), gW_c (by decide), gW_c (by decide), gW_c (by decide), i2 _ _ (by decide), s122]
    have u123 : ∀ i, T 123 i = if i = τ 119 10 then (n : Int) else τ 123 i := by intro i; rw [← hT, gW_c (by decide), gW_c (by decide), gW_c (by decide), gW_c (by decide), i2 _ _ (by decide), s123]
    have u124 : ∀ i, T 124 i = if i = τ 119 10 then τ 126 (bk4 (lt (τ row) a n)) else τ 124 i := by intro i; rw [← hT, gW_c (by decide), gW_c (by decide), gW_if, gW_c (by decide), i2 _ _ (by decide), i2 _ _ (by decide), so _ _ (by decide) (by decide) (by decide), so _ _ (by decide) (by decide) (by decide)]
    have u125 : ∀ i, T 125 i = if i = τ 119 10 then τ 119 10 else τ 125 i := by intro i; rw [← hT, gW_if, gW_c (by decide), gW_c (by decide), gW_c (by decide), i2 _ _ (by decide), so _ _ (by decide) (by decide) (by decide)]
    have u126 : ∀ i, T 126 i = if i = bk4 (lt (τ row) a n) then τ 119 10 else τ 126 i := by intro i; rw [← hT, gW_c (by decide), gW_if, gW_c (by decide), gW_c (by decide), i2 _ _ (by decide), so _ _ (by decide) (by decide) (by decide)]
    have uo : ∀ c i, c ≠ 119 → c ≠ 121 → c ≠ 122 → c ≠ 123 → c ≠ 124 → c ≠ 125 → c ≠ 126 → T c i = τ c i := by intro c i q1 q2 q3 q4 q5 q6 q7; rw [← hT, gW_c q6, gW_c q7, gW_c q5, gW_c q1, i2 _ _ q2, so _ _ q1 q3 q4]
    have e127 : S2 127 (bk6 (lt (τ row) a n)) = τ 127 (bk6 (lt (τ row) a n)) := by rw [i2 _ _ (by decide), so _ _ (by decide) (by decide) (by decide)]
    rw [e127]
    clear hT i1 i1' i2 i3 i4 s119 s122 s123 so srow t9 e127
    -- the letters of the rows
    have keep : ∀ r, vM τ r → mS T r = mS τ r ∧ T 122 r = τ 122 r ∧ T 123 r = τ 123 r := by
      intro r hr
      have nr : r ≠ τ 119 10 := by rcases hr with q | q <;> omega
      have e2 : T 122 r = τ 122 r := by rw [u122, if_neg nr]
      have e3 : T 123 r = τ 123 r := by rw [u123, if_neg nr]
      refine ⟨?_, e2, e3⟩
      unfold mS
      rw [e2, e3, lt_eq]
      intro i hi
      apply u121
      rcases hr with q | q
      · have := (g5 r q.1 q.2).1; omega
      · have := (g6 r q.1 q.2).1; omega
    have newS : mS T (τ 119 10) = lt (τ row) a n := by
      unfold mS
      rw [u122, u123, if_pos rfl, if_pos rfl, Int.toNat_natCast, lt_eq]
      exact u121'
    have rowT : ∀ i : Nat, i < n → T row (a + i) = τ row (a + i) := by
      intro i hi
      by_cases q : row = 121
      · subst q
        exact u121 _ (by have := hov rfl; omega)
      · exact uo row _ hn5.1 q hn5.2.1 hn5.2.2.1 hn5.2.2.2.1 hn5.2.2.2.2.1 hn5.2.2.2.2.2
    have LT : lt (T row) a n = lt (τ row) a n := lt_eq.mpr rowT
    have k13 : T 119 13 = τ 119 13 := by rw [u119]; simp
    have k12 : T 119 12 = τ 119 12 := by rw [u119]; simp
    have k10 : T 119 10 = τ 119 10 + 1 := by rw [u119]; simp
    have k9 : T 119 9 = τ 119 9 + n := by rw [u119]; simp
    -- the run's rows
    obtain ⟨r, f1, f2⟩ := md_find_s (τ := T) (lo := 9000) (P := fun q => bk6 (mS T q) = bk6 (lt (τ row) a n)) hr ha hn ht hl (by omega) (fun s q => by show bk6 (mS T s) = _; rw [q, LT]) (τ 119 13).toNat (9000 + τ 119 13) (τ 127 (bk6 (lt (τ row) a n))) (by omega) (by omega) (fun s q1 q2 => ⟨by
        have v := keep s (Or.inr ⟨q1, q2⟩)
        have := (g6 s q1 q2).1; omega, fun q3 => by
        have v := keep s (Or.inr ⟨q1, q2⟩)
        have w := (g6 s q1 q2).2.1
        rw [u124, if_neg (by omega)]
        rw [v.1] at q3
        rw [q3] at w
        exact w.congr (fun q a b => by rw [(keep q (Or.inr ⟨a, by omega⟩)).1])⟩) ((g10 _ bL6.1 bL6.2).congr (fun q a b => by rw [(keep q (Or.inr ⟨a, b⟩)).1]))
    rw [LT] at f2
    rw [f1]
    simp only [Option.bind_some]
    -- the end: like is mended where a run's row has these letters
    obtain ⟨T', hT', lk, lo'⟩ : ∃ T', (if r < 0 then some (T, τ 119 10) else if 0 ≤ r ∧ r < 109004 then some (gW T 125 r (τ 119 10), τ 119 10) else none) = some (T', τ 119 10) ∧ (∀ q, T' 125 q = if 9000 ≤ q ∧ q < 9000 + τ 119 13 ∧ mS τ q = lt (τ row) a n then τ 119 10 else T 125 q) ∧ (∀ c i, c ≠ 125 → T' c i = T c i) := by
      rcases f2 with ⟨z1, z2⟩ | ⟨z1, z2, z3⟩
      · subst z1
        rw [if_pos (by decide)]
        refine ⟨T, rfl, fun q => ?_, fun _ _ _ => rfl⟩
        rw [if_neg]
        intro ⟨w1, w2, w3⟩
        exact z2 q w1 w2 (by rw [(keep q (Or.inr ⟨w1, w2⟩)).1]; exact w3)
      · rw [if_neg (by omega), if_pos (by omega)]
        refine ⟨_, rfl, fun q => ?_, fun c i hc => gW_c hc⟩
        rw [gW_if]
        rw [(keep r (Or.inr ⟨z1, z2⟩)).1] at z3
        by_cases e : q = r
        · rw [if_pos e, if_pos (by rw [e]; exact ⟨z1, z2, z3⟩)]
        · rw [if_neg e, if_neg]
          intro ⟨w1, w2, w3⟩
          exact e (g8 q r w1 w2 z1 z2 (w3.trans z3.symm))
    rw [hT']
    clear hT' f1 f2
    have mST : ∀ q, mS T' q = mS T q := by intro q; unfold mS; rw [lo' _ _ (by decide), lo' _ _ (by decide)]; exact lt_eq.mpr (fun i _ => lo' _ _ (by decide))
    have keep' : mKeep τ T' := by
      intro r hr
      have v := keep r hr
      refine ⟨?_, by rw [mST, v.1], by rw [lo' _ _ (by decide), v.2.1], by rw [lo' _ _ (by decide), v.2.2]⟩
      rcases hr with q | q
      · exact Or.inl ⟨q.1, by rw [lo' _ _ (by decide), k10]; omega⟩
      · exact Or.inr ⟨q.1, by rw [lo' _ _ (by decide), k13]; omega⟩
    have newS' : mS T' (τ 119 10) = lt (τ row) a n := by rw [mST, newS]
    have j10 : T' 119 10 = τ 119 10 + 1 := by rw [lo' _ _ (by decide), k10]
    have j9 : T' 119 9 = τ 119 9 + n := by rw [lo' _ _ (by decide), k9]
    have j13 : T' 119 13 = τ 119 13 := by rw [lo' _ _ (by decide), k13]
    have j12 : T' 119 12 = τ 119 12 := by rw [lo' _ _ (by decide), k12]
    have kS : ∀ q, 0 ≤ q → q < τ 119 10 → mS T' q = mS τ q := fun q a b => (keep' q (Or.inl ⟨a, b⟩)).2.1
    have rS : ∀ q, 9000 ≤ q → q < 9000 + τ 119 13 → mS T' q = mS τ q := fun q a b => (keep' q (Or.inr ⟨a, b⟩)).2.1
    refine ⟨T', τ 119 10, rfl, ⟨by omega, by omega, by omega, by omega, ?_, ?_, ?_, ?_, ?_, ?_⟩, by omega, newS', keep', by omega, by omega, fun q => absurd rfl q, fun _ => ⟨j10, e3⟩, ?_, ?_, ?_, ?_⟩
    · intro s q1 q2
      by_cases es : s = τ 119 10
      · subst es
        refine ⟨?_, ?_, ?_⟩
        · rw [lo' _ _ (by decide), lo' _ _ (by decide), u122, u123, if_pos rfl, if_pos rfl]; omega
        · rw [lk, if_neg (by omega), u125, if_pos rfl]
        · rw [lo' _ _ (by decide), u124, if_pos rfl, newS']
          exact (g9 _ bL.1 bL.2).congr (fun q a b => by rw [kS q a b])
      · have w := g5 s q1 (by omega)
        refine ⟨?_, ?_, ?_⟩
        · have v := keep' s (Or.inl ⟨q1, by omega⟩)
          rw [v.2.2.1, v.2.2.2]; omega
        · rw [lk, if_neg (by omega), u125, if_neg es]; exact w.2.1
        · rw [lo' _ _ (by decide), u124, if_neg es, kS s q1 (by omega)]
          exact w.2.2.congr (fun q a b => by rw [kS q a (by omega)])
    · intro s q1 q2
      rw [j13] at q2
      have w := g6 s q1 q2
      have v := keep' s (Or.inr ⟨q1, q2⟩)
      refine ⟨?_, ?_, ?_⟩
      · rw [v.2.2.1, v.2.2.2]; omega
      · rw [lo' _ _ (by decide), u124, if_neg (by omega), v.2.1]
        exact w.2.1.congr (fun q a b => by rw [rS q a (by omega)])
      · rw [v.2.1]
        by_cases el : mS τ s = lt (τ row) a n
        · left
          exact ⟨τ 119 10, by omega, by omega, by rw [newS', el], by rw [lk, if_pos ⟨q1, q2, el⟩]⟩
        · have elk : T' 125 s = τ 125 s := by rw [lk, if_neg (fun z => el z.2.2), u125, if_neg (by omega)]
          rcases w.2.2 with ⟨k, w1, w2, w3, w4⟩ | ⟨w1, w2⟩
          · left
            exact ⟨k, w1, by omega, by rw [kS k w1 w2, w3], by rw [elk, w4]⟩
          · right
            refine ⟨fun k x1 x2 => ?_, by rw [elk, w2]⟩
            by_cases ek : k = τ 119 10
            · subst ek; rw [newS']; exact fun z => el z.symm
            · rw [kS k x1 (by omega)]; exact w1 k x1 (by omega)
    · intro s t' q1 q2 q3 q4 q5
      by_cases hs : s = τ 119 10 <;> by_cases ht' : t' = τ 119 10
      · omega
      · subst hs
        rw [newS', kS t' q3 (by omega)] at q5
        exact absurd q5.symm (e3 t' q3 (by omega))
      · subst ht'
        rw [newS', kS s q1 (by omega)] at q5
        exact absurd q5 (e3 s q1 (by omega))
      · rw [kS s q1 (by omega), kS t' q3 (by omega)] at q5
        exact g7 s t' q1 (by omega) q3 (by omega) q5
    · intro s t' q1 q2 q3 q4 q5
      rw [j13] at q2 q4
      rw [rS s q1 q2, rS t' q3 q4] at q5
      exact g8 s t' q1 q2 q3 q4 q5
    · intro b q1 q2
      rw [j10, lo' 126 b (by decide), u126]
      by_cases eb : b = bk4 (lt (τ row) a n)
      · rw [if_pos eb]
        exact lgst.top (by omega) (by show bk4 (mS T' (τ 119 10)) = b; rw [newS', eb])
      · rw [if_neg eb]
        exact ((g9 b q1 q2).congr (Q := fun q => bk4 (mS T' q) = b) (fun q a b => by rw [kS q a b])).up (by show ¬ bk4 (mS T' (τ 119 10)) = b; rw [newS']; exact fun z => eb z.symm)
    · intro b q1 q2
      rw [j13, lo' 127 b (by decide), uo _ _ (by decide) (by decide) (by decide) (by decide) (by decide) (by decide) (by decide)]
      exact (g10 b q1 q2).congr (fun q a b => by rw [rS q a b])
    · intro c i q1 q2 q3 q4 q5 q6 q7
      rw [lo' _ _ q6, uo _ _ q1 q2 q3 q4 q5 q6 q7]
    · intro i q1 q2
      rw [lo' _ _ (by decide), u119, if_neg q1, if_neg q2]
    · intro i q
      rw [lo' _ _ (by decide)]
      exact u121 i (by omega)
    · intro q i
      rw [lo' _ _ (by decide)]
      by_cases z : τ 119 9 ≤ i ∧ i < τ 119 9 + n
      · have := u121' (i - τ 119 9).toNat (by omega)
        rw [show τ 119 9 + (((i - τ 119 9).toNat : Nat) : Int) = i by omega] at this
        rw [this]; exact h8 _
      · rw [u121 i (by omega)]; exact q i
  · rw [if_neg (by omega)]
    exact ⟨τ, r, rfl, h, ⟨e2, e3⟩, e4, fun q hq => ⟨hq, rfl, rfl, rfl⟩, by omega, by omega, fun _ => rfl, fun q => by omega, fun _ _ _ _ _ _ _ _ _ => rfl, fun _ _ _ => rfl, fun _ _ => rfl, fun q => q⟩
