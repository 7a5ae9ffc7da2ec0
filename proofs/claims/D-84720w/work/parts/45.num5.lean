/-! great numbers of the model -/
def gMc (c : Int) : Prop := c = 129 ∨ c = 130
section MC
variable {ρ : Type} {c : Int} (x : Option ρ)
theorem gMc_is (h : gMc c) : gis 227 c 1 x = x := by rcases h with h | h <;> subst h <;> rfl
theorem gMc_N (h : gMc c) : gN c = 5 := by rcases h with h | h <;> subst h <;> rfl
theorem gMc_w (h : gMc c) : gwr 2041694201525630780780247644590609268736 c 0 x = x := by rcases h with h | h <;> subst h <;> rfl
theorem g131_is : gis 227 131 1 x = x := rfl
theorem g132_is : gis 227 132 1 x = x := rfl
theorem g131_N : gN 131 = 5 := rfl
theorem g132_N : gN 132 = 5 := rfl
end MC
/-- the size that the parts tell -/
def mm (σ : gM) (c : Int) : Int := σ c 1 + 1000000000 * σ c 2 + 1000000000000000000 * σ c 3 + 1000000000000000000000000000 * σ c 4
def mOk (σ : gM) (c : Int) : Prop := (0 ≤ σ c 1 ∧ σ c 1 < 1000000000) ∧ (0 ≤ σ c 2 ∧ σ c 2 < 1000000000) ∧ (0 ≤ σ c 3 ∧ σ c 3 < 1000000000) ∧ (0 ≤ σ c 4 ∧ σ c 4 < 1000000000)
/-- the cell holds the number x (0 may have either sign) -/
def mIs (σ : gM) (c x : Int) : Prop := mOk σ c ∧ ((σ c 0 = 1 ∧ mm σ c = -x) ∨ (σ c 0 = 0 ∧ mm σ c = x))
theorem mm_rng {σ : gM} {a : Int} (oa : mOk σ a) : 0 ≤ mm σ a ∧ mm σ a < 1000000000000000000000000000000000000 := by
  unfold mm
  obtain ⟨h0, h1, h2, h3⟩ := oa
  omega
theorem mOk.k {σ : gM} {w : Int} (h : mOk σ w) {k : Int} (h0 : 1 ≤ k) (h4 : k < 5) : 0 ≤ σ w k ∧ σ w k < 1000000000 := by
  obtain ⟨h1, h2, h3, h5⟩ := h
  have : k = 1 ∨ k = 2 ∨ k = 3 ∨ k = 4 := by omega
  rcases this with e | e | e | e <;> subst e <;> assumption
/-- four parts are written -/
def m4 (σ : gM) (c n1 n2 n3 n4 : Int) : gM := gW (gW (gW (gW σ c 1 n1) c 2 n2) c 3 n3) c 4 n4
section M4
variable {σ : gM} {c n1 n2 n3 n4 b j : Int}
theorem m4_0 : m4 σ c n1 n2 n3 n4 c 0 = σ c 0 := by simp [m4, gW]
theorem m4_1 : m4 σ c n1 n2 n3 n4 c 1 = n1 := by simp [m4, gW]
theorem m4_2 : m4 σ c n1 n2 n3 n4 c 2 = n2 := by simp [m4, gW]
theorem m4_3 : m4 σ c n1 n2 n3 n4 c 3 = n3 := by simp [m4, gW]
theorem m4_4 : m4 σ c n1 n2 n3 n4 c 4 = n4 := by simp [m4, gW]
theorem m4_c (h : b ≠ c) : m4 σ c n1 n2 n3 n4 b j = σ b j := by simp [m4, gW, h]
theorem m4_ok (h0 : 0 ≤ n1 ∧ n1 < 1000000000) (h1 : 0 ≤ n2 ∧ n2 < 1000000000) (h2 : 0 ≤ n3 ∧ n3 < 1000000000) (h3 : 0 ≤ n4 ∧ n4 < 1000000000) : mOk (m4 σ c n1 n2 n3 n4) c ∧ mm (m4 σ c n1 n2 n3 n4) c = n1 + 1000000000 * n2 + 1000000000000000000 * n3 + 1000000000000000000000000000 * n4 := by
  unfold mOk mm
  simp only [m4_1, m4_2, m4_3, m4_4]
  exact ⟨⟨h0, h1, h2, h3⟩, trivial⟩
theorem mOk_c {σ σ' : gM} {c : Int} (h : ∀ k, σ' c k = σ c k) : (mOk σ' c ↔ mOk σ c) ∧ mm σ' c = mm σ c := by
  unfold mOk mm
  simp only [h]
  exact ⟨trivial, trivial⟩
theorem mOk_s {σ : gM} {c s : Int} : (mOk (gW σ c 0 s) c ↔ mOk σ c) ∧ mm (gW σ c 0 s) c = mm σ c := by
  unfold mOk mm
  simp only [gW_i (show (1 : Int) ≠ 0 by decide), gW_i (show (2 : Int) ≠ 0 by decide), gW_i (show (3 : Int) ≠ 0 by decide), gW_i (show (4 : Int) ≠ 0 by decide)]
  exact ⟨trivial, trivial⟩
end M4
theorem mIs_of {σ : gM} {c s x : Int} (ok : mOk σ c) (h : (s = 1 ∧ mm σ c = -x) ∨ (s = 0 ∧ mm σ c = x)) : mIs (gW σ c 0 s) c x := by
  refine ⟨mOk_s.1.mpr ok, ?_⟩
  rw [mOk_s.2, gW_at]
  exact h
section GJM
variable {σ : gM} {a v b : Int}
theorem gj40 : gW σ a 0 v b 4 = σ b 4 := gW_j (by decide)
theorem gj41 : gW σ a 1 v b 4 = σ b 4 := gW_j (by decide)
theorem gj42 : gW σ a 2 v b 4 = σ b 4 := gW_j (by decide)
theorem gj43 : gW σ a 3 v b 4 = σ b 4 := gW_j (by decide)
end GJM
section MS
variable {σ : gM} {c : Int}
theorem md_spread_b8_s (hc : gMc c) {v k k' : Int} (h0 : 0 ≤ k) (h5 : k < 5) (hk : k + 1 = k') (hv : 0 ≤ v ∧ v < 27004) : md_spread_b8 σ v c k = md_spread_b8 (gW σ c k (σ 128 (5 * v + k))) v c k' := by
  rw [md_spread_b8_e, w32_e (x := v) (by omega) (by omega), w32_e (x := 5 * v) (by omega) (by omega), w32_e (x := 5 * v + k) (by omega) (by omega), w32_e (x := k + 1) (by omega) (by omega), hk]
  have hb : 0 ≤ 5 * v + k ∧ 5 * v + k < 135020 := by omega
  simp only [h0, h5, hb, and_self, if_true, gMc_is _ hc, gMc_N hc, gMc_w _ hc]
theorem md_spread_b59_s (hc : gMc c) {r k k' : Int} (h0 : 1 ≤ k) (h4 : k < 5) (hk : k + 1 = k') (hr : i64 r) : md_spread_b59 σ c r k = md_spread_b59 (gW σ c k ((if r < 0 then -r else r) % 1000000000)) c (if r < 0 then -((-r) / 1000000000) else r / 1000000000) k' := by
  unfold i64 at hr
  have e : Int.tmod r 1000000000 = if r < 0 then -((-r) % 1000000000) else r % 1000000000 := by
    split
    · exact tm_neg (by assumption)
    · exact tmd (by omega)
  have e2 : Int.tdiv r 1000000000 = if r < 0 then -((-r) / 1000000000) else r / 1000000000 := by
    split
    · exact td_neg (by assumption)
    · exact tdv (by omega)
  rw [md_spread_b59_e, if_pos h4, if_neg (by decide), e]
  have hb : 0 ≤ k ∧ k < 5 := by omega
  simp only [md_spread_b91_e, gMc_is _ hc, gMc_N hc, gMc_w _ hc, hb, and_self, if_true, e2, show ¬ ((1000000000 : Int) = 0) by decide, if_false]
  rw [w32_e (x := k + 1) (by omega) (by omega), w32_e (by split <;> omega) (by split <;> omega), w64_e (by split <;> omega) (by split <;> omega), hk]
  by_cases k1 : r < 0
  · simp only [if_pos k1]
    by_cases k2 : -((-r) % 1000000000) < 0
    · rw [if_pos k2, Int.neg_neg, w32_e (by omega) (by omega)]
    · rw [if_neg k2, show -((-r) % 1000000000) = (-r) % 1000000000 by omega]
  · simp only [if_neg k1]
    rw [if_neg (by omega)]
theorem md_spread_b59_x {r : Int} : md_spread_b59 σ c r 5 = some (σ, 0) := by rw [md_spread_b59_e]; rfl
/-- a long is spread -/
theorem md_spread_l1 (hc : gMc c) {v t : Int} (ht : t ≠ 3) (hv : i64 v) : ∃ σ', md_spread σ t v c = some (σ', 0) ∧ mIs σ' c v ∧ (v = 0 → σ' c 0 = 0) ∧ (∀ b k, b ≠ c → σ' b k = σ b k) := by
  rw [md_spread_e, if_neg ht]
  have e : (if l_cmp v 0 < 0 then md_spread_b55 σ c v 1 0 c else md_spread_b55 σ c v 0 0 c) = md_spread_b59 (gW σ c 0 (if v < 0 then 1 else 0)) c v 1 := by
    simp only [md_spread_b55_e, gMc_is _ hc, gMc_N hc, gMc_w _ hc, show (0 : Int) ≤ 0 ∧ (0 : Int) < 5 by decide, and_self, if_true, l_cmp_lt]
    split <;> rfl
  rw [e]
  unfold i64 at hv
  rw [md_spread_b59_s hc (k' := 2) (by omega) (by omega) rfl (by unfold i64; omega), md_spread_b59_s hc (k' := 3) (by omega) (by omega) rfl (by unfold i64; split <;> omega),
    md_spread_b59_s hc (k' := 4) (by omega) (by omega) rfl (by unfold i64; split <;> split <;> omega), md_spread_b59_s hc (k' := 5) (by omega) (by omega) rfl (by unfold i64; split <;> split <;> split <;> omega), md_spread_b59_x]
  refine ⟨_, rfl, ?_, ?_, ?_⟩
  · generalize hs : (if v < 0 then (1 : Int) else 0) = s
    have fin : ∀ {n1 n2 n3 n4 : Int}, (0 ≤ n1 ∧ n1 < 1000000000) → (0 ≤ n2 ∧ n2 < 1000000000) → (0 ≤ n3 ∧ n3 < 1000000000) → (0 ≤ n4 ∧ n4 < 1000000000) → n1 + 1000000000 * n2 + 1000000000000000000 * n3 + 1000000000000000000000000000 * n4 = (if v < 0 then -v else v) → mIs (m4 (gW σ c 0 s) c n1 n2 n3 n4) c v := by
      intro n1 n2 n3 n4 h1 h2 h3 h4 h5
      have w5 := m4_ok (σ := gW σ c 0 s) (c := c) h1 h2 h3 h4
      refine ⟨w5.1, ?_⟩
      rw [m4_0, gW_at, w5.2, h5]
      by_cases k : v < 0
      · rw [if_pos k] at hs ⊢
        exact Or.inl ⟨hs.symm, rfl⟩
      · rw [if_neg k] at hs ⊢
        exact Or.inr ⟨hs.symm, rfl⟩
    by_cases k : v < 0
    · simp only [if_pos k] at fin ⊢
      by_cases k1 : -((-v) / 1000000000) < 0
      · simp only [if_pos k1, Int.neg_neg]
        by_cases k2 : -((-v) / 1000000000 / 1000000000) < 0
        · simp only [if_pos k2, Int.neg_neg]
          refine fin ?_ ?_ ?_ ?_ ?_ <;> first | omega | (split <;> omega)
        · simp only [if_neg k2]
          refine fin ?_ ?_ ?_ ?_ ?_ <;> first | omega | (split <;> omega)
      · simp only [if_neg k1]
        refine fin ?_ ?_ ?_ ?_ ?_ <;> first | omega | (split <;> first | omega | (split <;> omega))
    · simp only [if_neg k] at fin ⊢
      have k1 : ¬ (v / 1000000000 < 0) := by omega
      have k2 : ¬ (v / 1000000000 / 1000000000 < 0) := by omega
      have k3 : ¬ (v / 1000000000 / 1000000000 / 1000000000 < 0) := by omega
      simp only [if_neg k1, if_neg k2, if_neg k3]
      refine fin ?_ ?_ ?_ ?_ ?_ <;> omega
  · intro h0
    rw [gW_i (by decide), gW_i (by decide), gW_i (by decide), gW_i (by decide), gW_at, h0]
    rfl
  · intro b k hb
    simp only [gW_c hb]
/-- a great number is spread -/
theorem md_spread_b (hc : gMc c) {v : Int} (hv : 0 ≤ v ∧ v < 27004) : md_spread σ 3 v c = some (m4 (gW σ c 0 (σ 128 (5 * v))) c (σ 128 (5 * v + 1)) (σ 128 (5 * v + 2)) (σ 128 (5 * v + 3)) (σ 128 (5 * v + 4)), 0) := by
  have n : (128 : Int) ≠ c := by rcases hc with h | h <;> subst h <;> decide
  rw [md_spread_e, if_pos rfl, md_spread_b8_s hc (k' := 1) (by omega) (by omega) rfl hv, md_spread_b8_s hc (k' := 2) (by omega) (by omega) rfl hv, md_spread_b8_s hc (k' := 3) (by omega) (by omega) rfl hv, md_spread_b8_s hc (k' := 4) (by omega) (by omega) rfl hv, md_spread_b8_s hc (k' := 5) (by omega) (by omega) rfl hv, md_spread_b8_e, if_neg (by decide)]
  simp only [gW_c n, Int.add_zero]
  rfl
end MS
section MCS
variable {σ : gM} {a b : Int}
theorem gis_ok {ρ : Type} {m : Nat} {a : Int} {c : Nat} {x : Option ρ} (h : gis m a c (some ()) = some ()) : gis m a c x = x := by
  unfold gis at h ⊢
  split at h
  · rfl
  · cases h
theorem md_compareSizes_b2_s (ka : gis 227 a 1 (some ()) = some () ∧ gN a = 5) (kb : gis 227 b 1 (some ()) = some () ∧ gN b = 5) {k k' : Int} (h0 : 0 < k) (h4 : k < 5) (hk : k - 1 = k') : md_compareSizes_b2 σ a b k = if σ a k = σ b k then md_compareSizes_b2 σ a b k' else some (σ, if σ a k < σ b k then -1 else 1) := by
  rw [md_compareSizes_b2_e, w32_e (by omega) (by omega), show k + -1 = k' by omega]
  have hb : 0 ≤ k ∧ k < 5 := by omega
  simp only [gis_ok ka.1, gis_ok kb.1, ka.2, kb.2, hb, h0, and_self, if_true]
  by_cases h : σ a k = σ b k
  · simp only [if_pos h]
  · simp only [if_neg h]
    split <;> rfl
theorem md_compareSizes_b2_x : md_compareSizes_b2 σ a b 0 = some (σ, 0) := by rw [md_compareSizes_b2_e]; rfl
theorem md_compareSizes_s (ka : gis 227 a 1 (some ()) = some () ∧ gN a = 5) (kb : gis 227 b 1 (some ()) = some () ∧ gN b = 5) (oa : mOk σ a) (ob : mOk σ b) : md_compareSizes σ a b = some (σ, if mm σ a < mm σ b then -1 else if mm σ a = mm σ b then 0 else 1) := by
  rw [md_compareSizes_e, md_compareSizes_b2_s ka kb (k' := 3) (by omega) (by omega) rfl, md_compareSizes_b2_s ka kb (k' := 2) (by omega) (by omega) rfl, md_compareSizes_b2_s ka kb (k' := 1) (by omega) (by omega) rfl, md_compareSizes_b2_s ka kb (k' := 0) (by omega) (by omega) rfl, md_compareSizes_b2_x]
  obtain ⟨a0, a1, a2, a3⟩ := oa
  obtain ⟨b0, b1, b2, b3⟩ := ob
  unfold mm
  generalize σ a 1 = x0 at *
  generalize σ a 2 = x1 at *
  generalize σ a 3 = x2 at *
  generalize σ a 4 = x3 at *
  generalize σ b 1 = y0 at *
  generalize σ b 2 = y1 at *
  generalize σ b 3 = y2 at *
  generalize σ b 4 = y3 at *
  by_cases k3 : x3 = y3
  · rw [if_pos k3]
    by_cases k2 : x2 = y2
    · rw [if_pos k2]
      by_cases k1 : x1 = y1
      · rw [if_pos k1]
        by_cases k0 : x0 = y0
        · rw [if_pos k0, if_neg (by omega), if_pos (by omega)]
        · rw [if_neg k0]
          by_cases q : x0 < y0
          · rw [if_pos q, if_pos (by omega)]
          · rw [if_neg q, if_neg (by omega), if_neg (by omega)]
      · rw [if_neg k1]
        by_cases q : x1 < y1
        · rw [if_pos q, if_pos (by omega)]
        · rw [if_neg q, if_neg (by omega), if_neg (by omega)]
    · rw [if_neg k2]
      by_cases q : x2 < y2
      · rw [if_pos q, if_pos (by omega)]
      · rw [if_neg q, if_neg (by omega), if_neg (by omega)]
  · rw [if_neg k3]
    by_cases q : x3 < y3
    · rw [if_pos q, if_pos (by omega)]
    · rw [if_neg q, if_neg (by omega), if_neg (by omega)]
end MCS
section MZ
variable {σ : gM} {a b : Int}
theorem md_isZero_s (ka : gis 227 a 1 (some ()) = some () ∧ gN a = 5) (oa : mOk σ a) : md_isZero σ a = some (σ, if mm σ a = 0 then 1 else 0) := by
  rw [md_isZero_e]
  simp only [gis_ok ka.1, ka.2, show (0 : Int) ≤ 1 ∧ (1 : Int) < 5 by decide, show (0 : Int) ≤ 2 ∧ (2 : Int) < 5 by decide, show (0 : Int) ≤ 3 ∧ (3 : Int) < 5 by decide, show (0 : Int) ≤ 4 ∧ (4 : Int) < 5 by decide, and_self, if_true]
  obtain ⟨a0, a1, a2, a3⟩ := oa
  have z : i_or (i_or (i_or (σ a 1) (σ a 2)) (σ a 3)) (σ a 4) = 0 ↔ mm σ a = 0 := by
    rw [i_or_0 (i_or_i _ _) (by unfold i32; omega), i_or_0 (i_or_i _ _) (by unfold i32; omega), i_or_0 (by unfold i32; omega) (by unfold i32; omega)]
    unfold mm
    omega
  by_cases h : mm σ a = 0
  · rw [if_pos (z.mpr h), if_pos h]
  · rw [if_neg (fun q => h (z.mp q)), if_neg h]
theorem md_compare_s (ka : gis 227 a 1 (some ()) = some () ∧ gN a = 5) (kb : gis 227 b 1 (some ()) = some () ∧ gN b = 5) {x y : Int} (ha : mIs σ a x) (hb : mIs σ b y) : md_compare σ a b = some (σ, if x < y then -1 else if x = y then 0 else 1) := by
  obtain ⟨oa, ha⟩ := ha
  obtain ⟨ob, hb⟩ := hb
  have ra := mm_rng oa
  have rb := mm_rng ob
  rw [md_compare_e]
  simp only [md_compare_b27_e, gis_ok ka.1, gis_ok kb.1, ka.2, kb.2, show (0 : Int) ≤ 0 ∧ (0 : Int) < 5 by decide, and_self, if_true, md_compareSizes_s ka kb oa ob, md_compareSizes_s kb ka ob oa, md_isZero_s ka oa, md_isZero_s kb ob, Option.bind_some]
  rcases ha with ⟨p1, p2⟩ | ⟨p1, p2⟩ <;> rcases hb with ⟨q1, q2⟩ | ⟨q1, q2⟩ <;> rw [p1, q1] <;> simp only [if_true, show ¬ ((0 : Int) = 1) by decide, show ¬ ((1 : Int) = 0) by decide, if_false]
  · by_cases h1 : mm σ b < mm σ a
    · rw [if_pos h1, if_pos (by omega)]
    · rw [if_neg h1]
      by_cases h2 : mm σ b = mm σ a
      · rw [if_pos h2, if_neg (by omega), if_pos (by omega)]
      · rw [if_neg h2, if_neg (by omega), if_neg (by omega)]
  · by_cases h1 : mm σ a = 0
    · by_cases h2 : mm σ b = 0
      · simp only [h1, h2, if_true]
        rw [if_neg (by decide), if_neg (by decide), if_neg (by omega), if_pos (by omega)]
      · simp only [h1, h2, if_true, if_false]
        rw [if_neg (by decide), if_pos (by omega)]
    · simp only [h1, if_false, if_true]
      rw [if_pos (by omega)]
  · by_cases h1 : mm σ a = 0
    · by_cases h2 : mm σ b = 0
      · simp only [h1, h2, if_true]
        rw [if_neg (by decide), if_neg (by decide), if_neg (by omega), if_pos (by omega)]
      · simp only [h1, h2, if_true, if_false]
        rw [if_neg (by decide), if_neg (by omega), if_neg (by omega)]
    · simp only [h1, if_false, if_true]
      rw [if_neg (by omega), if_neg (by omega)]
  · by_cases h1 : mm σ a < mm σ b
    · rw [if_pos h1, if_pos (by omega)]
    · rw [if_neg h1]
      by_cases h2 : mm σ a = mm σ b
      · rw [if_pos h2, if_neg (by omega), if_pos (by omega)]
      · rw [if_neg h2, if_neg (by omega), if_neg (by omega)]
end MZ
theorem k129 : gis 227 129 1 (some ()) = some () ∧ gN 129 = 5 := ⟨rfl, rfl⟩
theorem k130 : gis 227 130 1 (some ()) = some () ∧ gN 130 = 5 := ⟨rfl, rfl⟩
theorem k131 : gis 227 131 1 (some ()) = some () ∧ gN 131 = 5 := ⟨rfl, rfl⟩
theorem k132 : gis 227 132 1 (some ()) = some () ∧ gN 132 = 5 := ⟨rfl, rfl⟩
section MA
variable {σ : gM}
theorem md_adds_b19_s {c k k' : Int} (h0 : 1 ≤ k) (h4 : k < 5) (hk : k + 1 = k') (la : 0 ≤ σ 129 k ∧ σ 129 k < 1000000000) (lb : 0 ≤ σ 130 k ∧ σ 130 k < 1000000000) (hc : 0 ≤ c ∧ c ≤ 1) :
    md_adds_b19 σ c k = md_adds_b19 (gW σ 131 k ((σ 129 k + σ 130 k + c) % 1000000000)) ((σ 129 k + σ 130 k + c) / 1000000000) k' := by
  rw [md_adds_b19_e, w32_e (x := σ 129 k + σ 130 k) (by omega) (by omega), w32_e (x := σ 129 k + σ 130 k + c) (by omega) (by omega)]
  have hb : 0 ≤ k ∧ k < 5 := by omega
  simp only [md_adds_b52_e, hb, h4, and_self, if_true]
  rw [w32_e (x := k + 1) (by omega) (by omega), hk]
  by_cases h : σ 129 k + σ 130 k + c < 1000000000
  · rw [if_pos h, w32_e (x := 0 * 1000000000) (by decide) (by decide), w32_e (by omega) (by omega), show σ 129 k + σ 130 k + c - 0 * 1000000000 = (σ 129 k + σ 130 k + c) % 1000000000 by omega, show (σ 129 k + σ 130 k + c) / 1000000000 = 0 by omega]
  · rw [if_neg h, w32_e (x := 1 * 1000000000) (by decide) (by decide), w32_e (by omega) (by omega), show σ 129 k + σ 130 k + c - 1 * 1000000000 = (σ 129 k + σ 130 k + c) % 1000000000 by omega, show (σ 129 k + σ 130 k + c) / 1000000000 = 1 by omega]
theorem md_adds_b152_s {a b c k k' : Int} (ka : gis 227 a 1 (some ()) = some () ∧ gN a = 5) (kb : gis 227 b 1 (some ()) = some () ∧ gN b = 5) (h0 : 1 ≤ k) (h4 : k < 5) (hk : k + 1 = k') (la : 0 ≤ σ a k ∧ σ a k < 1000000000) (lb : 0 ≤ σ b k ∧ σ b k < 1000000000) (hc : 0 ≤ c ∧ c ≤ 1) :
    md_adds_b152 σ a b c k = md_adds_b152 (gW σ 131 k ((σ a k - σ b k - c) % 1000000000)) a b (if σ a k - σ b k - c < 0 then 1 else 0) k' := by
  rw [md_adds_b152_e, w32_e (x := σ a k - σ b k) (by omega) (by omega), w32_e (x := σ a k - σ b k - c) (by omega) (by omega)]
  have hb : 0 ≤ k ∧ k < 5 := by omega
  simp only [md_adds_b182_e, hb, h4, and_self, if_true, gis_ok ka.1, gis_ok kb.1, ka.2, kb.2]
  rw [w32_e (x := k + 1) (by omega) (by omega), hk]
  by_cases h : σ a k - σ b k - c < 0
  · rw [if_pos h, if_pos h, w32_e (x := 1 * 1000000000) (by decide) (by decide), w32_e (by omega) (by omega), show σ a k - σ b k - c + 1 * 1000000000 = (σ a k - σ b k - c) % 1000000000 by omega]
  · rw [if_neg h, if_neg h, w32_e (x := 0 * 1000000000) (by decide) (by decide), w32_e (by omega) (by omega), show σ a k - σ b k - c + 0 * 1000000000 = (σ a k - σ b k - c) % 1000000000 by omega]
/-- the difference of two sizes -/
theorem md_adds_less {a b : Int} (na : a ≠ 131) (nb : b ≠ 131) (ka : gis 227 a 1 (some ()) = some () ∧ gN a = 5) (kb : gis 227 b 1 (some ()) = some () ∧ gN b = 5) (oa : mOk σ a) (ob : mOk σ b) (hle : mm σ b ≤ mm σ a) : ∃ n1 n2 n3 n4, md_adds_b152 σ a b 0 1 = some (gW (m4 σ 131 n1 n2 n3 n4) 131 0 (σ a 0), 1) ∧ ((0 ≤ n1 ∧ n1 < 1000000000) ∧ (0 ≤ n2 ∧ n2 < 1000000000) ∧ (0 ≤ n3 ∧ n3 < 1000000000) ∧ (0 ≤ n4 ∧ n4 < 1000000000)) ∧ n1 + 1000000000 * n2 + 1000000000000000000 * n3 + 1000000000000000000000000000 * n4 = mm σ a - mm σ b := by
  obtain ⟨a0, a1, a2, a3⟩ := oa
  obtain ⟨b0, b1, b2, b3⟩ := ob
  rw [md_adds_b152_s ka kb (k' := 2) (by omega) (by omega) rfl a0 b0 (by omega), md_adds_b152_s ka kb (k' := 3) (by omega) (by omega) rfl (by rw [gj21]; exact a1) (by rw [gj21]; exact b1) (by split <;> omega),
    md_adds_b152_s ka kb (k' := 4) (by omega) (by omega) rfl (by rw [gj32, gj31]; exact a2) (by rw [gj32, gj31]; exact b2) (by split <;> omega),
    md_adds_b152_s ka kb (k' := 5) (by omega) (by omega) rfl (by rw [gj43, gj42, gj41]; exact a3) (by rw [gj43, gj42, gj41]; exact b3) (by split <;> omega), md_adds_b152_e, if_neg (by decide)]
  simp only [gj21, gj31, gj32, gj41, gj42, gj43, gis_ok ka.1, ka.2, show (0 : Int) ≤ 0 ∧ (0 : Int) < 5 by decide, and_self, if_true, gW_c na]
  refine ⟨_, _, _, _, rfl, ?_, ?_⟩
  · refine ⟨?_, ?_, ?_, ?_⟩ <;> exact ⟨Int.emod_nonneg _ (by decide), Int.emod_lt_of_pos _ (by decide)⟩
  · unfold mm at hle ⊢
    generalize σ a 1 = x0 at *
    generalize σ a 2 = x1 at *
    generalize σ a 3 = x2 at *
    generalize σ a 4 = x3 at *
    generalize σ b 1 = y0 at *
    generalize σ b 2 = y1 at *
    generalize σ b 3 = y2 at *
    generalize σ b 4 = y3 at *
    generalize e0 : (if x0 - y0 - 0 < 0 then (1 : Int) else 0) = c0
    have d0 : (x0 - y0 - 0) % 1000000000 = x0 - y0 + 1000000000 * c0 ∧ 0 ≤ c0 ∧ c0 ≤ 1 := by split at e0 <;> omega
    generalize e1 : (if x1 - y1 - c0 < 0 then (1 : Int) else 0) = c1
    have d1 : (x1 - y1 - c0) % 1000000000 = x1 - y1 - c0 + 1000000000 * c1 ∧ 0 ≤ c1 ∧ c1 ≤ 1 := by split at e1 <;> omega
    generalize e2 : (if x2 - y2 - c1 < 0 then (1 : Int) else 0) = c2
    have d2 : (x2 - y2 - c1) % 1000000000 = x2 - y2 - c1 + 1000000000 * c2 ∧ 0 ≤ c2 ∧ c2 ≤ 1 := by split at e2 <;> omega
    have d3 : ∃ c3, (x3 - y3 - c2) % 1000000000 = x3 - y3 - c2 + 1000000000 * c3 ∧ 0 ≤ c3 ∧ c3 ≤ 1 := by
      by_cases h : x3 - y3 - c2 < 0
      · exact ⟨1, by omega⟩
      · exact ⟨0, by omega⟩
    obtain ⟨c3, d3⟩ := d3
    have r3 := Int.emod_lt_of_pos (x3 - y3 - c2) (show (0 : Int) < 1000000000 by decide)
    have r2 := Int.emod_lt_of_pos (x2 - y2 - c1) (show (0 : Int) < 1000000000 by decide)
    have r1 := Int.emod_lt_of_pos (x1 - y1 - c0) (show (0 : Int) < 1000000000 by decide)
    have r0 := Int.emod_lt_of_pos (x0 - y0 - 0) (show (0 : Int) < 1000000000 by decide)
    have s3 := Int.emod_nonneg (x3 - y3 - c2) (show (1000000000 : Int) ≠ 0 by decide)
    have s2 := Int.emod_nonneg (x2 - y2 - c1) (show (1000000000 : Int) ≠ 0 by decide)
    have s1 := Int.emod_nonneg (x1 - y1 - c0) (show (1000000000 : Int) ≠ 0 by decide)
    have s0 := Int.emod_nonneg (x0 - y0 - 0) (show (1000000000 : Int) ≠ 0 by decide)
    rw [d0.1] at r0 s0
    rw [d1.1] at r1 s1
    rw [d2.1] at r2 s2
    rw [d3.1] at r3 s3
    rw [d0.1, d1.1, d2.1, d3.1]
    clear e0 e1 e2
    omega
theorem md_adds_s {x y : Int} (ha : mIs σ 129 x) (hb : mIs σ 130 y) : ∃ σ' r, md_adds σ = some (σ', r) ∧ (∀ b k, b ≠ 131 → σ' b k = σ b k) ∧
    (-1000000000000000000000000000000000000 < x + y → x + y < 1000000000000000000000000000000000000 → r = 1 ∧ mIs σ' 131 (x + y)) ∧ (x + y ≤ -1000000000000000000000000000000000000 ∨ 1000000000000000000000000000000000000 ≤ x + y → r = 0) := by
  obtain ⟨oa, ha⟩ := ha
  obtain ⟨ob, hb⟩ := hb
  have ra := mm_rng oa
  have rb := mm_rng ob
  have fr : ∀ {n1 n2 n3 n4 s : Int}, ∀ b k, b ≠ 131 → gW (m4 σ 131 n1 n2 n3 n4) 131 0 s b k = σ b k := by
    intro n1 n2 n3 n4 s b k h
    rw [gW_c h, m4_c h]
  rw [md_adds_e]
  simp only [show (0 : Int) ≤ 0 ∧ (0 : Int) < 5 by decide, and_self, if_true]
  by_cases hs : σ 129 0 = σ 130 0
  · rw [if_pos hs]
    have oa' := oa
    have ob' := ob
    obtain ⟨a0, a1, a2, a3⟩ := oa
    obtain ⟨b0, b1, b2, b3⟩ := ob
    rw [md_adds_b19_s (k' := 2) (by omega) (by omega) rfl a0 b0 (by omega), md_adds_b19_s (k' := 3) (by omega) (by omega) rfl (by rw [gj21]; exact a1) (by rw [gj21]; exact b1) (by omega),
      md_adds_b19_s (k' := 4) (by omega) (by omega) rfl (by rw [gj32, gj31]; exact a2) (by rw [gj32, gj31]; exact b2) (by simp only [gj21]; omega),
      md_adds_b19_s (k' := 5) (by omega) (by omega) rfl (by rw [gj43, gj42, gj41]; exact a3) (by rw [gj43, gj42, gj41]; exact b3) (by simp only [gj21, gj31, gj32]; omega)]
    simp only [gj21, gj31, gj32, gj41, gj42, gj43]
    rw [md_adds_b19_e, if_neg (by decide)]
    simp only [show (0 : Int) ≤ 0 ∧ (0 : Int) < 5 by decide, and_self, if_true, gW_c (show (129 : Int) ≠ 131 by decide)]
    have tot : ∃ n1 n2 n3 n4 c, (σ 129 1 + σ 130 1 + 0) % 1000000000 = n1 ∧ (σ 129 2 + σ 130 2 + (σ 129 1 + σ 130 1 + 0) / 1000000000) % 1000000000 = n2 ∧ (σ 129 3 + σ 130 3 + (σ 129 2 + σ 130 2 + (σ 129 1 + σ 130 1 + 0) / 1000000000) / 1000000000) % 1000000000 = n3 ∧
        (σ 129 4 + σ 130 4 + (σ 129 3 + σ 130 3 + (σ 129 2 + σ 130 2 + (σ 129 1 + σ 130 1 + 0) / 1000000000) / 1000000000) / 1000000000) % 1000000000 = n4 ∧ (σ 129 4 + σ 130 4 + (σ 129 3 + σ 130 3 + (σ 129 2 + σ 130 2 + (σ 129 1 + σ 130 1 + 0) / 1000000000) / 1000000000) / 1000000000) / 1000000000 = c ∧
        n1 + 1000000000 * n2 + 1000000000000000000 * n3 + 1000000000000000000000000000 * n4 + 1000000000000000000000000000000000000 * c = mm σ 129 + mm σ 130 := by
      refine ⟨_, _, _, _, _, rfl, rfl, rfl, rfl, rfl, ?_⟩
      unfold mm
      omega
    obtain ⟨n1, n2, n3, n4, c, e1, e2, e3, e4, e5, tot⟩ := tot
    have w5 := m4_ok (σ := σ) (c := 131) (n1 := n1) (n2 := n2) (n3 := n3) (n4 := n4) (by omega) (by omega) (by omega) (by omega)
    have hc : 0 ≤ c := by omega
    rw [e1, e2, e3, e4, e5]
    clear e1 e2 e3 e4 e5 a0 a1 a2 a3 b0 b1 b2 b3
    have j := mOk_s (σ := m4 σ 131 n1 n2 n3 n4) (c := 131) (s := σ 129 0)
    have mr := mm_rng w5.1
    rw [w5.2] at mr
    by_cases c0 : c = 0
    · rw [if_pos c0]
      refine ⟨_, _, rfl, fr, fun _ _ => ⟨rfl, mIs_of w5.1 ?_⟩, fun h => ?_⟩
      · rw [show gW (gW (gW (gW σ 131 1 n1) 131 2 n2) 131 3 n3) 131 4 n4 = m4 σ 131 n1 n2 n3 n4 from rfl, w5.2]
        rcases ha with ⟨p1, p2⟩ | ⟨p1, p2⟩ <;> rcases hb with ⟨q1, q2⟩ | ⟨q1, q2⟩ <;> omega
      · rcases ha with ⟨p1, p2⟩ | ⟨p1, p2⟩ <;> rcases hb with ⟨q1, q2⟩ | ⟨q1, q2⟩ <;> omega
    · rw [if_neg c0]
      refine ⟨_, _, rfl, fr, fun _ _ => ?_, fun h => rfl⟩
      rcases ha with ⟨p1, p2⟩ | ⟨p1, p2⟩ <;> rcases hb with ⟨q1, q2⟩ | ⟨q1, q2⟩ <;> omega
  · rw [if_neg hs, md_compareSizes_s k129 k130 oa ob]
    simp only [Option.bind_some, md_adds_b113_e, md_adds_b129_e, md_adds_b145_e]
    by_cases lt : mm σ 129 < mm σ 130
    · simp only [if_pos lt, show ((-1 : Int) < 0) by decide, if_true, show ¬ ((1 : Int) = 0) by decide, if_false]
      obtain ⟨n1, n2, n3, n4, e, bn, tot⟩ := md_adds_less (by decide) (by decide) k130 k129 ob oa (by omega)
      have w5 := m4_ok (σ := σ) (c := 131) bn.1 bn.2.1 bn.2.2.1 bn.2.2.2
      have j := mOk_s (σ := m4 σ 131 n1 n2 n3 n4) (c := 131) (s := σ 130 0)
      rw [e]
      refine ⟨_, _, rfl, fr, fun _ _ => ⟨rfl, mIs_of w5.1 ?_⟩, fun h => ?_⟩
      · rw [w5.2]
        rcases ha with ⟨p1, p2⟩ | ⟨p1, p2⟩ <;> rcases hb with ⟨q1, q2⟩ | ⟨q1, q2⟩ <;> omega
      · rcases ha with ⟨p1, p2⟩ | ⟨p1, p2⟩ <;> rcases hb with ⟨q1, q2⟩ | ⟨q1, q2⟩ <;> omega
    · have z : ¬ ((if mm σ 129 = mm σ 130 then (0 : Int) else 1) < 0) := by split <;> decide
      simp only [if_neg lt, if_neg z, if_true]
      obtain ⟨n1, n2, n3, n4, e, bn, tot⟩ := md_adds_less (by decide) (by decide) k129 k130 oa ob (by omega)
      have w5 := m4_ok (σ := σ) (c := 131) bn.1 bn.2.1 bn.2.2.1 bn.2.2.2
      have j := mOk_s (σ := m4 σ 131 n1 n2 n3 n4) (c := 131) (s := σ 129 0)
      rw [e]
      refine ⟨_, _, rfl, fr, fun _ _ => ⟨rfl, mIs_of w5.1 ?_⟩, fun h => ?_⟩
      · rw [w5.2]
        rcases ha with ⟨p1, p2⟩ | ⟨p1, p2⟩ <;> rcases hb with ⟨q1, q2⟩ | ⟨q1, q2⟩ <;> omega
      · rcases ha with ⟨p1, p2⟩ | ⟨p1, p2⟩ <;> rcases hb with ⟨q1, q2⟩ | ⟨q1, q2⟩ <;> omega
end MA
