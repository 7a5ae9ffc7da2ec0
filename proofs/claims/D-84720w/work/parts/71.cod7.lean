/-! a code's units: both sides find the same -/
/-- whose newest root a root is -/
def rNw (σ τ : gM) : Prop := (0 ≤ σ 8 31 ∧ σ 8 31 ≤ 60) ∧ ∀ r, 0 ≤ r → r < σ 8 31 → (0 ≤ σ 25 r ∧ σ 25 r < 9000) ∧ (0 ≤ τ 157 r ∧ τ 157 r < 9000) ∧ τ 156 (τ 157 r) = σ 24 (σ 25 r)
theorem rRt.nw {σ τ : gM} (h : rRt σ τ) : rNw σ τ := ⟨⟨h.1.1, h.1.2.1⟩, fun r a b => (h.2 r a b).2.2.2⟩
theorem fr_isNewest_n {σ τ : gM} (h : rNw σ τ) {r : Int} (h0 : 0 ≤ r) (hr : r < σ 8 31) : fr_isNewest σ r = some (σ, if σ 24 (σ 25 r) = r then 1 else 0) ∧ md_isNewest τ r = some (τ, if σ 24 (σ 25 r) = r then 1 else 0) := by
  have hb : 0 ≤ r ∧ r < 60 := by have := h.1; omega
  have g := h.2 r h0 hr
  constructor
  · rw [fr_isNewest_e]
    simp only [hb, g.1, and_self, if_true]
    split <;> rfl
  · rw [md_isNewest_e]
    simp only [hb, g.2.1, and_self, if_true, g.2.2]
    split <;> rfl
/-- nodes of the first units -/
def uSum (S : gM) (f : Int) : Nat → Int
  | 0 => 0
  | n + 1 => uSum S f n + S 27 (S 62 (f + n))
def mkV (S T : gM) (c v : Int) : Prop := (T 204 (152 * c + v) = S 62 (S 54 c + v) ∧ 4 ≤ S 62 (S 54 c + v) ∧ S 62 (S 54 c + v) < S 8 31) ∧ T 205 (152 * c + v) = S 63 (S 54 c + v) ∧ T 206 (152 * c + v) = S 64 (S 54 c + v) ∧ (-1 ≤ S 63 (S 54 c + v) ∧ S 63 (S 54 c + v) < v) ∧ (0 ≤ T 207 (152 * c + v) ∧ T 207 (152 * c + v) ≤ 2) ∧ (S 63 (S 54 c + v) = -1 → v = 0 ∧ T 207 (152 * c + v) = 0) ∧
  (0 ≤ S 63 (S 54 c + v) → T 207 (152 * c + v) = T 207 (152 * c + S 63 (S 54 c + v)) + 1 ∧ (S 26 (S 62 (S 54 c + S 63 (S 54 c + v))) ≤ S 64 (S 54 c + v) ∧ S 64 (S 54 c + v) < S 26 (S 62 (S 54 c + S 63 (S 54 c + v))) + S 27 (S 62 (S 54 c + S 63 (S 54 c + v)))) ∧ S 9 (S 64 (S 54 c + v)) = 23 ∧ S 18 (S 64 (S 54 c + v)) = 1 ∧ S 19 (9 * S 64 (S 54 c + v)) = S 62 (S 54 c + v))
def mkU (S T : gM) (c m : Int) : Prop := (0 ≤ c ∧ c < 100) ∧ (0 ≤ S 54 c ∧ S 54 c + 152 ≤ 16000) ∧ (1 ≤ m ∧ m ≤ 151) ∧ S 55 c = m ∧ T 197 c = m ∧ S 52 11 = S 54 c + m ∧ T 198 c = S 56 c ∧ S 56 c = uSum S (S 54 c) m.toNat ∧ (0 ≤ S 56 c ∧ S 56 c ≤ 300) ∧ (1 < m → S 56 c ≤ 150) ∧ ∀ v, 0 ≤ v → v < m → mkV S T c v
/-- guards of nodes from one on -/
def gN' (σ : gM) (a : Int) : Nat → Int
  | 0 => 0
  | d + 1 => gd σ a + gN' σ (a + 1) d
/-- what stays while units are sought -/
def mkF (σ S : gM) : Prop := (∀ a, a ≠ 52 → a ≠ 55 → a ≠ 56 → a ≠ 62 → a ≠ 63 → a ≠ 64 → S a = σ a) ∧ (∀ i, i ≠ 11 → S 52 i = σ 52 i)
def mkG (τ T : gM) : Prop := ∀ a, a ≠ 197 → a ≠ 198 → a ≠ 199 → a ≠ 204 → a ≠ 205 → a ≠ 206 → a ≠ 207 → T a = τ a
section IN
variable {S T : gM} {c m : Int}
theorem mkF.tr {S' S'' : gM} (h : mkF S S') (h2 : mkF S' S'') : mkF S S'' := ⟨fun a q1 q2 q3 q4 q5 q6 => (h2.1 a q1 q2 q3 q4 q5 q6).trans (h.1 a q1 q2 q3 q4 q5 q6), fun i q => (h2.2 i q).trans (h.2 i q)⟩
theorem mkG.tr {T' T'' : gM} (h : mkG T T') (h2 : mkG T' T'') : mkG T T'' := fun a q1 q2 q3 q4 q5 q6 q7 => (h2 a q1 q2 q3 q4 q5 q6 q7).trans (h a q1 q2 q3 q4 q5 q6 q7)
theorem uSum_mono (hc : ∀ v, 0 ≤ v → v < m → 0 ≤ S 27 (S 62 (S 54 c + v))) : ∀ (b a : Nat), a ≤ b → (b : Int) ≤ m → uSum S (S 54 c) a ≤ uSum S (S 54 c) b
  | 0, a, h, _ => by rw [show a = 0 by omega]; exact Int.le_refl _
  | b + 1, a, h, hb => by
    by_cases e : a = b + 1
    · rw [e]; exact Int.le_refl _
    · have := uSum_mono hc b a (by omega) (by omega)
      have := hc b (by omega) (by omega)
      show uSum S (S 54 c) a ≤ uSum S (S 54 c) b + S 27 (S 62 (S 54 c + b))
      omega
theorem uSum_congr {S' : gM} {f : Int} : ∀ (n : Nat), (∀ v : Nat, v < n → S' 27 (S' 62 (f + v)) = S 27 (S 62 (f + v))) → uSum S' f n = uSum S f n
  | 0, _ => rfl
  | n + 1, h => by
    unfold uSum
    rw [uSum_congr n (fun v q => h v (by omega)), h n (by omega)]
theorem deep_s (h : mkU S T c m) {u r : Int} (h60 : 0 ≤ r ∧ r < 60) : ∀ (d : Nat) (k x : Int), -1 ≤ k → k < m → k < d → 0 ≤ x → x + d ≤ 2000 →
    cd_inlines_b20 S c u r x k = cd_inlines_b58 S c u r (if k < 0 then x else x + T 207 (152 * c + k) + 1) (S 26 r)
  | 0, k, x, k0, km, kd, _, _ => by
    rw [cd_inlines_b20_e, if_pos (show k < 0 by omega), if_pos h60, if_pos (show k < 0 by omega)]
  | d + 1, k, x, k0, km, kd, x0, x2 => by
    obtain ⟨h1, h2, h3, h4, h5, h6, h7, h8, h9, h10, h11⟩ := h
    rw [cd_inlines_b20_e]
    by_cases q : k < 0
    · rw [if_pos q, if_pos q, if_pos h60]
    · have g := h11 k (by omega) km
      obtain ⟨g1, g2, g3, g4, g5, g6, g7⟩ := g
      have b2 : 0 ≤ S 54 c + k ∧ S 54 c + k < 16000 := by omega
      rw [if_neg q, if_neg q, w32_e (x := S 54 c + k) (by omega) (by omega), w32_e (x := x + 1) (by omega) (by omega), if_pos h1, if_pos b2]
      by_cases z : S 63 (S 54 c + k) = -1
      · have g6 := g6 z
        rw [z, cd_inlines_b20_e, if_pos (by decide), g6.2, if_pos h60]
        congr 1
        omega
      · have g7 := (g7 (by omega)).1
        rw [deep_s ⟨h1, h2, h3, h4, h5, h6, h7, h8, h9, h10, h11⟩ h60 d (S 63 (S 54 c + k)) (x + 1) (by omega) (by omega) (by omega) (by omega) (by omega), if_neg (by omega)]
        congr 1
        omega
/-- whether a root is among those around -/
theorem chain_s (h : mkU S T c m) {u r dp n w : Int} : ∀ (d : Nat) (k : Int), -1 ≤ k → k < m → k < d →
    ∃ b, (b = 0 ∨ b = 1) ∧ cd_inlines_b186 S c u r dp n w 1 k = cd_inlines_b241 S c u r dp n w b ∧ md_mayLie_b52 T c w k = some (T, b)
  | 0, k, k0, km, kd => by
    rw [cd_inlines_b186_e, if_pos (by omega), md_mayLie_b52_e, if_pos (by omega)]
    exact ⟨1, Or.inr rfl, rfl, rfl⟩
  | d + 1, k, k0, km, kd => by
    rw [cd_inlines_b186_e, md_mayLie_b52_e]
    by_cases q : k < 0
    · rw [if_pos q, if_pos (by omega)]
      exact ⟨1, Or.inr rfl, rfl, rfl⟩
    · obtain ⟨h1, h2, h3, h4, h5, h6, h7, h8, h9, h10, h11⟩ := h
      obtain ⟨g1, g2, g3, g4, g5, g6, g7⟩ := h11 k (by omega) km
      have b2 : 0 ≤ S 54 c + k ∧ S 54 c + k < 16000 := by omega
      have b3 : 0 ≤ 152 * c + k ∧ 152 * c + k < 15200 := by omega
      rw [if_neg q, if_neg (by decide), if_neg (show ¬ k = -1 by omega), w32_e (x := S 54 c + k) (by omega) (by omega), if_pos h1, if_pos b2, md_unit_s (by omega)]
      simp only [Option.bind_some, b3, and_self, if_true, g1.1, g2]
      by_cases e : S 62 (S 54 c + k) = w
      · refine ⟨0, Or.inl rfl, ?_, if_pos e⟩
        rw [if_pos e, cd_inlines_b220_e, if_pos h1, w32_e (x := S 54 c + k) (by omega) (by omega), if_pos b2, cd_inlines_b186_e]
        by_cases z : S 63 (S 54 c + k) < 0
        · rw [if_pos z]
        · rw [if_neg z, if_pos rfl]
      · obtain ⟨b, i1, i2, i3⟩ := chain_s (u := u) (r := r) (dp := dp) (n := n) (w := w) ⟨h1, h2, h3, h4, h5, h6, h7, h8, h9, h10, h11⟩ d (S 63 (S 54 c + k)) (by omega) (by omega) (by omega)
        refine ⟨b, i1, ?_, ?_⟩
        · rw [if_neg e, cd_inlines_b220_e, if_pos h1, w32_e (x := S 54 c + k) (by omega) (by omega), if_pos b2, i2]
        · rw [if_neg e, md_unit_s (by omega)]
          simp only [Option.bind_some, b3, and_self, if_true, g2]
          exact i3
/-- the state with one unit more -/
def adC (S : gM) (c m w u n : Int) : gM := gW (gW (gW (gW (gW (gW S 62 (S 54 c + m) w) 63 (S 54 c + m) u) 64 (S 54 c + m) n) 52 11 (S 54 c + m + 1)) 55 c (m + 1)) 56 c (S 56 c + S 27 w)
def adM (T : gM) (c m w u n d : Int) (k : Int) : gM := gW (gW (gW (gW (gW (gW T 204 (152 * c + m) w) 205 (152 * c + m) u) 206 (152 * c + m) n) 207 (152 * c + m) d) 197 c (m + 1)) 198 c (T 198 c + k)
theorem adds_s (h : mkU S T c m) {w u n d k : Int} (hm : m ≤ 150) (hw : 4 ≤ w ∧ w < 60) (hk : 0 ≤ k ∧ k ≤ 300) (ek : S 27 w = k) (ek2 : T 159 w = k) : cd_adds S c w u n = some (adC S c m w u n, 0) ∧ md_addUnit T c w u n d = some (adM T c m w u n d k, 0) := by
  obtain ⟨h1, h2, h3, h4, h5, h6, h7, h8, h9, h10, h11⟩ := h
  have b1 : 0 ≤ S 54 c + m ∧ S 54 c + m < 16000 := by omega
  have b2 : 0 ≤ w ∧ w < 60 := by omega
  have b3 : 0 ≤ 152 * c + m ∧ 152 * c + m < 15200 := by omega
  constructor
  · rw [cd_adds_e, h6, h4, ek]
    simp only [b1, h1, b2, and_self, if_true]
    rw [w32_e (x := S 54 c + m + 1) (by omega) (by omega), w32_e (x := m + 1) (by omega) (by omega), w32_e (x := S 56 c + k) (by omega) (by omega)]
    unfold adC
    rw [ek]
  · rw [md_addUnit_e, h5, md_unit_s (by omega)]
    simp only [Option.bind_some, b3, h1, b2, and_self, if_true]
    rw [h5, ek2, w32_e (x := m + 1) (by omega) (by omega), w32_e (x := T 198 c + k) (by omega) (by omega)]
    rfl
theorem mkU_add (h : mkU S T c m) {w u n k : Int} (hm : m ≤ 150) (hw : 4 ≤ w ∧ w < S 8 31) (hk : 0 ≤ k) (ek : S 27 w = k) (hs : S 56 c + k ≤ 150) (hu : 0 ≤ u ∧ u < m) (hd : T 207 (152 * c + u) ≤ 1)
    (hn : S 26 (S 62 (S 54 c + u)) ≤ n ∧ n < S 26 (S 62 (S 54 c + u)) + S 27 (S 62 (S 54 c + u))) (h9 : S 9 n = 23) (h18 : S 18 n = 1) (h19 : S 19 (9 * n) = w) :
    mkU (adC S c m w u n) (adM T c m w u n (T 207 (152 * c + u) + 1) k) c (m + 1) ∧ mkF S (adC S c m w u n) ∧ mkG T (adM T c m w u n (T 207 (152 * c + u) + 1) k) := by
  obtain ⟨h1, h2, h3, h4, h5, h6, h7, h8, hp, h10, h11⟩ := h
  have gu5 : 0 ≤ T 207 (152 * c + u) ∧ T 207 (152 * c + u) ≤ 2 := (h11 u hu.1 hu.2).2.2.2.2.1
  generalize hd' : T 207 (152 * c + u) + 1 = d at *
  have eF : ∀ a, a ≠ 52 → a ≠ 55 → a ≠ 56 → a ≠ 62 → a ≠ 63 → a ≠ 64 → adC S c m w u n a = S a := fun a q1 q2 q3 q4 q5 q6 => by
    unfold adC
    rw [gW_cell q3, gW_cell q2, gW_cell q1, gW_cell q6, gW_cell q5, gW_cell q4]
  have eG : mkG T (adM T c m w u n d k) := fun a q1 q2 q3 q4 q5 q6 q7 => by
    unfold adM
    rw [gW_cell q2, gW_cell q1, gW_cell q7, gW_cell q6, gW_cell q5, gW_cell q4]
  have e52 : ∀ i, i ≠ 11 → adC S c m w u n 52 i = S 52 i := fun i q => by simp [adC, gW, q]
  have e52' : adC S c m w u n 52 11 = S 54 c + m + 1 := by simp [adC, gW]
  have e55 : adC S c m w u n 55 c = m + 1 := by simp [adC, gW]
  have e56 : adC S c m w u n 56 c = S 56 c + S 27 w := by simp [adC, gW]
  have e62 : ∀ i, adC S c m w u n 62 i = if i = S 54 c + m then w else S 62 i := fun i => by simp [adC, gW]
  have e63 : ∀ i, adC S c m w u n 63 i = if i = S 54 c + m then u else S 63 i := fun i => by simp [adC, gW]
  have e64 : ∀ i, adC S c m w u n 64 i = if i = S 54 c + m then n else S 64 i := fun i => by simp [adC, gW]
  have f197 : adM T c m w u n d k 197 c = m + 1 := by simp [adM, gW]
  have f198 : adM T c m w u n d k 198 c = T 198 c + k := by simp [adM, gW]
  have f204 : ∀ i, adM T c m w u n d k 204 i = if i = 152 * c + m then w else T 204 i := fun i => by simp [adM, gW]
  have f205 : ∀ i, adM T c m w u n d k 205 i = if i = 152 * c + m then u else T 205 i := fun i => by simp [adM, gW]
  have f206 : ∀ i, adM T c m w u n d k 206 i = if i = 152 * c + m then n else T 206 i := fun i => by simp [adM, gW]
  have f207 : ∀ i, adM T c m w u n d k 207 i = if i = 152 * c + m then d else T 207 i := fun i => by simp [adM, gW]
  have e54 := eF 54 (by decide) (by decide) (by decide) (by decide) (by decide) (by decide)
  have e27 := eF 27 (by decide) (by decide) (by decide) (by decide) (by decide) (by decide)
  have e26 := eF 26 (by decide) (by decide) (by decide) (by decide) (by decide) (by decide)
  have e9 := eF 9 (by decide) (by decide) (by decide) (by decide) (by decide) (by decide)
  have e18 := eF 18 (by decide) (by decide) (by decide) (by decide) (by decide) (by decide)
  have e19 := eF 19 (by decide) (by decide) (by decide) (by decide) (by decide) (by decide)
  have e8 := eF 8 (by decide) (by decide) (by decide) (by decide) (by decide) (by decide)
  refine ⟨?_, ⟨eF, e52⟩, eG⟩
  generalize adC S c m w u n = S' at *
  generalize adM T c m w u n d k = T' at *
  refine ⟨h1, by rw [e54]; exact h2, by omega, e55, f197, by rw [e52', e54]; omega, by rw [f198, e56, ek, h7], ?_, by rw [e56, ek]; omega, fun _ => by rw [e56, ek]; omega, fun v v0 vm => ?_⟩
  · rw [e56, e54, h8, show (m + 1).toNat = m.toNat + 1 by omega]
    show uSum S (S 54 c) m.toNat + S 27 w = uSum S' (S 54 c) m.toNat + S' 27 (S' 62 (S 54 c + (m.toNat : Int)))
    rw [e27, e62, if_pos (by omega), uSum_congr (S := S) (S' := S') m.toNat (fun v hv => by rw [e27, e62, if_neg (by omega)])]
  · unfold mkV
    rw [e54, e8, e9, e18, e19, e26, e27, e62, e63, e64, f204, f205, f206, f207]
    by_cases z : v = m
    · rw [if_pos (by omega), if_pos (by omega), if_pos (by omega), if_pos (by omega), if_pos (by omega), if_pos (by omega), if_pos (by omega), e62, f207, if_neg (by omega), if_neg (by omega)]
      refine ⟨⟨rfl, hw⟩, rfl, rfl, by omega, by omega, fun q => by omega, fun _ => ⟨by omega, hn, h9, h18, h19⟩⟩
    · rw [if_neg (by omega), if_neg (by omega), if_neg (by omega), if_neg (by omega), if_neg (by omega), if_neg (by omega), if_neg (by omega)]
      have g := h11 v v0 (by omega)
      rw [e62, f207]
      have ga := g.2.2.2.1
      rw [if_neg (by omega), if_neg (by omega)]
      exact g
/-- what is asked of the books while units are sought -/
def mkB (S T : gM) : Prop := rNw S T ∧ rNd S T ∧ rCs S T
theorem plF_cell {σ σ' : gM} (h43 : σ' 43 = σ 43) (h44 : σ' 44 = σ 44) (h47 : σ' 47 = σ 47) : ∀ (d : Nat) (s n : Int), plF d σ' s n = plF d σ s n
  | 0, _, _ => rfl
  | d + 1, s, n => by
    unfold plF
    rw [h43, h44, h47, plF_cell h43 h44 h47 d]
theorem rNd.mv {σ τ σ' τ' : gM} (h : rNd σ τ) (c8 : σ' 8 12 = σ 8 12) (c31 : σ' 8 31 = σ 8 31) (c42 : σ' 42 = σ 42) (cc : ∀ a, (a = 9 ∨ a = 10 ∨ a = 11 ∨ a = 12 ∨ a = 13 ∨ a = 18 ∨ a = 19 ∨ a = 26 ∨ a = 27 ∨ a = 43 ∨ a = 44 ∨ a = 47) → σ' a = σ a) (d57 : τ' 119 57 = τ 119 57) (dd : ∀ a, (a = 158 ∨ a = 159 ∨ a = 168 ∨ a = 169 ∨ a = 174 ∨ a = 175 ∨ a = 178 ∨ a = 180 ∨ a = 181 ∨ a = 182 ∨ a = 183 ∨ a = 184) → τ' a = τ a) : rNd σ' τ' := by
  have pl : ∀ s n, plc σ' s n = plc σ s n := fun s n => by
    unfold plc
    exact plF_cell (cc 43 (by omega)) (cc 44 (by omega)) (cc 47 (by omega)) _ _ _
  unfold rNd rN1 rEn
  simp only [pl, c8, c31, c42, d57, cc 9 (by omega), cc 10 (by omega), cc 11 (by omega), cc 12 (by omega), cc 13 (by omega), cc 18 (by omega), cc 19 (by omega), cc 26 (by omega), cc 27 (by omega), dd 158 (by omega), dd 159 (by omega), dd 168 (by omega), dd 169 (by omega), dd 174 (by omega), dd 175 (by omega), dd 178 (by omega), dd 180 (by omega), dd 181 (by omega), dd 182 (by omega), dd 183 (by omega), dd 184 (by omega)]
  exact h
theorem rCs.mv {σ τ σ' τ' : gM} (h : rCs σ τ) (c8 : σ' 8 12 = σ 8 12) (cc : ∀ a, (a = 9 ∨ a = 15 ∨ a = 16) → σ' a = σ a) (dd : ∀ a, (a = 170 ∨ a = 171 ∨ a = 176) → τ' a = τ a) : rCs σ' τ' := by
  unfold rCs
  simp only [c8, cc 9 (by omega), cc 15 (by omega), cc 16 (by omega), dd 170 (by omega), dd 171 (by omega), dd 176 (by omega)]
  exact h
theorem rNw.mv {σ τ σ' τ' : gM} (h : rNw σ τ) (c8 : σ' 8 31 = σ 8 31) (cc : ∀ a, (a = 24 ∨ a = 25) → σ' a = σ a) (dd : ∀ a, (a = 156 ∨ a = 157) → τ' a = τ a) : rNw σ' τ' := by
  unfold rNw
  simp only [c8, cc 24 (by omega), cc 25 (by omega), dd 156 (by omega), dd 157 (by omega)]
  exact h
theorem mkB.mv {σ τ σ' τ' : gM} (h : mkB σ τ) (f : mkF σ σ') (g : mkG τ τ') : mkB σ' τ' := by
  have c8 := f.1 8 (by decide) (by decide) (by decide) (by decide) (by decide) (by decide)
  have d119 := g 119 (by decide) (by decide) (by decide) (by decide) (by decide) (by decide) (by decide)
  refine ⟨h.1.mv (by rw [c8]) (fun a q => f.1 a (by omega) (by omega) (by omega) (by omega) (by omega) (by omega)) (fun a q => g a (by omega) (by omega) (by omega) (by omega) (by omega) (by omega) (by omega)), ?_, ?_⟩
  · exact h.2.1.mv (by rw [c8]) (by rw [c8]) (f.1 42 (by decide) (by decide) (by decide) (by decide) (by decide) (by decide)) (fun a q => f.1 a (by omega) (by omega) (by omega) (by omega) (by omega) (by omega)) (by rw [d119]) (fun a q => g a (by omega) (by omega) (by omega) (by omega) (by omega) (by omega) (by omega))
  · exact h.2.2.mv (by rw [c8]) (fun a q => f.1 a (by omega) (by omega) (by omega) (by omega) (by omega) (by omega)) (fun a q => g a (by omega) (by omega) (by omega) (by omega) (by omega) (by omega) (by omega))
theorem gW_nop {σ : gM} {a i v : Int} (h : σ a i = v) : gW σ a i v = σ := by
  funext b j
  unfold gW
  split
  · next q => rw [q.1, q.2, h]
  · rfl
/-- one unit's nodes -/
theorem cd_inlines_b58_s {x1 u r dp : Int} : ∀ (d : Nat) (S T : gM) (m n : Int), mkB S T → mkU S T c m → (0 ≤ u ∧ u < m) → r = S 62 (S 54 c + u) → dp = T 207 (152 * c + u) + 1 → S 26 r ≤ n → n + d = S 26 r + S 27 r → m ≤ 1 + uSum S (S 54 c) u.toNat + (n - S 26 r) → (0 ≤ T 199 c ∧ T 199 c ≤ 3 * (uSum S (S 54 c) u.toNat + (n - S 26 r))) →
    ∃ S' T' m', cd_inlines_b58 S c u r dp n = some (S', 0) ∧ md_makeCode_b114 T x1 c u r n = md_makeCode_b82 T' x1 c (u + 1) ∧ mkB S' T' ∧ mkU S' T' c m' ∧ m ≤ m' ∧ mkF S S' ∧ mkG T T' ∧ m' ≤ 1 + uSum S' (S' 54 c) (u.toNat + 1) ∧ (0 ≤ T' 199 c ∧ T' 199 c ≤ 3 * uSum S' (S' 54 c) (u.toNat + 1)) ∧ T' 199 c = T 199 c + gN' S n d ∧ (∀ i, i ≠ c → S' 55 i = S 55 i ∧ S' 56 i = S 56 i ∧ T' 197 i = T 197 i ∧ T' 198 i = T 198 i ∧ T' 199 i = T 199 i) ∧ (∀ i, i < S 54 c + m → S' 62 i = S 62 i ∧ S' 63 i = S 63 i ∧ S' 64 i = S 64 i) ∧ (∀ i, i < 152 * c + m → T' 204 i = T 204 i ∧ T' 205 i = T 205 i ∧ T' 206 i = T 206 i)
  | 0, S, T, m, n, hB, hU, hu, hr, hdp, hn, hd, hm, hg => by
    obtain ⟨h1, h2, h3, h4, h5, h6, h7, h8, hp, h10, h11⟩ := hU
    have gu := h11 u hu.1 hu.2
    unfold mkV at gu
    rw [← hr] at gu
    have gr := hB.2.1.2.1 r gu.1.2.1 gu.1.2.2
    have g60 := hB.1.1
    have hh := hB.2.1.1
    have b60 : 0 ≤ r ∧ r < 60 := by omega
    have eS : uSum S (S 54 c) (u.toNat + 1) = uSum S (S 54 c) u.toNat + S 27 r := by
      show uSum S (S 54 c) u.toNat + S 27 (S 62 (S 54 c + (u.toNat : Int))) = _
      rw [show S 54 c + (u.toNat : Int) = S 54 c + u by omega, ← hr]
    refine ⟨S, T, m, ?_, ?_, hB, ⟨h1, h2, h3, h4, h5, h6, h7, h8, hp, h10, h11⟩, Int.le_refl _, ⟨fun _ _ _ _ _ _ _ => rfl, fun _ _ => rfl⟩, fun _ _ _ _ _ _ _ _ => rfl, by omega, by omega, by show _ = _ + 0; omega, fun _ _ => ⟨rfl, rfl, rfl, rfl, rfl⟩, fun _ _ => ⟨rfl, rfl, rfl⟩, fun _ _ => ⟨rfl, rfl, rfl⟩⟩
    · rw [cd_inlines_b58_e, if_pos b60, if_pos b60, w32_e (x := S 26 r + S 27 r) (by omega) (by omega), if_neg (by omega)]
    · rw [md_makeCode_b114_e, if_pos b60, if_pos b60, gr.1, gr.2.1, w32_e (x := S 26 r + S 27 r) (by omega) (by omega), if_neg (by omega), w32_e (x := u + 1) (by omega) (by omega)]
  | d + 1, S, T, m, n, hB, hU, hu, hr, hdp, hn, hd, hm, hg => by
    have hU' := hU
    obtain ⟨h1, h2, h3, h4, h5, h6, h7, h8, hp, h10, h11⟩ := hU
    have gu := h11 u hu.1 hu.2
    have gu' := gu
    unfold mkV at gu
    rw [← hr] at gu
    have gr := hB.2.1.2.1 r gu.1.2.1 gu.1.2.2
    have g60 := hB.1.1
    have hh := hB.2.1.1
    have b60 : 0 ≤ r ∧ r < 60 := by omega
    have bn : 0 ≤ n ∧ n < 16000 := by omega
    have bn2 : 0 ≤ n ∧ n < 20000 := by omega
    have lt : n < S 26 r + S 27 r := by omega
    have gn := hB.2.1.2.2 n (by omega) (by omega)
    have gg := cd_guardsOf_s hB.2.1 hB.2.2 (n := n) (by omega) (by omega)
    have g3 := gd_r (σ := S) (n := n) gn.2.2.2.2.2.1.2.2
    -- sums
    have cnt : ∀ v, 0 ≤ v → v < m → 0 ≤ S 27 (S 62 (S 54 c + v)) := fun v a b => by
      have gv := h11 v a b
      exact (hB.2.1.2.1 _ gv.1.2.1 gv.1.2.2).2.2.2.1.1
    have eS : uSum S (S 54 c) (u.toNat + 1) = uSum S (S 54 c) u.toNat + S 27 r := by
      show uSum S (S 54 c) u.toNat + S 27 (S 62 (S 54 c + (u.toNat : Int))) = _
      rw [show S 54 c + (u.toNat : Int) = S 54 c + u by omega, ← hr]
    have mono := uSum_mono (S := S) (c := c) (m := m) cnt m.toNat (u.toNat + 1) (by omega) (by omega)
    -- the state with the guards
    have eG : mkG T (gW T 199 c (T 199 c + gd S n)) := fun a _ _ q3 _ _ _ _ => gW_cell q3
    have hB1 : mkB S (gW T 199 c (T 199 c + gd S n)) := hB.mv ⟨fun _ _ _ _ _ _ _ => rfl, fun _ _ => rfl⟩ eG
    have k1 : ∀ a, a ≠ 199 → gW T 199 c (T 199 c + gd S n) a = T a := fun a q => gW_cell q
    have hU1 : mkU S (gW T 199 c (T 199 c + gd S n)) c m := by
      unfold mkU mkV
      rw [k1 197 (by decide), k1 198 (by decide), k1 204 (by decide), k1 205 (by decide), k1 206 (by decide), k1 207 (by decide)]
      exact hU'
    -- without a new unit
    have same : cd_inlines_b58 S c u r dp n = cd_inlines_b58 S c u r dp (n + 1) ∨ cd_inlines_b58 S c u r dp n = some (S, 0) ∧ cd_inlines_b58 S c u r dp (n + 1) = some (S, 0) → md_makeCode_b114 T x1 c u r n = md_makeCode_b114 (gW T 199 c (T 199 c + gd S n)) x1 c u r (n + 1) →
        ∃ S' T' m', cd_inlines_b58 S c u r dp n = some (S', 0) ∧ md_makeCode_b114 T x1 c u r n = md_makeCode_b82 T' x1 c (u + 1) ∧ mkB S' T' ∧ mkU S' T' c m' ∧ m ≤ m' ∧ mkF S S' ∧ mkG T T' ∧ m' ≤ 1 + uSum S' (S' 54 c) (u.toNat + 1) ∧ (0 ≤ T' 199 c ∧ T' 199 c ≤ 3 * uSum S' (S' 54 c) (u.toNat + 1)) ∧ T' 199 c = T 199 c + gN' S n (d + 1) ∧ (∀ i, i ≠ c → S' 55 i = S 55 i ∧ S' 56 i = S 56 i ∧ T' 197 i = T 197 i ∧ T' 198 i = T 198 i ∧ T' 199 i = T 199 i) ∧ (∀ i, i < S 54 c + m → S' 62 i = S 62 i ∧ S' 63 i = S 63 i ∧ S' 64 i = S 64 i) ∧ (∀ i, i < 152 * c + m → T' 204 i = T 204 i ∧ T' 205 i = T 205 i ∧ T' 206 i = T 206 i) := fun e1 e2 => by
      obtain ⟨S', T', m', i1, i2, i3, i4, i5, i6, i7, i8, i9, i10, i11, i12, i13⟩ := cd_inlines_b58_s (x1 := x1) (dp := dp) d S (gW T 199 c (T 199 c + gd S n)) m (n + 1) hB1 hU1 hu hr (by rw [k1 207 (by decide)]; exact hdp) (by omega) (by omega) (by omega) (by rw [gW_at]; omega)
      rw [gW_at] at i10
      refine ⟨S', T', m', ?_, by rw [e2, i2], i3, i4, i5, i6, eG.tr i7, i8, i9, ?_, fun i q => ?_, i12, fun i q => ?_⟩
      · rcases e1 with e1 | e1
        · rw [e1, i1]
        · rw [e1.1, ← e1.2, i1]
      · rw [i10]; show _ = T 199 c + (gd S n + gN' S (n + 1) d); omega
      · have := i11 i q
        rw [k1 197 (by decide), k1 198 (by decide), gW_i q] at this
        exact this
      · have := i13 i q
        rw [k1 204 (by decide), k1 205 (by decide), k1 206 (by decide)] at this
        exact this
    -- the model's step
    have eM : md_makeCode_b114 T x1 c u r n = if S 9 n = 23 then (if S 18 n = 1 then ((md_mayLie (gW T 199 c (T 199 c + gd S n)) c u (S 19 (9 * n))).bind fun p2 => if p2.2 = 0 then md_makeCode_b114 p2.1 x1 c u r (n + 1) else ((md_unit p2.1 c u).bind fun p3 => if 0 ≤ p3.2 ∧ p3.2 < 15200 then ((md_addUnit p3.1 c (p2.1 182 (3 * n)) u n (w32 ((p3.1 207 p3.2) + 1))).bind fun p4 => md_makeCode_b114 p4.1 x1 c u r (n + 1)) else none)) else md_makeCode_b114 (gW T 199 c (T 199 c + gd S n)) x1 c u r (n + 1)) else md_makeCode_b114 (gW T 199 c (T 199 c + gd S n)) x1 c u r (n + 1) := by
      rw [md_makeCode_b114_e, if_pos b60, if_pos b60, gr.1, gr.2.1, w32_e (x := S 26 r + S 27 r) (by omega) (by omega), if_pos lt, if_pos h1, gg.2]
      simp only [Option.bind_some, h1, bn2, and_self, if_true]
      rw [gn.1, gn.2.2.2.2.2.1.1, w32_e (x := T 199 c + gd S n) (by omega) (by omega), w32_e (x := 3 * n) (by omega) (by omega)]
      have b3 : 0 ≤ 3 * n ∧ 3 * n < 60000 := by omega
      simp only [b3, and_self, if_true, md_makeCode_b220_e]
      rw [w32_e (x := n + 1) (by omega) (by omega)]
      by_cases q1 : S 9 n = 23
      · rw [if_pos q1, if_pos q1]
        by_cases q2 : S 18 n = 1
        · rw [if_pos q2, if_pos q2]
          have ge := gn.2.2.2.2.2.2 0 (by omega) (by omega)
          have ge1 := ge.1
          rw [show 3 * n + 0 = 3 * n by omega, show 9 * n + 3 * 0 = 9 * n by omega] at ge1
          rw [ge1]
        · rw [if_neg q2, if_neg q2]
      · rw [if_neg q1, if_neg q1]
    have eC : cd_inlines_b58 S c u r dp n = if dp < 3 then (if S 9 n = 23 then (if S 18 n = 1 then (if S 19 (9 * n) < 4 then cd_inlines_b181 S c u r dp n (S 19 (9 * n)) 0 else ((fr_isNewest S (S 19 (9 * n))).bind fun p1 => if p1.2 = 0 then cd_inlines_b181 p1.1 c u r dp n (S 19 (9 * n)) 0 else (if 0 ≤ S 19 (9 * n) ∧ S 19 (9 * n) < 60 then (if 150 < w32 (p1.1 56 c + p1.1 27 (S 19 (9 * n))) then cd_inlines_b181 p1.1 c u r dp n (S 19 (9 * n)) 0 else cd_inlines_b181 p1.1 c u r dp n (S 19 (9 * n)) 1) else none))) else cd_inlines_b58 S c u r dp (n + 1)) else cd_inlines_b58 S c u r dp (n + 1)) else some (S, 0) := by
      rw [cd_inlines_b58_e, if_pos b60, if_pos b60, w32_e (x := S 26 r + S 27 r) (by omega) (by omega), if_pos lt, w32_e (x := 9 * n) (by omega) (by omega)]
      have b9 : 0 ≤ 9 * n ∧ 9 * n < 144000 := by omega
      simp only [bn, b9, h1, and_self, if_true, cd_inlines_b180_e, cd_inlines_b256_e]
      rw [w32_e (x := n + 1) (by omega) (by omega)]
    have e181 : ∀ w, cd_inlines_b181 S c u r dp n w 0 = cd_inlines_b58 S c u r dp (n + 1) := fun w => by
      rw [cd_inlines_b181_e, cd_inlines_b186_e, cd_inlines_b241_e, if_neg (show ¬ u < 0 by omega), if_pos rfl, if_pos rfl, cd_inlines_b256_e, w32_e (x := n + 1) (by omega) (by omega)]
    by_cases q1 : S 9 n = 23
    · by_cases q2 : S 18 n = 1
      · have ge := gn.2.2.2.2.2.2 0 (by omega) (by omega)
        have rw4 : 0 ≤ S 19 (9 * n) ∧ S 19 (9 * n) < S 8 31 := by
          have ge := ge
          unfold rEn at ge
          rw [show 9 * n + 3 * 0 = 9 * n by omega] at ge
          rcases ge.2 with z | z | z
          · exact z.2.1
          · omega
          · omega
        have ge1 : T 182 (3 * n) = S 19 (9 * n) := by
          have := ge.1
          rw [show 3 * n + 0 = 3 * n by omega, show 9 * n + 3 * 0 = 9 * n by omega] at this
          exact this
        rw [if_pos q1, if_pos q2, md_mayLie_e] at eM
        rw [if_pos q1, if_pos q2] at eC
        generalize hw : S 19 (9 * n) = w at *
        by_cases w4 : w < 4
        · rw [if_pos w4, e181] at eC
          rw [if_pos w4] at eM
          simp only [Option.bind_some, if_true] at eM
          refine same ?_ eM
          by_cases d3 : dp < 3
          · rw [if_pos d3] at eC; exact Or.inl eC
          · rw [if_neg d3] at eC
            refine Or.inr ⟨eC, ?_⟩
            rw [cd_inlines_b58_e, if_pos b60, if_pos b60, if_neg d3]
            split <;> rfl
        · have nw := fr_isNewest_n hB.1 rw4.1 rw4.2
          have nw1 := fr_isNewest_n hB1.1 rw4.1 rw4.2
          rw [if_neg w4, nw.1] at eC
          rw [if_neg w4, nw1.2] at eM
          simp only [Option.bind_some] at eC eM
          have no : (dp < 3 → cd_inlines_b58 S c u r dp n = cd_inlines_b58 S c u r dp (n + 1)) → cd_inlines_b58 S c u r dp n = cd_inlines_b58 S c u r dp (n + 1) ∨ cd_inlines_b58 S c u r dp n = some (S, 0) ∧ cd_inlines_b58 S c u r dp (n + 1) = some (S, 0) := fun z => by
            by_cases d3 : dp < 3
            · exact Or.inl (z d3)
            · rw [if_neg d3] at eC
              refine Or.inr ⟨eC, ?_⟩
              rw [cd_inlines_b58_e, if_pos b60, if_pos b60, if_neg d3]
              split <;> rfl
          by_cases nn : S 24 (S 25 w) = w
          · simp only [if_pos nn, show ¬ ((1 : Int) = 0) by decide, if_false] at eC eM
            have b3 : 0 ≤ 152 * c + u ∧ 152 * c + u < 15200 := by omega
            have gw := hB.2.1.2.1 w (by omega) (by omega)
            rw [md_unit_s (by omega)] at eM
            simp only [Option.bind_some, b3, and_self, if_true, h1] at eM
            have bw : 0 ≤ w ∧ w < 60 := by omega
            rw [k1 207 (by decide), k1 198 (by decide), k1 159 (by decide), h7, gw.2.1] at eM
            rw [w32_e (x := S 56 c + S 27 w) (by omega) (by omega)] at eC eM
            simp only [bw, and_self, if_true] at eC eM
            by_cases dd : 1 < T 207 (152 * c + u)
            · simp only [if_pos dd, Option.bind_some, if_true] at eM
              refine same (no (fun d3 => ?_)) eM
              omega
            · have d3 : dp < 3 := by omega
              simp only [if_neg dd] at eM
              rw [if_pos d3] at eC
              by_cases s150 : 150 < S 56 c + S 27 w
              · simp only [if_pos s150, Option.bind_some, if_true] at eM
                rw [if_pos s150, e181] at eC
                exact same (Or.inl eC) eM
              · simp only [if_neg s150] at eM
                rw [if_neg s150, cd_inlines_b181_e] at eC
                obtain ⟨b, c1, c2, c3⟩ := chain_s (S := S) (T := gW T 199 c (T 199 c + gd S n)) (r := r) (dp := dp) (n := n) (w := w) (u := u) hU1 200 u (by omega) hu.2 (by omega)
                rw [c2, cd_inlines_b241_e] at eC
                rw [c3] at eM
                simp only [Option.bind_some] at eM
                rcases c1 with c1 | c1 <;> subst c1
                · rw [if_pos rfl, cd_inlines_b256_e, w32_e (x := n + 1) (by omega) (by omega)] at eC
                  rw [if_pos rfl] at eM
                  exact same (Or.inl eC) eM
                · -- a unit comes
                  have m150 : m ≤ 150 := by omega
                  rw [if_neg (by decide)] at eC eM
                  rw [md_unit_s (by omega)] at eM
                  simp only [Option.bind_some, b3, and_self, if_true] at eM
                  rw [k1 182 (by decide), ge1, k1 207 (by decide), w32_e (x := T 207 (152 * c + u) + 1) (by omega) (by omega)] at eM
                  have ad := adds_s hU1 (w := w) (u := u) (n := n) (d := T 207 (152 * c + u) + 1) (k := S 27 w) m150 (by omega) gw.2.2.2.1 rfl (by rw [k1 159 (by decide)]; exact gw.2.1)
                  rw [ad.2] at eM
                  rw [ad.1] at eC
                  simp only [Option.bind_some] at eC eM
                  rw [cd_inlines_b256_e, w32_e (x := n + 1) (by omega) (by omega)] at eC
                  have au := mkU_add hU1 (w := w) (u := u) (n := n) (k := S 27 w) m150 (by omega) gw.2.2.2.1.1 rfl (by omega) hu (by rw [k1 207 (by decide)]; omega) (by rw [← hr]; omega) q1 q2 hw
                  rw [k1 207 (by decide)] at au
                  generalize hT : adM (gW T 199 c (T 199 c + gd S n)) c m w u n (T 207 (152 * c + u) + 1) (S 27 w) = T2 at *
                  generalize hS : adC S c m w u n = S2 at *
                  obtain ⟨a1, a2, a3⟩ := au
                  have hB2 := hB1.mv a2 a3
                  have s54 := a2.1 54 (by decide) (by decide) (by decide) (by decide) (by decide) (by decide)
                  have s26 := a2.1 26 (by decide) (by decide) (by decide) (by decide) (by decide) (by decide)
                  have s27 := a2.1 27 (by decide) (by decide) (by decide) (by decide) (by decide) (by decide)
                  have s62 : ∀ i, i ≠ S 54 c + m → S2 62 i = S 62 i := fun i q => by rw [← hS]; simp [adC, gW, q]
                  have s63 : ∀ i, i ≠ S 54 c + m → S2 63 i = S 63 i := fun i q => by rw [← hS]; simp [adC, gW, q]
                  have s64 : ∀ i, i ≠ S 54 c + m → S2 64 i = S 64 i := fun i q => by rw [← hS]; simp [adC, gW, q]
                  have s55 : ∀ i, i ≠ c → S2 55 i = S 55 i := fun i q => by rw [← hS]; simp [adC, gW, q]
                  have s56 : ∀ i, i ≠ c → S2 56 i = S 56 i := fun i q => by rw [← hS]; simp [adC, gW, q]
                  have t197 : ∀ i, i ≠ c → T2 197 i = T 197 i := fun i q => by rw [← hT]; simp [adM, gW, q]
                  have t198 : ∀ i, i ≠ c → T2 198 i = T 198 i := fun i q => by rw [← hT]; simp [adM, gW, q]
                  have t199 : ∀ i, T2 199 i = if i = c then T 199 c + gd S n else T 199 i := fun i => by rw [← hT]; simp [adM, gW]
                  have t204 : ∀ i, i ≠ 152 * c + m → T2 204 i = T 204 i := fun i q => by rw [← hT]; simp [adM, gW, q]
                  have t205 : ∀ i, i ≠ 152 * c + m → T2 205 i = T 205 i := fun i q => by rw [← hT]; simp [adM, gW, q]
                  have t206 : ∀ i, i ≠ 152 * c + m → T2 206 i = T 206 i := fun i q => by rw [← hT]; simp [adM, gW, q]
                  have t207 : ∀ i, i ≠ 152 * c + m → T2 207 i = T 207 i := fun i q => by rw [← hT]; simp [adM, gW, q]
                  have us : ∀ k : Nat, (k : Int) ≤ m → uSum S2 (S2 54 c) k = uSum S (S 54 c) k := fun k hk => by
                    rw [s54]
                    exact uSum_congr k (fun v hv => by rw [s27, s62 _ (by omega)])
                  have gdS : ∀ x, gd S2 x = gd S x := fun x => gd_congr (a2.1 9 (by decide) (by decide) (by decide) (by decide) (by decide) (by decide)) (a2.1 11 (by decide) (by decide) (by decide) (by decide) (by decide) (by decide)) (a2.1 15 (by decide) (by decide) (by decide) (by decide) (by decide) (by decide)) (a2.1 16 (by decide) (by decide) (by decide) (by decide) (by decide) (by decide)) (a2.1 18 (by decide) (by decide) (by decide) (by decide) (by decide) (by decide))
                  have gnS : ∀ (k : Nat) (x : Int), gN' S2 x k = gN' S x k := fun k => by
                    induction k with
                    | zero => intro x; rfl
                    | succ k ih => intro x; show gd S2 x + gN' S2 (x + 1) k = gd S x + gN' S (x + 1) k; rw [gdS, ih]
                  obtain ⟨S', T', m', i1, i2, i3, i4, i5, i6, i7, i8, i9, i10, i11, i12, i13⟩ := cd_inlines_b58_s (x1 := x1) (u := u) (r := r) (dp := dp) d S2 T2 (m + 1) (n + 1) hB2 a1 (by omega) (by rw [s54, s62 _ (by omega)]; exact hr) (by rw [t207 _ (by omega)]; exact hdp) (by rw [s26]; omega) (by rw [s26, s27]; omega) (by rw [us _ (by omega), s26]; omega) (by rw [us _ (by omega), s26, t199, if_pos rfl]; omega)
                  rw [t199, if_pos rfl, gnS] at i10
                  refine ⟨S', T', m', by rw [eC, i1], by rw [eM, i2], i3, i4, by omega, a2.tr i6, (eG.tr a3).tr i7, i8, i9, ?_, fun i q => ?_, fun i q => ?_, fun i q => ?_⟩
                  · rw [i10]; show _ = T 199 c + (gd S n + gN' S (n + 1) d); omega
                  · have := i11 i q
                    rw [s55 i q, s56 i q, t197 i q, t198 i q, t199, if_neg q] at this
                    exact this
                  · have := i12 i (by rw [s54]; omega)
                    rw [s62 i (by omega), s63 i (by omega), s64 i (by omega)] at this
                    exact this
                  · have := i13 i (by omega)
                    rw [t204 i (by omega), t205 i (by omega), t206 i (by omega)] at this
                    exact this
          · simp only [if_neg nn, if_true, Option.bind_some] at eC eM
            exact same (no (fun d3 => by rw [if_pos d3, e181] at eC; exact eC)) eM
      · rw [if_pos q1, if_neg q2] at eM eC
        refine same ?_ eM
        by_cases d3 : dp < 3
        · rw [if_pos d3] at eC; exact Or.inl eC
        · rw [if_neg d3] at eC
          refine Or.inr ⟨eC, ?_⟩
          rw [cd_inlines_b58_e, if_pos b60, if_pos b60, if_neg d3]
          split <;> rfl
    · rw [if_neg q1] at eM eC
      refine same ?_ eM
      by_cases d3 : dp < 3
      · rw [if_pos d3] at eC; exact Or.inl eC
      · rw [if_neg d3] at eC
        refine Or.inr ⟨eC, ?_⟩
        rw [cd_inlines_b58_e, if_pos b60, if_pos b60, if_neg d3]
        split <;> rfl
end IN
