/-! a run on both sides: all that is related -/
/-- nodes while they run -/
def nIv (σ τ : gM) (n : Int) : Prop := ((σ 9 n = 0 ∨ σ 9 n = 5 ∨ σ 9 n = 6) → σ 11 n ≤ 4 ∧ (σ 11 n ≠ 4 → τ 179 n = 0)) ∧ (8 ≤ σ 9 n → σ 9 n ≤ 11 → (σ 11 n % 2 = 1 → σ 11 n / 2 % 2 = 0) ∧ (σ 11 n / 2 % 2 = 0 → τ 179 n = 0)) ∧ ((σ 9 n = 21 ∨ σ 9 n = 22 ∨ σ 9 n = 23) → (σ 11 n = 0 ∨ (σ 11 n = 1 ∧ σ 18 n = 0)) ∧ (σ 9 n = 23 → σ 18 n ≤ 2))
def sI2 (σ : gM) (r n : Int) : Prop := (σ 9 n = 0 ∨ σ 9 n = 6) → 1 ≤ σ 11 n → σ 11 n ≤ 3 → σ 35 (12 * r + σ 13 n) ≠ 0
def rNo (σ τ : gM) : Prop := (∀ n, 0 ≤ n → n < σ 8 12 → nIv σ τ n) ∧ ∀ r n, 4 ≤ r → r < σ 8 31 → σ 26 r ≤ n → n < σ 26 r + σ 27 r → sI2 σ r n
/-- room for all that may yet be defined -/
def rRm (σ τ : gM) : Prop := cRm σ (200 * (61 - σ 8 31)) ∧ mRm τ (200 * (61 - σ 8 31)) ∧ (2 * τ 119 10 + 200 * (61 - σ 8 31) + 2 * (200 - σ 42 6) ≤ 18000 ∧ τ 119 9 + 200 * (61 - σ 8 31) + 200 * (200 - σ 42 6) ≤ 60000) ∧ (σ 8 12 + 200 * (61 - σ 8 31) ≤ 15600 ∧ σ 8 16 + 700 * (61 - σ 8 31) + 1602 ≤ 64000) ∧ 4 ≤ σ 8 31
/-- values that wait -/
def oP (σ τ : gM) (j : Int) : Int := if j = σ 87 21 then τ 119 125 - σ 87 8 else τ 213 (j + 1) - σ 92 (j + 1)
def tP (σ : gM) (j : Int) : Int := if j = σ 87 21 then σ 87 8 else σ 92 (j + 1)
def rPk (σ τ : gM) (k o t : Int) : Prop := (0 ≤ o ∧ σ 92 k + o ≤ 300 * k + 3) ∧ ∀ i, σ 92 k ≤ i → i < t → rVal σ τ (σ 88 i) (σ 89 i) (τ 221 (i + o)) (τ 222 (i + o))
def rPi (σ τ : gM) : Prop := (∀ k, 0 ≤ k → k ≤ σ 87 21 → rPk σ τ k (oP σ τ k) (tP σ k)) ∧ ∀ k j, 0 ≤ k → k < j → j ≤ σ 87 21 → (σ 92 k ≤ σ 92 (k + 1) ∧ σ 92 (k + 1) ≤ σ 92 j) ∧ τ 213 (k + 1) ≤ σ 92 j + oP σ τ j
/-- locals of activations -/
def rLo (σ τ : gM) : Prop := ∀ k l, 0 ≤ k → k < σ 87 19 → 0 ≤ l → l < σ 31 (σ 90 k) → τ 215 (12 * k + l) = σ 98 (12 * k + l) ∧ (1 ≤ σ 98 (12 * k + l) ∧ σ 98 (12 * k + l) ≤ 3) ∧ rVal σ τ (σ 97 (12 * k + l)) (σ 99 (12 * k + l)) (τ 216 (12 * k + l)) (τ 217 (12 * k + l))
/-- objects -/
def rOb (σ τ : gM) : Prop := (0 ≤ σ 87 31 ∧ σ 87 31 ≤ 400 ∧ τ 119 95 = σ 87 31) ∧ ∀ o, 0 ≤ o → o < σ 87 31 → τ 193 o = σ 100 o ∧ (0 ≤ σ 100 o ∧ σ 100 o < σ 42 6) ∧ ∀ p, 0 ≤ p → p < σ 47 (σ 100 o) → rVal σ τ (σ 101 (12 * o + p)) (σ 102 (12 * o + p)) (τ 194 (12 * o + p)) (τ 195 (12 * o + p))
/-- what has been begun in an activation -/
def aX (σ τ : gM) (k : Int) (m : Nat) (P h br co : Int) : Prop := St σ τ (σ 26 (σ 90 k)) (σ 26 (σ 90 k) + σ 27 (σ 90 k)) (σ 28 (σ 90 k)) (σ 28 (σ 90 k) + σ 29 (σ 90 k) - 2) (τ 212 k) m P h br co ∧ (0 ≤ τ 212 k ∧ τ 212 k ≤ 603 * k) ∧ (0 ≤ σ 92 k ∧ σ 92 k ≤ 300 * k) ∧ 0 ≤ h
def rSl (σ τ : gM) (pT hT : Int → Int) (c : Int) : Prop := ∀ k, 0 ≤ k → k < c → ∃ (m : Nat) (br co : Int), aX σ τ k m (pT k) (hT k) br co ∧ τ 212 (k + 1) = τ 212 k + m + 2 ∧ σ 92 (k + 1) + 1 = σ 92 k + hT k
/-- the newest activation -/
def rTp (σ τ : gM) (pT hT : Int → Int) (m : Nat) (br co : Int) : Prop := aX σ τ (σ 87 21) m (pT (σ 87 21)) (hT (σ 87 21)) br co ∧ τ 119 124 = τ 212 (σ 87 21) + m + 1 ∧ σ 87 8 = σ 92 (σ 87 21) + hT (σ 87 21)
/-- what is counted of a run, what it has said -/
def rCt (σ τ : gM) : Prop := (σ 87 23 = 1 ∧ τ 119 117 = 1) ∧ (τ 119 118 = σ 87 24 ∧ 0 ≤ σ 87 24 ∧ σ 87 24 ≤ 20000) ∧ τ 119 122 = σ 87 20 ∧ (τ 119 126 = σ 87 34 ∧ 0 ≤ σ 87 34) ∧ (∀ i, 0 ≤ i → i < 2000 → i < σ 87 34 → τ 223 i = σ 103 i) ∧ (τ 119 11 = σ 0 13 ∧ τ 119 13 + (τ 119 12 - 60000) ≤ σ 0 13) ∧ τ 119 1 = σ 87 5 ∧ τ 119 127 = 0
/-- the name main is that of a function -/
def mnK (τ : gM) : Prop := ∃ g, (0 ≤ g ∧ g < τ 119 56) ∧ mS τ (τ 155 g) = tx 0
theorem mnK.mv {τ T : gM} (h : mnK τ) (k : ∀ a, (121 ≤ a ∧ a ≤ 123) ∨ a = 155 → T a = τ a) (e : T 119 56 = τ 119 56) : mnK T := by
  obtain ⟨g, h1, h2⟩ := h
  refine ⟨g, by rw [e]; exact h1, ?_⟩
  unfold mS at h2 ⊢
  rw [k 121 (by decide), k 122 (by decide), k 123 (by decide), k 155 (by decide)]
  exact h2
theorem mnK.gr {τ T : gM} (h : mnK τ) (J : fJ τ) (k : ∀ g, g < τ 119 56 → T 155 g = τ 155 g) (l : τ 119 56 ≤ T 119 56) (ms : ∀ r, vM τ r → vM T r ∧ mS T r = mS τ r) : mnK T := by
  obtain ⟨g, h1, h2⟩ := h
  have j := (J.2.1 g h1.1 h1.2).1
  exact ⟨g, by omega, by rw [k g h1.2, (ms _ (Or.inl j)).2]; exact h2⟩
/-- letters are bytes -/
def rBy0 (σ τ : gM) : Prop := (∀ i, i8 (σ 1 i)) ∧ ∀ i, i8 (τ 134 i)
def rBy (σ τ : gM) : Prop := (∀ i, i8 (σ 1 i)) ∧ (∀ i, i8 (τ 134 i)) ∧ mnK τ
/-- how far the suspended activations are from their ends -/
def wSs (σ : gM) (pT : Int → Int) : Nat → Int
  | 0 => 0
  | c + 1 => wSs σ pT c + 8 * (σ 28 (σ 90 c) + σ 29 (σ 90 c) - 1 - pT c)
def wT (σ : gM) (k P : Int) : Int := if σ 20 P = 10 ∨ σ 20 P = 13 then 0 else 8 * (σ 28 (σ 90 k) + σ 29 (σ 90 k) - 1 - P)
/-- what is left to do -/
def rTh (σ τ : gM) (pT : Int → Int) (θ : Int) : Prop := wSs σ pT (σ 87 21).toNat + wT σ (σ 87 21) (pT (σ 87 21)) + 7 * σ 87 8 + σ 87 19 + 7300 * (20000 - σ 87 24) ≤ θ ∧ σ 87 34 + 14 * θ ≤ 2047000000 ∧ τ 119 123 + ccN σ (σ 87 19).toNat + θ ≤ 200000000
/-- the code that is run is as its nodes are -/
def rFa (σ : gM) : Prop := 0 ≤ σ 93 (σ 87 21) → cFa σ (σ 93 (σ 87 21))
/-- a run, but for its pile and the newest activation's tasks -/
def RQ (σ τ : gM) (pT hT : Int → Int) : Prop := (rPr σ τ ∧ rNo σ τ ∧ rRm σ τ ∧ rBy σ τ) ∧ aA σ τ pT ∧ (rLo σ τ ∧ rOb σ τ) ∧ rSl σ τ pT hT (σ 87 21) ∧ rCt σ τ ∧ rFa σ
/-- a run that goes on -/
def RR (σ τ : gM) (pT hT : Int → Int) (m : Nat) (br co θ : Int) : Prop := RQ σ τ pT hT ∧ rPi σ τ ∧ rTp σ τ pT hT m br co ∧ rTh σ τ pT θ
def updF (f : Int → Int) (c v : Int) : Int → Int := fun k => if k = c then v else f k
section PJ
variable {σ τ S T : gM}
/-- what is known of the newest activation's part -/
theorem rPi.top (h : rPi σ τ) (c0 : 0 ≤ σ 87 21) : ∃ o, τ 119 125 = σ 87 8 + o ∧ (0 ≤ o ∧ σ 92 (σ 87 21) + o ≤ 300 * σ 87 21 + 3) ∧ ∀ i, σ 92 (σ 87 21) ≤ i → i < σ 87 8 → rVal σ τ (σ 88 i) (σ 89 i) (τ 221 (i + o)) (τ 222 (i + o)) := by
  have q := h.1 (σ 87 21) c0 (Int.le_refl _)
  unfold oP tP at q
  rw [if_pos rfl, if_pos rfl] at q
  exact ⟨τ 119 125 - σ 87 8, by omega, q.1, q.2⟩
/-- the newest activation's part alone is new -/
theorem rPi.mk' {o : Int} (h : rPi σ τ) (eo : τ 119 125 = σ 87 8 + o) (c0 : 0 ≤ σ 87 21) (e21 : S 87 21 = σ 87 21) (c92 : ∀ j, j ≤ σ 87 21 → S 92 j = σ 92 j) (d213 : ∀ j, j ≤ σ 87 21 → T 213 j = τ 213 j) (c88 : ∀ a j, a = 88 ∨ a = 89 → j < σ 92 (σ 87 21) → S a j = σ a j) (d221 : ∀ a j, a = 221 ∨ a = 222 → j < σ 92 (σ 87 21) + o → T a j = τ a j) (rv : ∀ k x t y, rVal σ τ k x t y → rVal S T k x t y) (en : T 119 125 = S 87 8 + o) (new : ∀ i, σ 92 (σ 87 21) ≤ i → i < S 87 8 → rVal S T (S 88 i) (S 89 i) (T 221 (i + o)) (T 222 (i + o))) : rPi S T := by
  obtain ⟨h1, h2⟩ := h
  have oo : oP σ τ (σ 87 21) = o := by
    unfold oP
    rw [if_pos rfl]
    omega
  have oe : ∀ j, j ≤ σ 87 21 → oP S T j = oP σ τ j := fun j q => by
    unfold oP
    rw [e21]
    by_cases z : j = σ 87 21
    · rw [if_pos z, if_pos z]; omega
    · rw [if_neg z, if_neg z, d213 (j + 1) (by omega), c92 (j + 1) (by omega)]
  refine ⟨fun k k0 k1 => ?_, fun k j k0 kj j1 => ?_⟩
  · rw [e21] at k1
    have q := h1 k k0 k1
    rw [oe k k1]
    unfold rPk at q ⊢
    rw [c92 k k1]
    refine ⟨q.1, fun i i0 i1 => ?_⟩
    by_cases z : k = σ 87 21
    · rw [z] at i0 i1 ⊢
      unfold tP at i1
      rw [e21, if_pos rfl] at i1
      rw [oo]
      exact new i i0 i1
    · unfold tP at i1
      rw [e21, if_neg z, c92 (k + 1) (by omega)] at i1
      have w := h2 k (σ 87 21) k0 (by omega) (Int.le_refl _)
      rw [oo] at w
      have ok : oP σ τ k = τ 213 (k + 1) - σ 92 (k + 1) := by
        unfold oP
        rw [if_neg z]
      rw [c88 88 i (by decide) (by omega), c88 89 i (by decide) (by omega), d221 221 _ (by decide) (by omega), d221 222 _ (by decide) (by omega)]
      refine rv _ _ _ _ (q.2 i i0 ?_)
      unfold tP
      rw [if_neg z]
      exact i1
  · rw [e21] at j1
    rw [oe j j1, c92 k (by omega), c92 (k + 1) (by omega), c92 j j1, d213 (k + 1) (by omega)]
    exact h2 k j k0 kj j1
/-- one activation more: its part is empty -/
theorem rPi.call {o a0 : Int} (h : rPi σ τ) (eo : τ 119 125 = σ 87 8 + o) (c0 : 0 ≤ σ 87 21) (e21 : S 87 21 = σ 87 21 + 1) (c92 : ∀ j, j ≤ σ 87 21 → S 92 j = σ 92 j) (n92 : S 92 (σ 87 21 + 1) = a0) (d213 : ∀ j, j ≤ σ 87 21 → T 213 j = τ 213 j) (n213 : T 213 (σ 87 21 + 1) = a0 + o) (c88 : ∀ a, a = 88 ∨ a = 89 → S a = σ a) (d221 : ∀ a, a = 221 ∨ a = 222 → T a = τ a) (rv : ∀ k x t y, rVal σ τ k x t y → rVal S T k x t y) (e8 : S 87 8 = a0) (e125 : T 119 125 = τ 119 125) (ha : σ 92 (σ 87 21) ≤ a0 ∧ a0 ≤ σ 87 8) (hb : τ 119 125 ≤ 300 * (σ 87 21 + 1) + 3) : rPi S T := by
  obtain ⟨h1, h2⟩ := h
  have oo : oP σ τ (σ 87 21) = o := by
    unfold oP
    rw [if_pos rfl]
    omega
  have o0 := (h1 (σ 87 21) c0 (Int.le_refl _)).1
  rw [oo] at o0
  have oe : ∀ j, j ≤ σ 87 21 → oP S T j = oP σ τ j := fun j q => by
    by_cases z : j = σ 87 21
    · rw [z, oo]
      unfold oP
      rw [e21, if_neg (by omega), n213, n92]
      omega
    · unfold oP
      rw [e21, if_neg (by omega), if_neg z, d213 (j + 1) (by omega), c92 (j + 1) (by omega)]
  have on : oP S T (σ 87 21 + 1) = τ 119 125 - a0 := by
    unfold oP
    rw [e21, if_pos rfl, e8, e125]
  refine ⟨fun k k0 k1 => ?_, fun k j k0 kj j1 => ?_⟩
  · rw [e21] at k1
    by_cases y : k = σ 87 21 + 1
    · rw [y, on]
      unfold rPk tP
      rw [n92, e21, if_pos rfl, e8]
      exact ⟨by omega, fun i i0 i1 => by omega⟩
    · have kl : k ≤ σ 87 21 := by omega
      have q := h1 k k0 kl
      rw [oe k kl]
      unfold rPk at q ⊢
      rw [c92 k kl, c88 88 (by decide), c88 89 (by decide), d221 221 (by decide), d221 222 (by decide)]
      refine ⟨q.1, fun i i0 i1 => rv _ _ _ _ (q.2 i i0 ?_)⟩
      unfold tP at i1 ⊢
      rw [e21, if_neg y] at i1
      by_cases z : k = σ 87 21
      · rw [z, n92] at i1
        rw [if_pos z]
        omega
      · rw [c92 (k + 1) (by omega)] at i1
        rw [if_neg z]
        exact i1
  · rw [e21] at j1
    have w : ∀ k, 0 ≤ k → k < σ 87 21 → (σ 92 k ≤ σ 92 (k + 1) ∧ σ 92 (k + 1) ≤ σ 92 (σ 87 21)) ∧ τ 213 (k + 1) ≤ σ 92 (σ 87 21) + o := fun k q1 q2 => by
      have := h2 k (σ 87 21) q1 q2 (Int.le_refl _)
      rw [oo] at this
      exact this
    by_cases y : j = σ 87 21 + 1
    · rw [y, on, n92]
      by_cases z : k = σ 87 21
      · rw [z, n92, n213, c92 _ (Int.le_refl _)]
        omega
      · rw [c92 k (by omega), c92 (k + 1) (by omega), d213 (k + 1) (by omega)]
        have := w k k0 (by omega)
        omega
    · rw [oe j (by omega), c92 k (by omega), c92 (k + 1) (by omega), c92 j (by omega), d213 (k + 1) (by omega)]
      exact h2 k j k0 kj (by omega)
/-- one activation less: its caller gets a value -/
theorem rPi.ret {k x t y : Int} (h : rPi σ τ) (c0 : 1 ≤ σ 87 21) (e21 : S 87 21 = σ 87 21 - 1) (c92 : ∀ j, j ≤ σ 87 21 → S 92 j = σ 92 j) (d213 : ∀ j, j ≤ σ 87 21 → T 213 j = τ 213 j) (c88 : ∀ a j, a = 88 ∨ a = 89 → j < σ 92 (σ 87 21) → S a j = σ a j) (d221 : ∀ a j, a = 221 ∨ a = 222 → j < τ 213 (σ 87 21) → T a j = τ a j) (rv : ∀ k x t y, rVal σ τ k x t y → rVal S T k x t y) (e8 : S 87 8 = σ 92 (σ 87 21) + 1) (e125 : T 119 125 = τ 213 (σ 87 21) + 1) (vn : S 88 (σ 92 (σ 87 21)) = k ∧ S 89 (σ 92 (σ 87 21)) = x ∧ T 221 (τ 213 (σ 87 21)) = t ∧ T 222 (τ 213 (σ 87 21)) = y) (v : rVal S T k x t y) : rPi S T := by
  obtain ⟨h1, h2⟩ := h
  have oe : ∀ j, j ≤ σ 87 21 - 1 → oP S T j = oP σ τ j ∧ oP σ τ j = τ 213 (j + 1) - σ 92 (j + 1) := fun j q => by
    unfold oP
    rw [e21, if_neg (show ¬ j = σ 87 21 by omega)]
    refine ⟨?_, rfl⟩
    by_cases z : j = σ 87 21 - 1
    · rw [if_pos z, z, show σ 87 21 - 1 + 1 = σ 87 21 by omega]
      omega
    · rw [if_neg z, d213 (j + 1) (by omega), c92 (j + 1) (by omega)]
  refine ⟨fun k k0 k1 => ?_, fun k j k0 kj j1 => ?_⟩
  · rw [e21] at k1
    have q := h1 k k0 (by omega)
    obtain ⟨a1, a2⟩ := oe k k1
    rw [a1]
    unfold rPk at q ⊢
    rw [c92 k (by omega)]
    refine ⟨q.1, fun i i0 i1 => ?_⟩
    unfold tP at i1
    rw [e21] at i1
    have lw : σ 92 (k + 1) ≤ σ 92 (σ 87 21) ∧ τ 213 (k + 1) ≤ τ 213 (σ 87 21) := by
      by_cases z : k = σ 87 21 - 1
      · rw [z, show σ 87 21 - 1 + 1 = σ 87 21 by omega]
        exact ⟨Int.le_refl _, Int.le_refl _⟩
      · have w1 := h2 k (σ 87 21) k0 (by omega) (Int.le_refl _)
        have w2 := h2 k (σ 87 21 - 1) k0 (by omega) (by omega)
        have w3 := (oe (σ 87 21 - 1) (Int.le_refl _)).2
        rw [show σ 87 21 - 1 + 1 = σ 87 21 by omega] at w3
        have w4 := h2 (σ 87 21 - 1) (σ 87 21) (by omega) (by omega) (Int.le_refl _)
        have w5 : σ 92 (σ 87 21 - 1) ≤ σ 92 (σ 87 21) := by
          have := (h2 (σ 87 21 - 1) (σ 87 21) (by omega) (by omega) (Int.le_refl _)).1.1
          rw [show σ 87 21 - 1 + 1 = σ 87 21 by omega] at this
          exact this
        omega
    by_cases z : i = σ 92 (σ 87 21) ∧ k = σ 87 21 - 1
    · have e : i + oP σ τ k = τ 213 (σ 87 21) := by
        rw [a2, z.1, z.2, show σ 87 21 - 1 + 1 = σ 87 21 by omega]
        omega
      rw [e, z.1, vn.1, vn.2.1, vn.2.2.1, vn.2.2.2]
      exact v
    · have il : i < σ 92 (k + 1) := by
        by_cases y : k = σ 87 21 - 1
        · rw [if_pos y, e8] at i1
          rw [y, show σ 87 21 - 1 + 1 = σ 87 21 by omega]
          omega
        · rw [if_neg y, c92 (k + 1) (by omega)] at i1
          exact i1
      rw [c88 88 i (by decide) (by omega), c88 89 i (by decide) (by omega), d221 221 _ (by decide) (by omega), d221 222 _ (by decide) (by omega)]
      refine rv _ _ _ _ (q.2 i i0 ?_)
      unfold tP
      rw [if_neg (by omega)]
      exact il
  · rw [e21] at j1
    rw [(oe j j1).1, c92 k (by omega), c92 (k + 1) (by omega), c92 j (by omega), d213 (k + 1) (by omega)]
    exact h2 k j k0 kj (by omega)
end PJ
section RU
variable {σ τ S T : gM} {pT hT : Int → Int} {m : Nat} {br co θ : Int}
theorem updF_at (f : Int → Int) (c v : Int) : updF f c v c = v := if_pos rfl
theorem updF_ne {f : Int → Int} {c v k : Int} (h : k ≠ c) : updF f c v k = f k := if_neg h
theorem wSs_eq {pT' : Int → Int} : ∀ c : Nat, (∀ k, 0 ≤ k → k < (c : Int) → pT' k = pT k ∧ S 28 (S 90 k) + S 29 (S 90 k) = σ 28 (σ 90 k) + σ 29 (σ 90 k)) → wSs S pT' c = wSs σ pT c
  | 0, _ => rfl
  | c + 1, h => by
    have := h c (by omega) (by omega)
    show wSs S pT' c + _ = wSs σ pT c + _
    rw [wSs_eq c fun k q1 q2 => h k q1 (by omega), this.1, this.2]
theorem rSl.fr {pT' hT' : Int → Int} {c : Int} (h : rSl σ τ pT hT c) (hr : ∀ k, 0 ≤ k → k < c → 4 ≤ σ 90 k ∧ σ 90 k < σ 8 31) (hk : ∀ k, 0 ≤ k → k < c → pT' k = pT k ∧ hT' k = hT k) (c90 : ∀ k, 0 ≤ k → k < c → S 90 k = σ 90 k) (c92 : ∀ k, 0 ≤ k → k ≤ c → S 92 k = σ 92 k) (d212 : ∀ k, 0 ≤ k → k ≤ c → T 212 k = τ 212 k)
    (cr : ∀ a r, 26 ≤ a → a ≤ 29 → 4 ≤ r → r < σ 8 31 → S a r = σ a r) (tr : ∀ r, 4 ≤ r → r < σ 8 31 → (∀ a n, (a = 168 ∨ (170 ≤ a ∧ a ≤ 173)) → σ 26 r ≤ n → n < σ 26 r + σ 27 r → T a n = τ a n) ∧ (∀ n, σ 26 r ≤ n → n < σ 26 r + σ 27 r → S 14 n = σ 14 n) ∧ sI σ S (σ 28 r) (σ 28 r + σ 29 r - 2)) (ct : ∀ a i, 218 ≤ a → a ≤ 220 → i < τ 212 c → T a i = τ a i) (mono : ∀ k, 0 ≤ k → k < c → τ 212 (k + 1) ≤ τ 212 c) : rSl S T pT' hT' c := by
  intro k k0 k1
  obtain ⟨m, br, co, ⟨a1, a2, a3, a4⟩, b1, b2⟩ := h k k0 k1
  have r4 := hr k k0 k1
  obtain ⟨t1, t2, t3⟩ := tr _ r4.1 r4.2
  have mo := mono k k0 k1
  refine ⟨m, br, co, ?_, by rw [d212 (k + 1) (by omega) (by omega), d212 k k0 (by omega)]; exact b1, by rw [c92 (k + 1) (by omega) (by omega), c92 k k0 (by omega), (hk k k0 k1).2]; exact b2⟩
  unfold aX
  rw [c90 k k0 k1, cr 26 _ (by decide) (by decide) r4.1 r4.2, cr 27 _ (by decide) (by decide) r4.1 r4.2, cr 28 _ (by decide) (by decide) r4.1 r4.2, cr 29 _ (by decide) (by decide) r4.1 r4.2, d212 k k0 (by omega), c92 k k0 (by omega), (hk k k0 k1).1, (hk k k0 k1).2]
  exact ⟨St.fr t1 t2 t3 m _ _ _ _ (fun a i q1 q2 q3 q4 => ct a i q1 q2 (by omega)) a1, a2, a3, a4⟩
theorem rSl.mono {c : Int} (h : rSl σ τ pT hT c) : ∀ (d : Nat) (k : Int), k + d = c → 0 ≤ k → τ 212 k ≤ τ 212 c
  | 0, k, hk, _ => by rw [show k = c by omega]; exact Int.le_refl _
  | d + 1, k, hk, k0 => by
    obtain ⟨m, br, co, -, b1, -⟩ := h k k0 (by omega)
    have := rSl.mono h d (k + 1) (by omega) (by omega)
    omega
theorem rSl.mon {c : Int} (h : rSl σ τ pT hT c) : ∀ k, 0 ≤ k → k < c → τ 212 (k + 1) ≤ τ 212 c := fun k k0 k1 => rSl.mono h (c - (k + 1)).toNat (k + 1) (by omega) (by omega)
/-- what simple instructions change -/
def smC (σ S : gM) : Prop := (∀ a i, a ≠ 87 → a ≠ 88 → a ≠ 89 → (a < 105 ∨ 116 < a) → S a i = σ a i) ∧ ∀ i, i ≠ 8 → i ≠ 22 → i ≠ 47 → S 87 i = σ 87 i
def smM (τ T : gM) (f : Int) : Prop := (∀ a i, a ≠ 119 → (a < 218 ∨ 222 < a) → (a < 129 ∨ 133 < a) → a ≠ 225 → T a i = τ a i) ∧ (∀ i, i ≠ 124 → i ≠ 125 → i ≠ 151 → T 119 i = τ 119 i) ∧ ∀ a i, 218 ≤ a → a ≤ 220 → i < f → T a i = τ a i
theorem smC.sm (c : smC σ S) : sameC σ S := by
  obtain ⟨c1, c2⟩ := c
  have k : ∀ a, a ≠ 87 → a ≠ 88 → a ≠ 89 → (a < 105 ∨ 116 < a) → S a = σ a := fun a q1 q2 q3 q4 => funext fun i => c1 a i q1 q2 q3 q4
  refine ⟨fun a q => k a (by omega) (by omega) (by omega) (by omega), ?_⟩
  rw [k 0 (by decide) (by decide) (by decide) (by decide), k 8 (by decide) (by decide) (by decide) (by decide), k 42 (by decide) (by decide) (by decide) (by decide), k 52 (by decide) (by decide) (by decide) (by decide)]
  exact ⟨rfl, rfl, rfl, rfl, rfl, rfl, rfl, rfl, rfl, rfl, rfl, rfl, rfl, rfl, rfl, rfl, rfl, rfl, c2 31 (by decide) (by decide) (by decide)⟩
theorem smM.sm {f : Int} (d : smM τ T f) : sameT τ T := by
  obtain ⟨d1, d2, -⟩ := d
  have k : ∀ a, a ≠ 119 → (a < 218 ∨ 222 < a) → (a < 129 ∨ 133 < a) → a ≠ 225 → T a = τ a := fun a q1 q2 q3 q4 => funext fun i => d1 a i q1 q2 q3 q4
  exact ⟨fun a q => k a (by omega) (by omega) (by omega) (by omega), d2 9 (by decide) (by decide) (by decide), d2 10 (by decide) (by decide) (by decide), d2 12 (by decide) (by decide) (by decide), d2 13 (by decide) (by decide) (by decide), d2 15 (by decide) (by decide) (by decide), d2 16 (by decide) (by decide) (by decide), d2 55 (by decide) (by decide) (by decide), d2 56 (by decide) (by decide) (by decide), d2 57 (by decide) (by decide) (by decide), d2 89 (by decide) (by decide) (by decide), d2 92 (by decide) (by decide) (by decide), d2 93 (by decide) (by decide) (by decide), d2 94 (by decide) (by decide) (by decide), d2 104 (by decide) (by decide) (by decide)⟩
theorem smC.rv {f : Int} (c : smC σ S) (d : smM τ T f) {k x t y : Int} : rVal S T k x t y ↔ rVal σ τ k x t y := (rVal_mv c.sm d.sm).1 k x t y
/-- a simple instruction: the newest activation's place and tasks change -/
theorem RQ.sm {P' h' : Int} (R : RQ σ τ pT hT) (c : smC σ S) (d : smM τ T (τ 212 (σ 87 21))) (pc : pcT σ (σ 87 21) (S 87 22) P') : RQ S T (updF pT (σ 87 21) P') (updF hT (σ 87 21) h') := by
  obtain ⟨⟨⟨P1, P2⟩, ⟨N1, N2⟩, M, B⟩, A, ⟨V2, V3⟩, K1, C, F⟩ := R
  have c' := c
  have d' := d
  obtain ⟨c1, c2⟩ := c
  obtain ⟨d1, d2, d3⟩ := d
  have kS : ∀ a, a ≠ 87 → a ≠ 88 → a ≠ 89 → (a < 105 ∨ 116 < a) → S a = σ a := fun a q1 q2 q3 q4 => funext fun i => c1 a i q1 q2 q3 q4
  have kT : ∀ a, a ≠ 119 → (a < 218 ∨ 222 < a) → (a < 129 ∨ 133 < a) → a ≠ 225 → T a = τ a := fun a q1 q2 q3 q4 => funext fun i => d1 a i q1 q2 q3 q4
  have rv : ∀ {k x t y : Int}, rVal S T k x t y ↔ rVal σ τ k x t y := c'.rv d'
  have e19 := c2 19 (by decide) (by decide) (by decide)
  have e21 := c2 21 (by decide) (by decide) (by decide)
  obtain ⟨hb, ha, hcp, hap, htt, ⟨hm, hc⟩, hf⟩ := A
  have m59 := ha.1
  have AA : aA σ τ pT := ⟨hb, ha, hcp, hap, htt, ⟨hm, hc⟩, hf⟩
  refine ⟨⟨⟨P1.mv c'.sm d'.sm, ?_⟩, ⟨?_, ?_⟩, ?_, ?_⟩, ⟨?_, ?_, ?_, ?_, ?_, ?_, ?_⟩, ⟨?_, ?_⟩, ?_, ?_, ?_⟩
  · intro r r0 r1
    rw [kS 8 (by decide) (by decide) (by decide) (by decide)] at r1
    rw [kS 24 (by decide) (by decide) (by decide) (by decide), kS 25 (by decide) (by decide) (by decide) (by decide)]
    exact P2 r r0 r1
  · unfold nIv at N1 ⊢
    rw [kS 8 (by decide) (by decide) (by decide) (by decide), kS 9 (by decide) (by decide) (by decide) (by decide), kS 11 (by decide) (by decide) (by decide) (by decide), kS 18 (by decide) (by decide) (by decide) (by decide), kT 179 (by decide) (by decide) (by decide) (by decide)]
    exact N1
  · unfold sI2 at N2 ⊢
    rw [kS 8 (by decide) (by decide) (by decide) (by decide), kS 9 (by decide) (by decide) (by decide) (by decide), kS 11 (by decide) (by decide) (by decide) (by decide), kS 13 (by decide) (by decide) (by decide) (by decide), kS 26 (by decide) (by decide) (by decide) (by decide), kS 27 (by decide) (by decide) (by decide) (by decide), kS 35 (by decide) (by decide) (by decide) (by decide)]
    exact N2
  · unfold rRm cRm mRm at M ⊢
    rw [kS 0 (by decide) (by decide) (by decide) (by decide), kS 8 (by decide) (by decide) (by decide) (by decide), kS 42 (by decide) (by decide) (by decide) (by decide), d2 9 (by decide) (by decide) (by decide), d2 10 (by decide) (by decide) (by decide), d2 15 (by decide) (by decide) (by decide), d2 56 (by decide) (by decide) (by decide)]
    exact M
  · exact ⟨by rw [kS 1 (by decide) (by decide) (by decide) (by decide)]; exact B.1, by rw [kT 134 (by decide) (by decide) (by decide) (by decide)]; exact B.2.1, B.2.2.mv (fun a q => kT a (by omega) (by omega) (by omega) (by omega)) (d2 56 (by decide) (by decide) (by decide))⟩
  · exact hb.up (fun a q => kS a (by omega) (by omega) (by omega) (by omega)) (by rw [kS 8 (by decide) (by decide) (by decide) (by decide)]) (by rw [kS 52 (by decide) (by decide) (by decide) (by decide)]) (by rw [kS 52 (by decide) (by decide) (by decide) (by decide)]) (fun a q => kT a (by omega) (by omega) (by omega) (by omega)) (d2 55 (by decide) (by decide) (by decide)) (d2 104 (by decide) (by decide) (by decide)) fun i i0 i1 => by
      rw [kT 200 (by decide) (by decide) (by decide) (by decide), kT 201 (by decide) (by decide) (by decide) (by decide), kT 202 (by decide) (by decide) (by decide) (by decide), kS 58 (by decide) (by decide) (by decide) (by decide), kS 59 (by decide) (by decide) (by decide) (by decide), kS 60 (by decide) (by decide) (by decide) (by decide)]
      have g := hb.2.2.2 i i0 i1
      exact ⟨g.2.2.2.2.1, g.2.2.2.2.2.1, g.2.2.2.2.2.2.1⟩
  · exact ha.mv (fun a q => kS a (by omega) (by omega) (by omega) (by omega)) e19 (by rw [kS 8 (by decide) (by decide) (by decide) (by decide)]) (by rw [kS 52 (by decide) (by decide) (by decide) (by decide)]) (fun a q => kT a (by omega) (by omega) (by omega) (by omega)) (d2 121 (by decide) (by decide) (by decide)) (d2 123 (by decide) (by decide) (by decide))
  · exact hcp.mv' (fun a q => kS a (by omega) (by omega) (by omega) (by omega)) (by rw [kS 52 (by decide) (by decide) (by decide) (by decide)]) (by rw [kS 52 (by decide) (by decide) (by decide) (by decide)])
  · intro k k0 k1
    rw [e19] at k1
    have a := hap k k0 k1
    unfold pcT pcA at *
    rw [e21, kS 28 (by decide) (by decide) (by decide) (by decide), kS 29 (by decide) (by decide) (by decide) (by decide), kS 54 (by decide) (by decide) (by decide) (by decide), kS 65 (by decide) (by decide) (by decide) (by decide), kS 90 (by decide) (by decide) (by decide) (by decide), kS 91 (by decide) (by decide) (by decide) (by decide), kS 93 (by decide) (by decide) (by decide) (by decide), kS 94 (by decide) (by decide) (by decide) (by decide)]
    by_cases z : k = σ 87 21
    · rw [if_pos z, z, updF_at]
      exact pc
    · rw [if_neg z] at a ⊢
      rw [updF_ne z]
      exact a
  · unfold rTo at htt ⊢
    rw [kT 224 (by decide) (by decide) (by decide) (by decide), c2 36 (by decide) (by decide) (by decide), c2 37 (by decide) (by decide) (by decide), c2 38 (by decide) (by decide) (by decide), c2 39 (by decide) (by decide) (by decide), c2 40 (by decide) (by decide) (by decide), c2 41 (by decide) (by decide) (by decide), c2 42 (by decide) (by decide) (by decide)]
    exact htt
  · rw [e19, e21]; exact ⟨hm, hc⟩
  · rw [e19, d2 123 (by decide) (by decide) (by decide), ccN_eq (S := S) (σ := σ) _ fun j _ _ => by rw [kS 93 (by decide) (by decide) (by decide) (by decide)]]; exact hf
  · intro k l k0 k1 l0 l1
    rw [e19] at k1
    rw [kS 31 (by decide) (by decide) (by decide) (by decide), kS 90 (by decide) (by decide) (by decide) (by decide)] at l1
    rw [kS 97 (by decide) (by decide) (by decide) (by decide), kS 98 (by decide) (by decide) (by decide) (by decide), kS 99 (by decide) (by decide) (by decide) (by decide), kT 215 (by decide) (by decide) (by decide) (by decide), kT 216 (by decide) (by decide) (by decide) (by decide), kT 217 (by decide) (by decide) (by decide) (by decide), rv]
    exact V2 k l k0 k1 l0 l1
  · unfold rOb at V3 ⊢
    rw [c2 31 (by decide) (by decide) (by decide), d2 95 (by decide) (by decide) (by decide), kS 100 (by decide) (by decide) (by decide) (by decide), kS 101 (by decide) (by decide) (by decide) (by decide), kS 102 (by decide) (by decide) (by decide) (by decide), kS 42 (by decide) (by decide) (by decide) (by decide), kS 47 (by decide) (by decide) (by decide) (by decide), kT 193 (by decide) (by decide) (by decide) (by decide), kT 194 (by decide) (by decide) (by decide) (by decide), kT 195 (by decide) (by decide) (by decide) (by decide)]
    simp only [rv]
    exact V3
  · rw [e21]
    exact K1.fr (fun k q1 q2 => (ha.2.2 k q1 (by omega)).2.1) (fun k q1 q2 => ⟨updF_ne (by omega), updF_ne (by omega)⟩) (fun k _ _ => by rw [kS 90 (by decide) (by decide) (by decide) (by decide)]) (fun k _ _ => by rw [kS 92 (by decide) (by decide) (by decide) (by decide)]) (fun k _ _ => by rw [kT 212 (by decide) (by decide) (by decide) (by decide)]) (fun a r q1 q2 _ _ => by rw [kS a (by omega) (by omega) (by omega) (by omega)]) (fun r _ _ => ⟨fun a n q _ _ => by rw [kT a (by omega) (by omega) (by omega) (by omega)], fun n _ _ => by rw [kS 14 (by decide) (by decide) (by decide) (by decide)], fun p _ _ => ⟨by rw [kS 20 (by decide) (by decide) (by decide) (by decide)], by rw [kS 21 (by decide) (by decide) (by decide) (by decide)], by rw [kS 22 (by decide) (by decide) (by decide) (by decide)]⟩⟩) d3 K1.mon
  · unfold rCt at C ⊢
    rw [c2 23 (by decide) (by decide) (by decide), c2 24 (by decide) (by decide) (by decide), c2 20 (by decide) (by decide) (by decide), c2 34 (by decide) (by decide) (by decide), c2 5 (by decide) (by decide) (by decide), kS 103 (by decide) (by decide) (by decide) (by decide), kS 0 (by decide) (by decide) (by decide) (by decide), kT 223 (by decide) (by decide) (by decide) (by decide), d2 117 (by decide) (by decide) (by decide), d2 118 (by decide) (by decide) (by decide), d2 122 (by decide) (by decide) (by decide), d2 126 (by decide) (by decide) (by decide), d2 11 (by decide) (by decide) (by decide), d2 1 (by decide) (by decide) (by decide), d2 127 (by decide) (by decide) (by decide), d2 12 (by decide) (by decide) (by decide), d2 13 (by decide) (by decide) (by decide)]
    exact C
  · unfold rFa cFa at F ⊢
    rw [e21, kS 93 (by decide) (by decide) (by decide) (by decide), kS 9 (by decide) (by decide) (by decide) (by decide), kS 11 (by decide) (by decide) (by decide) (by decide), kS 18 (by decide) (by decide) (by decide) (by decide), kS 19 (by decide) (by decide) (by decide) (by decide), kS 20 (by decide) (by decide) (by decide) (by decide), kS 22 (by decide) (by decide) (by decide) (by decide), kS 29 (by decide) (by decide) (by decide) (by decide), kS 54 (by decide) (by decide) (by decide) (by decide), kS 55 (by decide) (by decide) (by decide) (by decide), kS 62 (by decide) (by decide) (by decide) (by decide), kS 64 (by decide) (by decide) (by decide) (by decide), kS 65 (by decide) (by decide) (by decide) (by decide)]
    exact F
theorem RR.sm {P' h' br' co' θ' : Int} {m' : Nat} (R : RR σ τ pT hT m br co θ) (c : smC σ S) (d : smM τ T (τ 212 (σ 87 21))) (pi : rPi S T) (pc : pcT σ (σ 87 21) (S 87 22) P') (ax : aX S T (σ 87 21) m' P' h' br' co') (tk : T 119 124 = τ 212 (σ 87 21) + m' + 1) (ht : S 87 8 = σ 92 (σ 87 21) + h') (th : wT σ (σ 87 21) P' + 7 * S 87 8 + (θ - θ') ≤ wT σ (σ 87 21) (pT (σ 87 21)) + 7 * σ 87 8) (θ1 : θ' ≤ θ) :
    RR S T (updF pT (σ 87 21) P') (updF hT (σ 87 21) h') m' br' co' θ' := by
  obtain ⟨Q, -, -, H⟩ := R
  have Q' := Q.sm (h' := h') c d pc
  obtain ⟨c1, c2⟩ := c
  obtain ⟨d1, d2, d3⟩ := d
  have kS : ∀ a, a ≠ 87 → a ≠ 88 → a ≠ 89 → (a < 105 ∨ 116 < a) → S a = σ a := fun a q1 q2 q3 q4 => funext fun i => c1 a i q1 q2 q3 q4
  have kT : ∀ a, a ≠ 119 → (a < 218 ∨ 222 < a) → (a < 129 ∨ 133 < a) → a ≠ 225 → T a = τ a := fun a q1 q2 q3 q4 => funext fun i => d1 a i q1 q2 q3 q4
  have e19 := c2 19 (by decide) (by decide) (by decide)
  have e21 := c2 21 (by decide) (by decide) (by decide)
  refine ⟨Q', pi, ⟨?_, ?_, ?_⟩, ⟨?_, ?_, ?_⟩⟩
  · rw [e21, updF_at, updF_at]; exact ax
  · rw [e21, kT 212 (by decide) (by decide) (by decide) (by decide)]; exact tk
  · rw [e21, updF_at, kS 92 (by decide) (by decide) (by decide) (by decide)]; exact ht
  · have := H.1
    rw [e21, e19, c2 24 (by decide) (by decide) (by decide), updF_at, wSs_eq (S := S) (σ := σ) (pT := pT) _ fun k q1 q2 => ⟨updF_ne (by omega), by rw [kS 28 (by decide) (by decide) (by decide) (by decide), kS 29 (by decide) (by decide) (by decide) (by decide), kS 90 (by decide) (by decide) (by decide) (by decide)]⟩]
    have w : wT S (σ 87 21) P' = wT σ (σ 87 21) P' := by
      unfold wT
      rw [kS 20 (by decide) (by decide) (by decide) (by decide), kS 28 (by decide) (by decide) (by decide) (by decide), kS 29 (by decide) (by decide) (by decide) (by decide), kS 90 (by decide) (by decide) (by decide) (by decide)]
    rw [w]
    omega
  · have := H.2.1
    rw [c2 34 (by decide) (by decide) (by decide)]
    omega
  · have := H.2.2
    rw [e19, d2 123 (by decide) (by decide) (by decide), ccN_eq (S := S) (σ := σ) _ fun j _ _ => by rw [kS 93 (by decide) (by decide) (by decide) (by decide)]]
    omega
/-- the newest activation's part of the pile -/
theorem RR.pl (R : RR σ τ pT hT m br co θ) : ∃ o, τ 119 125 = σ 87 8 + o ∧ (∀ i, σ 92 (σ 87 21) ≤ i → i < σ 87 8 → rVal σ τ (σ 88 i) (σ 89 i) (τ 221 (i + o)) (τ 222 (i + o))) ∧ σ 87 8 = σ 92 (σ 87 21) + hT (σ 87 21) ∧ 0 ≤ hT (σ 87 21) ∧ 0 ≤ o ∧ σ 92 (σ 87 21) + o ≤ 300 * σ 87 21 + 3 := by
  have hm := R.1.2.1.2.2.2.2.2.1
  obtain ⟨o, q1, q2, q3⟩ := R.2.1.top (by omega)
  exact ⟨o, q1, q3, R.2.2.1.2.2, R.2.2.1.1.2.2.2, q2⟩
theorem RR.pk {o f : Int} (R : RR σ τ pT hT m br co θ) (p1 : τ 119 125 = σ 87 8 + o) (c : smC σ S) (d : smM τ T f) (c88 : ∀ a j, a = 88 ∨ a = 89 → j < σ 92 (σ 87 21) → S a j = σ a j) (d221 : ∀ a j, a = 221 ∨ a = 222 → j < σ 92 (σ 87 21) + o → T a j = τ a j) (en : T 119 125 = S 87 8 + o) (new : ∀ i, σ 92 (σ 87 21) ≤ i → i < S 87 8 → rVal S T (S 88 i) (S 89 i) (T 221 (i + o)) (T 222 (i + o))) : rPi S T := by
  have hm := R.1.2.1.2.2.2.2.2.1
  exact R.2.1.mk' p1 (by omega) (c.2 21 (by decide) (by decide) (by decide)) (fun j _ => c.1 92 j (by decide) (by decide) (by decide) (by decide)) (fun j _ => d.1 213 j (by decide) (by decide) (by decide) (by decide)) c88 d221 (fun k x t y q => (smC.rv c d).mpr q) en new
end RU
