/-! one token -/
/-- a sign as the component has it, its token in the model -/
def sG (s t : Int) : Prop := (s = 40 ∧ t = 30) ∨ (s = 41 ∧ t = 31) ∨ (s = 123 ∧ t = 32) ∨ (s = 125 ∧ t = 33) ∨ (s = 91 ∧ t = 34) ∨ (s = 93 ∧ t = 35) ∨ (s = 44 ∧ t = 36) ∨ (s = 59 ∧ t = 37) ∨ (s = 46 ∧ t = 38) ∨ (s = 61 ∧ t = 39) ∨ (s = 15677 ∧ t = 40) ∨ (s = 33 ∧ t = 41) ∨ (s = 8509 ∧ t = 42) ∨ (s = 60 ∧ t = 43) ∨ (s = 15421 ∧ t = 44) ∨ (s = 62 ∧ t = 45) ∨ (s = 15933 ∧ t = 46) ∨ (s = 43 ∧ t = 47) ∨ (s = 45 ∧ t = 48) ∨ (s = 42 ∧ t = 49) ∨ (s = 47 ∧ t = 50) ∨ (s = 9766 ∧ t = 51) ∨ (s = 31868 ∧ t = 52)
/-- the token at hand, on both sides -/
def tKp (σ τ : gM) : Prop := σ 69 5 = τ 119 26 ∧ 0 ≤ σ 69 5 ∧ 0 ≤ σ 69 6 ∧ σ 69 3 = σ 69 5 + σ 69 6 ∧ σ 69 3 ≤ σ 69 2 ∧ τ 119 24 = σ 69 3 ∧ τ 119 27 = σ 69 3
def tKk (σ τ : gM) : Prop := (σ 69 4 = 0 ∧ τ 119 25 = 0 ∧ σ 69 6 = 0) ∨ (σ 69 4 = 1 ∧ τ 119 25 = 1 ∧ 1 ≤ σ 69 6 ∧ σ 69 6 ≤ 12) ∨ (σ 69 4 = 2 ∧ τ 119 25 = 2 ∧ 1 ≤ σ 69 6 ∧ σ 69 6 ≤ 36 ∧ ∀ j, σ 69 5 ≤ j → j < σ 69 3 → isD (τ 134 j)) ∨ (σ 69 4 = 3 ∧ τ 119 25 = 3 ∧ 2 ≤ σ 69 6 ∧ σ 69 6 ≤ 42) ∨ (σ 69 4 = 4 ∧ sG (σ 69 7) (τ 119 25) ∧ 1 ≤ σ 69 6) ∨
  (σ 69 4 = 5 ∧ (10 ≤ τ 119 25 ∧ τ 119 25 ≤ 19) ∧ τ 119 25 = (wV (lt (τ 134) (σ 69 5) (σ 69 6).toNat)).2 ∧ 1 ≤ σ 69 6)
def tK (σ τ : gM) : Prop := tKp σ τ ∧ tKk σ τ
/-- what reading a token may change -/
def rdF (σ σ' τ τ' : gM) : Prop := (∀ a, a ≠ 69 → σ' a = σ a) ∧ (∀ i, i < 3 ∨ 9 < i → σ' 69 i = σ 69 i) ∧ (∀ a, a ≠ 119 → τ' a = τ a) ∧ (∀ i, i < 24 ∨ 27 < i → i ≠ 30 → i ≠ 31 → τ' 119 i = τ 119 i)
/-- a token was read from a place on, or a fault found -/
def rdR (S T : gM) (a : Int) (X : Option (gM × Int)) (Y : Option (gM × Option Int)) : Prop := ∃ S' T', X = some (S', 0) ∧ rdF S S' T T' ∧ ((Y = some (T', some 0) ∧ tK S' T' ∧ S' 69 8 = 0 ∧ S' 69 9 = S 69 9 ∧ S' 69 5 = a) ∨ (Y = some (T', none) ∧ S' 69 8 = 1 ∧ T' 119 30 = 1 ∧ S' 69 9 = T' 119 31))
theorem rdF.rf {σ τ : gM} : rdF σ σ τ τ := ⟨fun _ _ => rfl, fun _ _ => rfl, fun _ _ => rfl, fun _ _ _ _ => rfl⟩
theorem rdF.w {σ σ' τ τ' : gM} (h : rdF σ σ' τ τ') {i v : Int} (hi : 3 ≤ i ∧ i ≤ 9) : rdF σ (gW σ' 69 i v) τ τ' :=
  ⟨fun a q => by rw [gW_cell q, h.1 a q], fun j q => by rw [gW_i (by omega), h.2.1 j q], h.2.2.1, h.2.2.2⟩
theorem rdF.v {σ σ' τ τ' : gM} (h : rdF σ σ' τ τ') {i v : Int} (hi : (24 ≤ i ∧ i ≤ 27) ∨ i = 30 ∨ i = 31) : rdF σ σ' τ (gW τ' 119 i v) :=
  ⟨h.1, h.2.1, fun a q => by rw [gW_cell q, h.2.2.1 a q], fun j q q1 q2 => by rw [gW_i (by omega), h.2.2.2 j q q1 q2]⟩
theorem rdF.tr {σ σ' σ'' τ τ' τ'' : gM} (h : rdF σ σ' τ τ') (h2 : rdF σ' σ'' τ' τ'') : rdF σ σ'' τ τ'' :=
  ⟨fun a q => (h2.1 a q).trans (h.1 a q), fun j q => (h2.2.1 j q).trans (h.2.1 j q), fun a q => (h2.2.2.1 a q).trans (h.2.2.1 a q), fun j q q1 q2 => (h2.2.2.2 j q q1 q2).trans (h.2.2.2 j q q1 q2)⟩
theorem rdF.tx {σ σ' τ τ' : gM} (h : rdF σ σ' τ τ') (x : tX σ τ) : tX σ' τ' :=
  x.mv (h.2.1 0 (by omega)) (h.2.1 1 (by omega)) (h.2.1 2 (by omega)) (h.1 1 (by decide)) (h.1 118 (by decide)) (h.2.2.2 23 (by omega) (by decide) (by decide)) (h.2.2.1 134 (by decide))
theorem rdF.te {σ σ' τ τ' : gM} (h : rdF σ σ' τ τ') {k : Int} : tb σ' τ' k = tb σ τ k := by
  unfold tb
  rw [h.2.1 2 (by omega), h.2.2.1 134 (by decide)]
theorem rdR.of {σ τ S T : gM} {a : Int} {X : Option (gM × Int)} {Y : Option (gM × Option Int)} (h : rdR S T a X Y) (f : rdF σ S τ T) (h9 : S 69 9 = σ 69 9) : rdR σ τ a X Y := by
  obtain ⟨S', T', e, g, r⟩ := h
  refine ⟨S', T', e, f.tr g, ?_⟩
  rcases r with ⟨r1, r2, r3, r4, r5⟩ | r
  · exact Or.inl ⟨r1, r2, r3, r4.trans h9, r5⟩
  · exact Or.inr r
section RD
theorem let_s : ∀ (m : Nat) (S T : gM) (a z : Int), tX S T → S 69 3 = a → S 69 6 = z → T 119 24 = a + z → 0 ≤ a → 0 ≤ z → a + z ≤ S 69 2 → S 69 2 - (a + z) = m →
    ∃ z', (z ≤ z' ∧ a + z' ≤ S 69 2) ∧ tk_read_b62 S = tk_read_b62 (gW S 69 6 z') ∧ md_take_b47 T = md_take_b47 (gW T 119 24 (a + z')) ∧ ¬ isL (tb S T (a + z')) ∧ ¬ isD (tb S T (a + z'))
  | 0, S, T, a, z, h, h3, h6, h24, a0, z0, hn, hm => by
    have e : tb S T (a + z) = -1 := by unfold tb; rw [if_neg (by omega)]
    refine ⟨z, by omega, by rw [gW_nop h6], by rw [gW_nop h24], ?_, ?_⟩ <;> rw [e] <;> decide
  | m + 1, S, T, a, z, h, h3, h6, h24, a0, z0, hn, hm => by
    have hb := h.2.1
    by_cases q : isL (tb S T (a + z)) ∨ isD (tb S T (a + z))
    · have F : rdF S (gW S 69 6 (z + 1)) T (gW T 119 24 (a + (z + 1))) := (rdF.rf.w (by decide)).v (by decide)
      obtain ⟨z', i1, i2, i3, i4, i5⟩ := let_s m (gW S 69 6 (z + 1)) (gW T 119 24 (a + (z + 1))) a (z + 1) (F.tx h) (by rw [gW_i (by decide), h3]) (by rw [gW_at]) (by rw [gW_at]) a0 (by omega) (by rw [gW_i (by decide)]; omega) (by rw [gW_i (by decide)]; omega)
      rw [gW_i (by decide)] at i1
      rw [gW_2] at i2 i3
      rw [F.te] at i4 i5
      have f1 : tk_read_b100 S = tk_read_b62 (gW S 69 6 z') := by
        rw [tk_read_b100_e, h6, w32_e (by omega) (by omega)]; exact i2
      have f2 : md_take_b75 T = md_take_b47 (gW T 119 24 (a + z')) := by
        rw [md_take_b75_e, h24, w32_e (by omega) (by omega), show a + z + 1 = a + (z + 1) by omega]; exact i3
      refine ⟨z', by omega, ?_, ?_, i4, i5⟩
      · rw [tk_read_b62_e, h3, h6, w32_e (by omega) (by omega), tk_byteAt_s h (by omega) (by omega)]
        simp only [Option.bind_some, tk_isLetter_s]
        by_cases q1 : isL (tb S T (a + z))
        · rw [if_pos ((isL_cb h (by omega)).mpr q1), if_neg (by decide)]; exact f1
        · rw [if_neg (mt (isL_cb h (by omega)).mp q1), if_pos rfl, h3, h6, w32_e (by omega) (by omega), tk_byteAt_s h (by omega) (by omega)]
          simp only [Option.bind_some, tk_isDigit_s]
          rw [if_pos ((isD_cb h (by omega)).mpr (q.resolve_left q1)), if_neg (by decide)]; exact f1
      · rw [md_take_b47_e, h24, md_sign_s h (by omega)]
        simp only [Option.bind_some, md_isLetter_s]
        by_cases q1 : isL (tb S T (a + z))
        · rw [if_pos q1, if_neg (by decide)]; exact f2
        · rw [if_neg q1, if_pos rfl, h24, md_sign_s h (by omega)]
          simp only [Option.bind_some, md_isDigit_s]
          rw [if_pos (q.resolve_left q1), if_neg (by decide)]; exact f2
    · refine ⟨z, by omega, by rw [gW_nop h6], by rw [gW_nop h24], fun w => q (Or.inl w), fun w => q (Or.inr w)⟩
theorem dig_s : ∀ (m : Nat) (S T : gM) (a z : Int), tX S T → S 69 3 = a → S 69 6 = z → T 119 24 = a + z → 0 ≤ a → 0 ≤ z → a + z ≤ S 69 2 → S 69 2 - (a + z) = m → (∀ j, a ≤ j → j < a + z → isD (T 134 j)) →
    ∃ z', (z ≤ z' ∧ a + z' ≤ S 69 2) ∧ tk_read_b158 S = tk_read_b158 (gW S 69 6 z') ∧ md_take_b130 T = md_take_b130 (gW T 119 24 (a + z')) ∧ ¬ isD (tb S T (a + z')) ∧ ∀ j, a ≤ j → j < a + z' → isD (T 134 j)
  | 0, S, T, a, z, h, h3, h6, h24, a0, z0, hn, hm, hd => by
    have e : tb S T (a + z) = -1 := by unfold tb; rw [if_neg (by omega)]
    refine ⟨z, by omega, by rw [gW_nop h6], by rw [gW_nop h24], ?_, hd⟩
    rw [e]; decide
  | m + 1, S, T, a, z, h, h3, h6, h24, a0, z0, hn, hm, hd => by
    have hb := h.2.1
    by_cases q : isD (tb S T (a + z))
    · have F : rdF S (gW S 69 6 (z + 1)) T (gW T 119 24 (a + (z + 1))) := (rdF.rf.w (by decide)).v (by decide)
      have te : tb S T (a + z) = T 134 (a + z) := by unfold tb; rw [if_pos (by omega)]
      obtain ⟨z', i1, i2, i3, i4, i5⟩ := dig_s m (gW S 69 6 (z + 1)) (gW T 119 24 (a + (z + 1))) a (z + 1) (F.tx h) (by rw [gW_i (by decide), h3]) (by rw [gW_at]) (by rw [gW_at]) a0 (by omega) (by rw [gW_i (by decide)]; omega) (by rw [gW_i (by decide)]; omega) (fun j j0 j1 => by
        rw [gW_c (by decide)]
        by_cases z : j = a + z
        · rw [z, ← te]; exact q
        · exact hd j j0 (by omega))
      rw [gW_i (by decide)] at i1
      rw [gW_2] at i2 i3
      rw [F.te] at i4
      refine ⟨z', by omega, ?_, ?_, i4, fun j j0 j1 => by have := i5 j j0 j1; rw [gW_c (by decide)] at this; exact this⟩
      · rw [tk_read_b158_e, h3, h6, w32_e (by omega) (by omega), tk_byteAt_s h (by omega) (by omega)]
        simp only [Option.bind_some, tk_isDigit_s]
        rw [if_pos ((isD_cb h (by omega)).mpr q), if_neg (by decide), h6, w32_e (by omega) (by omega)]; exact i2
      · rw [md_take_b130_e, h24, md_sign_s h (by omega)]
        simp only [Option.bind_some, md_isDigit_s]
        rw [if_pos q, if_neg (by decide), h24, w32_e (by omega) (by omega), show a + z + 1 = a + (z + 1) by omega]; exact i3
    · refine ⟨z, by omega, by rw [gW_nop h6], by rw [gW_nop h24], q, hd⟩
variable {S T : gM} {a : Int}
/-- a name or a word -/
theorem rd_let (h : tX S T) (h3 : S 69 3 = a) (h5 : S 69 5 = a) (h6 : S 69 6 = 1) (h8 : S 69 8 = 0) (h24 : T 119 24 = a) (h26 : T 119 26 = a) (a0 : 0 ≤ a) (an : a < S 69 2) (q : isL (tb S T a)) : rdR S T a (tk_read_b62 S) (md_take_b47 T) := by
  have hb := h.2.1
  have F0 : rdF S S T (gW T 119 24 (a + 1)) := rdF.rf.v (by decide)
  obtain ⟨z, i1, i2, i3, i4, i5⟩ := let_s (S 69 2 - (a + 1)).toNat S (gW T 119 24 (a + 1)) a 1 (F0.tx h) h3 h6 (by rw [gW_at]) a0 (by decide) (by omega) (by omega)
  rw [gW_2] at i3
  rw [F0.te] at i4 i5
  have g1 : md_take_b47 T = md_take_b47 (gW T 119 24 (a + z)) := by
    rw [md_take_b47_e, h24, md_sign_s h (by omega)]
    simp only [Option.bind_some, md_isLetter_s]
    rw [if_pos q, if_neg (by decide), md_take_b75_e, h24, w32_e (by omega) (by omega)]; exact i3
  rw [i2, g1]
  have F : rdF S (gW S 69 6 z) T (gW T 119 24 (a + z)) := (rdF.rf.w (by decide)).v (by decide)
  have hX := F.tx h
  have wd := tk_word_s hX (by rw [gW_i (by decide)]; omega) (by rw [gW_at]; omega) (by rw [gW_at, gW_i (by decide), gW_i (by decide)]; omega)
  have wm := md_word_s hX (by rw [gW_i (by decide)]; omega) (by rw [gW_at, gW_i (by decide)]; omega) (by rw [gW_at, gW_i (by decide)]; omega)
  rw [gW_at, gW_i (by decide), gW_cell (by decide), h5] at wd
  rw [gW_at, gW_i (by decide), gW_cell (by decide), h26, show a + z - a = z by omega] at wm
  have wr := wV_r (lt (T 134) a z.toNat)
  have nL : ¬ isL (cb (gW S 69 6 z) (gW T 119 24 (a + z)) (a + z)) := fun w => i4 (by rw [← F.te]; exact (isL_cb hX (by omega)).mp w)
  have nD : ¬ isD (cb (gW S 69 6 z) (gW T 119 24 (a + z)) (a + z)) := fun w => i5 (by rw [← F.te]; exact (isD_cb hX (by omega)).mp w)
  have mL : ¬ isL (tb (gW S 69 6 z) (gW T 119 24 (a + z)) (a + z)) := by rw [F.te]; exact i4
  have mD : ¬ isD (tb (gW S 69 6 z) (gW T 119 24 (a + z)) (a + z)) := by rw [F.te]; exact i5
  generalize hw : wV (lt (T 134) a z.toNat) = w at wd wm wr
  have e1 : tk_read_b62 (gW S 69 6 z) = tk_read_b126 (gW S 69 6 z) (if w.1 < 0 then 1 else 5) := by
    rw [tk_read_b62_e, gW_at, gW_i (by decide), h3, w32_e (by omega) (by omega), tk_byteAt_s hX (by omega) (by omega)]
    simp only [Option.bind_some, tk_isLetter_s]
    rw [if_neg nL, if_pos rfl, gW_at, gW_i (by decide), h3, w32_e (by omega) (by omega), tk_byteAt_s hX (by omega) (by omega)]
    simp only [Option.bind_some, tk_isDigit_s]
    rw [if_neg nD, if_pos rfl, tk_isWord_e, wd]
    simp only [Option.bind_some]
    by_cases w0 : w.1 < 0
    · rw [if_pos w0, if_pos w0]; rfl
    · rw [if_neg w0, if_neg w0]; rfl
  have e2 : md_take_b47 (gW T 119 24 (a + z)) = if 12 < z then some (gW (gW (gW T 119 24 (a + z)) 119 30 1) 119 31 a, none) else md_take_b217 (gW (gW T 119 24 (a + z)) 119 25 w.2) := by
    rw [md_take_b47_e, gW_at, md_sign_s hX (by omega)]
    simp only [Option.bind_some, md_isLetter_s]
    rw [if_neg mL, if_pos rfl, gW_at, md_sign_s hX (by omega)]
    simp only [Option.bind_some, md_isDigit_s]
    rw [if_neg mD, if_pos rfl, gW_at, gW_i (by decide), h26, w32_e (by omega) (by omega), show a + z - a = z by omega, md_fails_s, wm]
    simp only [Option.bind_some, gthr_s]
  rw [e1, e2, tk_read_b126_e, gW_at]
  by_cases z12 : 12 < z
  · rw [if_pos z12, if_pos z12, tk_fails_g (by rw [gW_i (by decide), gW_i (by decide), h8]), gW_i (by decide), h5]
    simp only [Option.bind_some, tk_read_b235_e]
    refine ⟨_, _, rfl, ?_, Or.inr ⟨rfl, ?_, ?_, ?_⟩⟩
    · exact (((((F.w (by decide)).w (by decide)).w (by decide)).w (by decide)).v (by decide)).v (by decide)
    · rw [gW_i (by decide), gW_i (by decide), gW_at]
    · rw [gW_i (by decide), gW_at]
    · rw [gW_i (by decide), gW_at, gW_at]
  · rw [if_neg z12, if_neg z12, tk_read_b235_e, md_take_b217_e]
    have z3 : gW (gW S 69 6 z) 69 4 (if w.1 < 0 then 1 else 5) 69 3 = a := by rw [gW_i (by decide), gW_i (by decide), h3]
    have z6 : gW (gW S 69 6 z) 69 4 (if w.1 < 0 then 1 else 5) 69 6 = z := by rw [gW_i (by decide), gW_at]
    have z24 : gW (gW T 119 24 (a + z)) 119 25 w.2 119 24 = a + z := by rw [gW_i (by decide), gW_at]
    rw [z3, z6, z24, w32_e (by omega) (by omega)]
    refine ⟨_, _, rfl, ((F.w (by decide)).w (by decide)).v (by decide) |>.v (by decide), Or.inl ⟨rfl, ⟨?_, ?_⟩, ?_, ?_, ?_⟩⟩
    · unfold tKp
      simp [gW, h5, h26]
      omega
    · unfold tKk
      have c5 : gW (gW (gW S 69 6 z) 69 4 (if w.1 < 0 then 1 else 5)) 69 3 (a + z) 69 5 = a := by simp [gW, h5]
      have c6 : gW (gW (gW S 69 6 z) 69 4 (if w.1 < 0 then 1 else 5)) 69 3 (a + z) 69 6 = z := by simp [gW]
      have c4 : gW (gW (gW S 69 6 z) 69 4 (if w.1 < 0 then 1 else 5)) 69 3 (a + z) 69 4 = if w.1 < 0 then 1 else 5 := by simp [gW]
      have t25 : gW (gW (gW T 119 24 (a + z)) 119 25 w.2) 119 27 (a + z) 119 25 = w.2 := by simp [gW]
      have t134 : gW (gW (gW T 119 24 (a + z)) 119 25 w.2) 119 27 (a + z) 134 = T 134 := by rw [gW_cell (by decide), gW_cell (by decide), gW_cell (by decide)]
      rw [c5, c6, c4, t25, t134, hw]
      unfold wR at wr
      by_cases w0 : w.1 < 0
      · rw [if_pos w0]
        right; left
        omega
      · rw [if_neg w0]
        right; right; right; right; right
        omega
    · simp [gW, h8]
    · simp [gW]
    · simp [gW, h5]
/-- a number -/
theorem rd_dig (h : tX S T) (h3 : S 69 3 = a) (h5 : S 69 5 = a) (h6 : S 69 6 = 1) (h8 : S 69 8 = 0) (h24 : T 119 24 = a) (h26 : T 119 26 = a) (a0 : 0 ≤ a) (an : a < S 69 2) (q : isD (tb S T a)) : rdR S T a (tk_read_b158 S) (md_take_b130 T) := by
  have hb := h.2.1
  have F0 : rdF S S T (gW T 119 24 (a + 1)) := rdF.rf.v (by decide)
  have te : tb S T a = T 134 a := by unfold tb; rw [if_pos an]
  obtain ⟨z, i1, i2, i3, i4, i5⟩ := dig_s (S 69 2 - (a + 1)).toNat S (gW T 119 24 (a + 1)) a 1 (F0.tx h) h3 h6 (by rw [gW_at]) a0 (by decide) (by omega) (by omega) (fun j j0 j1 => by
    rw [gW_c (by decide), show j = a by omega, ← te]; exact q)
  rw [gW_2] at i3
  rw [F0.te] at i4
  have g1 : md_take_b130 T = md_take_b130 (gW T 119 24 (a + z)) := by
    rw [md_take_b130_e, h24, md_sign_s h (by omega)]
    simp only [Option.bind_some, md_isDigit_s]
    rw [if_pos q, if_neg (by decide), h24, w32_e (by omega) (by omega)]; exact i3
  rw [i2, g1]
  have F : rdF S (gW S 69 6 z) T (gW T 119 24 (a + z)) := (rdF.rf.w (by decide)).v (by decide)
  have hX := F.tx h
  have nD : ¬ isD (cb (gW S 69 6 z) (gW T 119 24 (a + z)) (a + z)) := fun w => i4 (by rw [← F.te]; exact (isD_cb hX (by omega)).mp w)
  have mD : ¬ isD (tb (gW S 69 6 z) (gW T 119 24 (a + z)) (a + z)) := by rw [F.te]; exact i4
  have e1 : tk_read_b158 (gW S 69 6 z) = if 36 < z then (tk_fails (gW (gW S 69 6 z) 69 4 2) 1 a).bind fun p3 => tk_read_b235 p3.1 else tk_read_b235 (gW (gW S 69 6 z) 69 4 2) := by
    rw [tk_read_b158_e, gW_at, gW_i (by decide), h3, w32_e (by omega) (by omega), tk_byteAt_s hX (by omega) (by omega)]
    simp only [Option.bind_some, tk_isDigit_s]
    rw [if_neg nD, if_pos rfl, gW_at, gW_i (by decide), h5]
  have e2 : md_take_b130 (gW T 119 24 (a + z)) = if 36 < z then some (gW (gW (gW T 119 24 (a + z)) 119 30 1) 119 31 a, none) else md_take_b217 (gW (gW T 119 24 (a + z)) 119 25 2) := by
    rw [md_take_b130_e, gW_at, md_sign_s hX (by omega)]
    simp only [Option.bind_some, md_isDigit_s]
    rw [if_neg mD, if_pos rfl, gW_at, gW_i (by decide), h26, w32_e (by omega) (by omega), show a + z - a = z by omega, md_fails_s]
    simp only [Option.bind_some, gthr_s]
  rw [e1, e2]
  by_cases z12 : 36 < z
  · rw [if_pos z12, if_pos z12, tk_fails_g (by rw [gW_i (by decide), gW_i (by decide), h8])]
    simp only [Option.bind_some, tk_read_b235_e]
    refine ⟨_, _, rfl, ?_, Or.inr ⟨rfl, ?_, ?_, ?_⟩⟩
    · exact (((((F.w (by decide)).w (by decide)).w (by decide)).w (by decide)).v (by decide)).v (by decide)
    · rw [gW_i (by decide), gW_i (by decide), gW_at]
    · rw [gW_i (by decide), gW_at]
    · rw [gW_i (by decide), gW_at, gW_at]
  · rw [if_neg z12, if_neg z12, tk_read_b235_e, md_take_b217_e]
    have z3 : gW (gW S 69 6 z) 69 4 2 69 3 = a := by rw [gW_i (by decide), gW_i (by decide), h3]
    have z6 : gW (gW S 69 6 z) 69 4 2 69 6 = z := by rw [gW_i (by decide), gW_at]
    have z24 : gW (gW T 119 24 (a + z)) 119 25 2 119 24 = a + z := by rw [gW_i (by decide), gW_at]
    rw [z3, z6, z24, w32_e (by omega) (by omega)]
    refine ⟨_, _, rfl, ((F.w (by decide)).w (by decide)).v (by decide) |>.v (by decide), Or.inl ⟨rfl, ⟨?_, ?_⟩, ?_, ?_, ?_⟩⟩
    · unfold tKp
      simp [gW, h5, h26]
      omega
    · unfold tKk
      right; right; left
      refine ⟨by simp [gW], by simp [gW], by simp [gW]; omega, by simp [gW]; omega, fun j j0 j1 => ?_⟩
      rw [gW_c (by decide), gW_c (by decide), gW_c (by decide)]
      have := i5 j (by simp [gW, h5] at j0; omega) (by simp [gW] at j1; omega)
      rw [gW_c (by decide)] at this
      exact this
    · simp [gW, h8]
    · simp [gW]
    · simp [gW, h5]
end RD
