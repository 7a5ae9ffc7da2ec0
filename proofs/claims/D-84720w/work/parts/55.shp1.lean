/-! shapes: both sides -/
/-- the letters of a name of shapes -/
def sN (σ : gM) (k : Int) : List Int := lt (σ 48) (σ 49 k) (σ 50 k).toNat
def plF : Nat → gM → Int → Int → Int
  | 0, _, _, _ => -1
  | d + 1, σ, s, n => if s ≤ 0 then -1 else if σ 44 s = n then σ 47 s - 1 else plF d σ (σ 43 s) n
/-- the place of a name in a shape -/
def plc (σ : gM) (s n : Int) : Int := plF s.toNat σ s n
def c1F : Nat → gM → Int → Nat
  | 0, _, _ => 0
  | d + 1, σ, s => if s ≤ 0 then 0 else (if σ 45 s = 1 then 1 else 0) + c1F d σ (σ 43 s)
/-- how many properties of a shape are long -/
def cn1 (σ : gM) (s : Int) : Nat := c1F s.toNat σ s
/-- the tree of shapes -/
def sTr (σ τ : gM) : Prop := ∀ s, 1 ≤ s → s < σ 42 6 → (0 ≤ σ 43 s ∧ σ 43 s < s) ∧ τ 188 s = σ 43 s ∧ (0 ≤ σ 44 s ∧ σ 44 s < σ 42 10) ∧ (σ 45 s = 1 ∨ σ 45 s = 3) ∧ τ 189 s = σ 45 s ∧ (σ 47 s = σ 47 (σ 43 s) + 1 ∧ σ 47 s ≤ 12) ∧ τ 191 s = σ 47 s ∧ (0 ≤ τ 192 s ∧ τ 192 s < τ 119 10) ∧ mS τ (τ 192 s) = sN σ (σ 44 s)
def sHr (σ τ : gM) : Prop := ∀ s, 0 ≤ s → s < σ 42 6 → τ 190 s = σ 46 s ∧ (σ 46 s = -1 ∨ ((0 ≤ σ 46 s ∧ σ 46 s < σ 42 6) ∧ σ 47 (σ 46 s) = σ 47 s ∧ cn1 σ (σ 46 s) < cn1 σ s ∧ ∀ n, plc σ (σ 46 s) n = plc σ s n))
def sNm (σ : gM) : Prop := ∀ k, 0 ≤ k → k < σ 42 10 → 0 ≤ σ 49 k ∧ (0 ≤ σ 50 k ∧ σ 50 k ≤ 200) ∧ σ 49 k + σ 50 k ≤ σ 42 11
def sUq (σ : gM) : Prop := ∀ j k, 0 ≤ j → j < σ 42 10 → 0 ≤ k → k < σ 42 10 → sN σ j = sN σ k → j = k
/-- what strings know of the names -/
def sCa (σ : gM) : Prop := ∀ s, vS σ s → (0 ≤ σ 5 s ∧ σ 5 s ≤ σ 42 10) ∧ ((σ 4 s = -1 ∧ ∀ k, 0 ≤ k → k < σ 5 s → sN σ k ≠ cS σ s) ∨ ((0 ≤ σ 4 s ∧ σ 4 s < σ 42 10) ∧ sN σ (σ 4 s) = cS σ s))
def rSh (σ τ : gM) : Prop := (1 ≤ σ 42 6 ∧ σ 42 6 ≤ 200 ∧ τ 119 94 = σ 42 6) ∧ (0 ≤ σ 42 10 ∧ σ 42 10 ≤ σ 42 6) ∧ (0 ≤ σ 42 11 ∧ σ 42 11 ≤ 200 * σ 42 10) ∧ (σ 47 0 = 0 ∧ τ 191 0 = 0 ∧ (σ 43 0 = -1 ∧ τ 188 0 = -1 ∧ σ 45 0 = -1)) ∧ sTr σ τ ∧ sHr σ τ ∧ sNm σ ∧ sUq σ
section PL
variable {σ τ : gM} {n : Int}
theorem plF_any (hp : ∀ s, 1 ≤ s → s < σ 42 6 → 0 ≤ σ 43 s ∧ σ 43 s < s) : ∀ (d d' : Nat) (s : Int), s.toNat ≤ d → s.toNat ≤ d' → s < σ 42 6 → plF d σ s n = plF d' σ s n
  | 0, 0, s, _, _, _ => rfl
  | 0, d' + 1, s, h, _, _ => by
    unfold plF
    rw [if_pos (by omega)]
  | d + 1, 0, s, _, h, _ => by
    unfold plF
    rw [if_pos (by omega)]
  | d + 1, d' + 1, s, h, h', hs => by
    unfold plF
    by_cases h0 : s ≤ 0
    · rw [if_pos h0, if_pos h0]
    · rw [if_neg h0, if_neg h0]
      have := hp s (by omega) hs
      rw [plF_any hp d d' (σ 43 s) (by omega) (by omega) (by omega)]
theorem plc_e (hp : ∀ s, 1 ≤ s → s < σ 42 6 → 0 ≤ σ 43 s ∧ σ 43 s < s) {s : Int} (h1 : 1 ≤ s) (h2 : s < σ 42 6) : plc σ s n = if σ 44 s = n then σ 47 s - 1 else plc σ (σ 43 s) n := by
  have hq := hp s h1 h2
  unfold plc
  rw [show s.toNat = (s.toNat - 1) + 1 by omega]
  conv => lhs; unfold plF
  rw [if_neg (by omega), plF_any hp (s.toNat - 1) (σ 43 s).toNat (σ 43 s) (by omega) (by omega) (by omega)]
theorem plc_0 {s : Int} (h : s ≤ 0) : plc σ s n = -1 := by
  unfold plc
  rw [show s.toNat = 0 by omega]
  rfl
theorem c1F_any (hp : ∀ s, 1 ≤ s → s < σ 42 6 → 0 ≤ σ 43 s ∧ σ 43 s < s) : ∀ (d d' : Nat) (s : Int), s.toNat ≤ d → s.toNat ≤ d' → s < σ 42 6 → c1F d σ s = c1F d' σ s
  | 0, 0, s, _, _, _ => rfl
  | 0, d' + 1, s, h, _, _ => by
    unfold c1F
    rw [if_pos (by omega)]
  | d + 1, 0, s, _, h, _ => by
    unfold c1F
    rw [if_pos (by omega)]
  | d + 1, d' + 1, s, h, h', hs => by
    unfold c1F
    by_cases h0 : s ≤ 0
    · rw [if_pos h0, if_pos h0]
    · rw [if_neg h0, if_neg h0]
      have := hp s (by omega) hs
      rw [c1F_any hp d d' (σ 43 s) (by omega) (by omega) (by omega)]
theorem cn1_e (hp : ∀ s, 1 ≤ s → s < σ 42 6 → 0 ≤ σ 43 s ∧ σ 43 s < s) {s : Int} (h1 : 1 ≤ s) (h2 : s < σ 42 6) : cn1 σ s = (if σ 45 s = 1 then 1 else 0) + cn1 σ (σ 43 s) := by
  have hq := hp s h1 h2
  unfold cn1
  rw [show s.toNat = (s.toNat - 1) + 1 by omega]
  conv => lhs; unfold c1F
  rw [if_neg (by omega), c1F_any hp (s.toNat - 1) (σ 43 s).toNat (σ 43 s) (by omega) (by omega) (by omega)]
theorem rSh.par (h : rSh σ τ) : ∀ s, 1 ≤ s → s < σ 42 6 → 0 ≤ σ 43 s ∧ σ 43 s < s := fun s a b => (h.2.2.2.2.1 s a b).1
/-- places are from 0 on below many -/
theorem plc_r (h : rSh σ τ) : ∀ (d : Nat) (s : Int), s.toNat ≤ d → s < σ 42 6 → 0 ≤ s → (plc σ s n = -1 ∨ (0 ≤ plc σ s n ∧ plc σ s n < σ 47 s)) ∧ (0 ≤ σ 47 s ∧ σ 47 s ≤ 12)
  | 0, s, hd, hs, h0 => by
    have : s = 0 := by omega
    subst this
    rw [plc_0 (by omega), h.2.2.2.1.1]
    omega
  | d + 1, s, hd, hs, h0 => by
    by_cases e : s = 0
    · subst e
      rw [plc_0 (by omega), h.2.2.2.1.1]
      omega
    · have hp := h.par s (by omega) hs
      have ht := h.2.2.2.2.1 s (by omega) hs
      have ih := plc_r h d (σ 43 s) (by omega) (by omega) hp.1
      rw [plc_e h.par (by omega) hs]
      split <;> omega
/-- in one shape a place tells the name -/
theorem plc_inj (h : rSh σ τ) {m : Int} : ∀ (d : Nat) (s : Int), s.toNat ≤ d → s < σ 42 6 → 0 ≤ s → plc σ s n = plc σ s m → 0 ≤ plc σ s n → n = m
  | 0, s, hd, hs, h0, he, hq => by
    rw [plc_0 (by omega)] at hq
    omega
  | d + 1, s, hd, hs, h0, he, hq => by
    by_cases e : s ≤ 0
    · rw [plc_0 e] at hq
      omega
    · have hp := h.par s (by omega) hs
      have ht := h.2.2.2.2.1 s (by omega) hs
      have r1 := (plc_r (n := n) h d (σ 43 s) (by omega) (by omega) hp.1).1
      have r2 := (plc_r (n := m) h d (σ 43 s) (by omega) (by omega) hp.1).1
      rw [plc_e h.par (by omega) hs] at he hq
      rw [plc_e h.par (by omega) hs] at he
      by_cases q1 : σ 44 s = n <;> by_cases q2 : σ 44 s = m
      · omega
      · rw [if_pos q1, if_neg q2] at he; omega
      · rw [if_neg q1, if_pos q2] at he; omega
      · rw [if_neg q1, if_neg q2] at he
        rw [if_neg q1] at hq
        exact plc_inj h d (σ 43 s) (by omega) (by omega) hp.1 he hq
theorem sp_place_s (h : rSh σ τ) : ∀ (d : Nat) (s : Int), s.toNat ≤ d → s < σ 42 6 → 0 ≤ s → sp_place_b2 σ n s = some (σ, plc σ s n)
  | 0, s, hd, hs, h0 => by
    rw [sp_place_b2_e, if_neg (by omega), plc_0 (by omega)]
  | d + 1, s, hd, hs, h0 => by
    rw [sp_place_b2_e]
    by_cases e : 0 < s
    · have hp := h.par s (by omega) hs
      have ht := h.2.2.2.2.1 s (by omega) hs
      have hr := plc_r (n := n) h d (σ 43 s) (by omega) (by omega) hp.1
      have hb : 0 ≤ s ∧ s < 200 := by have := h.1; omega
      rw [if_pos e, plc_e h.par (by omega) hs]
      simp only [hb, and_self, if_true]
      rw [w32_e (by omega) (by omega)]
      by_cases q : σ 44 s = n
      · rw [if_pos q, if_pos q]
      · rw [if_neg q, if_neg q]
        exact sp_place_s h d (σ 43 s) (by omega) (by omega) hp.1
    · rw [if_neg e, plc_0 (by omega)]
/-- the model looks by letters -/
theorem md_propertyAt_s (h : rSh σ τ) (hm : mI τ) {w : Int} (hw : vM τ w) (hn : (n = -1 ∧ ∀ k, 0 ≤ k → k < σ 42 10 → sN σ k ≠ mS τ w) ∨ ((0 ≤ n ∧ n < σ 42 10) ∧ sN σ n = mS τ w)) :
    ∀ (d : Nat) (s : Int), s.toNat ≤ d → s < σ 42 6 → 0 ≤ s → md_propertyAt_b3 τ w s = some (τ, plc σ s n)
  | 0, s, hd, hs, h0 => by
    rw [md_propertyAt_b3_e, if_neg (by omega), plc_0 (by omega)]
  | d + 1, s, hd, hs, h0 => by
    rw [md_propertyAt_b3_e]
    by_cases e : 0 < s
    · have hp := h.par s (by omega) hs
      have ht := h.2.2.2.2.1 s (by omega) hs
      have hr := plc_r (n := n) h d (σ 43 s) (by omega) (by omega) hp.1
      have hb : 0 ≤ s ∧ s < 200 := by have := h.1; omega
      rw [if_pos e, plc_e h.par (by omega) hs]
      simp only [hb, and_self, if_true]
      rw [md_isSame_s hm (Or.inl ht.2.2.2.2.2.2.2.1) hw, ht.2.2.2.2.2.2.2.2]
      simp only [Option.bind_some]
      rw [ht.2.1, ht.2.2.2.2.2.2.1, w32_e (by omega) (by omega)]
      have eq : sN σ (σ 44 s) = mS τ w ↔ σ 44 s = n := by
        rcases hn with ⟨n1, n2⟩ | ⟨n1, n2⟩
        · constructor
          · intro q; exact absurd q (n2 _ ht.2.2.1.1 ht.2.2.1.2)
          · intro q; omega
        · constructor
          · intro q; exact h.2.2.2.2.2.2.2 _ _ ht.2.2.1.1 ht.2.2.1.2 n1.1 n1.2 (q.trans n2.symm)
          · intro q; rw [q, n2]
      by_cases q : σ 44 s = n
      · simp only [if_pos q, if_pos (eq.mpr q)]
        rfl
      · simp only [if_neg q, if_neg (fun z => q (eq.mp z)), if_true]
        exact md_propertyAt_s h hm hw hn d (σ 43 s) (by omega) (by omega) hp.1
    · rw [if_neg e, plc_0 (by omega)]
/-- the last heir -/
theorem sp_last_s (h : rSh σ τ) : ∀ (d : Nat) (s : Int), cn1 σ s ≤ d → s < σ 42 6 → 0 ≤ s → ∃ t, sp_last_b2 σ s = some (σ, t) ∧ md_heirOf_b2 τ s = some (τ, t) ∧ (0 ≤ t ∧ t < σ 42 6) ∧ σ 46 t = -1 ∧ σ 47 t = σ 47 s ∧ ∀ n, plc σ t n = plc σ s n
  | d, s, hd, hs, h0 => by
    have hb : 0 ≤ s ∧ s < 200 := by have := h.1; omega
    have hh := h.2.2.2.2.2.1 s h0 hs
    rw [sp_last_b2_e, md_heirOf_b2_e]
    simp only [hb, and_self, if_true]
    rw [hh.1]
    rcases hh.2 with q | ⟨q1, q2, q3, q4⟩
    · rw [if_pos (by omega), if_pos (by omega)]
      exact ⟨s, rfl, rfl, by omega, q, rfl, fun _ => rfl⟩
    · rw [if_neg (by omega), if_neg (by omega)]
      cases d with
      | zero => omega
      | succ d =>
        obtain ⟨t, i1, i2, i3, i4, i5, i6⟩ := sp_last_s h d (σ 46 s) (by omega) q1.2 q1.1
        exact ⟨t, i1, i2, i3, i4, by rw [i5, q2], fun n => by rw [i6, q4]⟩
/-- a property's sort -/
theorem sp_sortAt_s (h : rSh σ τ) {p : Int} (hp0 : 0 ≤ p) : ∀ (d : Nat) (s : Int), s.toNat ≤ d → s < σ 42 6 → 1 ≤ s → p < σ 47 s → ∃ t, sp_sortAt_b2 σ p s = some (σ, σ 45 t) ∧ md_withLast_b2 τ p s = some (τ, t) ∧ (1 ≤ t ∧ t < σ 42 6) ∧ σ 47 t = p + 1
  | 0, s, hd, hs, h0, hq => by omega
  | d + 1, s, hd, hs, h0, hq => by
    have hb : 0 ≤ s ∧ s < 200 := by have := h.1; omega
    have ht := h.2.2.2.2.1 s (by omega) hs
    have hp := h.par s (by omega) hs
    rw [sp_sortAt_b2_e, md_withLast_b2_e]
    simp only [hb, and_self, if_true]
    rw [ht.2.2.2.2.2.2.1, w32_e (by omega) (by omega), ht.2.1]
    by_cases q : p + 1 < σ 47 s
    · rw [if_pos q, if_pos q]
      have h47 := ht.2.2.2.2.2.1
      have hs1 : 1 ≤ σ 43 s := by
        by_cases e : σ 43 s = 0
        · rw [e, h.2.2.2.1.1] at h47; omega
        · omega
      exact sp_sortAt_s h hp0 d (σ 43 s) (by omega) (by omega) hs1 (by omega)
    · rw [if_neg q, if_neg q]
      exact ⟨s, rfl, rfl, by omega, by omega⟩
/-- a child -/
theorem sp_child_s (h : rSh σ τ) (hm : mI τ) {w sh srt : Int} (hw : vM τ w) (hn : (0 ≤ n ∧ n < σ 42 10) ∧ sN σ n = mS τ w) :
    ∀ (d : Nat) (s : Int), 1 ≤ s → s + d = σ 42 6 → ∃ t, sp_child_b3 σ sh n srt s = some (σ, t) ∧ md_childOf_b3 τ sh w srt s = some (τ, t) ∧ (t = -1 ∨ ((s ≤ t ∧ t < σ 42 6) ∧ σ 43 t = sh ∧ σ 44 t = n ∧ σ 45 t = srt)) ∧ (t = -1 → ∀ q, s ≤ q → q < σ 42 6 → ¬ (σ 43 q = sh ∧ σ 44 q = n ∧ σ 45 q = srt))
  | 0, s, h1, hs => by
    rw [sp_child_b3_e, md_childOf_b3_e, if_neg (by omega), h.1.2.2, if_neg (by omega)]
    exact ⟨-1, rfl, rfl, Or.inl rfl, fun _ q a b => by omega⟩
  | d + 1, s, h1, hs => by
    have hb : 0 ≤ s ∧ s < 200 := by have := h.1; omega
    have ht := h.2.2.2.2.1 s (by omega) (by omega)
    have hlt : s < σ 42 6 := by omega
    rw [sp_child_b3_e, md_childOf_b3_e, h.1.2.2]
    simp only [hb, hlt, and_self, if_true, sp_child_b48_e, md_childOf_b54_e]
    rw [ht.2.1, ht.2.2.2.2.1, md_isSame_s hm (Or.inl ht.2.2.2.2.2.2.2.1) hw, ht.2.2.2.2.2.2.2.2, w32_e (by omega) (by omega)]
    simp only [Option.bind_some]
    have eq : sN σ (σ 44 s) = mS τ w ↔ σ 44 s = n := by
      constructor
      · intro q; exact h.2.2.2.2.2.2.2 _ _ ht.2.2.1.1 ht.2.2.1.2 hn.1.1 hn.1.2 (q.trans hn.2.symm)
      · intro q; rw [q, hn.2]
    have ih := sp_child_s h hm (sh := sh) (srt := srt) hw hn d (s + 1) (by omega) (by omega)
    have next : ¬ (σ 43 s = sh ∧ σ 44 s = n ∧ σ 45 s = srt) → ∃ t, sp_child_b3 σ sh n srt (s + 1) = some (σ, t) ∧ md_childOf_b3 τ sh w srt (s + 1) = some (τ, t) ∧ (t = -1 ∨ ((s ≤ t ∧ t < σ 42 6) ∧ σ 43 t = sh ∧ σ 44 t = n ∧ σ 45 t = srt)) ∧ (t = -1 → ∀ q, s ≤ q → q < σ 42 6 → ¬ (σ 43 q = sh ∧ σ 44 q = n ∧ σ 45 q = srt)) := by
      intro hne
      obtain ⟨t, i1, i2, i3, i4⟩ := ih
      refine ⟨t, i1, i2, ?_, fun z q a b => ?_⟩
      · rcases i3 with i3 | ⟨i3, i5⟩
        · exact Or.inl i3
        · exact Or.inr ⟨by omega, i5⟩
      · by_cases e : q = s
        · subst e; exact hne
        · exact i4 z q (by omega) b
    by_cases q1 : σ 43 s = sh
    · by_cases q2 : σ 44 s = n
      · by_cases q3 : σ 45 s = srt
        · simp only [if_pos q1, if_pos q2, if_pos q3, if_pos (eq.mpr q2)]
          exact ⟨s, rfl, rfl, Or.inr ⟨⟨by omega, hlt⟩, q1, q2, q3⟩, fun z => by omega⟩
        · simp only [if_pos q1, if_pos q2, if_neg q3]
          exact next (fun z => q3 z.2.2)
      · by_cases q3 : σ 45 s = srt
        · simp only [if_pos q1, if_neg q2, if_pos q3, if_neg (fun z => q2 (eq.mp z)), if_true]
          exact next (fun z => q2 z.2.1)
        · simp only [if_pos q1, if_neg q2, if_neg q3]
          exact next (fun z => q3 z.2.2)
    · simp only [if_neg q1]
      exact next (fun z => q1 z.1)
end PL
