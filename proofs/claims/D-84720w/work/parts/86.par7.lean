/-! names and locals -/
section SM
variable {σ τ : gM}
theorem isSame_l (h : tX σ τ) {p q : Int} {n : Nat} (hp : 0 ≤ p ∧ p + n ≤ σ 69 2) (hq : 0 ≤ q ∧ q + n ≤ σ 69 2) : ∀ (m k : Nat), k + m = n → ∃ r, (r = 0 ∨ r = 1) ∧ ps_isSame_b11 σ p n q k = some (σ, r) ∧ md_isWord_b20 τ p (p + n) q 1 k = some (τ, r) ∧ (r = 1 ↔ ∀ i : Nat, k ≤ i → i < n → τ 134 (p + i) = τ 134 (q + i))
  | 0, k, hk => by
    have hb := h.2.1
    refine ⟨1, Or.inr rfl, ?_, ?_, fun _ i a b => by omega, fun _ => rfl⟩
    · rw [ps_isSame_b11_e, if_neg (by omega)]
    · rw [md_isWord_b20_e, w32_e (x := p + n - p) (by omega) (by omega), if_neg (by omega)]
      rfl
  | m + 1, k, hk => by
    have hb := h.2.1
    have i1 := (h.2.2.2 (p + k) (by omega) (by omega)).2
    have i2 := (h.2.2.2 (q + k) (by omega) (by omega)).2
    unfold i8 at i1 i2
    have c1 : cb σ τ (p + k) = τ 134 (p + k) % 256 := by unfold cb; rw [if_pos (by omega)]
    have c2 : cb σ τ (q + k) = τ 134 (q + k) % 256 := by unfold cb; rw [if_pos (by omega)]
    have e1 : ps_isSame_b11 σ p n q k = if τ 134 (p + k) = τ 134 (q + k) then ps_isSame_b11 σ p n q (k + 1 : Nat) else some (σ, 0) := by
      rw [ps_isSame_b11_e, if_pos (by omega), w32_e (x := p + k) (by omega) (by omega), tk_byteAt_s h (by omega) (by omega)]
      simp only [Option.bind_some]
      rw [w32_e (x := q + k) (by omega) (by omega), tk_byteAt_s h (by omega) (by omega)]
      simp only [Option.bind_some]
      rw [c1, c2, w32_e (x := (k : Int) + 1) (by omega) (by omega)]
      by_cases q : τ 134 (p + k) = τ 134 (q + k)
      · rw [if_pos q, if_pos (by rw [q])]; rfl
      · rw [if_neg q, if_neg (by omega)]
    have e2 : md_isWord_b20 τ p (p + n) q 1 k = if τ 134 (p + k) = τ 134 (q + k) then md_isWord_b20 τ p (p + n) q 1 (k + 1 : Nat) else some (τ, 0) := by
      rw [md_isWord_b20_e, w32_e (x := p + n - p) (by omega) (by omega), if_pos (by omega), if_neg (by decide), w32_e (x := p + k) (by omega) (by omega), w32_e (x := q + k) (by omega) (by omega), if_pos (by omega), if_pos (by omega)]
      by_cases q : τ 134 (p + k) = τ 134 (q + k)
      · rw [if_pos q, if_pos q, md_isWord_b59_e, w32_e (by omega) (by omega)]; rfl
      · rw [if_neg q, if_neg q, md_isWord_b59_e, md_isWord_b20_e]
        by_cases u : w32 ((k : Int) + 1) < w32 (p + n - p)
        · rw [if_pos u, if_pos (by trivial)]; rfl
        · rw [if_neg u]; rfl
    rw [e1, e2]
    by_cases c : τ 134 (p + k) = τ 134 (q + k)
    · rw [if_pos c, if_pos c]
      obtain ⟨r, r1, r2, r3, r4⟩ := isSame_l h hp hq m (k + 1) (by omega)
      refine ⟨r, r1, r2, r3, r4.trans ⟨fun w i x y => ?_, fun w i x y => w i (by omega) y⟩⟩
      by_cases z : i = k
      · subst z; exact c
      · exact w i (by omega) y
    · rw [if_neg c, if_neg c]
      exact ⟨0, Or.inl rfl, rfl, rfl, fun w => by omega, fun w => absurd (w k (Nat.le_refl _) (by omega)) c⟩
theorem isSame_s (h : tX σ τ) {p n q m : Int} (hp : 0 ≤ p ∧ 0 ≤ n ∧ p + n ≤ σ 69 2) (hq : 0 ≤ q ∧ 0 ≤ m ∧ q + m ≤ σ 69 2) : ∃ r, (r = 0 ∨ r = 1) ∧ ps_isSame σ p n q m = some (σ, r) ∧ md_isWord τ p (p + n) q (q + m) = some (τ, r) ∧ (r = 1 ↔ tE τ p n q m) := by
  have hb := h.2.1
  by_cases e : n = m
  · subst e
    obtain ⟨r, r1, r2, r3, r4⟩ := isSame_l h (p := p) (q := q) (n := n.toNat) (by omega) (by omega) n.toNat 0 (by omega)
    rw [show ((n.toNat : Nat) : Int) = n by omega] at r2 r3
    refine ⟨r, r1, ?_, ?_, r4.trans ⟨fun w => ⟨rfl, fun k a b => ?_⟩, fun w i _ b => w.2 i (by omega) (by omega)⟩⟩
    · rw [ps_isSame_e, if_pos (by trivial)]; exact r2
    · rw [md_isWord_e, w32_e (x := p + n - p) (by omega) (by omega), w32_e (x := q + n - q) (by omega) (by omega), if_pos (by omega), md_isWord_b15_e]; exact r3
    · have := w k.toNat (Nat.zero_le _) (by omega)
      rw [show ((k.toNat : Nat) : Int) = k by omega] at this
      exact this
  · refine ⟨0, Or.inl rfl, ?_, ?_, fun w => by omega, fun w => absurd w.1 e⟩
    · rw [ps_isSame_e, if_neg e]
    · rw [md_isWord_e, w32_e (x := p + n - p) (by omega) (by omega), w32_e (x := q + m - q) (by omega) (by omega), if_neg (by omega), md_isWord_b15_e, md_isWord_b20_e]
      by_cases u : (0 : Int) < w32 (p + n - p)
      · rw [if_pos u, if_pos (by trivial)]; rfl
      · rw [if_neg u]; rfl
/-- a local by its name -/
theorem local_l (h : tX σ τ) {f p n : Int} (hf : 0 ≤ f ∧ f < 50) (ht : τ 119 54 = f) (hL : pL σ τ f) (hp : 0 ≤ p ∧ 0 ≤ n ∧ p + n ≤ σ 69 2) : ∀ (m : Nat) (k : Int), 0 ≤ k → k + m = σ 84 f → (∀ l, 0 ≤ l → l < k → ¬ tE τ (σ 85 (12 * f + l)) (σ 86 (12 * f + l)) p n) →
    ∃ r, ps_local_b3 σ f p n k = some (σ, r) ∧ md_localOf_b2 τ p (p + n) k = some (τ, r) ∧ ((r = -1 ∧ ∀ l, 0 ≤ l → l < σ 84 f → ¬ tE τ (σ 85 (12 * f + l)) (σ 86 (12 * f + l)) p n) ∨ ((0 ≤ r ∧ r < σ 84 f) ∧ tE τ (σ 85 (12 * f + r)) (σ 86 (12 * f + r)) p n))
  | 0, k, k0, hk, hn => by
    have h12 := hL.1
    refine ⟨-1, ?_, ?_, Or.inl ⟨rfl, fun l a b => hn l a (by omega)⟩⟩
    · rw [ps_local_b3_e, if_pos hf, if_neg (by omega)]
    · rw [md_localOf_b2_e, ht, if_pos (by omega), hL.2.1, if_neg (by omega)]
  | m + 1, k, k0, hk, hn => by
    have h12 := hL.1
    have hb := h.2.1
    obtain ⟨l1, l2, l3, l4, l5⟩ := hL.2.2.1 k k0 (by omega)
    obtain ⟨r, r1, r2, r3, r4⟩ := isSame_s h (p := σ 85 (12 * f + k)) (n := σ 86 (12 * f + k)) (q := p) (m := n) (by omega) hp
    have e1 : ps_local_b3 σ f p n k = if r = 0 then ps_local_b3 σ f p n (k + 1) else some (σ, k) := by
      rw [ps_local_b3_e, if_pos hf, if_pos (by omega), w32_e (x := 12 * f) (by omega) (by omega), w32_e (x := 12 * f + k) (by omega) (by omega), if_pos (by omega), if_pos (by omega), r2]
      simp only [Option.bind_some]
      rw [w32_e (by omega) (by omega)]
    have e2 : md_localOf_b2 τ p (p + n) k = if r = 0 then md_localOf_b2 τ p (p + n) (k + 1) else some (τ, k) := by
      rw [md_localOf_b2_e, ht, if_pos (by omega), hL.2.1, if_pos (by omega), w32_e (x := 12 * f) (by omega) (by omega), w32_e (x := 12 * f + k) (by omega) (by omega), if_pos (by omega), if_pos (by omega), l1, l2, r3]
      simp only [Option.bind_some]
      rw [w32_e (by omega) (by omega)]
    rw [e1, e2]
    rcases r1 with r1 | r1
    · rw [if_pos r1, if_pos r1]
      refine local_l h hf ht hL hp m (k + 1) (by omega) (by omega) (fun l a b => ?_)
      by_cases z : l = k
      · subst z; intro w; have := r4.mpr w; omega
      · exact hn l a (by omega)
    · rw [if_neg (by omega), if_neg (by omega)]
      exact ⟨k, rfl, rfl, Or.inr ⟨by omega, r4.mp r1⟩⟩
theorem local_s (h : tX σ τ) {f p n : Int} (hf : 0 ≤ f ∧ f < 50) (ht : τ 119 54 = f) (hL : pL σ τ f) (hp : 0 ≤ p ∧ 0 ≤ n ∧ p + n ≤ σ 69 2) : ∃ r, ps_local σ f p n = some (σ, r) ∧ md_localOf τ p (p + n) = some (τ, r) ∧ ((r = -1 ∧ ∀ l, 0 ≤ l → l < σ 84 f → ¬ tE τ (σ 85 (12 * f + l)) (σ 86 (12 * f + l)) p n) ∨ ((0 ≤ r ∧ r < σ 84 f) ∧ tE τ (σ 85 (12 * f + r)) (σ 86 (12 * f + r)) p n)) := by
  have h12 := hL.1
  rw [ps_local_e, md_localOf_e]
  exact local_l h hf ht hL hp (σ 84 f).toNat 0 (by decide) (by omega) (fun l a b => by omega)
/-- one local more -/
def aC (σ : gM) (f p n : Int) : gM := gW (gW (gW σ 85 (12 * f + σ 84 f) p) 86 (12 * f + σ 84 f) n) 84 f (σ 84 f + 1)
def aM (τ : gM) (p e : Int) : gM := gW (gW (gW τ 153 (12 * τ 119 54 + τ 152 (τ 119 54)) p) 154 (12 * τ 119 54 + τ 152 (τ 119 54)) e) 152 (τ 119 54) (τ 152 (τ 119 54) + 1)
theorem adds_l {f p n : Int} (hf : 0 ≤ f ∧ f < 50) (ht : τ 119 54 = f) (hL : pL σ τ f) (h12 : σ 84 f < 12) {e : Int} : ps_adds σ f p n = some (aC σ f p n, 0) ∧ md_addLocal τ p e = some (aM τ p e, 0) := by
  have h0 := hL.1
  have e2 := hL.2.1
  constructor
  · rw [ps_adds_e, w32_e (x := 12 * f) (by omega) (by omega), w32_e (x := 12 * f + σ 84 f) (by omega) (by omega), w32_e (x := σ 84 f + 1) (by omega) (by omega)]
    have b : 0 ≤ 12 * f + σ 84 f ∧ 12 * f + σ 84 f < 600 := by omega
    simp only [hf, b, and_self, if_true]
    rfl
  · rw [md_addLocal_e, ht, e2, w32_e (x := 12 * f) (by omega) (by omega), w32_e (x := 12 * f + σ 84 f) (by omega) (by omega), w32_e (x := σ 84 f + 1) (by omega) (by omega)]
    have b : 0 ≤ 12 * f + σ 84 f ∧ 12 * f + σ 84 f < 612 := by omega
    have b2 : 0 ≤ f ∧ f < 51 := by omega
    simp only [b2, b, and_self, if_true]
    unfold aM
    rw [ht, e2]
theorem aC_o {f p n a i : Int} (h : a ≠ 84 ∧ a ≠ 85 ∧ a ≠ 86 ∨ (i ≠ f ∧ a = 84) ∨ (i ≠ 12 * f + σ 84 f ∧ a ≠ 84)) : aC σ f p n a i = σ a i := by
  simp only [aC, gW]
  rw [if_neg (by omega), if_neg (by omega), if_neg (by omega)]
theorem aM_o {p e a i : Int} (h : a ≠ 152 ∧ a ≠ 153 ∧ a ≠ 154 ∨ (i ≠ τ 119 54 ∧ a = 152) ∨ (i ≠ 12 * τ 119 54 + τ 152 (τ 119 54) ∧ a ≠ 152)) : aM τ p e a i = τ a i := by
  simp only [aM, gW]
  rw [if_neg (by omega), if_neg (by omega), if_neg (by omega)]
theorem aC_n {f p n : Int} : aC σ f p n 84 f = σ 84 f + 1 ∧ aC σ f p n 85 (12 * f + σ 84 f) = p ∧ aC σ f p n 86 (12 * f + σ 84 f) = n := by simp [aC, gW]
theorem aM_n {p e : Int} : aM τ p e 152 (τ 119 54) = τ 152 (τ 119 54) + 1 ∧ aM τ p e 153 (12 * τ 119 54 + τ 152 (τ 119 54)) = p ∧ aM τ p e 154 (12 * τ 119 54 + τ 152 (τ 119 54)) = e := by simp [aM, gW]
theorem pG_adds {z p n e : Int} (G : pG z σ τ) (h12 : σ 84 (σ 68 19 - 1) < 12) (he : e = p + n) (hp : 0 ≤ p ∧ (1 ≤ n ∧ n ≤ 12) ∧ p + n ≤ σ 69 2) (hn : ∀ l, 0 ≤ l → l < σ 84 (σ 68 19 - 1) → ¬ tE τ (σ 85 (12 * (σ 68 19 - 1) + l)) (σ 86 (12 * (σ 68 19 - 1) + l)) p n) :
    pG z (aC σ (σ 68 19 - 1) p n) (aM τ p e) ∧ (∀ M N, kE M N σ (aC σ (σ 68 19 - 1) p n) τ (aM τ p e)) ∧ isLoc (aC σ (σ 68 19 - 1) p n) (aM τ p e) (σ 68 19 - 1) (σ 84 (σ 68 19 - 1)) p e := by
  obtain ⟨h1, h2, h3, h4, h5, h6, h7, h8, h9, h10⟩ := G
  have c : ∀ a, a ≠ 84 → a ≠ 85 → a ≠ 86 → aC σ (σ 68 19 - 1) p n a = σ a := fun a q1 q2 q3 => funext fun i => aC_o (Or.inl ⟨q1, q2, q3⟩)
  have t : ∀ a, a ≠ 152 → a ≠ 153 → a ≠ 154 → aM τ p e a = τ a := fun a q1 q2 q3 => funext fun i => aM_o (Or.inl ⟨q1, q2, q3⟩)
  have c68 := c 68 (by decide) (by decide) (by decide)
  have c69 := c 69 (by decide) (by decide) (by decide)
  have t119 := t 119 (by decide) (by decide) (by decide)
  have t134 := t 134 (by decide) (by decide) (by decide)
  have e54 := h9.2.2
  have e152 := h10.2.1
  have n1 := @aC_n σ (σ 68 19 - 1) p n
  have n2 := @aM_n τ p e
  rw [e54, e152] at n2
  have nde : ∀ i, nd (aC σ (σ 68 19 - 1) p n) i = nd σ i := fun i => nd_congr fun j _ _ => by rw [c 70 (by decide) (by decide) (by decide)]
  have o84 : ∀ a i, (a = 85 ∨ a = 86) → i ≠ 12 * (σ 68 19 - 1) + σ 84 (σ 68 19 - 1) → aC σ (σ 68 19 - 1) p n a i = σ a i := fun a i q1 q2 => aC_o (by omega)
  have o152 : ∀ a i, (a = 153 ∨ a = 154) → i ≠ 12 * (σ 68 19 - 1) + σ 84 (σ 68 19 - 1) → aM τ p e a i = τ a i := fun a i q1 q2 => aM_o (by rw [e54, e152]; omega)
  generalize ef : σ 68 19 - 1 = f at *
  refine ⟨⟨h1.mv (by rw [c69]) (by rw [c69]) (by rw [c69]) (c 1 (by decide) (by decide) (by decide)) (c 118 (by decide) (by decide) (by decide)) (by rw [t119]) t134, h2.mv c69 (fun i _ _ => by rw [t119]) t134, by rw [c69]; exact h3, by rw [c68, c69]; exact h4, by rw [t119, c68, nde]; exact h5, by rw [c68, t119]; exact h6, by rw [c68, t119]; exact h7, by rw [c68, c69, t119]; exact h8, by rw [c68, t119, ef]; exact h9, ?_⟩, fun M N => ⟨fun a q => c a (by omega) (by omega) (by omega), fun a i q1 q2 q3 => by rw [c a (by omega) (by omega) (by omega)], fun i q => by rw [c68], fun i q => by rw [c69], ⟨by rw [c68]; exact Int.le_refl _, by rw [c69]; exact Int.le_refl _, fun hj j j0 j1 => by rw [t119] at j1; rw [t 141 (by omega) (by omega) (by omega)]; exact hj j j0 j1⟩, ⟨by rw [ef, n1.1]; omega, fun g q => ⟨aC_o (by omega), aM_o (by omega)⟩, fun j q => by rw [ef] at q; exact ⟨o84 85 j (by decide) (by omega), o84 86 j (by decide) (by omega), o152 153 j (by decide) (by omega), o152 154 j (by decide) (by omega)⟩⟩, fun a q1 q2 q3 => t a (by omega) (by omega) (by omega), fun a j q1 q2 q3 => by rw [t a (by omega) (by omega) (by omega)], fun i q1 q2 => by rw [t119]⟩, ?_⟩
  · rw [c68, ef]
    obtain ⟨g1, g2, g3, g4⟩ := h10
    refine ⟨by rw [n1.1]; omega, by rw [n2.1, n1.1], fun l l0 l1 => ?_, fun l l' l0 ll l1 => ?_⟩
    · rw [n1.1] at l1
      rw [c69]
      by_cases q : l = σ 84 f
      · subst q
        rw [n1.2.1, n1.2.2, n2.2.1, n2.2.2]
        omega
      · rw [o84 85 _ (by decide) (by omega), o84 86 _ (by decide) (by omega), o152 153 _ (by decide) (by omega), o152 154 _ (by decide) (by omega)]
        exact g3 l l0 (by omega)
    · rw [n1.1] at l1
      rw [o84 85 (12 * f + l) (by decide) (by omega), o84 86 (12 * f + l) (by decide) (by omega), tE.mv t134]
      by_cases q : l' = σ 84 f
      · subst q
        rw [n1.2.1, n1.2.2]
        exact hn l l0 (by omega)
      · rw [o84 85 _ (by decide) (by omega), o84 86 _ (by decide) (by omega)]
        exact g4 l l' l0 ll (by omega)
  · refine ⟨by rw [n1.1]; have := h10.1; omega, ?_, by rw [c69]; omega⟩
    rw [n1.2.1, n1.2.2]
    exact ⟨by omega, fun k _ _ => rfl⟩
end SM
