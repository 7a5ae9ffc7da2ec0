/-! what is read so far, on both sides -/
/-- the same letters of the text -/
def tE (τ : gM) (p n q m : Int) : Prop := n = m ∧ ∀ k, 0 ≤ k → k < n → τ 134 (p + k) = τ 134 (q + k)
theorem tE_dec (τ : gM) (p n q m : Int) : tE τ p n q m ∨ ¬ tE τ p n q m := Classical.em _
theorem tE.symm {τ : gM} {p n q m : Int} (h : tE τ p n q m) : tE τ q m p n := ⟨h.1.symm, fun k a b => (h.2 k a (by have := h.1; omega)).symm⟩
theorem tE.trans {τ : gM} {p n q m r l : Int} (h : tE τ p n q m) (h2 : tE τ q m r l) : tE τ p n r l := ⟨h.1.trans h2.1, fun k a b => (h.2 k a b).trans (h2.2 k a (by have := h.1; omega))⟩
/-- the locals of a function -/
def pL (σ τ : gM) (f : Int) : Prop := (0 ≤ σ 84 f ∧ σ 84 f ≤ 12) ∧ τ 152 f = σ 84 f ∧ (∀ l, 0 ≤ l → l < σ 84 f → τ 153 (12 * f + l) = σ 85 (12 * f + l) ∧ τ 154 (12 * f + l) = σ 85 (12 * f + l) + σ 86 (12 * f + l) ∧ 0 ≤ σ 85 (12 * f + l) ∧ (1 ≤ σ 86 (12 * f + l) ∧ σ 86 (12 * f + l) ≤ 12) ∧ σ 85 (12 * f + l) + σ 86 (12 * f + l) ≤ σ 69 2) ∧
  ∀ l l', 0 ≤ l → l < l' → l' < σ 84 f → ¬ tE τ (σ 85 (12 * f + l)) (σ 86 (12 * f + l)) (σ 85 (12 * f + l')) (σ 86 (12 * f + l'))
/-- a name is this local -/
def isLoc (σ τ : gM) (f l p e : Int) : Prop := (0 ≤ l ∧ l < σ 84 f) ∧ tE τ (σ 85 (12 * f + l)) (σ 86 (12 * f + l)) p (e - p) ∧ (0 ≤ p ∧ p < e ∧ e ≤ σ 69 2)
/-- one node on both sides; r is 1 when names are resolved; b bounds its parts -/
def RN (σ τ : gM) (r f b i : Int) : Prop := (τ 135 (nd σ i) = σ 70 i ∧ 0 ≤ σ 70 i ∧ σ 70 i ≤ 28) ∧ τ 136 (nd σ i) = σ 71 i ∧ (-1 ≤ σ 72 i ∧ σ 72 i < b ∧ -1 ≤ σ 73 i ∧ σ 73 i < b ∧ -1 ≤ σ 74 i ∧ σ 74 i < b ∧ (σ 70 i = 24 ∨ σ 70 i = 25 → (σ 73 i = -1 ∨ i < σ 73 i) ∧ (σ 74 i = -1 ∨ i < σ 74 i))) ∧
  τ 138 (nd σ i) = (if σ 70 i = 6 then nh σ (σ 74 i) else nh σ (σ 72 i)) ∧ (σ 70 i ≠ 3 → τ 139 (nd σ i) = if σ 70 i = 24 ∨ σ 70 i = 25 then ph σ (σ 73 i) else nh σ (σ 73 i)) ∧ τ 140 (nd σ i) = (if σ 70 i = 6 then -1 else if σ 70 i = 24 then ph σ (σ 74 i) else nh σ (σ 74 i)) ∧
  (σ 70 i = 3 → (σ 77 i = 4 ∧ τ 139 (nd σ i) = 17) ∨ (σ 77 i = 5 ∧ τ 139 (nd σ i) = 18)) ∧
  ((σ 70 i = 1 ∨ σ 70 i = 2 ∨ (σ 70 i = 5 ∧ r = 0) ∨ σ 70 i = 7 ∨ ((σ 70 i = 21 ∨ σ 70 i = 22) ∧ σ 73 i = -1)) → τ 142 (nd σ i) = σ 76 i ∧ τ 143 (nd σ i) = σ 76 i + σ 77 i ∧ (0 ≤ σ 76 i ∧ 1 ≤ σ 77 i ∧ σ 76 i + σ 77 i ≤ σ 69 2) ∧ (σ 70 i = 1 → σ 77 i ≤ 36 ∧ ∀ j, σ 76 i ≤ j → j < σ 76 i + σ 77 i → isD (τ 134 j)) ∧ (σ 70 i = 2 → 2 ≤ σ 77 i ∧ σ 77 i ≤ 42) ∧ (σ 70 i ≠ 1 → σ 70 i ≠ 2 → σ 77 i ≤ 12) ∧ (σ 70 i = 5 → σ 71 i = σ 76 i)) ∧
  ((σ 70 i = 0 ∨ (σ 70 i = 5 ∧ r = 1) ∨ σ 70 i = 6) → isLoc σ τ f (σ 76 i) (τ 142 (nd σ i)) (τ 143 (nd σ i)))
/-- all nodes from one to another -/
def NB (σ τ : gM) (r f a b : Int) : Prop := ∀ i, a ≤ i → i < b → (σ 70 i ≠ 30 → RN σ τ r f b i) ∧ (σ 70 i = 30 → 0 ≤ σ 72 i ∧ σ 72 i < b)
/-- what is read so far -/
def pG (z : Int) (σ τ : gM) : Prop := tX σ τ ∧ tK σ τ ∧ σ 69 8 = 0 ∧ (0 ≤ σ 68 10 ∧ σ 68 10 ≤ σ 69 5 + z) ∧ τ 119 43 = nd σ (σ 68 10) ∧ (0 ≤ σ 68 20 ∧ σ 68 20 ≤ 300 ∧ σ 68 20 = τ 119 43 - τ 119 44) ∧ (0 ≤ σ 68 21 ∧ σ 68 21 ≤ 20 ∧ τ 119 28 = σ 68 21) ∧ (0 ≤ σ 68 22 ∧ σ 68 22 ≤ σ 69 5 ∧ τ 119 29 = σ 68 22) ∧ (1 ≤ σ 68 19 ∧ σ 68 19 ≤ 50 ∧ τ 119 54 = σ 68 19 - 1) ∧ pL σ τ (σ 68 19 - 1)
/-- links of rows are nodes -/
def J1 (τ : gM) : Prop := ∀ j, 0 ≤ j → j < τ 119 43 → -1 ≤ τ 141 j ∧ τ 141 j < 4004
def jK (τ τ' : gM) : Prop := J1 τ → J1 τ'
/-- nodes ahead of M (of N in the model) stay; locals may come -/
def kE (M N : Int) (σ σ' τ τ' : gM) : Prop := (∀ a, a < 68 ∨ 86 < a ∨ (79 ≤ a ∧ a ≤ 83) → σ' a = σ a) ∧ (∀ a i, 70 ≤ a → a ≤ 78 → i < M → σ' a i = σ a i) ∧ (∀ i, (i < 10 ∨ 22 < i ∨ i = 19) → σ' 68 i = σ 68 i) ∧ (∀ i, i < 3 → σ' 69 i = σ 69 i) ∧ (σ 68 10 ≤ σ' 68 10 ∧ σ 69 5 ≤ σ' 69 5 ∧ jK τ τ') ∧
  (σ 84 (σ 68 19 - 1) ≤ σ' 84 (σ 68 19 - 1) ∧ (∀ g, g ≠ σ 68 19 - 1 → σ' 84 g = σ 84 g ∧ τ' 152 g = τ 152 g) ∧ ∀ j, j < 12 * (σ 68 19 - 1) + σ 84 (σ 68 19 - 1) → σ' 85 j = σ 85 j ∧ σ' 86 j = σ 86 j ∧ τ' 153 j = τ 153 j ∧ τ' 154 j = τ 154 j) ∧
  (∀ a, a ≠ 119 → (a < 135 ∨ 145 < a ∨ a = 137 ∨ a = 144) → (a < 152 ∨ 154 < a) → τ' a = τ a) ∧ (∀ a j, 135 ≤ a → a ≤ 145 → j < N → τ' a j = τ a j) ∧ (∀ i, i < 24 ∨ 31 < i → i ≠ 43 → τ' 119 i = τ 119 i)
/-- a fault was found -/
def bd (k : Int) (σ τ : gM) : Prop := σ 69 8 ≠ 0 ∧ σ 69 8 = τ 119 30 ∧ σ 69 9 = τ 119 31 ∧ 0 ≤ σ 68 10 ∧ σ 68 10 ≤ k
theorem kE.rf {M N : Int} {σ τ : gM} : kE M N σ σ τ τ := ⟨fun _ _ => rfl, fun _ _ _ _ _ => rfl, fun _ _ => rfl, fun _ _ => rfl, ⟨Int.le_refl _, Int.le_refl _, fun h => h⟩, ⟨Int.le_refl _, fun _ _ => ⟨rfl, rfl⟩, fun _ _ => ⟨rfl, rfl, rfl, rfl⟩⟩, fun _ _ _ _ => rfl, fun _ _ _ _ _ => rfl, fun _ _ _ => rfl⟩
theorem kE.tr {M N M' N' : Int} {σ σ' σ'' τ τ' τ'' : gM} (h : kE M N σ σ' τ τ') (h2 : kE M' N' σ' σ'' τ' τ'') (hM : M ≤ M') (hN : N ≤ N') : kE M N σ σ'' τ τ'' := by
  obtain ⟨a1, a2, a3, a4, a5, ⟨a6, a7, a8⟩, a9, a10, a11⟩ := h
  obtain ⟨b1, b2, b3, b4, b5, ⟨b6, b7, b8⟩, b9, b10, b11⟩ := h2
  have e := a3 19 (by decide)
  rw [e] at b6 b7 b8
  refine ⟨fun a q => (b1 a q).trans (a1 a q), fun a i q1 q2 q3 => (b2 a i q1 q2 (by omega)).trans (a2 a i q1 q2 q3), fun i q => (b3 i q).trans (a3 i q), fun i q => (b4 i q).trans (a4 i q), ⟨by omega, by omega, fun h => b5.2.2 (a5.2.2 h)⟩, ⟨by omega, fun g q => ⟨(b7 g q).1.trans (a7 g q).1, (b7 g q).2.trans (a7 g q).2⟩, fun j q => ?_⟩, fun a q1 q2 q3 => (b9 a q1 q2 q3).trans (a9 a q1 q2 q3), fun a j q1 q2 q3 => (b10 a j q1 q2 (by omega)).trans (a10 a j q1 q2 q3), fun i q1 q2 => (b11 i q1 q2).trans (a11 i q1 q2)⟩
  obtain ⟨c1, c2, c3, c4⟩ := a8 j q
  obtain ⟨d1, d2, d3, d4⟩ := b8 j (by omega)
  exact ⟨d1.trans c1, d2.trans c2, d3.trans c3, d4.trans c4⟩
theorem kE.nd {M N : Int} {σ σ' τ τ' : gM} (h : kE M N σ σ' τ τ') {i : Int} (hi : i ≤ M) : nd σ' i = nd σ i := nd_congr fun j _ j1 => by rw [h.2.1 70 j (by decide) (by decide) (by omega)]
/-- a token was read -/
theorem kE.rd {M N : Int} {σ σ' τ τ' : gM} (h : rdF σ σ' τ τ') (h5 : σ 69 5 ≤ σ' 69 5) : kE M N σ σ' τ τ' := by
  obtain ⟨a1, a2, a3, a4⟩ := h
  have c : ∀ a, a ≠ 69 → ∀ i, σ' a i = σ a i := fun a q i => by rw [a1 a q]
  have d : ∀ a, a ≠ 119 → ∀ i, τ' a i = τ a i := fun a q i => by rw [a3 a q]
  refine ⟨fun a q => a1 a (by omega), fun a i q1 q2 _ => c a (by omega) i, fun i _ => c 68 (by decide) i, fun i q => a2 i (Or.inl q), ⟨by rw [c 68 (by decide)]; exact Int.le_refl _, h5, fun hj j j0 j1 => by rw [a4 43 (by decide) (by decide) (by decide)] at j1; rw [a3 141 (by decide)]; exact hj j j0 j1⟩, ⟨by rw [c 84 (by decide)]; exact Int.le_refl _, fun g _ => ⟨c 84 (by decide) g, d 152 (by decide) g⟩, fun j _ => ⟨c 85 (by decide) j, c 86 (by decide) j, d 153 (by decide) j, d 154 (by decide) j⟩⟩, fun a q _ _ => a3 a q, fun a j q1 q2 _ => d a (by omega) j, fun i q1 q2 => a4 i (by omega) (by omega) (by omega)⟩
section KW
variable {M N : Int} {σ σ' τ τ' : gM}
/-- a node from M on is written to -/
theorem kE.w (h : kE M N σ σ' τ τ') {a i v : Int} (ha : 70 ≤ a ∧ a ≤ 78) (hi : M ≤ i) : kE M N σ (gW σ' a i v) τ τ' := by
  obtain ⟨a1, a2, a3, a4, a5, a6, a9, a10, a11⟩ := h
  refine ⟨fun b q => by rw [gW_cell (by omega)]; exact a1 b q, fun b j q1 q2 q3 => ?_, fun j q => by rw [gW_c (by omega)]; exact a3 j q, fun j q => by rw [gW_c (by omega)]; exact a4 j q, by rw [gW_c (by omega), gW_c (by omega)]; exact a5, by rw [gW_cell (b := 84) (by omega), gW_cell (b := 85) (by omega), gW_cell (b := 86) (by omega)]; exact a6, a9, a10, a11⟩
  by_cases e : b = a
  · subst e
    rw [gW_i (by omega)]; exact a2 b j q1 q2 q3
  · rw [gW_c e]; exact a2 b j q1 q2 q3
theorem kE.v (h : kE M N σ σ' τ τ') {a i v : Int} (ha : (135 ≤ a ∧ a ≤ 145) ∧ a ≠ 137 ∧ a ≠ 144) (hi : N ≤ i) (hv : a = 141 → -1 ≤ v ∧ v < 4004 := by exact fun h => absurd h (by decide)) : kE M N σ σ' τ (gW τ' a i v) := by
  obtain ⟨a1, a2, a3, a4, a5, ⟨a6, a7, a8⟩, a9, a10, a11⟩ := h
  have jv : jK τ (gW τ' a i v) := fun hj j j0 j1 => by
    rw [gW_c (by omega)] at j1
    by_cases e : a = 141
    · subst e
      by_cases e : j = i
      · rw [e, gW_at]; exact hv rfl
      · rw [gW_i e]; exact a5.2.2 hj j j0 j1
    · rw [gW_c (by omega)]; exact a5.2.2 hj j j0 j1
  refine ⟨a1, a2, a3, a4, ⟨a5.1, a5.2.1, jv⟩, ⟨a6, fun g q => ⟨(a7 g q).1, by rw [gW_c (by omega)]; exact (a7 g q).2⟩, fun j q => ?_⟩, fun b q1 q2 q3 => by rw [gW_cell (by omega)]; exact a9 b q1 q2 q3, fun b j q1 q2 q3 => ?_, fun j q1 q2 => by rw [gW_c (by omega)]; exact a11 j q1 q2⟩
  · rw [gW_c (by omega), gW_c (by omega)]; exact a8 j q
  · by_cases e : b = a
    · subst e
      rw [gW_i (by omega)]; exact a10 b j q1 q2 q3
    · rw [gW_c e]; exact a10 b j q1 q2 q3
/-- how many are open, in how many whiles -/
theorem kE.o (h : kE M N σ σ' τ τ') {i v : Int} (hi : i = 21 ∨ i = 22) : kE M N σ (gW σ' 68 i v) τ τ' := by
  obtain ⟨a1, a2, a3, a4, a5, a6, a9, a10, a11⟩ := h
  refine ⟨fun b q => by rw [gW_cell (by omega)]; exact a1 b q, fun b j q1 q2 q3 => by rw [gW_c (by omega)]; exact a2 b j q1 q2 q3, fun j q => by rw [gW_i (by omega)]; exact a3 j q, fun j q => by rw [gW_c (by omega)]; exact a4 j q, by rw [gW_i (by omega), gW_c (by omega)]; exact a5, by rw [gW_cell (b := 84) (by omega), gW_cell (b := 85) (by omega), gW_cell (b := 86) (by omega)]; exact a6, a9, a10, a11⟩
theorem kE.u (h : kE M N σ σ' τ τ') {i v : Int} (hi : i = 28 ∨ i = 29) : kE M N σ σ' τ (gW τ' 119 i v) := by
  obtain ⟨a1, a2, a3, a4, a5, ⟨a6, a7, a8⟩, a9, a10, a11⟩ := h
  exact ⟨a1, a2, a3, a4, ⟨a5.1, a5.2.1, fun hj j j0 j1 => by rw [gW_i (by omega)] at j1; rw [gW_c (by omega)]; exact a5.2.2 hj j j0 j1⟩, ⟨a6, fun g q => by rw [gW_c (by omega)]; exact a7 g q, fun j q => by rw [gW_c (by omega), gW_c (by omega)]; exact a8 j q⟩, fun b q1 q2 q3 => by rw [gW_cell (by omega)]; exact a9 b q1 q2 q3, fun b j q1 q2 q3 => by rw [gW_c (by omega)]; exact a10 b j q1 q2 q3, fun j q1 q2 => by rw [gW_i (by omega)]; exact a11 j q1 q2⟩
end KW
section RNs
variable {σ τ σ' τ' : gM} {r f : Int}
theorem tE.mv {p n q m : Int} (h : τ' 134 = τ 134) : tE τ' p n q m ↔ tE τ p n q m := by unfold tE; rw [h]
theorem isLoc.kE {M N l p e : Int} (k : kE M N σ σ' τ τ') (hf : f = σ 68 19 - 1) (h : isLoc σ τ f l p e) : isLoc σ' τ' f l p e := by
  obtain ⟨a1, a2, a3, a4, a5, ⟨a6, a7, a8⟩, a9, a10, a11⟩ := k
  subst hf
  obtain ⟨h1, h2, h3⟩ := h
  have e2 := a4 2 (by decide)
  obtain ⟨c1, c2, -⟩ := a8 (12 * (σ 68 19 - 1) + l) (by omega)
  refine ⟨by omega, ?_, by omega⟩
  rw [c1, c2, tE.mv (a9 134 (by decide) (by decide) (by decide))]
  exact h2
theorem nh_kE {M N x : Int} (k : kE M N σ σ' τ τ') (hx : x ≤ M) : nh σ' x = nh σ x := by unfold nh; rw [k.nd hx]
theorem ps_kE {M N x : Int} (k : kE M N σ σ' τ τ') (hx : x < M) (h2 : σ 70 x = 30 → σ 72 x ≤ M) : ps σ' x = ps σ x := by
  unfold ps
  rw [k.2.1 70 x (by decide) (by decide) hx, k.2.1 72 x (by decide) (by decide) hx, k.nd (Int.le_of_lt hx)]
  by_cases q : σ 70 x = 30
  · rw [if_pos q, if_pos q, k.nd (h2 q)]
  · rw [if_neg q, if_neg q]
theorem ph_kE {M N x : Int} (k : kE M N σ σ' τ τ') (hx : x < M) (h2 : σ 70 x = 30 → σ 72 x ≤ M) : ph σ' x = ph σ x := by
  unfold ph
  by_cases q : x < 0
  · rw [if_pos q, if_pos q]
  · rw [if_neg q, if_neg q, ps_kE k hx h2]
theorem RN.kE {M N b i : Int} (k : kE M N σ σ' τ τ') (hf : f = σ 68 19 - 1) (i0 : 0 ≤ i) (ib : i < b) (hb : b ≤ M) (hN : nd σ b ≤ N) (k30 : σ 70 i ≠ 30) (dz : ∀ x, i < x → x < b → σ 70 x = 30 → σ 72 x ≤ M) (h : RN σ τ r f b i) : RN σ' τ' r f b i := by
  have hlt := nd_lt (σ := σ) i0 ib k30
  have e : ∀ a, 70 ≤ a → a ≤ 78 → σ' a i = σ a i := fun a q1 q2 => k.2.1 a i q1 q2 (by omega)
  have t : ∀ a, 135 ≤ a → a ≤ 145 → τ' a (nd σ i) = τ a (nd σ i) := fun a q1 q2 => k.2.2.2.2.2.2.2.1 a _ q1 q2 (by omega)
  have t134 : τ' 134 = τ 134 := k.2.2.2.2.2.2.1 134 (by decide) (by decide) (by decide)
  have s2 := k.2.2.2.1 2 (by decide)
  obtain ⟨h1, h2, h3, h4, h5, h6, h7, h8, h9⟩ := h
  unfold RN
  rw [k.nd (by omega), e 70 (by decide) (by decide), e 71 (by decide) (by decide), e 72 (by decide) (by decide), e 73 (by decide) (by decide), e 74 (by decide) (by decide), e 76 (by decide) (by decide), e 77 (by decide) (by decide), t 135 (by decide) (by decide), t 136 (by decide) (by decide), t 138 (by decide) (by decide), t 139 (by decide) (by decide), t 140 (by decide) (by decide), t 142 (by decide) (by decide), t 143 (by decide) (by decide), t134, s2, nh_kE k (x := σ 72 i) (by omega), nh_kE k (x := σ 73 i) (by omega), nh_kE k (x := σ 74 i) (by omega)]
  refine ⟨h1, h2, h3, h4, fun q => ?_, ?_, h7, h8, fun q => (h9 q).kE k hf⟩
  · rw [h5 q]
    by_cases c : σ 70 i = 24 ∨ σ 70 i = 25
    · rw [if_pos c, if_pos c]
      by_cases z : σ 73 i < 0
      · unfold ph; rw [if_pos z, if_pos z]
      · rw [ph_kE k (by omega) (dz _ (by have := h3.2.2.2.2.2.2 c; omega) (by omega))]
    · rw [if_neg c, if_neg c]
  · rw [h6]
    by_cases c : σ 70 i = 6
    · rw [if_pos c, if_pos c]
    · rw [if_neg c, if_neg c]
      by_cases c : σ 70 i = 24
      · rw [if_pos c, if_pos c]
        by_cases z : σ 74 i < 0
        · unfold ph; rw [if_pos z, if_pos z]
        · rw [ph_kE k (by omega) (dz _ (by have := h3.2.2.2.2.2.2 (Or.inl c); omega) (by omega))]
      · rw [if_neg c, if_neg c]
theorem NB.kE {M N a b : Int} (k : kE M N σ σ' τ τ') (hf : f = σ 68 19 - 1) (a0 : 0 ≤ a) (hb : b ≤ M) (hN : nd σ b ≤ N) (h : NB σ τ r f a b) : NB σ' τ' r f a b := fun i i0 i1 => by
  have e70 := k.2.1 70 i (by decide) (by decide) (by omega)
  have e72 := k.2.1 72 i (by decide) (by decide) (by omega)
  rw [e70, e72]
  exact ⟨fun q => ((h i i0 i1).1 q).kE k hf (by omega) i1 hb hN q (fun x x0 x1 x2 => by have := (h x (by omega) x1).2 x2; omega), (h i i0 i1).2⟩
/-- a node stays where its rows stay -/
theorem RN.fr {b i : Int} (h : RN σ τ r f b i) (i0 : 0 ≤ i) (i1 : i < b) (e : ∀ x, 70 ≤ x → x ≤ 77 → x ≠ 75 → σ' x i = σ x i) (f3 : ∀ x, 0 ≤ x → x ≤ b → nd σ' x = nd σ x) (pe : ∀ x, i < x → x < b → ps σ' x = ps σ x) (t' : ∀ x, 135 ≤ x → x ≤ 143 → x ≠ 141 → τ' x (nd σ i) = τ x (nd σ i)) (t134 : τ' 134 = τ 134) (s2 : σ' 69 2 = σ 69 2) (lc : ∀ l p e, isLoc σ τ f l p e → isLoc σ' τ' f l p e) : RN σ' τ' r f b i := by
  obtain ⟨h1, h2, h3, h4, h5, h6, h7, h8, h9⟩ := h
  have nhe : ∀ x, x < b → nh σ' x = nh σ x := fun x q => by
    unfold nh
    by_cases z : x < 0
    · rw [if_pos z, if_pos z]
    · rw [if_neg z, if_neg z, f3 x (by omega) (by omega)]
  have phe : ∀ x, x = -1 ∨ i < x → x < b → ph σ' x = ph σ x := fun x q1 q2 => by
    unfold ph
    by_cases z : x < 0
    · rw [if_pos z, if_pos z]
    · rw [if_neg z, if_neg z, pe x (by omega) q2]
  unfold RN
  rw [f3 i (by omega) (by omega), e 70 (by decide) (by decide) (by decide), e 71 (by decide) (by decide) (by decide), e 72 (by decide) (by decide) (by decide), e 73 (by decide) (by decide) (by decide), e 74 (by decide) (by decide) (by decide), e 76 (by decide) (by decide) (by decide), e 77 (by decide) (by decide) (by decide), t' 135 (by decide) (by decide) (by decide), t' 136 (by decide) (by decide) (by decide), t' 138 (by decide) (by decide) (by decide), t' 139 (by decide) (by decide) (by decide), t' 140 (by decide) (by decide) (by decide), t' 142 (by decide) (by decide) (by decide), t' 143 (by decide) (by decide) (by decide), t134, s2, nhe (σ 72 i) (by omega), nhe (σ 73 i) (by omega), nhe (σ 74 i) (by omega)]
  refine ⟨h1, h2, h3, h4, fun q => ?_, ?_, h7, h8, fun q => lc _ _ _ (h9 q)⟩
  · rw [h5 q]
    by_cases c : σ 70 i = 24 ∨ σ 70 i = 25
    · rw [if_pos c, if_pos c, phe _ (by have := h3.2.2.2.2.2.2 c; omega) (by omega)]
    · rw [if_neg c, if_neg c]
  · rw [h6]
    by_cases c : σ 70 i = 6
    · rw [if_pos c, if_pos c]
    · rw [if_neg c, if_neg c]
      by_cases c : σ 70 i = 24
      · rw [if_pos c, if_pos c, phe _ (by have := h3.2.2.2.2.2.2 (Or.inl c); omega) (by omega)]
      · rw [if_neg c, if_neg c]
/-- nodes stay where their rows stay -/
theorem NB.fr {a b : Int} (h : NB σ τ r f a b) (a0 : 0 ≤ a) (f1 : ∀ e i, 70 ≤ e → e ≤ 77 → e ≠ 75 → a ≤ i → i < b → σ' e i = σ e i) (f3 : ∀ i, 0 ≤ i → i ≤ b → nd σ' i = nd σ i) (t : ∀ e j, 135 ≤ e → e ≤ 143 → e ≠ 141 → nd σ a ≤ j → j < nd σ b → τ' e j = τ e j) (t134 : τ' 134 = τ 134) (s2 : σ' 69 2 = σ 69 2) (lc : ∀ l p e, isLoc σ τ f l p e → isLoc σ' τ' f l p e) : NB σ' τ' r f a b := fun i i0 i1 => by
  have e : ∀ x, 70 ≤ x → x ≤ 77 → x ≠ 75 → σ' x i = σ x i := fun x q1 q2 q3 => f1 x i q1 q2 q3 i0 i1
  rw [e 70 (by decide) (by decide) (by decide), e 72 (by decide) (by decide) (by decide)]
  refine ⟨fun k30 => ?_, (h i i0 i1).2⟩
  have lo := nd_r (σ := σ) (i := a) (j := i) a0 i0
  have hlt := nd_lt (σ := σ) (i := i) (j := b) (by omega) i1 k30
  refine ((h i i0 i1).1 k30).fr (by omega) i1 e f3 (fun x q1 q2 => ?_) (fun x q1 q2 q3 => t x _ q1 q2 q3 (by omega) (by omega)) t134 s2 lc
  unfold ps
  rw [f1 70 x (by decide) (by decide) (by decide) (by omega) q2, f1 72 x (by decide) (by decide) (by decide) (by omega) q2, f3 x (by omega) (by omega)]
  by_cases w : σ 70 x = 30
  · have := (h x (by omega) q2).2 w
    rw [if_pos w, if_pos w, f3 _ (by omega) (by omega)]
  · rw [if_neg w, if_neg w]
/-- wider bounds -/
theorem RN.le {b b' i : Int} (h : RN σ τ r f b i) (hb : b ≤ b') : RN σ τ r f b' i := by
  obtain ⟨h1, h2, ⟨a1, a2, a3, a4, a5, a6, a7⟩, h4⟩ := h
  exact ⟨h1, h2, ⟨a1, by omega, a3, by omega, a5, by omega, a7⟩, h4⟩
theorem NB.cat {a n b : Int} (h : NB σ τ r f a n) (h2 : NB σ τ r f n b) (hn : n ≤ b) : NB σ τ r f a b := fun i i0 i1 => by
  by_cases q : i < n
  · exact ⟨fun w => ((h i i0 q).1 w).le hn, fun w => by have := (h i i0 q).2 w; omega⟩
  · exact h2 i (by omega) i1
theorem NB.nil {a : Int} : NB σ τ r f a a := fun i i0 i1 => by omega
theorem NB.one {n b : Int} (k30 : σ 70 n ≠ 30) (h : RN σ τ r f b n) (h2 : NB σ τ r f (n + 1) b) : NB σ τ r f n b := fun i i0 i1 => by
  by_cases q : i = n
  · subst q; exact ⟨fun _ => h, fun w => absurd w k30⟩
  · exact h2 i (by omega) i1
theorem PT_kE {M N : Int} (k : kE M N σ σ' τ τ') {d m : Nat} {a b n c : Int} (a0 : 0 ≤ a) (hb : b ≤ M) (hN : nd σ b ≤ N) (h : PT σ τ d m a b n c) : PT σ' τ' d m a b n c :=
  PT_fr d m a b n c a0 (fun i i0 i1 => ⟨Or.inl (k.2.1 70 i (by decide) (by decide) (by omega)), k.2.1 72 i (by decide) (by decide) (by omega), k.2.1 73 i (by decide) (by decide) (by omega), k.2.1 74 i (by decide) (by decide) (by omega), fun _ => k.2.1 76 i (by decide) (by decide) (by omega)⟩) (fun i i0 i1 _ => k.2.1 75 i (by decide) (by decide) (by omega)) (fun i i0 i1 => k.nd (by omega)) (fun i i0 i1 _ _ => k.2.2.2.2.2.2.2.1 141 i (by decide) (by decide) (by omega)) h
theorem PX.kE {M N : Int} (k : kE M N σ σ' τ τ') {m : Nat} {a b n c : Int} (a0 : 0 ≤ a) (hb : b ≤ M) (hN : nd σ b ≤ N) (h : PX σ τ m a b n c) : PX σ' τ' m a b n c := ⟨h.choose, PT_kE k a0 hb hN h.choose_spec⟩
end RNs
