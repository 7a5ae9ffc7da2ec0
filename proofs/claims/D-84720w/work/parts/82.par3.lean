/-! reading: the token at hand, one node more -/
section TI
variable {σ τ : gM}
theorem ps_good_g (g : σ 69 8 = 0) : ps_good σ = some (σ, 1) := by rw [ps_good_e, if_pos g]
theorem ps_good_b (g : σ 69 8 ≠ 0) : ps_good σ = some (σ, 0) := by rw [ps_good_e, if_neg g]
theorem tk_is_b (g : σ 69 8 ≠ 0) {c : Int} : tk_is σ c = some (σ, 0) := by
  rw [tk_is_e]
  simp only [if_neg g, ite_self]
theorem sG_iff {s t c u : Int} (h : sG s t) (h2 : sG c u) : s = c ↔ t = u := by
  unfold sG at h2
  rcases h2 with h2 | h2 | h2 | h2 | h2 | h2 | h2 | h2 | h2 | h2 | h2 | h2 | h2 | h2 | h2 | h2 | h2 | h2 | h2 | h2 | h2 | h2 | h2 <;> (unfold sG at h; omega)
theorem sG_30 {s t : Int} (h : sG s t) : 30 ≤ t ∧ t ≤ 52 := by unfold sG at h; omega
/-- which kind a token is of -/
theorem tKk.k (h : tKk σ τ) : (σ 69 4 = 4 ∧ sG (σ 69 7) (τ 119 25) ∧ 30 ≤ τ 119 25 ∧ 1 ≤ σ 69 6) ∨ (σ 69 4 = 5 ∧ 10 ≤ τ 119 25 ∧ τ 119 25 ≤ 19 ∧ 1 ≤ σ 69 6) ∨ ((0 ≤ σ 69 4 ∧ σ 69 4 ≤ 3) ∧ τ 119 25 = σ 69 4 ∧ (1 ≤ σ 69 4 → 1 ≤ σ 69 6)) := by
  unfold tKk at h
  rcases h with h | h | h | h | ⟨h1, h2, h3⟩ | h
  · right; right; omega
  · right; right; omega
  · right; right; omega
  · right; right; omega
  · left; exact ⟨h1, h2, (sG_30 h2).1, h3⟩
  · right; left; omega
theorem tk_is_s (h : tKk σ τ) (g : σ 69 8 = 0) {c t : Int} (hc : sG c t) : tk_is σ c = some (σ, if τ 119 25 = t then 1 else 0) := by
  have ht := sG_30 hc
  rw [tk_is_e]
  rcases h.k with ⟨k, hs, -⟩ | k | k
  · rw [if_pos k]
    have i := sG_iff hs hc
    by_cases q : σ 69 7 = c
    · rw [if_pos q, if_pos g, if_pos (i.mp q)]
    · rw [if_neg q, if_neg (mt i.mpr q)]
  · rw [if_neg (by omega), if_neg (by omega)]
  · rw [if_neg (by omega), if_neg (by omega)]
/-- the words that are asked for -/
def wS (x p t : Int) : Prop := (x = 9 ∧ p = 0 ∧ t = 10) ∨ (x = 15 ∧ p = 9 ∧ t = 11) ∨ (x = 16 ∧ p = 12 ∧ t = 12) ∨ (x = 17 ∧ p = 17 ∧ t = 13) ∨ (x = 18 ∧ p = 23 ∧ t = 14) ∨ (x = 19 ∧ p = 30 ∧ t = 15) ∨ (x = 20 ∧ p = 36 ∧ t = 16) ∨ (x = 11 ∧ p = 45 ∧ t = 17) ∨ (x = 12 ∧ p = 50 ∧ t = 18) ∨ (x = 5 ∧ p = 56 ∧ t = 19)
set_option maxRecDepth 1000000 in
theorem ix_9 : st_indexOf_3 σ 13 9 = some (σ, 0) := ((st_indexOf_3_l σ 13 9).2 _).2 ⟨100, (rfl)⟩
set_option maxRecDepth 1000000 in
theorem ix_15 : st_indexOf_3 σ 13 15 = some (σ, 9) := ((st_indexOf_3_l σ 13 15).2 _).2 ⟨100, (rfl)⟩
set_option maxRecDepth 1000000 in
theorem ix_16 : st_indexOf_3 σ 13 16 = some (σ, 12) := ((st_indexOf_3_l σ 13 16).2 _).2 ⟨100, (rfl)⟩
set_option maxRecDepth 1000000 in
theorem ix_17 : st_indexOf_3 σ 13 17 = some (σ, 17) := ((st_indexOf_3_l σ 13 17).2 _).2 ⟨100, (rfl)⟩
set_option maxRecDepth 1000000 in
theorem ix_18 : st_indexOf_3 σ 13 18 = some (σ, 23) := ((st_indexOf_3_l σ 13 18).2 _).2 ⟨150, (rfl)⟩
set_option maxRecDepth 1000000 in
theorem ix_19 : st_indexOf_3 σ 13 19 = some (σ, 30) := ((st_indexOf_3_l σ 13 19).2 _).2 ⟨150, (rfl)⟩
set_option maxRecDepth 1000000 in
theorem ix_20 : st_indexOf_3 σ 13 20 = some (σ, 36) := ((st_indexOf_3_l σ 13 20).2 _).2 ⟨150, (rfl)⟩
set_option maxRecDepth 1000000 in
theorem ix_11 : st_indexOf_3 σ 13 11 = some (σ, 45) := ((st_indexOf_3_l σ 13 11).2 _).2 ⟨200, (rfl)⟩
set_option maxRecDepth 1000000 in
theorem ix_12 : st_indexOf_3 σ 13 12 = some (σ, 50) := ((st_indexOf_3_l σ 13 12).2 _).2 ⟨200, (rfl)⟩
set_option maxRecDepth 1000000 in
theorem ix_5 : st_indexOf_3 σ 13 5 = some (σ, 56) := ((st_indexOf_3_l σ 13 5).2 _).2 ⟨200, (rfl)⟩
theorem ix_s {x p t : Int} (h : wS x p t) : st_indexOf_3 σ 13 x = some (σ, p) := by
  unfold wS at h
  rcases h with ⟨a, b, -⟩ | ⟨a, b, -⟩ | ⟨a, b, -⟩ | ⟨a, b, -⟩ | ⟨a, b, -⟩ | ⟨a, b, -⟩ | ⟨a, b, -⟩ | ⟨a, b, -⟩ | ⟨a, b, -⟩ | ⟨a, b, -⟩ <;> rw [a, b]
  · exact ix_9
  · exact ix_15
  · exact ix_16
  · exact ix_17
  · exact ix_18
  · exact ix_19
  · exact ix_20
  · exact ix_11
  · exact ix_12
  · exact ix_5
theorem tk_isWord_2_s (h : tX σ τ) (k : tK σ τ) (g : σ 69 8 = 0) {x p t : Int} (hx : wS x p t) : tk_isWord_2 σ x = some (σ, if τ 119 25 = t then 1 else 0) := by
  have hx' := hx
  unfold wS at hx'
  obtain ⟨k1, k2⟩ := k
  unfold tKp at k1
  rw [tk_isWord_2_e]
  by_cases q : σ 69 4 = 5
  · rw [if_pos q, tk_word_s h (by omega) (by omega) (by omega)]
    simp only [Option.bind_some]
    rw [ix_s hx]
    simp only [Option.bind_some]
    have ht : τ 119 25 = (wV (lt (τ 134) (σ 69 5) (σ 69 6).toNat)).2 := by
      unfold tKk at k2
      rcases k2 with w | w | w | w | w | ⟨_, _, w, _⟩
      · omega
      · omega
      · omega
      · omega
      · omega
      · exact w
    have r := wV_r (lt (τ 134) (σ 69 5) (σ 69 6).toNat)
    unfold wR at r
    rw [← ht] at r
    by_cases u : τ 119 25 = t
    · rw [if_pos u, if_pos (by omega), if_pos g]
    · rw [if_neg u, if_neg (by omega)]
  · rw [if_neg q]
    have := k2.k
    rw [if_neg (by omega)]
end TI
section MV
variable {σ τ σ' τ' : gM}
theorem tK.mv (h : tK σ τ) (c : σ' 69 = σ 69) (d : ∀ i, 24 ≤ i → i ≤ 27 → τ' 119 i = τ 119 i) (e : τ' 134 = τ 134) : tK σ' τ' := by
  unfold tK tKp tKk at *
  rw [c, d 24 (by decide) (by decide), d 25 (by decide) (by decide), d 26 (by decide) (by decide), d 27 (by decide) (by decide), e]
  exact h
theorem pL.mv {f : Int} (h : pL σ τ f) (c84 : σ' 84 = σ 84) (c85 : σ' 85 = σ 85) (c86 : σ' 86 = σ 86) (c2 : σ' 69 2 = σ 69 2) (d152 : τ' 152 = τ 152) (d153 : τ' 153 = τ 153) (d154 : τ' 154 = τ 154) (e : τ' 134 = τ 134) : pL σ' τ' f := by
  unfold pL tE at *
  rw [c84, c85, c86, c2, d152, d153, d154, e]
  exact h
theorem pG.mv {z z' : Int} (h : pG z σ τ) (c69 : σ' 69 = σ 69) (c1 : σ' 1 = σ 1) (c118 : σ' 118 = σ 118) (c84 : σ' 84 = σ 84) (c85 : σ' 85 = σ 85) (c86 : σ' 86 = σ 86) (m : 0 ≤ σ' 68 10 ∧ σ' 68 10 ≤ σ 69 5 + z') (n : τ' 119 43 = nd σ' (σ' 68 10)) (o20 : 0 ≤ σ' 68 20 ∧ σ' 68 20 ≤ 300 ∧ σ' 68 20 = τ' 119 43 - τ' 119 44) (o21 : 0 ≤ σ' 68 21 ∧ σ' 68 21 ≤ 20 ∧ τ' 119 28 = σ' 68 21) (o22 : 0 ≤ σ' 68 22 ∧ σ' 68 22 ≤ σ 69 5 ∧ τ' 119 29 = σ' 68 22) (c19 : σ' 68 19 = σ 68 19)
    (d : ∀ i, 23 ≤ i → i ≤ 27 → τ' 119 i = τ 119 i) (d54 : τ' 119 54 = τ 119 54) (d134 : τ' 134 = τ 134) (d152 : τ' 152 = τ 152) (d153 : τ' 153 = τ 153) (d154 : τ' 154 = τ 154) : pG z' σ' τ' := by
  obtain ⟨h1, h2, h3, h4, h5, h6, h7, h8, h9, h10⟩ := h
  refine ⟨h1.mv (by rw [c69]) (by rw [c69]) (by rw [c69]) c1 c118 (d 23 (by decide) (by decide)) d134, h2.mv c69 (fun i q1 q2 => d i (by omega) q2) d134, by rw [c69]; exact h3, by rw [c69]; exact m, n, o20, o21, by rw [c69]; exact o22, by rw [c19, d54]; exact h9, ?_⟩
  rw [c19]
  exact h10.mv c84 c85 c86 (by rw [c69]) d152 d153 d154 d134
/-- a field of a node that is not its kind -/
theorem pG.w {z a i v : Int} (h : pG z σ τ) (ha : 71 ≤ a ∧ a ≤ 78) : pG z (gW σ a i v) τ := by
  have c : ∀ b, b ≠ a → gW σ a i v b = σ b := fun b q => gW_cell q
  have e70 : ∀ j, nd (gW σ a i v) j = nd σ j := fun j => nd_congr fun k _ _ => by rw [c 70 (by omega)]
  obtain ⟨h1, h2, h3, h4, h5, h6, h7, h8, h9, h10⟩ := h
  refine pG.mv (z := z) ⟨h1, h2, h3, h4, h5, h6, h7, h8, h9, h10⟩ (c 69 (by omega)) (c 1 (by omega)) (c 118 (by omega)) (c 84 (by omega)) (c 85 (by omega)) (c 86 (by omega)) (by rw [c 68 (by omega)]; exact h4) (by rw [c 68 (by omega), e70]; exact h5) (by rw [c 68 (by omega)]; exact h6) (by rw [c 68 (by omega)]; exact h7) (by rw [c 68 (by omega)]; exact h8) (by rw [c 68 (by omega)]) (fun _ _ _ => rfl) rfl rfl rfl rfl rfl
/-- its kind -/
theorem pG.k {z i v : Int} (h : pG z σ τ) (hv : v ≠ 30) (hi : σ 70 i ≠ 30) : pG z (gW σ 70 i v) τ := by
  have c : ∀ b, b ≠ 70 → gW σ 70 i v b = σ b := fun b q => gW_cell q
  have e70 : ∀ j, nd (gW σ 70 i v) j = nd σ j := fun j => nd_congr fun k _ _ => by
    by_cases q : k = i
    · subst q; rw [gW_at]; omega
    · rw [gW_i q]
  obtain ⟨h1, h2, h3, h4, h5, h6, h7, h8, h9, h10⟩ := h
  refine pG.mv (z := z) ⟨h1, h2, h3, h4, h5, h6, h7, h8, h9, h10⟩ (c 69 (by omega)) (c 1 (by omega)) (c 118 (by omega)) (c 84 (by omega)) (c 85 (by omega)) (c 86 (by omega)) (by rw [c 68 (by omega)]; exact h4) (by rw [c 68 (by omega), e70]; exact h5) (by rw [c 68 (by omega)]; exact h6) (by rw [c 68 (by omega)]; exact h7) (by rw [c 68 (by omega)]; exact h8) (by rw [c 68 (by omega)]) (fun _ _ _ => rfl) rfl rfl rfl rfl rfl
theorem pG.v {z a i v : Int} (h : pG z σ τ) (ha : 135 ≤ a ∧ a ≤ 145) : pG z σ (gW τ a i v) := by
  have c : ∀ b, b ≠ a → gW τ a i v b = τ b := fun b q => gW_cell q
  obtain ⟨h1, h2, h3, h4, h5, h6, h7, h8, h9, h10⟩ := h
  have c119 := c 119 (by omega)
  exact pG.mv (z := z) ⟨h1, h2, h3, h4, h5, h6, h7, h8, h9, h10⟩ rfl rfl rfl rfl rfl rfl h4 (by rw [c119]; exact h5) (by rw [c119]; exact h6) (by rw [c119]; exact h7) (by rw [c119]; exact h8) rfl (fun _ _ _ => by rw [c119]) (by rw [c119]) (c 134 (by omega)) (c 152 (by omega)) (c 153 (by omega)) (c 154 (by omega))
/-- how many are open, in how many whiles -/
theorem pG.o {z v : Int} (h : pG z σ τ) (hv : 0 ≤ v ∧ v ≤ 20) : pG z (gW σ 68 21 v) (gW τ 119 28 v) := by
  have e70 : ∀ j, nd (gW σ 68 21 v) j = nd σ j := fun j => nd_congr fun k _ _ => by rw [gW_c (by decide)]
  obtain ⟨h1, h2, h3, h4, h5, h6, h7, h8, h9, h10⟩ := h
  exact pG.mv (z := z) ⟨h1, h2, h3, h4, h5, h6, h7, h8, h9, h10⟩ (gW_cell (by decide)) (gW_cell (by decide)) (gW_cell (by decide)) (gW_cell (by decide)) (gW_cell (by decide)) (gW_cell (by decide)) (by rw [gW_i (by decide)]; exact h4) (by rw [gW_i (by decide), gW_i (by decide), e70]; exact h5) (by rw [gW_i (by decide), gW_i (by decide), gW_i (by decide)]; exact h6) (by rw [gW_at, gW_at]; omega) (by rw [gW_i (by decide), gW_i (by decide)]; exact h8) (gW_i (by decide)) (fun i q1 q2 => gW_i (by omega)) (gW_i (by decide)) (gW_cell (by decide)) (gW_cell (by decide)) (gW_cell (by decide)) (gW_cell (by decide))
theorem pG.u {z v : Int} (h : pG z σ τ) (hv : 0 ≤ v ∧ v ≤ σ 69 5) : pG z (gW σ 68 22 v) (gW τ 119 29 v) := by
  have e70 : ∀ j, nd (gW σ 68 22 v) j = nd σ j := fun j => nd_congr fun k _ _ => by rw [gW_c (by decide)]
  obtain ⟨h1, h2, h3, h4, h5, h6, h7, h8, h9, h10⟩ := h
  exact pG.mv (z := z) ⟨h1, h2, h3, h4, h5, h6, h7, h8, h9, h10⟩ (gW_cell (by decide)) (gW_cell (by decide)) (gW_cell (by decide)) (gW_cell (by decide)) (gW_cell (by decide)) (gW_cell (by decide)) (by rw [gW_i (by decide)]; exact h4) (by rw [gW_i (by decide), gW_i (by decide), e70]; exact h5) (by rw [gW_i (by decide), gW_i (by decide), gW_i (by decide)]; exact h6) (by rw [gW_i (by decide), gW_i (by decide)]; exact h7) (by rw [gW_at, gW_at]; omega) (gW_i (by decide)) (fun i q1 q2 => gW_i (by omega)) (gW_i (by decide)) (gW_cell (by decide)) (gW_cell (by decide)) (gW_cell (by decide)) (gW_cell (by decide))
/-- one token more -/
theorem rd_p {z : Int} (G : pG z σ τ) (h4 : τ 119 25 ≠ 0) : (∃ σ' τ', tk_read σ = some (σ', 0) ∧ md_take τ = some (τ', some 0) ∧ pG (z - 1) σ' τ' ∧ rdF σ σ' τ τ' ∧ σ 69 5 < σ' 69 5) ∨ (∃ σ' τ', tk_read σ = some (σ', 0) ∧ md_take τ = some (τ', none) ∧ bd (σ 68 10) σ' τ' ∧ rdF σ σ' τ τ') := by
  obtain ⟨h1, ⟨k1, k2⟩, h3, h4', h5, h6, h7, h8, h9, h10⟩ := G
  unfold tKp at k1
  have kk := k2.k
  have s6 : 1 ≤ σ 69 6 := by omega
  obtain ⟨a, ha, S', T', e, F, r⟩ := read_s h1 h3 (by omega) (by omega) (by omega)
  have c68 := F.1 68 (by decide)
  rcases r with ⟨r1, r2, r3, r4, r5⟩ | ⟨r1, r2, r3, r4⟩
  · left
    refine ⟨S', T', e, r1, ⟨F.tx h1, r2, r3, by rw [c68]; omega, ?_, ?_, ?_, ?_, ?_, ?_⟩, F, by omega⟩
    · rw [c68, F.2.2.2 43 (by omega) (by decide) (by decide), h5]
      exact (nd_congr fun j _ _ => by rw [F.1 70 (by decide)]).symm
    · rw [c68, F.2.2.2 43 (by omega) (by decide) (by decide), F.2.2.2 44 (by omega) (by decide) (by decide)]; exact h6
    · rw [c68, F.2.2.2 28 (by omega) (by decide) (by decide)]; exact h7
    · rw [c68, F.2.2.2 29 (by omega) (by decide) (by decide)]; omega
    · rw [c68, F.2.2.2 54 (by omega) (by decide) (by decide)]; exact h9
    · rw [c68]
      exact h10.mv (F.1 84 (by decide)) (F.1 85 (by decide)) (F.1 86 (by decide)) (F.2.1 2 (by omega)) (F.2.2.1 152 (by decide)) (F.2.2.1 153 (by decide)) (F.2.2.1 154 (by decide)) (F.2.2.1 134 (by decide))
  · right
    exact ⟨S', T', e, r1, ⟨by omega, by omega, r4, by rw [c68]; omega, by rw [c68]; omega⟩, F⟩
end MV
/-! one node more -/
def bK (σ : gM) (K : Int) : gM := gW (gW (gW (gW (gW (gW (gW (gW (gW (gW σ 68 10 (σ 68 10 + 1)) 70 (σ 68 10) K) 71 (σ 68 10) (σ 69 5)) 72 (σ 68 10) (-1)) 73 (σ 68 10) (-1)) 74 (σ 68 10) (-1)) 75 (σ 68 10) (-1)) 76 (σ 68 10) (-1)) 77 (σ 68 10) 0) 78 (σ 68 10) 0
def nC (σ : gM) (K : Int) : gM := bK (gW σ 68 20 (σ 68 20 + 1)) K
def nM (τ : gM) (K : Int) : gM := gW (gW (gW (gW (gW (gW (gW (gW (gW (gW τ 135 (τ 119 43) K) 136 (τ 119 43) (τ 119 26)) 142 (τ 119 43) (τ 119 26)) 143 (τ 119 43) (τ 119 27)) 138 (τ 119 43) (-1)) 139 (τ 119 43) (-1)) 140 (τ 119 43) (-1)) 141 (τ 119 43) (-1)) 145 (τ 119 43) 0) 119 43 (τ 119 43 + 1)
section BK
variable {σ τ : gM} {K : Int}
theorem bK_o {a i : Int} (h : (a < 70 ∨ 78 < a) ∨ i ≠ σ 68 10) (h2 : a ≠ 68 ∨ i ≠ 10) : bK σ K a i = σ a i := by
  simp only [bK, gW]
  rw [if_neg (by omega), if_neg (by omega), if_neg (by omega), if_neg (by omega), if_neg (by omega), if_neg (by omega), if_neg (by omega), if_neg (by omega), if_neg (by omega), if_neg (by omega)]
theorem bK_n : bK σ K 68 10 = σ 68 10 + 1 ∧ bK σ K 70 (σ 68 10) = K ∧ bK σ K 71 (σ 68 10) = σ 69 5 ∧ bK σ K 72 (σ 68 10) = -1 ∧ bK σ K 73 (σ 68 10) = -1 ∧ bK σ K 74 (σ 68 10) = -1 ∧ bK σ K 75 (σ 68 10) = -1 ∧ bK σ K 76 (σ 68 10) = -1 ∧ bK σ K 77 (σ 68 10) = 0 ∧ bK σ K 78 (σ 68 10) = 0 := by
  simp [bK, gW]
theorem nC_o {a i : Int} (h : (a < 70 ∨ 78 < a) ∨ i ≠ σ 68 10) (h2 : a ≠ 68 ∨ (i ≠ 10 ∧ i ≠ 20)) : nC σ K a i = σ a i := by
  unfold nC
  rw [bK_o (by rw [gW_i (by decide)]; exact h) (by omega)]
  unfold gW
  rw [if_neg (by omega)]
theorem nC_n : nC σ K 68 10 = σ 68 10 + 1 ∧ nC σ K 68 20 = σ 68 20 + 1 ∧ nC σ K 70 (σ 68 10) = K ∧ nC σ K 71 (σ 68 10) = σ 69 5 ∧ nC σ K 72 (σ 68 10) = -1 ∧ nC σ K 73 (σ 68 10) = -1 ∧ nC σ K 74 (σ 68 10) = -1 ∧ nC σ K 75 (σ 68 10) = -1 ∧ nC σ K 76 (σ 68 10) = -1 ∧ nC σ K 77 (σ 68 10) = 0 ∧ nC σ K 78 (σ 68 10) = 0 := by
  simp [nC, bK, gW]
theorem nM_o {a i : Int} (h : (a < 135 ∨ 145 < a ∨ a = 137 ∨ a = 144) ∨ i ≠ τ 119 43) (h2 : a ≠ 119 ∨ i ≠ 43) : nM τ K a i = τ a i := by
  simp only [nM, gW]
  rw [if_neg (by omega), if_neg (by omega), if_neg (by omega), if_neg (by omega), if_neg (by omega), if_neg (by omega), if_neg (by omega), if_neg (by omega), if_neg (by omega), if_neg (by omega)]
theorem nM_n : nM τ K 119 43 = τ 119 43 + 1 ∧ nM τ K 135 (τ 119 43) = K ∧ nM τ K 136 (τ 119 43) = τ 119 26 ∧ nM τ K 138 (τ 119 43) = -1 ∧ nM τ K 139 (τ 119 43) = -1 ∧ nM τ K 140 (τ 119 43) = -1 ∧ nM τ K 141 (τ 119 43) = -1 ∧ nM τ K 142 (τ 119 43) = τ 119 26 ∧ nM τ K 143 (τ 119 43) = τ 119 27 ∧ nM τ K 145 (τ 119 43) = 0 := by
  simp [nM, gW]
theorem nM_28 {v : Int} : nM (gW τ 119 28 v) K = gW (nM τ K) 119 28 v := by
  funext b j
  by_cases h : b = 119
  · subst h
    by_cases h1 : j = 43
    · subst h1; simp [nM, gW]
    · by_cases h2 : j = 28
      · subst h2; simp [nM, gW]
      · rw [nM_o (by omega) (by omega), gW_i h2, gW_i h2, nM_o (by omega) (by omega)]
  · rw [gW_c h]
    by_cases h3 : j = τ 119 43
    · subst h3; simp [nM, gW, h]
    · rw [nM_o (Or.inr (by rw [gW_i (by decide)]; exact h3)) (Or.inl h), nM_o (Or.inr h3) (Or.inl h), gW_c h]
theorem ps_blank_s (h : 0 ≤ σ 68 10 ∧ σ 68 10 < 4200) : ps_blank σ (σ 68 10) K = some (bK σ K, σ 68 10) := by
  rw [ps_blank_e]
  simp only [h, and_self, if_true]
  rw [w32_e (by omega) (by omega)]
  rfl
theorem ps_node_g (h : 0 ≤ σ 68 10 ∧ σ 68 10 < 4200) (h2 : 0 ≤ σ 68 20 ∧ σ 68 20 < 300) : ps_node σ K = some (nC σ K, σ 68 10) := by
  rw [ps_node_e, if_neg (by omega), ps_node_b31_e, w32_e (by omega) (by omega)]
  have e : gW σ 68 20 (σ 68 20 + 1) 68 10 = σ 68 10 := gW_i (by decide)
  have := ps_blank_s (σ := gW σ 68 20 (σ 68 20 + 1)) (K := K) (by rw [e]; exact h)
  rw [e] at this
  rw [this]
  rfl
/-- a node where there is a fault -/
theorem ps_node_b {k : Int} (b : bd k σ τ) (hk : k < 4200) : ∃ σ', ps_node σ K = some (σ', σ 68 10) ∧ bd (k + 1) σ' τ ∧ (0 ≤ σ 68 10 ∧ σ 68 10 < 4200) := by
  obtain ⟨b1, b2, b3, b4, b5⟩ := b
  have e : ∀ v, gW σ 68 20 v 68 10 = σ 68 10 := fun v => gW_i (by decide)
  refine ⟨bK (gW σ 68 20 (w32 (σ 68 20 + 1))) K, ?_, ?_, by omega⟩
  · rw [ps_node_e, tk_fails_b b1]
    simp only [Option.bind_some, ite_self, ps_node_b31_e]
    have := ps_blank_s (σ := gW σ 68 20 (w32 (σ 68 20 + 1))) (K := K) (by rw [e]; omega)
    rw [e] at this
    rw [this]
    rfl
  · refine ⟨?_, ?_, ?_, ?_, ?_⟩
    · rw [bK_o (by omega) (by omega), gW_c (by decide)]; exact b1
    · rw [bK_o (by omega) (by omega), gW_c (by decide)]; exact b2
    · rw [bK_o (by omega) (by omega), gW_c (by decide)]; exact b3
    · rw [bK_n.1, e]; omega
    · rw [bK_n.1, e]; omega
theorem md_newNode_g (h : 0 ≤ τ 119 43 ∧ τ 119 43 < 4004) (h2 : τ 119 43 - τ 119 44 ≠ 300) (h3 : -1000 ≤ τ 119 44 ∧ τ 119 44 ≤ 5000) : md_newNode τ K = some (nM τ K, some (τ 119 43)) := by
  rw [md_newNode_e, w32_e (x := τ 119 43 - τ 119 44) (by omega) (by omega), if_neg h2]
  simp only [h, and_self, if_true]
  rw [w32_e (by omega) (by omega)]
  rfl
/-- too many nodes -/
theorem ps_node_x (h3 : σ 69 8 = 0) (h : σ 68 20 = 300) (hm : 0 ≤ σ 68 10 ∧ σ 68 10 < 4200) : ∃ σ', ps_node σ K = some (σ', σ 68 10) ∧ σ' 69 8 = 4 ∧ σ' 69 9 = σ 69 5 ∧ σ' 68 10 = σ 68 10 + 1 ∧ σ' 72 (σ 68 10) = -1 := by
  have e : ∀ v, gW (gW (gW σ 69 8 4) 69 9 (σ 69 5)) 68 20 v 68 10 = σ 68 10 := fun v => by rw [gW_i (by decide), gW_c (by decide), gW_c (by decide)]
  refine ⟨bK (gW (gW (gW σ 69 8 4) 69 9 (σ 69 5)) 68 20 (w32 (gW (gW σ 69 8 4) 69 9 (σ 69 5) 68 20 + 1))) K, ?_, ?_, ?_, ?_, ?_⟩
  · rw [ps_node_e, if_pos h, tk_fails_g h3]
    simp only [Option.bind_some, ps_node_b31_e]
    have := ps_blank_s (σ := gW (gW (gW σ 69 8 4) 69 9 (σ 69 5)) 68 20 (w32 (gW (gW σ 69 8 4) 69 9 (σ 69 5) 68 20 + 1))) (K := K) (by rw [e]; exact hm)
    rw [e] at this
    rw [this]
    rfl
  · rw [bK_o (by omega) (by omega)]; simp [gW]
  · rw [bK_o (by omega) (by omega)]; simp [gW]
  · rw [bK_n.1, e]
  · have := (bK_n (σ := gW (gW (gW σ 69 8 4) 69 9 (σ 69 5)) 68 20 (w32 (gW (gW σ 69 8 4) 69 9 (σ 69 5) 68 20 + 1))) (K := K)).2.2.2.1
    rw [e] at this
    exact this
theorem md_newNode_x (h : τ 119 43 - τ 119 44 = 300) : md_newNode τ K = some (gW (gW τ 119 30 4) 119 31 (τ 119 26), none) := by
  rw [md_newNode_e, w32_e (x := τ 119 43 - τ 119 44) (by omega) (by omega), if_pos h, md_fails_s]
  simp only [Option.bind_some, gthr_s]
theorem node_x {z : Int} (G : pG z σ τ) (hz : z ≤ 3) (h : σ 68 20 = 300) : ∃ σ' τ', ps_node σ K = some (σ', σ 68 10) ∧ md_newNode τ K = some (τ', none) ∧ bd (σ 68 10 + 1) σ' τ' ∧ (0 ≤ σ 68 10 ∧ σ 68 10 ≤ 4004 ∧ σ' 72 (σ 68 10) = -1) ∧ ∀ v, ∃ τ'', md_newNode (gW τ 119 28 v) K = some (τ'', none) ∧ bd (σ 68 10 + 1) σ' τ'' := by
  obtain ⟨h1, ⟨k1, k2⟩, h3, h4, h5, h6, h7, h8, h9, h10⟩ := G
  unfold tKp at k1
  have hn := h1.2.1
  obtain ⟨σ', e1, e2, e3, e4, e5⟩ := ps_node_x (K := K) h3 h (by omega)
  refine ⟨σ', _, e1, md_newNode_x (by omega), ⟨by omega, by rw [e2]; simp [gW], by rw [e3, k1.1]; simp [gW], by omega, by omega⟩, by omega, fun v => ⟨_, md_newNode_x (by rw [gW_i (by decide), gW_i (by decide)]; omega), ⟨by omega, by rw [e2]; simp [gW], by rw [e3, k1.1]; simp [gW], by omega, by omega⟩⟩⟩
theorem node_g {z : Int} (G : pG z σ τ) (hz : z ≤ 3) (h : σ 68 20 ≠ 300) : ps_node σ K = some (nC σ K, σ 68 10) ∧ md_newNode τ K = some (nM τ K, some (τ 119 43)) ∧ (0 ≤ σ 68 10 ∧ σ 68 10 ≤ 4003) ∧ (0 ≤ τ 119 43 ∧ τ 119 43 < 4004) := by
  obtain ⟨h1, ⟨k1, k2⟩, h3, h4, h5, h6, h7, h8, h9, h10⟩ := G
  unfold tKp at k1
  have hn := h1.2.1
  have np := nd_pos (σ := σ) (i := σ 68 10) h4.1
  exact ⟨ps_node_g (by omega) (by omega), md_newNode_g (by omega) (by omega) (by omega), by omega, by omega⟩
theorem nd_bK {i : Int} (hi : i ≤ σ 68 10) : nd (bK σ K) i = nd σ i := nd_congr fun j _ j1 => by rw [bK_o (Or.inr (by omega)) (by omega)]
theorem nd_nC {i : Int} (hi : i ≤ σ 68 10) : nd (nC σ K) i = nd σ i := nd_congr fun j _ j1 => by rw [nC_o (Or.inr (by omega)) (by omega)]
theorem pG_node {z : Int} (G : pG z σ τ) (h : σ 68 20 ≠ 300) (hK : K ≠ 30) : pG (z + 1) (nC σ K) (nM τ K) ∧ nd (nC σ K) (σ 68 10) = τ 119 43 := by
  have G' := G
  obtain ⟨h1, ⟨k1, k2⟩, h3, h4, h5, h6, h7, h8, h9, h10⟩ := G
  have c : ∀ a, (a < 68 ∨ a = 69 ∨ 78 < a) → nC σ K a = σ a := fun a q => funext fun i => nC_o (by omega) (by omega)
  have d : ∀ a, a ≠ 119 → (a < 135 ∨ 145 < a) → nM τ K a = τ a := fun a q q2 => funext fun i => nM_o (by omega) (by omega)
  have n := @nC_n σ K
  have m := @nM_n τ K
  have e : nd (nC σ K) (σ 68 10) = τ 119 43 := by rw [nd_nC (Int.le_refl _), h5]
  refine ⟨G'.mv (c 69 (by omega)) (c 1 (by omega)) (c 118 (by omega)) (c 84 (by omega)) (c 85 (by omega)) (c 86 (by omega)) (by rw [n.1]; omega) ?_ ?_ ?_ ?_ (nC_o (by omega) (by omega)) (fun i q1 q2 => nM_o (by omega) (by omega)) (nM_o (by omega) (by omega)) (d 134 (by decide) (by omega)) (d 152 (by decide) (by omega)) (d 153 (by decide) (by omega)) (d 154 (by decide) (by omega)), e⟩
  · rw [m.1, n.1, nd_S h4.1 (by rw [n.2.2.1]; exact hK), e]
  · rw [n.2.1, m.1, nM_o (i := 44) (by omega) (by omega)]; omega
  · rw [nC_o (i := 21) (by omega) (by omega), nM_o (i := 28) (by omega) (by omega)]; exact h7
  · rw [nC_o (i := 22) (by omega) (by omega), nM_o (i := 29) (by omega) (by omega)]; exact h8
theorem kE_node {M N : Int} (hM : M ≤ σ 68 10) (hN : N ≤ τ 119 43) : kE M N σ (nC σ K) τ (nM τ K) := by
  have n := @nC_n σ K
  refine ⟨fun a q => funext fun i => nC_o (by omega) (by omega), fun a i q1 q2 q3 => nC_o (Or.inr (by omega)) (by omega), fun i q => nC_o (by omega) (by omega), fun i q => nC_o (by omega) (by omega), ⟨by rw [n.1]; omega, by rw [nC_o (by omega) (by omega)]; exact Int.le_refl _, fun hj j j0 j1 => by
    have m := @nM_n τ K
    rw [m.1] at j1
    by_cases e : j = τ 119 43
    · rw [e, m.2.2.2.2.2.2.1]; decide
    · rw [nM_o (Or.inr e) (by omega)]; exact hj j j0 (by omega)⟩, ⟨by rw [nC_o (by omega) (by omega)]; exact Int.le_refl _, fun g _ => ⟨nC_o (by omega) (by omega), nM_o (by omega) (by omega)⟩, fun j _ => ⟨nC_o (by omega) (by omega), nC_o (by omega) (by omega), nM_o (by omega) (by omega), nM_o (by omega) (by omega)⟩⟩, fun a q1 q2 q3 => funext fun i => nM_o (by omega) (by omega), fun a j q1 q2 q3 => nM_o (Or.inr (by omega)) (by omega), fun i q1 q2 => nM_o (by omega) (by omega)⟩
end BK
