/-! roots' books, the queue, codes that end: both sides -/
/-- roots: heat, code, codes made, whose newest -/
def rRt (σ τ : gM) : Prop := (0 ≤ σ 8 31 ∧ σ 8 31 ≤ 60 ∧ τ 119 55 = σ 8 31) ∧ ∀ r, 0 ≤ r → r < σ 8 31 → (τ 163 r = σ 32 r ∧ 0 ≤ σ 32 r ∧ σ 32 r ≤ 1000000000) ∧ (τ 164 r = σ 34 r ∧ -1 ≤ σ 34 r ∧ σ 34 r < σ 52 10 ∧ (0 ≤ σ 34 r → σ 53 (σ 34 r) = r ∧ σ 61 (σ 34 r) = 1)) ∧ (τ 165 r = σ 33 r ∧ 0 ≤ σ 33 r ∧ σ 33 r ≤ σ 52 10) ∧ (0 ≤ σ 25 r ∧ σ 25 r < 9000) ∧ (0 ≤ τ 157 r ∧ τ 157 r < 9000) ∧ τ 156 (τ 157 r) = σ 24 (σ 25 r)
def rQu (σ τ : gM) : Prop := (0 ≤ σ 52 19 ∧ τ 119 89 = σ 52 19) ∧ (∀ k, 0 ≤ k → k < σ 52 19 → τ 185 k = σ 67 k ∧ 4 ≤ σ 67 k ∧ σ 67 k < σ 8 31) ∧ (∀ j k, 0 ≤ j → j < σ 52 19 → 0 ≤ k → k < σ 52 19 → σ 67 j = σ 67 k → j = k)
/-- codes: their roots, units -/
def rCo (σ τ : gM) : Prop := (0 ≤ σ 52 10 ∧ σ 52 10 ≤ 100 ∧ τ 119 104 = σ 52 10) ∧ (0 ≤ σ 52 11 ∧ σ 52 11 ≤ 160 * σ 52 10) ∧ ∀ c, 0 ≤ c → c < σ 52 10 → (τ 196 c = σ 53 c ∧ 4 ≤ σ 53 c ∧ σ 53 c < σ 8 31) ∧ (τ 197 c = σ 55 c ∧ 1 ≤ σ 55 c ∧ σ 55 c ≤ 151) ∧ τ 198 c = σ 56 c ∧ τ 199 c = σ 57 c ∧ (τ 200 c = σ 58 c ∧ 0 ≤ σ 58 c ∧ σ 58 c ≤ 1000000000) ∧ τ 201 c = σ 59 c ∧ τ 202 c = σ 60 c ∧ (τ 203 c = σ 61 c ∧ (σ 61 c = 0 ∨ σ 61 c = 1)) ∧ (0 ≤ σ 54 c ∧ σ 54 c + σ 55 c ≤ σ 52 11) ∧
  (∀ u, 0 ≤ u → u < σ 55 c → (τ 204 (152 * c + u) = σ 62 (σ 54 c + u) ∧ 4 ≤ σ 62 (σ 54 c + u) ∧ σ 62 (σ 54 c + u) < σ 8 31) ∧ τ 205 (152 * c + u) = σ 63 (σ 54 c + u) ∧ τ 206 (152 * c + u) = σ 64 (σ 54 c + u))
section BK
variable {σ τ : gM}
theorem fr_isNewest_s (h : rRt σ τ) {r : Int} (h0 : 0 ≤ r) (hr : r < σ 8 31) : fr_isNewest σ r = some (σ, if σ 24 (σ 25 r) = r then 1 else 0) ∧ md_isNewest τ r = some (τ, if σ 24 (σ 25 r) = r then 1 else 0) := by
  have hb : 0 ≤ r ∧ r < 60 := by have := h.1; omega
  have g := h.2 r h0 hr
  constructor
  · rw [fr_isNewest_e]
    simp only [hb, g.2.2.2.1, and_self, if_true]
    split <;> rfl
  · rw [md_isNewest_e]
    simp only [hb, g.2.2.2.2.1, and_self, if_true, g.2.2.2.2.2]
    split <;> rfl
theorem cd_more_s {x : Int} (h : 0 ≤ x ∧ x ≤ 1000000000) : cd_more σ x = some (σ, if x < 1000000000 then x + 1 else x) := by
  rw [cd_more_e, w32_e (by omega) (by omega), jm_min_e]
  by_cases q : x < 1000000000
  · by_cases e : x + 1 < 1000000000
    · rw [if_pos e, if_pos q]; rfl
    · rw [if_neg e, if_pos q]
      simp only [Option.bind_some]
      congr 2
      omega
  · rw [if_neg (by omega), if_neg q]
    simp only [Option.bind_some]
    congr 2
    omega
theorem md_more_s {x : Int} (h : 0 ≤ x ∧ x ≤ 1000000000) : md_more τ x = some (τ, if x < 1000000000 then x + 1 else x) := by
  rw [md_more_e, w32_e (by omega) (by omega)]
  split <;> rfl
/-- a queue of different roots is no longer than there are roots -/
theorem pigeon : ∀ (R Q : Nat) (f : Nat → Nat), (∀ i, i < Q → f i < R) → (∀ i j, i < Q → j < Q → f i = f j → i = j) → Q ≤ R
  | 0, Q, f, h1, _ => by
    cases Q with
    | zero => exact Nat.le_refl _
    | succ Q => exact absurd (h1 0 (Nat.succ_pos _)) (Nat.not_lt_zero _)
  | R + 1, Q, f, h1, h2 => by
    cases Q with
    | zero => exact Nat.zero_le _
    | succ Q =>
      -- the last goes out; who is at R takes its number
      have := pigeon R Q (fun i => if f i = R then f Q else f i) (fun i hi => by
        have a := h1 i (by omega)
        have b := h1 Q (by omega)
        show (if f i = R then f Q else f i) < R
        by_cases e : f i = R
        · rw [if_pos e]
          have : f Q ≠ R := fun z => by
            have := h2 i Q (by omega) (by omega) (by rw [e, z])
            omega
          omega
        · rw [if_neg e]; omega) (fun i j hi hj he => by
        have he : (if f i = R then f Q else f i) = (if f j = R then f Q else f j) := he
        by_cases e1 : f i = R <;> by_cases e2 : f j = R
        · exact h2 i j (by omega) (by omega) (by rw [e1, e2])
        · rw [if_pos e1, if_neg e2] at he
          have := h2 Q j (by omega) (by omega) he
          omega
        · rw [if_neg e1, if_pos e2] at he
          have := h2 i Q (by omega) (by omega) he
          omega
        · rw [if_neg e1, if_neg e2] at he
          exact h2 i j (by omega) (by omega) he)
      omega
theorem rQu.le (h : rQu σ τ) (hr : rRt σ τ) : σ 52 19 ≤ σ 8 31 := by
  have := pigeon (σ 8 31).toNat (σ 52 19).toNat (fun i => (σ 67 i).toNat) (fun i hi => by
    have := h.2.1 i (by omega) (by omega)
    show (σ 67 i).toNat < _
    omega) (fun i j hi hj he => by
    have a := h.2.1 i (by omega) (by omega)
    have b := h.2.1 j (by omega) (by omega)
    have he : (σ 67 i).toNat = (σ 67 j).toNat := he
    have := h.2.2 i j (by omega) (by omega) (by omega) (by omega) (by omega)
    omega)
  have := h.1
  have := hr.1
  omega
/-- a root that is not in the queue finds room -/
theorem rQu.lt (h : rQu σ τ) (hr : rRt σ τ) {r : Int} (h0 : 0 ≤ r) (hr2 : r < σ 8 31) (hn : ∀ k, 0 ≤ k → k < σ 52 19 → σ 67 k ≠ r) : σ 52 19 < σ 8 31 := by
  have := pigeon (σ 8 31).toNat ((σ 52 19).toNat + 1) (fun i => if i = (σ 52 19).toNat then r.toNat else (σ 67 i).toNat) (fun i hi => by
    show (if i = (σ 52 19).toNat then r.toNat else (σ 67 i).toNat) < _
    by_cases e : i = (σ 52 19).toNat
    · rw [if_pos e]; omega
    · rw [if_neg e]
      have := h.2.1 i (by omega) (by omega)
      omega) (fun i j hi hj he => by
    have he : (if i = (σ 52 19).toNat then r.toNat else (σ 67 i).toNat) = (if j = (σ 52 19).toNat then r.toNat else (σ 67 j).toNat) := he
    by_cases e1 : i = (σ 52 19).toNat <;> by_cases e2 : j = (σ 52 19).toNat
    · omega
    · rw [if_pos e1, if_neg e2] at he
      have b := h.2.1 j (by omega) (by omega)
      exact absurd (show σ 67 j = r by omega) (hn j (by omega) (by omega))
    · rw [if_neg e1, if_pos e2] at he
      have b := h.2.1 i (by omega) (by omega)
      exact absurd (show σ 67 i = r by omega) (hn i (by omega) (by omega))
    · rw [if_neg e1, if_neg e2] at he
      have a := h.2.1 i (by omega) (by omega)
      have b := h.2.1 j (by omega) (by omega)
      have := h.2.2 i j (by omega) (by omega) (by omega) (by omega) (by omega)
      omega)
  have := h.1
  omega
theorem cd_place_s (h : rQu σ τ) (hr : rRt σ τ) {r : Int} : ∀ (d : Nat) (k : Int), 0 ≤ k → k + d = σ 52 19 → (∀ j, 0 ≤ j → j < k → σ 67 j ≠ r) → ∃ t, cd_place_b2 σ r k = some (σ, t) ∧ ((t = -1 ∧ ∀ j, 0 ≤ j → j < σ 52 19 → σ 67 j ≠ r) ∨ ((0 ≤ t ∧ t < σ 52 19) ∧ σ 67 t = r ∧ ∀ j, 0 ≤ j → j < t → σ 67 j ≠ r))
  | 0, k, k0, hk, hj => by
    rw [cd_place_b2_e, if_neg (by omega)]
    exact ⟨-1, rfl, Or.inl ⟨rfl, fun j a b => hj j a (by omega)⟩⟩
  | d + 1, k, k0, hk, hj => by
    have hb : 0 ≤ k ∧ k < 60 := by have := h.le hr; have := hr.1; omega
    rw [cd_place_b2_e, if_pos (by omega)]
    simp only [hb, and_self, if_true]
    by_cases e : σ 67 k = r
    · rw [if_pos e]
      exact ⟨k, rfl, Or.inr ⟨by omega, e, hj⟩⟩
    · rw [if_neg e, w32_e (by omega) (by omega)]
      exact cd_place_s h hr d (k + 1) (by omega) (by omega) (fun j a b => by
        by_cases z : j = k
        · subst z; exact e
        · exact hj j a (by omega))
theorem md_heat_b59_s (h : rQu σ τ) (hr : rRt σ τ) {r : Int} {T : gM} (c89 : T 119 89 = σ 52 19) (c185 : ∀ k, T 185 k = τ 185 k) : ∀ (d : Nat) (k : Int), 0 ≤ k → k + d = σ 52 19 → (∀ j, 0 ≤ j → j < k → σ 67 j ≠ r) →
    ((∃ t, (0 ≤ t ∧ t < σ 52 19) ∧ σ 67 t = r) → md_heat_b59 T r k = some (T, 0)) ∧ ((∀ j, 0 ≤ j → j < σ 52 19 → σ 67 j ≠ r) → σ 52 19 < 60 → md_heat_b59 T r k = some (gW (gW T 185 (σ 52 19) r) 119 89 (σ 52 19 + 1), 0))
  | 0, k, k0, hk, hj => by
    rw [md_heat_b59_e, c89, if_neg (by omega)]
    constructor
    · intro ⟨t, a, b⟩
      exact absurd b (hj t a.1 (by omega))
    · intro _ q
      have := h.1
      have hb : 0 ≤ σ 52 19 ∧ σ 52 19 < 60 := by omega
      simp only [hb, and_self, if_true]
      rw [w32_e (by omega) (by omega)]
  | d + 1, k, k0, hk, hj => by
    have hb : 0 ≤ k ∧ k < 60 := by have := h.le hr; have := hr.1; omega
    have g := h.2.1 k k0 (by omega)
    rw [md_heat_b59_e, c89, if_pos (by omega)]
    simp only [hb, and_self, if_true]
    rw [c185, g.1]
    by_cases e : σ 67 k = r
    · rw [if_pos e]
      exact ⟨fun _ => rfl, fun q => absurd e (q k k0 (by omega))⟩
    · rw [if_neg e, w32_e (by omega) (by omega)]
      exact md_heat_b59_s h hr c89 c185 d (k + 1) (by omega) (by omega) (fun j a b => by
        by_cases z : j = k
        · subst z; exact e
        · exact hj j a (by omega))
/-- a root gets hotter -/
theorem cd_heats_s (h : rRt σ τ) (hq : rQu σ τ) {r th : Int} (h4 : 4 ≤ r) (hr : r < σ 8 31) (ht : τ 119 1 = th) :
    ∃ σ' τ', cd_heats σ r th = some (σ', 0) ∧ md_heat τ r = some (τ', 0) ∧ rRt σ' τ' ∧ rQu σ' τ' ∧ (∀ a i, a ≠ 32 → a ≠ 52 → a ≠ 67 → σ' a i = σ a i) ∧ (∀ i, i ≠ 19 → σ' 52 i = σ 52 i) ∧ (∀ a i, a ≠ 163 → a ≠ 119 → a ≠ 185 → τ' a i = τ a i) ∧ (∀ i, i ≠ 89 → τ' 119 i = τ 119 i) := by
  have h0 : 0 ≤ r := by omega
  have hb : 0 ≤ r ∧ r < 60 := by have := h.1; omega
  have g := h.2 r h0 hr
  have hle := hq.le h
  generalize hv : (if σ 32 r < 1000000000 then σ 32 r + 1 else σ 32 r) = v
  have bv : 0 ≤ v ∧ v ≤ 1000000000 := by rw [← hv]; split <;> omega
  -- with the heat alone
  have c1 : ∀ a, a ≠ 32 → gW σ 32 r v a = σ a := fun a ha => gW_cell ha
  have d1 : ∀ a, a ≠ 163 → gW τ 163 r v a = τ a := fun a ha => gW_cell ha
  have hR1 : rRt (gW σ 32 r v) (gW τ 163 r v) := by
    unfold rRt
    rw [c1 8 (by decide), c1 52 (by decide), c1 53 (by decide), c1 61 (by decide), c1 25 (by decide), c1 24 (by decide), c1 33 (by decide), c1 34 (by decide), d1 119 (by decide), d1 164 (by decide), d1 165 (by decide), d1 157 (by decide), d1 156 (by decide)]
    refine ⟨h.1, fun x x0 x1 => ?_⟩
    have g := h.2 x x0 x1
    rw [gW_if, gW_if]
    by_cases e : x = r
    · rw [if_pos e, if_pos e]; exact ⟨⟨rfl, bv⟩, g.2⟩
    · rw [if_neg e, if_neg e]; exact g
  have hQ1 : rQu (gW σ 32 r v) (gW τ 163 r v) := by
    unfold rQu
    rw [c1 52 (by decide), c1 67 (by decide), c1 8 (by decide), d1 119 (by decide), d1 185 (by decide)]
    exact hq
  have one : ∃ σ' τ', some (gW σ 32 r v, (0 : Int)) = some (σ', 0) ∧ some (gW τ 163 r v, (0 : Int)) = some (τ', 0) ∧ rRt σ' τ' ∧ rQu σ' τ' ∧ (∀ a i, a ≠ 32 → a ≠ 52 → a ≠ 67 → σ' a i = σ a i) ∧ (∀ i, i ≠ 19 → σ' 52 i = σ 52 i) ∧ (∀ a i, a ≠ 163 → a ≠ 119 → a ≠ 185 → τ' a i = τ a i) ∧ (∀ i, i ≠ 89 → τ' 119 i = τ 119 i) :=
    ⟨_, _, rfl, rfl, hR1, hQ1, fun a i q _ _ => gW_c q, fun i _ => gW_c (by decide), fun a i q _ _ => gW_c q, fun i _ => gW_c (by decide)⟩
  rw [cd_heats_e, md_heat_e, cd_more_s g.1.2, g.1.1, md_more_s g.1.2, hv]
  simp only [hb, and_self, if_true, Option.bind_some, gW_at, ht, g.2.1.1, g.2.2.1.1]
  obtain ⟨t, p1, p2⟩ := cd_place_s (r := r) hQ1 hR1 (σ 52 19).toNat 0 (by omega) (by rw [c1 52 (by decide)]; have := hq.1; omega) (fun j a b => by omega)
  rw [c1 52 (by decide), c1 67 (by decide)] at p2
  have nw := fr_isNewest_s hR1 h0 (by rw [c1 8 (by decide)]; exact hr)
  rw [cd_place_e, p1]
  simp only [Option.bind_some, nw.1, nw.2]
  simp only [c1 34 (by decide), c1 33 (by decide), c1 24 (by decide), c1 25 (by decide)]
  by_cases k1 : v < th
  · simp only [if_pos k1]
    exact one
  · simp only [if_neg k1]
    by_cases k2 : σ 34 r < 0
    · simp only [if_pos k2]
      by_cases k3 : σ 33 r = 8
      · simp only [if_pos k3]
        rcases p2 with ⟨p2, -⟩ | ⟨p2, -⟩
        · rw [if_pos (by omega)]; exact one
        · rw [if_neg (by omega)]; exact one
      · simp only [if_neg k3]
        by_cases k4 : σ 24 (σ 25 r) = r
        · simp only [if_pos k4, show ¬ ((1 : Int) = 0) by decide, if_false]
          have m := md_heat_b59_s (r := r) (T := gW τ 163 r v) hQ1 hR1 (by rw [c1 52 (by decide), d1 119 (by decide)]; exact hq.1.2) (fun k => rfl) (σ 52 19).toNat 0 (by omega) (by rw [c1 52 (by decide)]; have := hq.1; omega) (fun j a b => by omega)
          rw [c1 52 (by decide), c1 67 (by decide)] at m
          rcases p2 with ⟨p2, p3⟩ | ⟨p2, p3, -⟩
          · have hlt := hq.lt h h0 hr p3
            have b52 : 0 ≤ σ 52 19 ∧ σ 52 19 < 60 := by have := h.1; have := hq.1; omega
            rw [if_pos (by omega), m.2 p3 b52.2, c1 52 (by decide)]
            simp only [b52, and_self, if_true]
            rw [w32_e (by omega) (by omega)]
            refine ⟨_, _, rfl, rfl, ?_, ?_, fun a i q1 q2 q3 => by rw [gW_c q2, gW_c q3, gW_c q1], fun i q => by rw [gW_i q, gW_c (by decide), gW_c (by decide)], fun a i q1 q2 q3 => by rw [gW_c q2, gW_c q3, gW_c q1], fun i q => by rw [gW_i q, gW_c (by decide), gW_c (by decide)]⟩
            · -- roots: neither cell is theirs but the count of codes
              have e1 : ∀ a, a ≠ 52 → a ≠ 67 → gW (gW (gW σ 32 r v) 67 (σ 52 19) r) 52 19 (σ 52 19 + 1) a = gW σ 32 r v a := fun a q1 q2 => by rw [gW_cell q1, gW_cell q2]
              have e2 : ∀ a, a ≠ 119 → a ≠ 185 → gW (gW (gW τ 163 r v) 185 (σ 52 19) r) 119 89 (σ 52 19 + 1) a = gW τ 163 r v a := fun a q1 q2 => by rw [gW_cell q1, gW_cell q2]
              have e3 : gW (gW (gW σ 32 r v) 67 (σ 52 19) r) 52 19 (σ 52 19 + 1) 52 10 = gW σ 32 r v 52 10 := by rw [gW_i (by decide), gW_c (by decide)]
              have e4 : gW (gW (gW τ 163 r v) 185 (σ 52 19) r) 119 89 (σ 52 19 + 1) 119 55 = gW τ 163 r v 119 55 := by rw [gW_i (by decide), gW_c (by decide)]
              unfold rRt at hR1 ⊢
              rw [e1 8 (by decide) (by decide), e1 53 (by decide) (by decide), e1 61 (by decide) (by decide), e1 25 (by decide) (by decide), e1 24 (by decide) (by decide), e1 32 (by decide) (by decide), e1 33 (by decide) (by decide), e1 34 (by decide) (by decide), e2 163 (by decide) (by decide), e2 164 (by decide) (by decide), e2 165 (by decide) (by decide), e2 157 (by decide) (by decide), e2 156 (by decide) (by decide), e3, e4]
              exact hR1
            · have e8 : gW (gW (gW σ 32 r v) 67 (σ 52 19) r) 52 19 (σ 52 19 + 1) 8 31 = σ 8 31 := by rw [gW_c (by decide), gW_c (by decide), gW_c (by decide)]
              have e67 : ∀ k, gW (gW (gW σ 32 r v) 67 (σ 52 19) r) 52 19 (σ 52 19 + 1) 67 k = if k = σ 52 19 then r else σ 67 k := fun k => by rw [gW_c (by decide), gW_if, gW_c (by decide)]
              have e185 : ∀ k, gW (gW (gW τ 163 r v) 185 (σ 52 19) r) 119 89 (σ 52 19 + 1) 185 k = if k = σ 52 19 then r else τ 185 k := fun k => by rw [gW_c (by decide), gW_if, gW_c (by decide)]
              have e52 : gW (gW (gW σ 32 r v) 67 (σ 52 19) r) 52 19 (σ 52 19 + 1) 52 19 = σ 52 19 + 1 := gW_at _ _ _ _
              have e119 : gW (gW (gW τ 163 r v) 185 (σ 52 19) r) 119 89 (σ 52 19 + 1) 119 89 = σ 52 19 + 1 := gW_at _ _ _ _
              unfold rQu
              rw [e52, e119, e8]
              simp only [e67, e185]
              refine ⟨⟨by omega, trivial⟩, fun k a b => ?_, fun i j a b c d e => ?_⟩
              · by_cases z : k = σ 52 19
                · rw [if_pos z, if_pos z]; exact ⟨rfl, h4, hr⟩
                · rw [if_neg z, if_neg z]; exact hq.2.1 k a (by omega)
              · by_cases z1 : i = σ 52 19 <;> by_cases z2 : j = σ 52 19
                · omega
                · rw [if_pos z1, if_neg z2] at e
                  exact absurd e.symm (p3 j c (by omega))
                · rw [if_neg z1, if_pos z2] at e
                  exact absurd e (p3 i a (by omega))
                · rw [if_neg z1, if_neg z2] at e
                  exact hq.2.2 i j a (by omega) c (by omega) e
          · rw [if_neg (by omega), m.1 ⟨t, p2, p3⟩]
            exact one
        · simp only [if_neg k4, if_true]
          rcases p2 with ⟨p2, -⟩ | ⟨p2, -⟩
          · rw [if_pos (by omega)]; exact one
          · rw [if_neg (by omega)]; exact one
    · simp only [if_neg k2]
      rcases p2 with ⟨p2, -⟩ | ⟨p2, -⟩
      · rw [if_pos (by omega)]; exact one
      · rw [if_neg (by omega)]; exact one
end BK
