/-! nodes of both sides; codes that rest on a shape or a function end -/
/-- an entry of a node -/
def rEn (σ τ : gM) (n i : Int) : Prop := τ 182 (3 * n + i) = σ 19 (9 * n + 3 * i) ∧
  ((σ 9 n = 23 ∧ (0 ≤ σ 19 (9 * n + 3 * i) ∧ σ 19 (9 * n + 3 * i) < σ 8 31) ∧ σ 19 (9 * n + 3 * i + 1) = -1 ∧ σ 19 (9 * n + 3 * i + 2) = -1 ∧ τ 183 (3 * n + i) = 0 ∧ τ 184 (3 * n + i) = 0) ∨
   (σ 9 n = 21 ∧ (0 ≤ σ 19 (9 * n + 3 * i) ∧ σ 19 (9 * n + 3 * i) < σ 42 6) ∧ (0 ≤ σ 19 (9 * n + 3 * i + 1) ∧ σ 19 (9 * n + 3 * i + 1) < σ 42 10) ∧ σ 19 (9 * n + 3 * i + 2) = -1 ∧ τ 183 (3 * n + i) = plc σ (σ 19 (9 * n + 3 * i)) (σ 19 (9 * n + 3 * i + 1)) ∧ τ 184 (3 * n + i) = -1 ∧ 0 ≤ τ 183 (3 * n + i)) ∨
   (σ 9 n = 22 ∧ (0 ≤ σ 19 (9 * n + 3 * i) ∧ σ 19 (9 * n + 3 * i) < σ 42 6) ∧ (0 ≤ σ 19 (9 * n + 3 * i + 1) ∧ σ 19 (9 * n + 3 * i + 1) < σ 42 10) ∧ (0 ≤ σ 19 (9 * n + 3 * i + 2) ∧ σ 19 (9 * n + 3 * i + 2) < σ 42 6) ∧ τ 183 (3 * n + i) = plc σ (σ 19 (9 * n + 3 * i + 2)) (σ 19 (9 * n + 3 * i + 1)) ∧ τ 184 (3 * n + i) = σ 19 (9 * n + 3 * i + 2) ∧ 0 ≤ τ 183 (3 * n + i)))
/-- a node: what it is, its state -/
def rN1 (σ τ : gM) (n : Int) : Prop := τ 168 n = σ 9 n ∧ τ 169 n = σ 10 n ∧ (τ 178 n = σ 11 n ∧ 0 ≤ σ 11 n ∧ σ 11 n < 16) ∧ τ 180 n = σ 12 n ∧ τ 175 n = σ 13 n ∧ (τ 181 n = σ 18 n ∧ 0 ≤ σ 18 n ∧ σ 18 n ≤ 3) ∧ ∀ i, 0 ≤ i → i < σ 18 n → rEn σ τ n i
def rNd (σ τ : gM) : Prop := (0 ≤ σ 8 12 ∧ σ 8 12 ≤ 16000 ∧ τ 119 57 = σ 8 12) ∧ (∀ r, 4 ≤ r → r < σ 8 31 → τ 158 r = σ 26 r ∧ τ 159 r = σ 27 r ∧ 0 ≤ σ 26 r ∧ (0 ≤ σ 27 r ∧ σ 27 r ≤ 300) ∧ σ 26 r + σ 27 r ≤ σ 8 12 ∧ ∀ n, σ 26 r ≤ n → n < σ 26 r + σ 27 r → τ 174 n = r) ∧ ∀ n, 0 ≤ n → n < σ 8 12 → rN1 σ τ n
section HS
variable {σ τ : gM}
/-- an entry of the node names the shape -/
def enS (σ : gM) (s n i : Int) : Prop := σ 19 (9 * n + 3 * i) = s ∨ σ 19 (9 * n + 3 * i + 2) = s
/-- a node of the root, from one on, has an entry with the shape -/
def hasS (σ : gM) (s r n : Int) : Prop := ∃ m i, n ≤ m ∧ m < σ 26 r + σ 27 r ∧ (σ 9 m = 21 ∨ σ 9 m = 22) ∧ 0 ≤ i ∧ i < σ 18 m ∧ enS σ s m i
theorem cd_has_b67_s (h : rNd σ τ) {s r n : Int} (hn : 0 ≤ n ∧ n < σ 8 12) : ∀ (d : Nat) (i : Int), 0 ≤ i → i + d = σ 18 n →
    ((∃ j, i ≤ j ∧ j < σ 18 n ∧ enS σ s n j) → cd_has_b67 σ r s n i = some (σ, 1)) ∧ ((¬ ∃ j, i ≤ j ∧ j < σ 18 n ∧ enS σ s n j) → cd_has_b67 σ r s n i = cd_has_b133 σ r s n)
  | 0, i, i0, hi => by
    have hb : 0 ≤ n ∧ n < 16000 := by have := h.1; omega
    constructor
    · intro ⟨j, a, b, _⟩; omega
    · intro _
      rw [cd_has_b67_e]
      simp only [hb, and_self, if_true]
      rw [if_neg (by omega)]
  | d + 1, i, i0, hi => by
    have hb : 0 ≤ n ∧ n < 16000 := by have := h.1; omega
    have g := (h.2.2 n hn.1 hn.2).2.2.2.2.2.1
    have hlt : i < σ 18 n := by omega
    have ih := cd_has_b67_s h (s := s) (r := r) hn d (i + 1) (by omega) (by omega)
    have e : cd_has_b67 σ r s n i = if σ 19 (9 * n + 3 * i) = s then some (σ, 1) else if σ 19 (9 * n + 3 * i + 2) = s then some (σ, 1) else cd_has_b67 σ r s n (i + 1) := by
      rw [cd_has_b67_e, w32_e (x := 9 * n) (by omega) (by omega), w32_e (x := 3 * i) (by omega) (by omega), w32_e (x := 9 * n + 3 * i) (by omega) (by omega), w32_e (x := 9 * n + 3 * i + 2) (by omega) (by omega), w32_e (x := i + 1) (by omega) (by omega)]
      have b1 : 0 ≤ 9 * n + 3 * i ∧ 9 * n + 3 * i < 144000 := by omega
      have b2 : 0 ≤ 9 * n + 3 * i + 2 ∧ 9 * n + 3 * i + 2 < 144000 := by omega
      simp only [hb, hlt, b1, b2, and_self, if_true]
    rw [e]
    by_cases q1 : σ 19 (9 * n + 3 * i) = s
    · rw [if_pos q1]
      exact ⟨fun _ => rfl, fun q => absurd ⟨i, by omega, hlt, Or.inl q1⟩ q⟩
    · rw [if_neg q1]
      by_cases q2 : σ 19 (9 * n + 3 * i + 2) = s
      · rw [if_pos q2]
        exact ⟨fun _ => rfl, fun q => absurd ⟨i, by omega, hlt, Or.inr q2⟩ q⟩
      · rw [if_neg q2]
        constructor
        · intro ⟨j, a, b, c⟩
          refine ih.1 ⟨j, ?_, b, c⟩
          by_cases z : j = i
          · subst z; rcases c with c | c
            · exact absurd c q1
            · exact absurd c q2
          · omega
        · intro q
          exact ih.2 (fun ⟨j, a, b, c⟩ => q ⟨j, by omega, b, c⟩)
theorem cd_has_b10_s (h : rNd σ τ) {s r : Int} (hr : 4 ≤ r ∧ r < σ 8 31) (h60 : σ 8 31 ≤ 60) : ∀ (d : Nat) (n : Int), σ 26 r ≤ n → n + d = σ 26 r + σ 27 r → (hasS σ s r n → cd_has_b10 σ r s n = some (σ, 1)) ∧ (¬ hasS σ s r n → cd_has_b10 σ r s n = some (σ, 0))
  | 0, n, n0, hn => by
    have hb : 0 ≤ r ∧ r < 60 := by omega
    have gr := h.2.1 r hr.1 hr.2
    have hh := h.1
    have e : cd_has_b10 σ r s n = some (σ, 0) := by
      rw [cd_has_b10_e, w32_e (by omega) (by omega)]
      simp only [hb, and_self, if_true]
      rw [if_neg (by omega)]
    rw [e]
    refine ⟨fun ⟨m, i, a, b, _⟩ => ?_, fun _ => rfl⟩
    omega
  | d + 1, n, n0, hn => by
    have hb : 0 ≤ r ∧ r < 60 := by omega
    have gr := h.2.1 r hr.1 hr.2
    have hh := h.1
    have hbn : 0 ≤ n ∧ n < 16000 := by omega
    have hlt : n < σ 26 r + σ 27 r := by omega
    have gn := h.2.2 n (by omega) (by omega)
    have ih := cd_has_b10_s h (s := s) hr h60 d (n + 1) (by omega) (by omega)
    have e133 : cd_has_b133 σ r s n = cd_has_b10 σ r s (n + 1) := by rw [cd_has_b133_e, w32_e (by omega) (by omega)]
    have e : cd_has_b10 σ r s n = if σ 9 n = 21 ∨ σ 9 n = 22 then cd_has_b67 σ r s n 0 else cd_has_b10 σ r s (n + 1) := by
      rw [cd_has_b10_e, w32_e (by omega) (by omega)]
      simp only [hb, hbn, hlt, and_self, if_true, cd_has_b64_e, e133]
      by_cases q1 : σ 9 n = 21
      · rw [if_pos q1, if_pos (Or.inl q1)]
      · rw [if_neg q1]
        by_cases q2 : σ 9 n = 22
        · rw [if_pos q2, if_pos (Or.inr q2)]
        · rw [if_neg q2, if_neg (by omega)]
    rw [e]
    -- later nodes
    have later : hasS σ s r n ↔ ((σ 9 n = 21 ∨ σ 9 n = 22) ∧ ∃ j, 0 ≤ j ∧ j < σ 18 n ∧ enS σ s n j) ∨ hasS σ s r (n + 1) := by
      constructor
      · intro ⟨m, i, a, b, c, d1, d2, d3⟩
        by_cases z : m = n
        · subst z; exact Or.inl ⟨c, i, d1, d2, d3⟩
        · exact Or.inr ⟨m, i, by omega, b, c, d1, d2, d3⟩
      · intro q
        rcases q with ⟨c, j, d1, d2, d3⟩ | ⟨m, i, a, b, c, d1, d2, d3⟩
        · exact ⟨n, j, by omega, hlt, c, d1, d2, d3⟩
        · exact ⟨m, i, by omega, b, c, d1, d2, d3⟩
    rw [later]
    by_cases k : σ 9 n = 21 ∨ σ 9 n = 22
    · rw [if_pos k]
      have g67 := cd_has_b67_s h (s := s) (r := r) (n := n) (by omega) (σ 18 n).toNat 0 (by omega) (by have := gn.2.2.2.2.2.1; omega)
      by_cases z : ∃ j, 0 ≤ j ∧ j < σ 18 n ∧ enS σ s n j
      · rw [g67.1 z]
        exact ⟨fun _ => rfl, fun q => absurd (Or.inl ⟨k, z⟩) q⟩
      · rw [g67.2 z, e133]
        refine ⟨fun q => ?_, fun q => ih.2 (fun w => q (Or.inr w))⟩
        rcases q with q | q
        · exact absurd q.2 z
        · exact ih.1 q
    · rw [if_neg k]
      refine ⟨fun q => ?_, fun q => ih.2 (fun w => q (Or.inr w))⟩
      rcases q with q | q
      · exact absurd q.1 k
      · exact ih.1 q
end HS
