/-! potential: a whole text -/
section PW
variable {σ τ S T : gM} {c r k x y : Int} {d : Nat}
theorem q_same {a b e f : Int} (h : ps_isSame σ a b e f = some (S, r)) : σ = S := by
  have F := fr_inl fm_ps_isSame (ps_isSame_l σ a b e f) h
  funext a k
  exact (F a k (by unfold gbit; simp; rfl)).symm
theorem f181_b (g : σ 69 8 ≠ 0) (h : ps_function_b181 σ = some (S, r)) : S 69 8 ≠ 0 := by
  rw [ps_function_b181_e, ps_good_b g] at h
  simp only [Option.bind_some, if_true] at h
  obtain ⟨rfl, rfl⟩ := sp h
  exact g
theorem f110_b (g : σ 69 8 ≠ 0) (h : ps_function_b110 σ x = some (S, r)) : S 69 8 ≠ 0 := by
  rw [ps_function_b110_e] at h
  split at h
  · rw [ps_good_b g] at h
    simp only [Option.bind_some, if_true] at h
    exact f181_b g h
  · exact f181_b g h
theorem f110 (g' : S 69 8 = 0) (m : Nat) : ∀ (x : Int), σ 68 19 - x < m → ps_function_b110 σ x = some (S, r) → ps_function_b181 σ = some (S, r) := by
  induction m with
  | zero =>
    intro x hm h
    rw [ps_function_b110_e, if_neg (by omega)] at h
    exact h
  | succ m IH =>
    intro x hm h
    rw [ps_function_b110_e] at h
    split at h
    · obtain ⟨⟨s1, r1⟩, h1, h⟩ := ob h
      obtain ⟨rfl, g1⟩ := q_good h1
      try dsimp only at h
      split at h
      · exact h
      · split at h
        · obtain ⟨⟨s2, r2⟩, h2, h⟩ := ob h
          obtain rfl := q_same h2
          try dsimp only at h
          split at h
          · rw [ps_function_b175_e, w32_e (by omega) (by omega)] at h
            exact IH _ (by omega) h
          · obtain ⟨⟨s3, r3⟩, h3, h⟩ := ob h
            rw [ps_function_b175_e] at h
            exact absurd g' (f110_b (q_fails h3 (by decide)) h)
        · cases h
    · exact h
theorem lp_function (h : ps_function σ = some (S, r)) (ok : okS σ) (g' : S 69 8 = 0) : Gq S - S 69 5 ≤ Gq σ - σ 69 5 := by
  have b108 : ∀ σ1 : gM, okS σ1 → ps_function_b108 σ1 = some (S, r) → σ1 69 8 = 0 ∧ Gq S - S 69 5 ≤ Gq σ1 - σ1 69 5 := by
    intro σ1 ok h
    rw [ps_function_b108_e] at h
    have h2 := f110 g' (σ1 68 19 + 1).toNat 0 (by omega) h
    have q := f181 h2 ok g'
    exact ⟨q.1, q.2.1⟩
  have b76 : ∀ σ1 : gM, okS σ1 → ps_function_b76 σ1 = some (S, r) → σ1 69 8 = 0 ∧ Gq S - S 69 5 ≤ Gq σ1 - σ1 69 5 := by
    intro σ1 ok h
    rw [ps_function_b76_e] at h
    obtain ⟨⟨s1, r1⟩, h1, h⟩ := ob h
    obtain ⟨rfl, g1⟩ := q_good h1
    try dsimp only at h
    split at h
    · exact b108 _ ok h
    · split at h
      · obtain ⟨⟨s2, r2⟩, h2, h⟩ := ob h
        have b := q_fails h2 (by decide)
        exact absurd (b108 _ (fun z => absurd z b) h).1 b
      · exact b108 _ ok h
  have b42 : ∀ σ1 : gM, okS σ1 → ps_function_b42 σ1 = some (S, r) → σ1 69 8 = 0 ∧ Gq S - S 69 5 ≤ Gq σ1 - σ1 69 5 := by
    intro σ1 ok h
    rw [ps_function_b42_e] at h
    obtain ⟨⟨s1, r1⟩, h1, h⟩ := ob h
    obtain ⟨rfl, g1⟩ := q_good h1
    try dsimp only at h
    split at h
    · exact b76 _ ok h
    · split at h
      · exact b76 _ ok h
      · obtain ⟨⟨s2, r2⟩, h2, h⟩ := ob h
        have b := q_fails h2 (by decide)
        exact absurd (b76 _ (fun z => absurd z b) h).1 b
  have b28 : ∀ σ1 : gM, okS σ1 → ps_function_b28 σ1 = some (S, r) → σ1 69 8 = 0 ∧ Gq S - S 69 5 ≤ Gq σ1 - σ1 69 5 := by
    intro σ1 ok h
    rw [ps_function_b28_e] at h
    obtain ⟨⟨s1, r1⟩, h1, h⟩ := ob h
    obtain ⟨rfl, g1⟩ := q_good h1
    try dsimp only at h
    split at h
    · exact b42 _ ok h
    · rename_i z
      have g := gd0 g1 z
      obtain ⟨⟨s2, r2⟩, h2, h⟩ := ob h
      have q2 := q_read0 h2 ok g
      have n2 := n_read h2
      obtain ⟨k1, k2⟩ := b42 _ q2.ok h
      obtain ⟨e1, e2, e3, e4⟩ := q2 k1
      refine ⟨g, ?_⟩
      have : Gq s2 = Fq s2 + nqN σ1 (σ1 68 19).toNat := by
        unfold Gq
        rw [n2.2, nqN_mv n2.1]
      have e : Gq σ1 = Fq σ1 + nqN σ1 (σ1 68 19).toNat := rfl
      omega
  rw [ps_function_e] at h
  obtain ⟨⟨s1, r1⟩, h1, h⟩ := ob h
  obtain ⟨rfl, w1⟩ := q_word h1
  try dsimp only at h
  split at h
  · obtain ⟨⟨s2, r2⟩, h2, h⟩ := ob h
    have b := q_fails h2 (by decide)
    exact absurd (b28 _ (fun z => absurd z b) h).1 b
  · exact (b28 _ ok h).2
theorem fqN_0 : ∀ m, 0 ≤ fqN σ m
  | 0 => Int.le_refl _
  | m + 1 => by
    have := fqN_0 m
    have w : 0 ≤ wp (σ 77 m) := by unfold wp; split <;> omega
    unfold fqN
    omega
theorem wq_fq {a : Int} (a0 : 0 ≤ a) : ∀ (m : Nat), (∀ i, a ≤ i → i < a + m → wt σ i ≤ wp (σ 77 i)) → wq σ (a + m) - wq σ a ≤ fqN σ (a.toNat + m) - fqN σ a.toNat
  | 0, _ => by
    rw [show a + ((0 : Nat) : Int) = a by omega]
    show wq σ a - wq σ a ≤ fqN σ a.toNat - fqN σ a.toNat
    omega
  | m + 1, h => by
    have ih := wq_fq a0 m fun i q1 q2 => h i q1 (by omega)
    have w := h (a + m) (by omega) (by omega)
    rw [show a + ((m + 1 : Nat) : Int) = a + m + 1 by omega, wq_s (by omega)]
    have e : fqN σ (a.toNat + (m + 1)) = fqN σ (a.toNat + m) + wp (σ 77 (a + m)) := by
      show fqN σ (a.toNat + m) + wp (σ 77 ((a.toNat + m : Nat) : Int)) = _
      rw [show ((a.toNat + m : Nat) : Int) = a + m by omega]
    omega
theorem FN.wq {f b : Int} (h : FN σ τ f b) : wq σ b - wq σ (σ 81 f) ≤ fqN σ b.toNat - fqN σ (σ 81 f).toNat := by
  obtain ⟨fn, ⟨r1, r2, r3, r4, r5⟩, hL, -, px, nb, ip⟩ := h
  have := wq_fq (σ := σ) r1 (b - σ 81 f).toNat fun x x0 x1 => by
    have x1' : x < b := by omega
    by_cases z : σ 70 x = 1 ∨ σ 70 x = 2 ∨ σ 70 x = 7 ∨ ((σ 70 x = 21 ∨ σ 70 x = 22) ∧ σ 73 x = -1)
    · rw [wt_1 z]
      have := ((nb x x0 x1').1 (by omega)).2.2.2.2.2.2.2.1 (by omega)
      unfold wp
      rw [if_neg (by omega)]
      omega
    · unfold wt wp
      rw [if_neg z]
      split <;> omega
  rw [show σ 81 f + ((b - σ 81 f).toNat : Nat) = b by omega, show (σ 81 f).toNat + (b - σ 81 f).toNat = b.toNat by omega] at this
  exact this
/-- all functions' room: names and nodes -/
theorem wSu_le (A : FA σ τ) : ∀ (m : Nat) (f : Int), 0 ≤ f → f + m = σ 68 19 → wSu σ m f + nqN σ f.toNat + fqN σ (if m = 0 then σ 68 10 else σ 81 f).toNat ≤ nqN σ (σ 68 19).toNat + fqN σ (σ 68 10).toNat
  | 0, f, f0, hf => by
    rw [show f = σ 68 19 by omega]
    show 0 + _ + _ ≤ _
    rw [if_pos rfl]
    omega
  | m + 1, f, f0, hf => by
    have ih := wSu_le A m (f + 1) (by omega) (by omega)
    have e : (f + 1).toNat = f.toNat + 1 := by omega
    have e2 : nqN σ (f.toNat + 1) = nqN σ f.toNat + (σ 80 f + 1) := by
      show nqN σ f.toNat + (σ 80 (f.toNat : Nat) + 1) = _
      rw [show ((f.toNat : Nat) : Int) = f by omega]
    rw [e, e2] at ih
    have eg : eG σ f = if m = 0 then σ 68 10 else σ 81 (f + 1) := by
      unfold eG
      by_cases z : m = 0
      · rw [if_pos z, if_neg (by omega)]
      · rw [if_neg z, if_pos (by omega)]
    rw [← eg] at ih
    have w := (A f f0 (by omega)).1.wq
    rw [if_neg (by omega)]
    show (σ 80 f + 1 + (wq σ (eG σ f) - wq σ (σ 81 f))) + wSu σ m (f + 1) + nqN σ f.toNat + fqN σ (σ 81 f).toNat ≤ _
    omega
theorem nCu_le (A : FA σ τ) : ∀ (m : Nat) (f : Int), 0 ≤ f → f + m = σ 68 19 → nCu σ m f + nd σ (if m = 0 then σ 68 10 else σ 81 f) = nd σ (σ 68 10)
  | 0, f, f0, hf => by
    show 0 + _ = _
    rw [if_pos rfl]
    omega
  | m + 1, f, f0, hf => by
    have ih := nCu_le A m (f + 1) (by omega) (by omega)
    have eg : eG σ f = if m = 0 then σ 68 10 else σ 81 (f + 1) := by
      unfold eG
      by_cases z : m = 0
      · rw [if_pos z, if_neg (by omega)]
      · rw [if_neg z, if_pos (by omega)]
    rw [← eg] at ih
    rw [if_neg (by omega)]
    show (nd σ (eG σ f) - nd σ (σ 81 f)) + nCu σ m (f + 1) + nd σ (σ 81 f) = _
    omega
theorem room_le (A : FA σ τ) (h19 : 0 ≤ σ 68 19) (h10 : 0 ≤ σ 68 10) : 0 ≤ wSu σ (σ 68 19).toNat 0 ∧ wSu σ (σ 68 19).toNat 0 ≤ Gq σ ∧ 0 ≤ nCu σ (σ 68 19).toNat 0 ∧ nCu σ (σ 68 19).toNat 0 ≤ σ 68 10 := by
  have a := wSu_le A (σ 68 19).toNat 0 (by decide) (by omega)
  have b := nCu_le A (σ 68 19).toNat 0 (by decide) (by omega)
  have c := wSu_0 A (σ 68 19).toNat 0 (by decide) (by omega)
  have f0 := fqN_0 (σ := σ) (if (σ 68 19).toNat = 0 then σ 68 10 else σ 81 0).toNat
  have n0 : nqN σ (0 : Int).toNat = 0 := rfl
  have d := nd_r (σ := σ) (i := 0) (j := σ 68 10) (by decide) h10
  have d0 : nd σ 0 = 0 := rfl
  refine ⟨c.1, ?_, c.2, ?_⟩
  · unfold Gq Fq
    omega
  · have e := nd_pos (σ := σ) (i := if (σ 68 19).toNat = 0 then σ 68 10 else σ 81 0)
    by_cases z : (σ 68 19).toNat = 0
    · rw [if_pos z] at b e
      have := e h10
      omega
    · rw [if_neg z] at b e
      have := e (A 0 (by decide) (by omega)).1.2.1.1
      omega
end PW
