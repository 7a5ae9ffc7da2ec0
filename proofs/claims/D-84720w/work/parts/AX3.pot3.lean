/-! potential: expressions -/
section PR
variable {σ S : gM} {c r k x y : Int} {d : Nat}
theorem tkI.pl (h : tkI σ) : 0 ≤ σ 69 5 ∧ σ 69 5 ≤ 4000 ∧ 0 ≤ σ 68 10 := by
  obtain ⟨⟨τ, tx, k1, k2⟩, m⟩ := h
  have := tx.2.1
  unfold tKp at k1
  omega
theorem gd0 (g : r = 0 ↔ σ 69 8 ≠ 0) (z : ¬ r = 0) : σ 69 8 = 0 := by
  by_cases q : σ 69 8 = 0
  · exact q
  · exact absurd (g.mpr q) z
theorem bp_product (g : σ 69 8 ≠ 0) (h : ps_product_b5 d σ x = some (S, r)) : S 69 8 ≠ 0 := by
  rw [ps_product_b5_e, ps_good_b g] at h
  simp only [Option.bind_some, if_true] at h
  obtain ⟨rfl, rfl⟩ := sp h
  exact g
theorem lp_product_b (ih : XP 1 1 (ps_unary d)) (m : Nat) : ∀ (σ S : gM) (r x : Int), okS σ → (σ 69 8 = 0 → 4000 - σ 69 5 < m) → ps_product_b5 d σ x = some (S, r) → Bd 0 0 σ S := by
  induction m with
  | zero =>
    intro σ S r x ok hm h
    by_cases g : σ 69 8 = 0
    · have := (ok g).pl
      have := hm g
      omega
    · exact Bd.bad (bp_product g h)
  | succ m IH =>
    intro σ S r x ok hm h
    have b56 : ∀ k, (σ 69 4 = 4 ∧ σ 69 8 = 0) → ((ps_two σ k x).bind fun p1 => (ps_unary d p1.1).bind fun p2 => if 0 ≤ p1.2 ∧ p1.2 < 4200 then (ps_product_b5 d (gW p2.1 73 p1.2 p2.2) p1.2) else none) = some (S, r) → Bd 0 0 σ S := by
      intro k w h
      obtain ⟨⟨s1, r1⟩, h1, h⟩ := ob h
      obtain ⟨⟨s2, r2⟩, h2, h⟩ := ob h
      have q1 := q_two h1 ok (fun _ => by omega)
      have q2 := q1.tr (ih _ _ _ q1.ok h2)
      try dsimp only at h
      split at h
      · have q3 := q2.w (a := 73) (i := r1) (v := r2) (by decide) (by omega)
        have q4 := IH _ S r r1 q3.ok (fun g => by have := (q3 g).2.2.2; have := hm w.2; omega) h
        exact (q3.tr q4).le (by decide) (by decide)
      · cases h
    have b36 : (σ 69 4 = 4 ∧ σ 69 8 = 0) → ps_product_b36 d σ x = some (S, r) → Bd 0 0 σ S := by
      intro w h
      rw [ps_product_b36_e] at h
      obtain ⟨⟨s1, r1⟩, h1, h⟩ := ob h
      obtain ⟨rfl, w1⟩ := q_is h1
      try dsimp only at h
      split at h
      · rw [ps_product_b56_e] at h
        exact b56 _ w h
      · rw [ps_product_b56_e] at h
        exact b56 _ w h
    rw [ps_product_b5_e] at h
    obtain ⟨⟨s1, r1⟩, h1, h⟩ := ob h
    obtain ⟨rfl, g1⟩ := q_good h1
    try dsimp only at h
    split at h
    · obtain ⟨rfl, rfl⟩ := sp h
      exact Bd.rf ok
    · obtain ⟨⟨s2, r2⟩, h2, h⟩ := ob h
      obtain ⟨rfl, w2⟩ := q_is h2
      try dsimp only at h
      split at h
      · obtain ⟨⟨s3, r3⟩, h3, h⟩ := ob h
        obtain ⟨rfl, w3⟩ := q_is h3
        try dsimp only at h
        split at h
        · obtain ⟨rfl, rfl⟩ := sp h
          exact Bd.rf ok
        · exact b36 (w3 (by assumption)) h
      · exact b36 (w2 (by assumption)) h
theorem lp_product (ih : XP 1 1 (ps_unary d)) : XP 1 1 (ps_product (d + 1)) := by
  intro σ S r ok h
  rw [ps_product_e] at h
  obtain ⟨⟨s1, r1⟩, h1, h⟩ := ob h
  have q1 := ih _ _ _ ok h1
  have q2 := lp_product_b ih (4001 - s1 69 5).toNat _ _ _ _ q1.ok (fun g => by have := (q1.ok g).pl; omega) h
  exact (q1.tr q2).le (by decide) (by decide)
theorem bp_sum (g : σ 69 8 ≠ 0) (h : ps_sum_b5 d σ x = some (S, r)) : S 69 8 ≠ 0 := by
  rw [ps_sum_b5_e, ps_good_b g] at h
  simp only [Option.bind_some, if_true] at h
  obtain ⟨rfl, rfl⟩ := sp h
  exact g
theorem lp_sum_b (ih : XP 1 1 (ps_product d)) (m : Nat) : ∀ (σ S : gM) (r x : Int), okS σ → (σ 69 8 = 0 → 4000 - σ 69 5 < m) → ps_sum_b5 d σ x = some (S, r) → Bd 0 0 σ S := by
  induction m with
  | zero =>
    intro σ S r x ok hm h
    by_cases g : σ 69 8 = 0
    · have := (ok g).pl
      have := hm g
      omega
    · exact Bd.bad (bp_sum g h)
  | succ m IH =>
    intro σ S r x ok hm h
    have b56 : ∀ k, (σ 69 4 = 4 ∧ σ 69 8 = 0) → ((ps_two σ k x).bind fun p1 => (ps_product d p1.1).bind fun p2 => if 0 ≤ p1.2 ∧ p1.2 < 4200 then (ps_sum_b5 d (gW p2.1 73 p1.2 p2.2) p1.2) else none) = some (S, r) → Bd 0 0 σ S := by
      intro k w h
      obtain ⟨⟨s1, r1⟩, h1, h⟩ := ob h
      obtain ⟨⟨s2, r2⟩, h2, h⟩ := ob h
      have q1 := q_two h1 ok (fun _ => by omega)
      have q2 := q1.tr (ih _ _ _ q1.ok h2)
      try dsimp only at h
      split at h
      · have q3 := q2.w (a := 73) (i := r1) (v := r2) (by decide) (by omega)
        have q4 := IH _ S r r1 q3.ok (fun g => by have := (q3 g).2.2.2; have := hm w.2; omega) h
        exact (q3.tr q4).le (by decide) (by decide)
      · cases h
    have b36 : (σ 69 4 = 4 ∧ σ 69 8 = 0) → ps_sum_b36 d σ x = some (S, r) → Bd 0 0 σ S := by
      intro w h
      rw [ps_sum_b36_e] at h
      obtain ⟨⟨s1, r1⟩, h1, h⟩ := ob h
      obtain ⟨rfl, w1⟩ := q_is h1
      try dsimp only at h
      split at h
      · rw [ps_sum_b56_e] at h
        exact b56 _ w h
      · rw [ps_sum_b56_e] at h
        exact b56 _ w h
    rw [ps_sum_b5_e] at h
    obtain ⟨⟨s1, r1⟩, h1, h⟩ := ob h
    obtain ⟨rfl, g1⟩ := q_good h1
    try dsimp only at h
    split at h
    · obtain ⟨rfl, rfl⟩ := sp h
      exact Bd.rf ok
    · obtain ⟨⟨s2, r2⟩, h2, h⟩ := ob h
      obtain ⟨rfl, w2⟩ := q_is h2
      try dsimp only at h
      split at h
      · obtain ⟨⟨s3, r3⟩, h3, h⟩ := ob h
        obtain ⟨rfl, w3⟩ := q_is h3
        try dsimp only at h
        split at h
        · obtain ⟨rfl, rfl⟩ := sp h
          exact Bd.rf ok
        · exact b36 (w3 (by assumption)) h
      · exact b36 (w2 (by assumption)) h
theorem lp_sum (ih : XP 1 1 (ps_product d)) : XP 1 1 (ps_sum (d + 1)) := by
  intro σ S r ok h
  rw [ps_sum_e] at h
  obtain ⟨⟨s1, r1⟩, h1, h⟩ := ob h
  have q1 := ih _ _ _ ok h1
  have q2 := lp_sum_b ih (4001 - s1 69 5).toNat _ _ _ _ q1.ok (fun g => by have := (q1.ok g).pl; omega) h
  exact (q1.tr q2).le (by decide) (by decide)
theorem bp_and (g : σ 69 8 ≠ 0) (h : ps_and_b5 d σ x = some (S, r)) : S 69 8 ≠ 0 := by
  rw [ps_and_b5_e, ps_good_b g] at h
  simp only [Option.bind_some, if_true] at h
  obtain ⟨rfl, rfl⟩ := sp h
  exact g
theorem lp_and_b (ih : XP 1 1 (ps_equal d)) (m : Nat) : ∀ (σ S : gM) (r x : Int), okS σ → (σ 69 8 = 0 → 4000 - σ 69 5 < m) → ps_and_b5 d σ x = some (S, r) → Bd 0 0 σ S := by
  induction m with
  | zero =>
    intro σ S r x ok hm h
    by_cases g : σ 69 8 = 0
    · have := (ok g).pl
      have := hm g
      omega
    · exact Bd.bad (bp_and g h)
  | succ m IH =>
    intro σ S r x ok hm h
    have b56 : ∀ k, (σ 69 4 = 4 ∧ σ 69 8 = 0) → ((ps_two σ k x).bind fun p1 => (ps_equal d p1.1).bind fun p2 => if 0 ≤ p1.2 ∧ p1.2 < 4200 then (ps_and_b5 d (gW p2.1 73 p1.2 p2.2) p1.2) else none) = some (S, r) → Bd 0 0 σ S := by
      intro k w h
      obtain ⟨⟨s1, r1⟩, h1, h⟩ := ob h
      obtain ⟨⟨s2, r2⟩, h2, h⟩ := ob h
      have q1 := q_two h1 ok (fun _ => by omega)
      have q2 := q1.tr (ih _ _ _ q1.ok h2)
      try dsimp only at h
      split at h
      · have q3 := q2.w (a := 73) (i := r1) (v := r2) (by decide) (by omega)
        have q4 := IH _ S r r1 q3.ok (fun g => by have := (q3 g).2.2.2; have := hm w.2; omega) h
        exact (q3.tr q4).le (by decide) (by decide)
      · cases h
    rw [ps_and_b5_e] at h
    obtain ⟨⟨s1, r1⟩, h1, h⟩ := ob h
    obtain ⟨rfl, g1⟩ := q_good h1
    try dsimp only at h
    split at h
    · obtain ⟨rfl, rfl⟩ := sp h
      exact Bd.rf ok
    · obtain ⟨⟨s2, r2⟩, h2, h⟩ := ob h
      obtain ⟨rfl, w2⟩ := q_is h2
      try dsimp only at h
      split at h
      · obtain ⟨rfl, rfl⟩ := sp h
        exact Bd.rf ok
      · exact b56 _ (w2 (by assumption)) h
theorem lp_and (ih : XP 1 1 (ps_equal d)) : XP 1 1 (ps_and (d + 1)) := by
  intro σ S r ok h
  rw [ps_and_e] at h
  obtain ⟨⟨s1, r1⟩, h1, h⟩ := ob h
  have q1 := ih _ _ _ ok h1
  have q2 := lp_and_b ih (4001 - s1 69 5).toNat _ _ _ _ q1.ok (fun g => by have := (q1.ok g).pl; omega) h
  exact (q1.tr q2).le (by decide) (by decide)
theorem bp_or (g : σ 69 8 ≠ 0) (h : ps_or_b5 d σ x = some (S, r)) : S 69 8 ≠ 0 := by
  rw [ps_or_b5_e, ps_good_b g] at h
  simp only [Option.bind_some, if_true] at h
  obtain ⟨rfl, rfl⟩ := sp h
  exact g
theorem lp_or_b (ih : XP 1 1 (ps_and d)) (m : Nat) : ∀ (σ S : gM) (r x : Int), okS σ → (σ 69 8 = 0 → 4000 - σ 69 5 < m) → ps_or_b5 d σ x = some (S, r) → Bd 0 0 σ S := by
  induction m with
  | zero =>
    intro σ S r x ok hm h
    by_cases g : σ 69 8 = 0
    · have := (ok g).pl
      have := hm g
      omega
    · exact Bd.bad (bp_or g h)
  | succ m IH =>
    intro σ S r x ok hm h
    have b56 : ∀ k, (σ 69 4 = 4 ∧ σ 69 8 = 0) → ((ps_two σ k x).bind fun p1 => (ps_and d p1.1).bind fun p2 => if 0 ≤ p1.2 ∧ p1.2 < 4200 then (ps_or_b5 d (gW p2.1 73 p1.2 p2.2) p1.2) else none) = some (S, r) → Bd 0 0 σ S := by
      intro k w h
      obtain ⟨⟨s1, r1⟩, h1, h⟩ := ob h
      obtain ⟨⟨s2, r2⟩, h2, h⟩ := ob h
      have q1 := q_two h1 ok (fun _ => by omega)
      have q2 := q1.tr (ih _ _ _ q1.ok h2)
      try dsimp only at h
      split at h
      · have q3 := q2.w (a := 73) (i := r1) (v := r2) (by decide) (by omega)
        have q4 := IH _ S r r1 q3.ok (fun g => by have := (q3 g).2.2.2; have := hm w.2; omega) h
        exact (q3.tr q4).le (by decide) (by decide)
      · cases h
    rw [ps_or_b5_e] at h
    obtain ⟨⟨s1, r1⟩, h1, h⟩ := ob h
    obtain ⟨rfl, g1⟩ := q_good h1
    try dsimp only at h
    split at h
    · obtain ⟨rfl, rfl⟩ := sp h
      exact Bd.rf ok
    · obtain ⟨⟨s2, r2⟩, h2, h⟩ := ob h
      obtain ⟨rfl, w2⟩ := q_is h2
      try dsimp only at h
      split at h
      · obtain ⟨rfl, rfl⟩ := sp h
        exact Bd.rf ok
      · exact b56 _ (w2 (by assumption)) h
theorem lp_or (ih : XP 1 1 (ps_and d)) : XP 1 1 (ps_or (d + 1)) := by
  intro σ S r ok h
  rw [ps_or_e] at h
  obtain ⟨⟨s1, r1⟩, h1, h⟩ := ob h
  have q1 := ih _ _ _ ok h1
  have q2 := lp_or_b ih (4001 - s1 69 5).toNat _ _ _ _ q1.ok (fun g => by have := (q1.ok g).pl; omega) h
  exact (q1.tr q2).le (by decide) (by decide)
theorem lp_less (ih : XP 1 1 (ps_sum d)) : XP 1 1 (ps_less (d + 1)) := by
  intro σ S r ok h
  rw [ps_less_e] at h
  obtain ⟨⟨s0, r0⟩, h0, h⟩ := ob h
  have q0 := ih _ _ _ ok h0
  have b85 : ∀ k, (k < 0 ∨ (s0 69 4 = 4 ∧ s0 69 8 = 0)) → ps_less_b85 d s0 r0 k = some (S, r) → Bd 1 1 σ S := by
    intro k w h
    rw [ps_less_b85_e] at h
    split at h
    · obtain ⟨rfl, rfl⟩ := sp h
      exact q0
    · obtain ⟨⟨s1, r1⟩, h1, h⟩ := ob h
      obtain ⟨⟨s2, r2⟩, h2, h⟩ := ob h
      have q1 := q_two h1 q0.ok (fun _ => by omega)
      have q2 := q1.tr (ih _ _ _ q1.ok h2)
      try dsimp only at h
      split at h
      · obtain ⟨rfl, rfl⟩ := sp h
        exact ((q0.tr q2).le (by decide) (by decide)).w (by decide) (by omega)
      · cases h
  obtain ⟨⟨s1, r1⟩, h1, h⟩ := ob h
  obtain ⟨rfl, g1⟩ := q_good h1
  try dsimp only at h
  split at h
  · obtain ⟨rfl, rfl⟩ := sp h
    exact q0
  · obtain ⟨⟨s2, r2⟩, h2, h⟩ := ob h
    obtain ⟨rfl, w2⟩ := q_is h2
    try dsimp only at h
    split at h
    · obtain ⟨⟨s3, r3⟩, h3, h⟩ := ob h
      obtain ⟨rfl, w3⟩ := q_is h3
      try dsimp only at h
      split at h
      · obtain ⟨⟨s4, r4⟩, h4, h⟩ := ob h
        obtain ⟨rfl, w4⟩ := q_is h4
        try dsimp only at h
        split at h
        · obtain ⟨⟨s5, r5⟩, h5, h⟩ := ob h
          obtain ⟨rfl, w5⟩ := q_is h5
          try dsimp only at h
          split at h
          · exact b85 _ (Or.inl (by decide)) h
          · exact b85 _ (Or.inr (w5 (by assumption))) h
        · exact b85 _ (Or.inr (w4 (by assumption))) h
      · exact b85 _ (Or.inr (w3 (by assumption))) h
    · exact b85 _ (Or.inr (w2 (by assumption))) h
theorem lp_equal (ih : XP 1 1 (ps_less d)) : XP 1 1 (ps_equal (d + 1)) := by
  intro σ S r ok h
  rw [ps_equal_e] at h
  obtain ⟨⟨s0, r0⟩, h0, h⟩ := ob h
  have q0 := ih _ _ _ ok h0
  have b42 : ∀ k, (s0 69 4 = 4 ∧ s0 69 8 = 0) → ps_equal_b42 d s0 r0 k = some (S, r) → Bd 1 1 σ S := by
    intro k w h
    have b54 : ∀ k, ps_equal_b54 d s0 r0 k = some (S, r) → Bd 1 1 σ S := by
      intro k h
      rw [ps_equal_b54_e] at h
      obtain ⟨⟨s1, r1⟩, h1, h⟩ := ob h
      obtain ⟨⟨s2, r2⟩, h2, h⟩ := ob h
      have q1 := q_two h1 q0.ok (fun _ => by omega)
      have q2 := q1.tr (ih _ _ _ q1.ok h2)
      try dsimp only at h
      split at h
      · obtain ⟨rfl, rfl⟩ := sp h
        exact ((q0.tr q2).le (by decide) (by decide)).w (by decide) (by omega)
      · cases h
    rw [ps_equal_b42_e] at h
    split at h
    · exact b54 _ h
    · exact b54 _ h
  obtain ⟨⟨s1, r1⟩, h1, h⟩ := ob h
  obtain ⟨rfl, w1⟩ := q_is h1
  try dsimp only at h
  obtain ⟨⟨s2, r2⟩, h2, h⟩ := ob h
  obtain ⟨rfl, g2⟩ := q_good h2
  try dsimp only at h
  split at h
  · obtain ⟨rfl, rfl⟩ := sp h
    exact q0
  · split at h
    · obtain ⟨⟨s3, r3⟩, h3, h⟩ := ob h
      obtain ⟨rfl, w3⟩ := q_is h3
      try dsimp only at h
      split at h
      · obtain ⟨rfl, rfl⟩ := sp h
        exact q0
      · exact b42 _ (w3 (by assumption)) h
    · exact b42 _ (w1 (by assumption)) h
end PR
