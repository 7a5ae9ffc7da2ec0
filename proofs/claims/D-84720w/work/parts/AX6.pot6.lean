/-! potential: statements, blocks -/
section PU
variable {σ S : gM} {c r k x y : Int} {d : Nat}
theorem q_condition (h : ps_condition σ x = some (S, r)) (ok : okS σ) : Bd 0 1 σ S := by
  have b14 : ∀ σ1 : gM, okS σ1 → ps_condition_b14 σ1 x = some (S, r) → Bd 0 1 σ1 S := by
    intro σ1 ok h
    rw [ps_condition_b14_e] at h
    obtain ⟨⟨s1, r1⟩, h1, h⟩ := ob h
    have q1 := q_opens h1 ok
    obtain ⟨⟨s2, r2⟩, h2, h⟩ := ob h
    have q2 := q1.tr ((lp_all 300).1 _ _ _ q1.ok h2)
    try dsimp only at h
    split at h
    · obtain ⟨⟨s3, r3⟩, h3, h⟩ := ob h
      obtain ⟨rfl, rfl⟩ := sp h
      have q3 := q2.w (a := 72) (i := x) (v := r2) (by decide) (by omega)
      exact (q3.tr (q_closes h3 q3.ok)).le (by decide) (by decide)
    · cases h
  rw [ps_condition_e] at h
  obtain ⟨⟨s1, r1⟩, h1, h⟩ := ob h
  obtain ⟨rfl, g1⟩ := q_good h1
  try dsimp only at h
  split at h
  · exact b14 _ ok h
  · rename_i z
    obtain ⟨⟨s2, r2⟩, h2, h⟩ := ob h
    have q2 := q_read0 h2 ok (gd0 g1 z)
    exact (q2.tr (b14 _ q2.ok h)).le (by decide) (by decide)
theorem s192 (h : ps_statement_b192 d σ x = some (S, r)) (ok : okS σ) : Bd (-1) 1 σ S := by
  rw [ps_statement_b192_e] at h
  obtain ⟨⟨s1, r1⟩, h1, h⟩ := ob h
  obtain ⟨rfl, rfl⟩ := sp h
  exact q_must h1 ok
theorem s163 (h : ps_statement_b163 d σ x = some (S, r)) (ok : okS σ) : Bd 0 1 σ S := by
  rw [ps_statement_b163_e] at h
  obtain ⟨⟨s1, r1⟩, h1, h⟩ := ob h
  obtain ⟨rfl, g1⟩ := q_good h1
  try dsimp only at h
  split at h
  · exact (s192 h ok).le (by decide) (by decide)
  · obtain ⟨⟨s2, r2⟩, h2, h⟩ := ob h
    obtain ⟨rfl, w2⟩ := q_is h2
    try dsimp only at h
    split at h
    · obtain ⟨⟨s3, r3⟩, h3, h⟩ := ob h
      have q3 := (lp_all 300).1 _ _ _ ok h3
      try dsimp only at h
      split at h
      · have q4 := q3.w (a := 72) (i := x) (v := r3) (by decide) (by omega)
        exact (q4.tr (s192 h q4.ok)).le (by decide) (by decide)
      · cases h
    · exact (s192 h ok).le (by decide) (by decide)
theorem s272 (h : ps_statement_b272 d σ x = some (S, r)) (ok : okS σ) : Bd 0 1 σ S := by
  have b286 : ∀ σ1 : gM, okS σ1 → ps_statement_b286 d σ1 x = some (S, r) → Bd (-1) 1 σ1 S := by
    intro σ1 ok h
    rw [ps_statement_b286_e] at h
    obtain ⟨⟨s1, r1⟩, h1, h⟩ := ob h
    obtain ⟨rfl, rfl⟩ := sp h
    exact q_must h1 ok
  rw [ps_statement_b272_e] at h
  obtain ⟨⟨s1, r1⟩, h1, h⟩ := ob h
  obtain ⟨rfl, g1⟩ := q_good h1
  try dsimp only at h
  split at h
  · exact (b286 _ ok h).le (by decide) (by decide)
  · rename_i z
    obtain ⟨⟨s2, r2⟩, h2, h⟩ := ob h
    have q2 := q_read0 h2 ok (gd0 g1 z)
    exact (q2.tr (b286 _ q2.ok h)).le (by decide) (by decide)
theorem s225 (h : ps_statement_b225 d σ = some (S, r)) (ok : okS σ) : Bd 0 1 σ S := by
  have b245 : ∀ k, ps_statement_b245 d σ k = some (S, r) → Bd 0 1 σ S := by
    intro k h
    rw [ps_statement_b245_e] at h
    obtain ⟨⟨s1, r1⟩, h1, h⟩ := ob h
    obtain ⟨q1, q2⟩ := q_node h1 ok
    try dsimp only at h
    split at h
    · obtain ⟨⟨s2, r2⟩, h2, h⟩ := ob h
      have b := q_fails h2 (by decide)
      exact fun g => absurd (s272 h (fun z => absurd z b) g).1 b
    · exact (q1.tr (s272 h q1.ok)).le (by decide) (by decide)
  rw [ps_statement_b225_e] at h
  obtain ⟨⟨s1, r1⟩, h1, h⟩ := ob h
  obtain ⟨rfl, w1⟩ := q_word h1
  try dsimp only at h
  split at h
  · exact b245 _ h
  · exact b245 _ h
theorem lp_statement (ib : XP 0 1 (ps_block d)) : XP 0 1 (ps_statement (d + 1)) := by
  intro σ S r ok h
  rw [ps_statement_e] at h
  obtain ⟨⟨s1, r1⟩, h1, h⟩ := ob h
  obtain ⟨rfl, w1⟩ := q_word h1
  try dsimp only at h
  split at h
  · obtain ⟨⟨s2, r2⟩, h2, h⟩ := ob h
    obtain ⟨rfl, w2⟩ := q_word h2
    try dsimp only at h
    split at h
    · obtain ⟨⟨s3, r3⟩, h3, h⟩ := ob h
      obtain ⟨rfl, w3⟩ := q_word h3
      try dsimp only at h
      split at h
      · obtain ⟨⟨s4, r4⟩, h4, h⟩ := ob h
        obtain ⟨rfl, w4⟩ := q_word h4
        try dsimp only at h
        split at h
        · obtain ⟨⟨s5, r5⟩, h5, h⟩ := ob h
          obtain ⟨rfl, w5⟩ := q_word h5
          try dsimp only at h
          split at h
          · obtain ⟨⟨s6, r6⟩, h6, h⟩ := ob h
            have q6 := (q_blank rfl h6 ok).1
            obtain ⟨⟨s7, r7⟩, h7, h⟩ := ob h
            have q7 := q6.tr ((lp_all 300).1 _ _ _ q6.ok h7)
            try dsimp only at h
            split at h
            · obtain ⟨⟨s8, r8⟩, h8, h⟩ := ob h
              obtain ⟨rfl, rfl⟩ := sp h
              have q8 := q7.w (a := 72) (i := r) (v := r7) (by decide) (by omega)
              exact (q8.tr (q_must h8 q8.ok)).le (by decide) (by decide)
            · cases h
          · exact s225 h ok
        · exact s225 h ok
      · obtain ⟨⟨s4, r4⟩, h4, h⟩ := ob h
        obtain ⟨q4, -⟩ := q_node h4 ok
        obtain ⟨⟨s5, r5⟩, h5, h⟩ := ob h
        obtain ⟨rfl, g5⟩ := q_good h5
        try dsimp only at h
        split at h
        · exact (q4.tr (s163 h q4.ok)).le (by decide) (by decide)
        · rename_i z
          obtain ⟨⟨s6, r6⟩, h6, h⟩ := ob h
          have q6 := q4.tr (q_read0 h6 q4.ok (gd0 g5 z))
          exact (q6.tr (s163 h q6.ok)).le (by decide) (by decide)
    · obtain ⟨⟨s3, r3⟩, h3, h⟩ := ob h
      obtain ⟨q3, -⟩ := q_node h3 ok
      obtain ⟨⟨s4, r4⟩, h4, h⟩ := ob h
      have q4 := q3.tr (q_condition h4 q3.ok)
      obtain ⟨⟨s5, r5⟩, h5, h⟩ := ob h
      have q5 := q4.w (a := 68) (i := 22) (v := w32 (s4 68 22 + 1)) (by decide) (by decide)
      have q6 := q5.tr (ib _ _ _ q5.ok h5)
      try dsimp only at h
      split at h
      · obtain ⟨rfl, rfl⟩ := sp h
        exact ((q6.le (by decide) (by decide)).w (by decide) (by omega)).w (by decide) (by decide)
      · cases h
  · obtain ⟨⟨s3, r3⟩, h3, h⟩ := ob h
    obtain ⟨q3, -⟩ := q_node h3 ok
    obtain ⟨⟨s4, r4⟩, h4, h⟩ := ob h
    have q4 := q3.tr (q_condition h4 q3.ok)
    obtain ⟨⟨s5, r5⟩, h5, h⟩ := ob h
    have q5 := q4.tr (ib _ _ _ q4.ok h5)
    try dsimp only at h
    split at h
    · have q6 := q5.w (a := 73) (i := r3) (v := r5) (by decide) (by omega)
      obtain ⟨⟨s6, r6⟩, h6, h⟩ := ob h
      obtain ⟨rfl, g6⟩ := q_good h6
      try dsimp only at h
      split at h
      · obtain ⟨rfl, rfl⟩ := sp h
        exact q6.le (by decide) (by decide)
      · rename_i z
        obtain ⟨⟨s7, r7⟩, h7, h⟩ := ob h
        obtain ⟨rfl, w7⟩ := q_word h7
        try dsimp only at h
        split at h
        · obtain ⟨rfl, rfl⟩ := sp h
          exact q6.le (by decide) (by decide)
        · obtain ⟨⟨s8, r8⟩, h8, h⟩ := ob h
          have q8 := q6.tr (q_read0 h8 q6.ok (gd0 g6 z))
          obtain ⟨⟨s9, r9⟩, h9, h⟩ := ob h
          have q9 := q8.tr (ib _ _ _ q8.ok h9)
          try dsimp only at h
          obtain ⟨rfl, rfl⟩ := sp h
          exact (q9.le (by decide) (by decide)).w (by decide) (by omega)
    · cases h
theorem k55 (h : ps_block_b55 d σ x = some (S, r)) (ok : okS σ) : Bd (-1) 1 σ S := by
  rw [ps_block_b55_e] at h
  obtain ⟨⟨s1, r1⟩, h1, h⟩ := ob h
  obtain ⟨rfl, rfl⟩ := sp h
  exact q_closes h1 ok
theorem k10 (ih : XP 0 1 (ps_statement d)) (m : Nat) : ∀ (σ S : gM) (r x y : Int), okS σ → (σ 69 8 = 0 → 4000 - σ 69 5 < m) → ps_block_b10 d σ x y = some (S, r) → Bd (-1) 1 σ S := by
  induction m with
  | zero =>
    intro σ S r x y ok hm h
    by_cases g : σ 69 8 = 0
    · have := (ok g).pl
      have := hm g
      omega
    · rw [ps_block_b10_e, ps_good_b g] at h
      simp only [Option.bind_some, if_true] at h
      exact k55 h ok
  | succ m IH =>
    intro σ S r x y ok hm h
    rw [ps_block_b10_e] at h
    obtain ⟨⟨s1, r1⟩, h1, h⟩ := ob h
    obtain ⟨rfl, g1⟩ := q_good h1
    try dsimp only at h
    split at h
    · exact k55 h ok
    · rename_i z
      have g := gd0 g1 z
      obtain ⟨⟨s2, r2⟩, h2, h⟩ := ob h
      obtain ⟨rfl, w2⟩ := q_is h2
      try dsimp only at h
      split at h
      · obtain ⟨⟨s3, r3⟩, h3, h⟩ := ob h
        have q3 := ih _ _ _ ok h3
        try dsimp only at h
        split at h
        · rw [ps_block_b50_e] at h
          exact (q3.tr (IH _ _ _ _ _ q3.ok (fun g' => by have := (q3 g').2.2.2; have := hm g; omega) h)).le (by decide) (by decide)
        · split at h
          · rw [ps_block_b50_e] at h
            have q4 := q3.w (a := 75) (i := y) (v := r3) (by decide) (by omega)
            exact (q4.tr (IH _ _ _ _ _ q4.ok (fun g' => by have := (q4 g').2.2.2; have := hm g; omega) h)).le (by decide) (by decide)
          · cases h
      · exact k55 h ok
theorem lp_block (ih : XP 0 1 (ps_statement d)) : XP 0 1 (ps_block (d + 1)) := by
  intro σ S r ok h
  rw [ps_block_e] at h
  obtain ⟨⟨s1, r1⟩, h1, h⟩ := ob h
  have q1 := q_opens h1 ok
  exact (q1.tr (k10 ih (4001 - s1 69 5).toNat _ _ _ _ _ q1.ok (fun g => by have := (q1.ok g).pl; omega) h)).le (by decide) (by decide)
theorem lp_bl : ∀ d : Nat, XP 0 1 (ps_block d) ∧ XP 0 1 (ps_statement d)
  | 0 => by
    have no : ∀ {f : Nat → Option (gM × Int)} {x : Option (gM × Int)} {y : gM × Int}, Lm f x → (∀ n, f n = none) → x = some y → False := fun l z e => by
      obtain ⟨n, hn⟩ := (l.2 _).mp e
      rw [z n] at hn
      cases hn
    exact ⟨fun σ S r _ h => (no (ps_block_l 0 σ) (fun _ => rfl) h).elim, fun σ S r _ h => (no (ps_statement_l 0 σ) (fun _ => rfl) h).elim⟩
  | d + 1 => ⟨lp_block (lp_bl d).2, lp_statement (lp_bl d).1⟩
end PU
