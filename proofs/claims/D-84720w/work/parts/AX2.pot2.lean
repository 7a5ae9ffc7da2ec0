/-! potential: nodes, signs, expressions -/
/-- a function of the grammar: s more at most, p signs further at least -/
def XP (s p : Int) (X : gM → Option (gM × Int)) : Prop := ∀ σ S r, okS σ → X σ = some (S, r) → Bd s p σ S
section PQ
variable {σ S : gM} {c r k x y : Int} {d : Nat}
theorem q_blank (hx : x = σ 68 10) (h : ps_blank σ x k = some (S, r)) (ok : okS σ) : Bd 0 0 σ S ∧ (r = σ 68 10 ∧ S 68 10 = r + 1 ∧ S 77 r = 0 ∧ S 69 = σ 69 ∧ 0 ≤ r ∧ r < 4200) := by
  rw [ps_blank_e] at h
  by_cases hb : 0 ≤ x ∧ x < 4200
  · simp only [if_pos hb] at h
    rw [w32_e (by omega) (by omega)] at h
    obtain ⟨rfl, rfl⟩ := sp h
    have c : ∀ (a : Int), a ≠ 68 → ¬ (70 ≤ a ∧ a ≤ 78) → (gW (gW (gW (gW (gW (gW (gW (gW (gW (gW σ 68 10 (σ 68 10 + 1)) 70 r k) 71 r (σ 69 5)) 72 r (-1)) 73 r (-1)) 74 r (-1)) 75 r (-1)) 76 r (-1)) 77 r 0) 78 r 0) a = σ a := by
      intro a q1 q2
      funext i
      rw [gW_c (by omega), gW_c (by omega), gW_c (by omega), gW_c (by omega), gW_c (by omega), gW_c (by omega), gW_c (by omega), gW_c (by omega), gW_c (by omega), gW_c (by omega)]
    have e10 : (gW (gW (gW (gW (gW (gW (gW (gW (gW (gW σ 68 10 (σ 68 10 + 1)) 70 r k) 71 r (σ 69 5)) 72 r (-1)) 73 r (-1)) 74 r (-1)) 75 r (-1)) 76 r (-1)) 77 r 0) 78 r 0) 68 10 = σ 68 10 + 1 := by simp [gW]
    have e77 : ∀ i, (gW (gW (gW (gW (gW (gW (gW (gW (gW (gW σ 68 10 (σ 68 10 + 1)) 70 r k) 71 r (σ 69 5)) 72 r (-1)) 73 r (-1)) 74 r (-1)) 75 r (-1)) 76 r (-1)) 77 r 0) 78 r 0) 77 i = if i = r then 0 else σ 77 i := by
      intro i
      rw [gW_c (by decide), gW_if, gW_c (by decide), gW_c (by decide), gW_c (by decide), gW_c (by decide), gW_c (by decide), gW_c (by decide), gW_c (by decide), gW_c (by decide)]
    generalize (gW (gW (gW (gW (gW (gW (gW (gW (gW (gW σ 68 10 (σ 68 10 + 1)) 70 r k) 71 r (σ 69 5)) 72 r (-1)) 73 r (-1)) 74 r (-1)) 75 r (-1)) 76 r (-1)) 77 r 0) 78 r 0) = S at *
    refine ⟨fun g => ?_, hx, by omega, by rw [e77, if_pos rfl], c 69 (by decide) (by decide), hb⟩
    rw [c 69 (by decide) (by decide)] at g
    refine ⟨g, tkI_mv (ok g) (c 1 (by decide) (by decide)) (c 118 (by decide) (by decide)) (c 69 (by decide) (by decide)) (by omega), ?_, by rw [c 69 (by decide) (by decide)]; omega⟩
    rw [Fq_nx (by omega) (fun i hi => by rw [e77, if_neg (by omega)]) e10, e77, if_pos hx.symm, c 69 (by decide) (by decide)]
    have : wp 0 = 0 := rfl
    omega
  · rw [if_neg hb] at h
    cases h
theorem q_node (h : ps_node σ k = some (S, r)) (ok : okS σ) : Bd 0 0 σ S ∧ (S 69 8 = 0 → r = σ 68 10 ∧ S 68 10 = r + 1 ∧ S 77 r = 0 ∧ S 69 = σ 69 ∧ 0 ≤ r ∧ r < 4200) := by
  have b31 : ∀ σ' : gM, okS σ' → σ' 68 10 = σ 68 10 → ps_node_b31 σ' k (σ 68 10) = some (S, r) → Bd 0 0 σ' S ∧ (r = σ 68 10 ∧ S 68 10 = r + 1 ∧ S 77 r = 0 ∧ S 69 = σ' 69 ∧ 0 ≤ r ∧ r < 4200) := by
    intro σ' ok' e h
    rw [ps_node_b31_e] at h
    obtain ⟨⟨s1, r1⟩, h1, h⟩ := ob h
    obtain ⟨rfl, rfl⟩ := sp h
    have q := q_blank (by rw [gW_i (by decide), e]) h1 (ok'.w (by decide) (by decide))
    rw [gW_i (by decide), gW_cell (by decide), e] at q
    exact ⟨q.1.wl (by decide) (by decide), q.2⟩
  rw [ps_node_e] at h
  split at h
  · obtain ⟨⟨s1, r1⟩, h1, h⟩ := ob h
    have b := q_fails h1 (by decide)
    have e : s1 68 10 = σ 68 10 := by
      rw [tk_fails_e] at h1
      split at h1
      · obtain ⟨rfl, -⟩ := sp h1
        rw [gW_c (by decide), gW_c (by decide)]
      · obtain ⟨rfl, -⟩ := sp h1
        rfl
    have q := b31 s1 (fun g => absurd g b) e h
    have : S 69 8 ≠ 0 := by rw [q.2.2.2.2.1]; exact b
    exact ⟨Bd.bad this, fun g => absurd g this⟩
  · have q := b31 σ ok rfl h
    exact ⟨q.1, fun _ => q.2⟩
theorem q_open (h : ps_open σ = some (S, r)) (ok : okS σ) (n : σ 69 8 = 0 → σ 69 4 ≠ 0) : Bd (-1) 1 σ S := by
  rw [ps_open_e] at h
  obtain ⟨⟨s1, r1⟩, h1, h⟩ := ob h
  obtain ⟨rfl, g⟩ := q_good h1
  try dsimp only at h
  split at h
  · obtain ⟨rfl, rfl⟩ := sp h
    exact Bd.bad (g.mp (by assumption))
  · rename_i z
    have b33 : ∀ σ' : gM, okS σ' → (σ' 69 8 = 0 → σ' 69 4 ≠ 0) → ps_open_b33 σ' = some (S, r) → Bd (-1) 1 σ' S := by
      intro σ' ok' n' h
      rw [ps_open_b33_e] at h
      obtain ⟨⟨s2, r2⟩, h2, h⟩ := ob h
      obtain ⟨rfl, g2⟩ := q_good h2
      try dsimp only at h
      refine Bd.wl (a := 68) (i := 21) (v := w32 (σ' 68 21 + 1)) ?_ (by decide) (by decide)
      split at h
      · obtain ⟨rfl, rfl⟩ := sp h
        exact Bd.bad (g2.mp (by assumption))
      · obtain ⟨⟨s3, r3⟩, h3, h⟩ := ob h
        obtain ⟨rfl, rfl⟩ := sp h
        have g3 : gW σ' 68 21 (w32 (σ' 68 21 + 1)) 69 8 = 0 := by
          by_cases q : gW σ' 68 21 (w32 (σ' 68 21 + 1)) 69 8 = 0
          · exact q
          · exact absurd (g2.mpr q) (by assumption)
        have g3' : σ' 69 8 = 0 := by rw [gW_c (by decide)] at g3; exact g3
        exact q_read1 h3 (ok'.w (by decide) (by decide)) g3 (by rw [gW_c (by decide)]; exact n' g3')
    split at h
    · obtain ⟨⟨s2, r2⟩, h2, h⟩ := ob h
      have b := q_fails h2 (by decide)
      have q := b33 s2 (fun g => absurd g b) (fun g => absurd g b) h
      exact fun g => absurd (q g).1 b
    · exact b33 _ ok n h
theorem q_opens (h : ps_opens σ c = some (S, r)) (ok : okS σ) : Bd (-1) 1 σ S := by
  have b34 : ∀ σ' : gM, okS σ' → (σ' 69 8 = 0 → σ' 69 4 ≠ 0) → ps_opens_b34 σ' = some (S, r) → Bd (-1) 1 σ' S := by
    intro σ' ok' n' h
    rw [ps_opens_b34_e] at h
    obtain ⟨⟨s2, r2⟩, h2, h⟩ := ob h
    obtain ⟨rfl, rfl⟩ := sp h
    exact q_open h2 ok' n'
  rw [ps_opens_e] at h
  obtain ⟨⟨s1, r1⟩, h1, h⟩ := ob h
  obtain ⟨rfl, g⟩ := q_good h1
  try dsimp only at h
  split at h
  · rename_i z
    have b := g.mp z
    exact b34 _ ok (fun g => absurd g b) h
  · obtain ⟨⟨s2, r2⟩, h2, h⟩ := ob h
    obtain ⟨rfl, w⟩ := q_is h2
    try dsimp only at h
    split at h
    · obtain ⟨⟨s3, r3⟩, h3, h⟩ := ob h
      have b := q_fails h3 (by decide)
      have q := b34 s3 (fun g => absurd g b) (fun g => absurd g b) h
      exact fun g => absurd (q g).1 b
    · rename_i z
      exact b34 _ ok (fun _ => by have := w z; omega) h
theorem q_must (h : ps_must σ c = some (S, r)) (ok : okS σ) : Bd (-1) 1 σ S := by
  rw [ps_must_e] at h
  obtain ⟨⟨s1, r1⟩, h1, h⟩ := ob h
  obtain ⟨rfl, g⟩ := q_good h1
  try dsimp only at h
  split at h
  · obtain ⟨rfl, rfl⟩ := sp h
    exact Bd.bad (g.mp (by assumption))
  · obtain ⟨⟨s2, r2⟩, h2, h⟩ := ob h
    rw [ps_takes_e] at h2
    obtain ⟨⟨s3, r3⟩, h3, h2⟩ := ob h2
    obtain ⟨rfl, w⟩ := q_is h3
    try dsimp only at h2
    split at h2
    · obtain ⟨rfl, rfl⟩ := sp h2
      try dsimp only at h
      rw [if_pos rfl] at h
      obtain ⟨⟨s4, r4⟩, h4, h⟩ := ob h
      obtain ⟨rfl, rfl⟩ := sp h
      exact Bd.bad (q_fails h4 (by decide))
    · rename_i z
      obtain ⟨⟨s4, r4⟩, h4, h2⟩ := ob h2
      obtain ⟨rfl, rfl⟩ := sp h2
      try dsimp only at h
      rw [if_neg (by decide)] at h
      obtain ⟨rfl, rfl⟩ := sp h
      exact q_read1 h4 ok (w z).2 (by have := w z; omega)
theorem q_closes (h : ps_closes σ c = some (S, r)) (ok : okS σ) : Bd (-1) 1 σ S := by
  rw [ps_closes_e] at h
  obtain ⟨⟨s1, r1⟩, h1, h⟩ := ob h
  obtain ⟨rfl, rfl⟩ := sp h
  exact (q_must h1 (ok.w (by decide) (by decide))).wl (by decide) (by decide)
theorem q_two (h : ps_two σ k x = some (S, r)) (ok : okS σ) (n : σ 69 8 = 0 → σ 69 4 ≠ 0) : Bd (-1) 1 σ S := by
  rw [ps_two_e] at h
  obtain ⟨⟨s1, r1⟩, h1, h⟩ := ob h
  obtain ⟨q1, q2⟩ := q_node h1 ok
  try dsimp only at h
  split at h
  · obtain ⟨⟨s2, r2⟩, h2, h⟩ := ob h
    obtain ⟨rfl, g⟩ := q_good h2
    try dsimp only at h
    split at h
    · obtain ⟨rfl, rfl⟩ := sp h
      exact Bd.bad (g.mp (by assumption))
    · obtain ⟨⟨s3, r3⟩, h3, h⟩ := ob h
      obtain ⟨rfl, rfl⟩ := sp h
      have g3 : gW s1 72 r x 69 8 = 0 := by
        by_cases q : gW s1 72 r x 69 8 = 0
        · exact q
        · exact absurd (g.mpr q) (by assumption)
      have g3' : s1 69 8 = 0 := by rw [gW_c (by decide)] at g3; exact g3
      have e := (q2 g3').2.2.2.1
      have gσ := (q1 g3').1
      have b := q_read1 h3 (q1.ok.w (by decide) (by omega)) g3 (by rw [gW_c (by decide), e]; exact n gσ)
      exact ((q1.w (by decide) (by omega)).tr b).le (by decide) (by decide)
  · cases h
end PQ
