/-! potential: all expressions -/
section PT
variable {σ S : gM} {c r k x y : Int} {d : Nat}
/-- calls and parts: a sign is at hand -/
def XQ (X : gM → Int → Option (gM × Int)) : Prop := ∀ σ S r x, okS σ → (σ 69 8 = 0 → σ 69 4 ≠ 0) → X σ x = some (S, r) → Bd 0 1 σ S
theorem h123_b (g : σ 69 8 ≠ 0) (h : ps_behind_b123 d σ x = some (S, r)) : S 69 8 ≠ 0 := by
  rw [ps_behind_b123_e] at h
  split at h
  · obtain ⟨⟨s1, r1⟩, h1, h⟩ := ob h
    rw [ps_good_b (by rw [gW_c (by decide), gW_c (by decide)]; exact g)] at h1
    obtain ⟨rfl, rfl⟩ := sp h1
    try dsimp only at h
    rw [if_pos rfl, ps_behind_b186_e] at h
    split at h
    · obtain ⟨rfl, rfl⟩ := sp h
      rw [gW_c (by decide), gW_c (by decide), gW_c (by decide)]
      exact g
    · omega
  · cases h
theorem h186 {s p : Int} (q : Bd s p σ S) {T : gM} (h : ps_behind_b186 d S x = some (T, r)) : Bd s p σ T := by
  rw [ps_behind_b186_e] at h
  split at h
  · obtain ⟨rfl, rfl⟩ := sp h
    exact q.w (by decide) (by omega)
  · cases h
theorem h57 (ih : XP 1 1 (ps_e d)) (h : ps_behind_b57 d σ x y = some (S, r)) (ok : okS σ) (n : σ 69 8 = 0 → σ 69 4 ≠ 0) : Bd 0 1 σ S := by
  rw [ps_behind_b57_e] at h
  obtain ⟨⟨s1, r1⟩, h1, h⟩ := ob h
  obtain ⟨q1, q2⟩ := q_node h1 ok
  have q3 := q1.w (a := 72) (i := r1) (v := x) (by decide) (by omega)
  have n3 : gW s1 72 r1 x 69 8 = 0 → gW s1 72 r1 x 69 4 ≠ 0 := fun g => by
    rw [gW_c (by decide)] at g ⊢
    rw [(q2 g).2.2.2.1]
    exact n (q1 g).1
  try dsimp only at h
  split at h
  · split at h
    · obtain ⟨⟨s2, r2⟩, h2, h⟩ := ob h
      have q4 := q3.tr (q_open h2 q3.ok n3)
      obtain ⟨⟨s3, r3⟩, h3, h⟩ := ob h
      have q5 := q4.tr (ih _ _ _ q4.ok h3)
      obtain ⟨⟨s4, r4⟩, h4, h⟩ := ob h
      have q6 := q5.w (a := 73) (i := r1) (v := r3) (by decide) (by omega)
      exact h186 ((q6.tr (q_closes h4 q6.ok)).le (by decide) (by decide)) h
    · obtain ⟨⟨s2, r2⟩, h2, h⟩ := ob h
      obtain ⟨rfl, g2⟩ := q_good h2
      have b89 : ∀ σ1 : gM, σ1 69 8 ≠ 0 → ps_behind_b89 d σ1 r1 = some (S, r) → S 69 8 ≠ 0 := by
        intro σ1 g h
        rw [ps_behind_b89_e, ps_good_b g] at h
        simp only [Option.bind_some, if_true] at h
        exact h123_b g h
      try dsimp only at h
      split at h
      · rename_i z
        exact Bd.bad (b89 _ (g2.mp z) h)
      · rename_i z
        have g3 := gd0 g2 z
        have g3' : s1 69 8 = 0 := by rw [gW_c (by decide)] at g3; exact g3
        obtain ⟨⟨s3, r3⟩, h3, h⟩ := ob h
        have q4 := q3.tr (q_read1 h3 q3.ok g3 (n3 g3))
        have c4 := (q_read h3 q3.ok g3).2
        by_cases g4 : s3 69 8 = 0
        · rw [ps_behind_b89_e] at h
          try dsimp only at h
          rw [ps_good_g g4] at h
          simp only [Option.bind_some, show ((1 : Int) = 0) = False by decide, if_false] at h
          split at h
          · rename_i t1
            rw [ps_behind_b123_e] at h
            split at h
            · obtain ⟨⟨s5, r5⟩, h5, h⟩ := ob h
              rw [ps_good_g (by rw [gW_c (by decide), gW_c (by decide)]; exact g4)] at h5
              obtain ⟨rfl, rfl⟩ := sp h5
              try dsimp only at h
              rw [if_neg (by decide)] at h
              obtain ⟨⟨s6, r6⟩, h6, h⟩ := ob h
              obtain ⟨e1, e2, e3, e4, e5, e6⟩ := q2 g3'
              have q7 := q_name q4 (fun _ => ⟨by rw [c4 68 (by decide), gW_c (by decide)]; omega, by rw [c4 77 (by decide), gW_c (by decide)]; exact e3, e5⟩) h6 g4 (by omega)
              exact h186 (q7.le (by decide) (by decide)) h
            · omega
          · obtain ⟨⟨s5, r5⟩, h5, h⟩ := ob h
            exact Bd.bad (h123_b (q_fails h5 (by decide)) h)
        · exact Bd.bad (b89 _ g4 h)
  · cases h
theorem lp_behind (ih : XP 1 1 (ps_e d)) (ic : XQ (ps_call d)) : XQ (ps_behind (d + 1)) := by
  intro σ S r x ok n h
  rw [ps_behind_e] at h
  obtain ⟨⟨s1, r1⟩, h1, h⟩ := ob h
  obtain ⟨rfl, w1⟩ := q_is h1
  try dsimp only at h
  split at h
  · obtain ⟨⟨s2, r2⟩, h2, h⟩ := ob h
    obtain ⟨rfl, w2⟩ := q_is h2
    try dsimp only at h
    split at h
    · split at h
      · obtain ⟨⟨s3, r3⟩, h3, h⟩ := ob h
        have b := q_fails h3 (by decide)
        exact fun g => absurd (h57 ih h (fun z => absurd z b) (fun z => absurd z b) g).1 b
      · exact h57 ih h ok n
    · exact h57 ih h ok n
  · obtain ⟨⟨s2, r2⟩, h2, h⟩ := ob h
    obtain ⟨rfl, rfl⟩ := sp h
    exact ic _ _ _ _ ok n h2
theorem a164 {s p : Int} (q : Bd s p σ S) (e : S 69 8 = 0 → k + 1 = S 68 10 ∧ S 77 k = 0 ∧ 0 ≤ k) (n : S 69 8 = 0 → S 69 4 ≠ 0) {T : gM} (h : ps_atom_b164 d S k = some (T, r)) : Bd (s + 1) (p + 1) σ T := by
  rw [ps_atom_b164_e] at h
  split at h
  · obtain ⟨⟨s5, r5⟩, h5, h⟩ := ob h
    by_cases g : S 69 8 = 0
    · rw [ps_good_g (by rw [gW_c (by decide), gW_c (by decide)]; exact g)] at h5
      obtain ⟨rfl, rfl⟩ := sp h5
      try dsimp only at h
      rw [if_neg (by decide)] at h
      obtain ⟨⟨s6, r6⟩, h6, h⟩ := ob h
      obtain ⟨rfl, rfl⟩ := sp h
      exact q_name q e h6 g (n g)
    · rw [ps_good_b (by rw [gW_c (by decide), gW_c (by decide)]; exact g)] at h5
      obtain ⟨rfl, rfl⟩ := sp h5
      try dsimp only at h
      rw [if_pos rfl] at h
      obtain ⟨rfl, rfl⟩ := sp h
      exact Bd.bad (by rw [gW_c (by decide), gW_c (by decide)]; exact g)
  · cases h
theorem lp_atom (ih : XP 1 1 (ps_e d)) : XP 1 1 (ps_atom (d + 1)) := by
  intro σ S r ok h
  have nod : ∀ kk, σ 69 4 ≠ 0 → ∀ (s1 : gM) (r1 : Int), ps_node σ kk = some (s1, r1) → ps_atom_b164 d s1 r1 = some (S, r) → Bd 1 1 σ S := by
    intro kk n s1 r1 h1 h
    obtain ⟨q1, q2⟩ := q_node h1 ok
    exact (a164 q1 (fun g => ⟨(q2 g).2.1.symm, (q2 g).2.2.1, (q2 g).2.2.2.2.1⟩) (fun g => by rw [(q2 g).2.2.2.1]; exact n) h).le (by decide) (by decide)
  rw [ps_atom_e] at h
  obtain ⟨⟨s1, r1⟩, h1, h⟩ := ob h
  obtain ⟨rfl, g1⟩ := q_good h1
  try dsimp only at h
  split at h
  · rename_i z
    obtain ⟨⟨s2, r2⟩, h2, h⟩ := ob h
    obtain ⟨rfl, rfl⟩ := sp h
    have b := g1.mp z
    have q := q_blank rfl h2 ok
    exact Bd.bad (by rw [q.2.2.2.2.1]; exact b)
  · split at h
    · obtain ⟨⟨s2, r2⟩, h2, h⟩ := ob h
      obtain ⟨q1, q2⟩ := q_node h2 ok
      try dsimp only at h
      split at h
      · refine (a164 (q1.w (a := 78) (i := r2) (v := 1) (by decide) (by omega)) (fun g => ?_) (fun g => ?_) h).le (by decide) (by decide)
        · rw [gW_c (by decide)] at g
          rw [gW_c (by decide), gW_c (by decide)]
          exact ⟨(q2 g).2.1.symm, (q2 g).2.2.1, (q2 g).2.2.2.2.1⟩
        · rw [gW_c (by decide)] at g ⊢
          rw [(q2 g).2.2.2.1]
          omega
      · cases h
    · split at h
      · obtain ⟨⟨s2, r2⟩, h2, h⟩ := ob h
        exact nod _ (by omega) _ _ h2 h
      · split at h
        · obtain ⟨⟨s2, r2⟩, h2, h⟩ := ob h
          exact nod _ (by omega) _ _ h2 h
        · have b108 : σ 69 4 = 5 → ps_atom_b108 d σ = some (S, r) → Bd 1 1 σ S := by
            intro n h
            rw [ps_atom_b108_e] at h
            obtain ⟨⟨s2, r2⟩, h2, h⟩ := ob h
            exact nod _ (by omega) _ _ h2 h
          obtain ⟨⟨s2, r2⟩, h2, h⟩ := ob h
          obtain ⟨rfl, w2⟩ := q_word h2
          try dsimp only at h
          split at h
          · obtain ⟨⟨s3, r3⟩, h3, h⟩ := ob h
            obtain ⟨rfl, w3⟩ := q_word h3
            try dsimp only at h
            split at h
            · obtain ⟨⟨s4, r4⟩, h4, h⟩ := ob h
              obtain ⟨rfl, w4⟩ := q_word h4
              try dsimp only at h
              split at h
              · obtain ⟨⟨s5, r5⟩, h5, h⟩ := ob h
                have q5 := q_opens h5 ok
                obtain ⟨⟨s6, r6⟩, h6, h⟩ := ob h
                have q6 := q5.tr (ih _ _ _ q5.ok h6)
                try dsimp only at h
                split at h
                · obtain ⟨⟨s7, r7⟩, h7, h⟩ := ob h
                  obtain ⟨rfl, rfl⟩ := sp h
                  have q7 := q6.w (a := 78) (i := r) (v := 0) (by decide) (by omega)
                  exact (q7.tr (q_closes h7 q7.ok)).le (by decide) (by decide)
                · cases h
              · rename_i z
                obtain ⟨⟨s5, r5⟩, h5, h⟩ := ob h
                exact nod _ (by have := w4 z; omega) _ _ h5 h
            · rename_i z
              exact b108 (w3 z).1 h
          · rename_i z
            exact b108 (w2 z).1 h
theorem u75_b (g : σ 69 8 ≠ 0) (h : ps_unary_b75 d σ x = some (S, r)) : S 69 8 ≠ 0 := by
  rw [ps_unary_b75_e, ps_good_b g] at h
  simp only [Option.bind_some, if_true] at h
  obtain ⟨rfl, rfl⟩ := sp h
  exact g
theorem u75_s (ib : XQ (ps_behind d)) (m : Nat) : ∀ (σ S : gM) (r x : Int), okS σ → (σ 69 8 = 0 → 4000 - σ 69 5 < m) → ps_unary_b75 d σ x = some (S, r) → Bd 0 0 σ S := by
  induction m with
  | zero =>
    intro σ S r x ok hm h
    by_cases g : σ 69 8 = 0
    · have := (ok g).pl
      have := hm g
      omega
    · exact Bd.bad (u75_b g h)
  | succ m IH =>
    intro σ S r x ok hm h
    have b118 : (σ 69 4 = 4 ∧ σ 69 8 = 0) → ps_unary_b118 d σ x = some (S, r) → Bd 0 0 σ S := by
      intro w h
      rw [ps_unary_b118_e] at h
      obtain ⟨⟨s1, r1⟩, h1, h⟩ := ob h
      have q := ib _ _ _ _ ok (fun _ => by omega) h1
      exact (q.tr (IH _ _ _ _ q.ok (fun g => by have := (q g).2.2.2; have := hm w.2; omega) h)).le (by decide) (by decide)
    rw [ps_unary_b75_e] at h
    obtain ⟨⟨s1, r1⟩, h1, h⟩ := ob h
    obtain ⟨rfl, g1⟩ := q_good h1
    try dsimp only at h
    split at h
    · obtain ⟨rfl, rfl⟩ := sp h
      exact Bd.rf ok
    · obtain ⟨⟨s2, r2⟩, h2, h⟩ := ob h
      obtain ⟨rfl, w2⟩ := q_is h2
      try dsimp only at h
      split at h
      · obtain ⟨⟨s3, r3⟩, h3, h⟩ := ob h
        obtain ⟨rfl, w3⟩ := q_is h3
        try dsimp only at h
        split at h
        · obtain ⟨⟨s4, r4⟩, h4, h⟩ := ob h
          obtain ⟨rfl, w4⟩ := q_is h4
          try dsimp only at h
          split at h
          · obtain ⟨rfl, rfl⟩ := sp h
            exact Bd.rf ok
          · exact b118 (w4 (by assumption)) h
        · exact b118 (w3 (by assumption)) h
      · exact b118 (w2 (by assumption)) h
theorem lp_unary (ia : XP 1 1 (ps_atom d)) (ib : XQ (ps_behind d)) (iu : XP 1 1 (ps_unary d)) : XP 1 1 (ps_unary (d + 1)) := by
  intro σ S r ok h
  have b37 : ∀ σ1 : gM, okS σ1 → (σ1 69 8 = 0 → σ1 69 4 ≠ 0) → ps_unary_b37 d σ1 = some (S, r) → Bd 1 1 σ1 S := by
    intro σ1 ok1 n1 h
    rw [ps_unary_b37_e] at h
    obtain ⟨⟨s1, r1⟩, h1, h⟩ := ob h
    obtain ⟨q1, q2⟩ := q_node h1 ok1
    obtain ⟨⟨s2, r2⟩, h2, h⟩ := ob h
    have q3 := q1.tr (q_open h2 q1.ok (fun g => by rw [(q2 g).2.2.2.1]; exact n1 (q1 g).1))
    obtain ⟨⟨s3, r3⟩, h3, h⟩ := ob h
    have q4 := q3.tr (iu _ _ _ q3.ok h3)
    try dsimp only at h
    split at h
    · obtain ⟨rfl, rfl⟩ := sp h
      exact ((q4.le (by decide) (by decide)).w (by decide) (by omega)).w (by decide) (by decide)
    · cases h
  rw [ps_unary_e] at h
  obtain ⟨⟨s1, r1⟩, h1, h⟩ := ob h
  obtain ⟨rfl, w1⟩ := q_is h1
  try dsimp only at h
  split at h
  · obtain ⟨⟨s2, r2⟩, h2, h⟩ := ob h
    have q := ia _ _ _ ok h2
    exact (q.tr (u75_s ib (4001 - s2 69 5).toNat _ _ _ _ q.ok (fun g => by have := (q.ok g).pl; omega) h)).le (by decide) (by decide)
  · rename_i z
    split at h
    · obtain ⟨⟨s3, r3⟩, h3, h⟩ := ob h
      have b := q_fails h3 (by decide)
      exact fun g => absurd (b37 _ (fun z => absurd z b) (fun z => absurd z b) h g).1 b
    · exact b37 _ ok (fun _ => by have := w1 z; omega) h
theorem q_adds {a b e : Int} (h : ps_adds σ a b e = some (S, r)) (ok : okS σ) : Bd 0 0 σ S ∧ S 69 = σ 69 := by
  rw [ps_adds_e] at h
  split at h
  · split at h
    · obtain ⟨rfl, rfl⟩ := sp h
      exact ⟨(((Bd.rf ok).w (by decide) (by omega)).w (by decide) (by omega)).w (by decide) (by omega), by rw [gW_cell (by decide), gW_cell (by decide), gW_cell (by decide)]⟩
    · cases h
  · cases h
theorem q_sets (h : ps_sets σ x = some (S, r)) (ok : okS σ) : Bd 0 0 σ S ∧ (S 69 8 = 0 → S 69 = σ 69) := by
  have b77 : ∀ (σ1 : gM) (a b : Int), Bd 0 0 σ σ1 → σ1 69 = σ 69 → ps_sets_b77 σ1 x a b = some (S, r) → Bd 0 0 σ S ∧ (S 69 8 = 0 → S 69 = σ 69) := by
    intro σ1 a b q e h
    have b106 : ∀ a, ps_sets_b106 (gW σ1 70 x 6) a x = some (S, r) → Bd 0 0 σ S ∧ (S 69 8 = 0 → S 69 = σ 69) := by
      intro a h
      rw [ps_sets_b106_e] at h
      split at h
      · obtain ⟨rfl, rfl⟩ := sp h
        exact ⟨(q.w (by decide) (by omega)).w (by decide) (by omega), fun _ => by rw [gW_cell (by decide), gW_cell (by decide), e]⟩
      · cases h
    rw [ps_sets_b77_e] at h
    split at h
    · split at h
      · split at h
        · exact b106 _ h
        · cases h
      · exact b106 _ h
    · cases h
  have b56 : ∀ (a b : Int), ps_sets_b56 σ x a b = some (S, r) → Bd 0 0 σ S ∧ (S 69 8 = 0 → S 69 = σ 69) := by
    intro a b h
    rw [ps_sets_b56_e] at h
    split at h
    · split at h
      · obtain ⟨⟨s1, r1⟩, h1, h⟩ := ob h
        have q := q_adds h1 ok
        exact b77 _ _ _ q.1 q.2 h
      · cases h
    · exact b77 _ _ _ (Bd.rf ok) rfl h
  rw [ps_sets_e] at h
  split at h
  · obtain ⟨⟨s1, r1⟩, h1, h⟩ := ob h
    obtain rfl := q_local h1
    try dsimp only at h
    split at h
    · split at h
      · split at h
        · obtain ⟨⟨s2, r2⟩, h2, h⟩ := ob h
          obtain ⟨rfl, rfl⟩ := sp h
          have b := q_fails h2 (by decide)
          exact ⟨Bd.bad b, fun g => absurd g b⟩
        · exact b56 _ _ h
      · cases h
    · exact b56 _ _ h
  · cases h
theorem lp_e (io : XP 1 1 (ps_or d)) (ih : XP 1 1 (ps_e d)) : XP 1 1 (ps_e (d + 1)) := by
  intro σ S r ok h
  rw [ps_e_e] at h
  obtain ⟨⟨s0, r0⟩, h0, h⟩ := ob h
  have q0 := io _ _ _ ok h0
  have b108 : ∀ σ1 : gM, Bd 1 1 σ σ1 → (σ1 69 8 = 0 → σ1 69 4 ≠ 0) → ps_e_b108 d σ1 r0 = some (S, r) → Bd 1 1 σ S := by
    intro σ1 q n h
    rw [ps_e_b108_e] at h
    obtain ⟨⟨s1, r1⟩, h1, h⟩ := ob h
    have q1 := q.tr (q_open h1 q.ok n)
    obtain ⟨⟨s2, r2⟩, h2, h⟩ := ob h
    have q2 := q1.tr (ih _ _ _ q1.ok h2)
    try dsimp only at h
    split at h
    · obtain ⟨rfl, rfl⟩ := sp h
      exact ((q2.le (by decide) (by decide)).w (by decide) (by omega)).w (by decide) (by decide)
    · cases h
  obtain ⟨⟨s1, r1⟩, h1, h⟩ := ob h
  obtain ⟨rfl, g1⟩ := q_good h1
  try dsimp only at h
  split at h
  · obtain ⟨rfl, rfl⟩ := sp h
    exact q0
  · obtain ⟨⟨s2, r2⟩, h2, h⟩ := ob h
    obtain ⟨rfl, w2⟩ := q_is h2
    try dsimp only at h
    split at h
    · obtain ⟨rfl, rfl⟩ := sp h
      exact q0
    · rename_i z
      have w := w2 z
      split at h
      · split at h
        · obtain ⟨⟨s3, r3⟩, h3, h⟩ := ob h
          have b := q_fails h3 (by decide)
          exact b108 _ (Bd.bad b) (fun g => absurd g b) h
        · split at h
          · obtain ⟨⟨s3, r3⟩, h3, h⟩ := ob h
            have b := q_fails h3 (by decide)
            exact b108 _ (Bd.bad b) (fun g => absurd g b) h
          · split at h
            · obtain ⟨⟨s3, r3⟩, h3, h⟩ := ob h
              have q := q_sets h3 q0.ok
              exact b108 _ ((q0.tr q.1).le (by decide) (by decide)) (fun g => by rw [q.2 g]; omega) h
            · exact b108 _ (q0.w (by decide) (by omega)) (fun _ => by rw [gW_c (by decide)]; omega) h
      · cases h
/-- all functions of expressions -/
theorem lp_all : ∀ d : Nat, XP 1 1 (ps_e d) ∧ XP 1 1 (ps_or d) ∧ XP 1 1 (ps_and d) ∧ XP 1 1 (ps_equal d) ∧ XP 1 1 (ps_less d) ∧ XP 1 1 (ps_sum d) ∧ XP 1 1 (ps_product d) ∧ XP 1 1 (ps_unary d) ∧ XP 1 1 (ps_atom d) ∧ XQ (ps_behind d) ∧ XQ (ps_call d)
  | 0 => by
    have no : ∀ {f : Nat → Option (gM × Int)} {x : Option (gM × Int)} {y : gM × Int}, Lm f x → (∀ n, f n = none) → x = some y → False := fun l z e => by
      obtain ⟨n, hn⟩ := (l.2 _).mp e
      rw [z n] at hn
      cases hn
    refine ⟨fun σ S r _ h => ?_, fun σ S r _ h => ?_, fun σ S r _ h => ?_, fun σ S r _ h => ?_, fun σ S r _ h => ?_, fun σ S r _ h => ?_, fun σ S r _ h => ?_, fun σ S r _ h => ?_, fun σ S r _ h => ?_, fun σ S r x _ _ h => ?_, fun σ S r x _ _ h => ?_⟩
    · exact (no (ps_e_l 0 σ) (fun _ => rfl) h).elim
    · exact (no (ps_or_l 0 σ) (fun _ => rfl) h).elim
    · exact (no (ps_and_l 0 σ) (fun _ => rfl) h).elim
    · exact (no (ps_equal_l 0 σ) (fun _ => rfl) h).elim
    · exact (no (ps_less_l 0 σ) (fun _ => rfl) h).elim
    · exact (no (ps_sum_l 0 σ) (fun _ => rfl) h).elim
    · exact (no (ps_product_l 0 σ) (fun _ => rfl) h).elim
    · exact (no (ps_unary_l 0 σ) (fun _ => rfl) h).elim
    · exact (no (ps_atom_l 0 σ) (fun _ => rfl) h).elim
    · exact (no (ps_behind_l 0 σ x) (fun _ => rfl) h).elim
    · exact (no (ps_call_l 0 σ x) (fun _ => rfl) h).elim
  | d + 1 => by
    obtain ⟨e, o, a, q, l, s, p, u, t, b, c⟩ := lp_all d
    exact ⟨lp_e o e, lp_or a, lp_and q, lp_equal l, lp_less s, lp_sum p, lp_product u, lp_unary t b u, lp_atom e, lp_behind e c, fun σ S r x ok n h => lp_call e h ok n⟩
end PT
