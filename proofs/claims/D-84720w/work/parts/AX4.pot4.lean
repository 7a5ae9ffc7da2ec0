/-! potential: calls, parts, atoms -/
section PS
variable {σ S : gM} {c r k x y x2 x3 x4 x5 x6 : Int} {d : Nat}
theorem q_begins (h : ps_begins σ = some (S, r)) : σ = S := by
  have F := fr_inl fm_ps_begins (ps_begins_l σ) h
  funext a k
  exact (F a k (by unfold gbit; simp; rfl)).symm
theorem q_local {a b e : Int} (h : ps_local σ a b e = some (S, r)) : σ = S := by
  have F := fr_inl fm_ps_local (ps_local_l σ a b e) h
  funext a k
  exact (F a k (by unfold gbit; simp; rfl)).symm
theorem c74_0 (h : ps_call_b74 d σ x2 x3 x4 0 = some (S, r)) (ok : okS σ) : Bd (-1) 1 σ S := by
  rw [ps_call_b74_e, if_pos rfl] at h
  obtain ⟨⟨s1, r1⟩, h1, h⟩ := ob h
  try dsimp only at h
  split at h
  · obtain ⟨rfl, rfl⟩ := sp h
    exact (q_closes h1 ok).w (by decide) (by omega)
  · cases h
theorem c185_0 (h : ps_call_b215 d σ x2 x3 x4 = some (S, r)) (ok : okS σ) : Bd (-1) 1 σ S := by
  rw [ps_call_b215_e, ps_call_b216_e, if_pos rfl, ps_call_b230_e] at h
  exact c74_0 h ok
theorem c185_b (g : σ 69 8 ≠ 0) (h : ps_call_b185 d σ x2 x3 x6 = some (S, r)) : S 69 8 ≠ 0 := by
  rw [ps_call_b185_e, ps_good_b g] at h
  simp only [Option.bind_some, if_true] at h
  exact fun q => g (c185_0 h (fun z => absurd z g) q).1
theorem c158_b (g : σ 69 8 ≠ 0) (h : ps_call_b158 d σ x2 x3 x4 y = some (S, r)) : S 69 8 ≠ 0 := by
  rw [ps_call_b158_e] at h
  split at h
  · split at h
    · exact c185_b (by rw [gW_c (by decide)]; exact g) h
    · cases h
  · split at h
    · exact c185_b (by rw [gW_c (by decide)]; exact g) h
    · cases h
theorem c143_b (g : σ 69 8 ≠ 0) (h : ps_call_b143 d σ x2 x3 x4 = some (S, r)) : S 69 8 ≠ 0 := by
  rw [ps_call_b143_e, ps_good_b g] at h
  simp only [Option.bind_some, if_true] at h
  exact c158_b g h
theorem c74_b (g : σ 69 8 ≠ 0) (h : ps_call_b74 d σ x2 x3 x4 x5 = some (S, r)) : S 69 8 ≠ 0 := by
  by_cases z : x5 = 0
  · rw [z] at h
    exact fun q => g (c74_0 h (fun z => absurd z g) q).1
  · rw [ps_call_b74_e, if_neg z] at h
    split at h
    · rw [ps_good_b g] at h
      simp only [Option.bind_some, if_true] at h
      exact c143_b g h
    · exact c143_b g h
theorem c74_s (ih : XP 1 1 (ps_e d)) (m : Nat) : ∀ (σ S : gM) (r x2 x3 x4 x5 : Int), okS σ → (σ 69 8 = 0 → 4000 - σ 69 5 < m) → ps_call_b74 d σ x2 x3 x4 x5 = some (S, r) → Bd 0 1 σ S := by
  induction m with
  | zero =>
    intro σ S r x2 x3 x4 x5 ok hm h
    by_cases g : σ 69 8 = 0
    · have := (ok g).pl
      have := hm g
      omega
    · exact Bd.bad (c74_b g h)
  | succ m IH =>
    intro σ S r x2 x3 x4 x5 ok hm h
    by_cases g : σ 69 8 = 0
    · by_cases z : x5 = 0
      · rw [z] at h
        exact (c74_0 h ok).le (by decide) (by decide)
      · have b185 : ∀ (σ1 : gM) (x2 x3 x6 : Int), Bd 1 1 σ σ1 → ps_call_b185 d σ1 x2 x3 x6 = some (S, r) → Bd 0 1 σ S := by
          intro σ1 x2 x3 x6 q h
          rw [ps_call_b185_e] at h
          obtain ⟨⟨s1, r1⟩, h1, h⟩ := ob h
          obtain ⟨rfl, g1⟩ := q_good h1
          try dsimp only at h
          split at h
          · exact (q.tr (c185_0 h q.ok)).le (by decide) (by decide)
          · obtain ⟨⟨s2, r2⟩, h2, h⟩ := ob h
            obtain ⟨rfl, w2⟩ := q_is h2
            try dsimp only at h
            split at h
            · exact (q.tr (c185_0 h q.ok)).le (by decide) (by decide)
            · rename_i z2
              rw [ps_call_b216_e, if_neg (by decide)] at h
              obtain ⟨⟨s3, r3⟩, h3, h⟩ := ob h
              rw [ps_call_b230_e] at h
              have w := w2 z2
              have q3 := q.tr (q_read1 h3 q.ok w.2 (by omega))
              exact (q3.tr (IH _ _ _ _ _ _ _ q3.ok (fun g' => by have := (q3 g').2.2.2; have := hm g; omega) h)).le (by decide) (by decide)
        have b143 : ∀ (x2 x3 x4 : Int), ps_call_b143 d σ x2 x3 x4 = some (S, r) → Bd 0 1 σ S := by
          intro x2 x3 x4 h
          rw [ps_call_b143_e, ps_good_g g] at h
          simp only [Option.bind_some, show ((1 : Int) = 0) = False by decide, if_false] at h
          obtain ⟨⟨s1, r1⟩, h1, h⟩ := ob h
          have q := ih _ _ _ ok h1
          rw [ps_call_b158_e] at h
          split at h
          · split at h
            · exact b185 _ _ _ _ (q.w (by decide) (by omega)) h
            · cases h
          · split at h
            · exact b185 _ _ _ _ (q.w (by decide) (by omega)) h
            · cases h
        rw [ps_call_b74_e, if_neg z] at h
        split at h
        · rw [ps_good_g g] at h
          simp only [Option.bind_some, show ((1 : Int) = 0) = False by decide, if_false] at h
          have b132 : ∀ y, y ≠ 0 → ps_call_b132 d σ x2 x3 x4 y = some (S, r) → Bd 0 1 σ S := by
            intro y hy h
            rw [ps_call_b132_e] at h
            obtain ⟨⟨s1, r1⟩, h1, h⟩ := ob h
            exact Bd.bad (c143_b (q_fails h1 hy) h)
          obtain ⟨⟨s1, r1⟩, h1, h⟩ := ob h
          obtain rfl := q_begins h1
          try dsimp only at h
          split at h
          · exact b132 _ (by decide) h
          · split at h
            · split at h
              · exact b132 _ (by decide) h
              · rw [ps_call_b131_e] at h
                exact b132 _ (by decide) h
            · rw [ps_call_b131_e] at h
              exact b132 _ (by decide) h
        · exact b143 _ _ _ h
    · exact Bd.bad (c74_b g h)
/-- a call: the bracket is at hand -/
theorem lp_call (ih : XP 1 1 (ps_e d)) (h : ps_call (d + 1) σ x = some (S, r)) (ok : okS σ) (n : σ 69 8 = 0 → σ 69 4 ≠ 0) : Bd 0 1 σ S := by
  have b25 : ∀ σ1 : gM, okS σ1 → (σ1 69 8 = 0 → σ1 69 4 ≠ 0) → ps_call_b25 d σ1 x = some (S, r) → Bd 0 1 σ1 S := by
    intro σ1 ok1 n1 h
    rw [ps_call_b25_e] at h
    obtain ⟨⟨s1, r1⟩, h1, h⟩ := ob h
    obtain ⟨q1, q2⟩ := q_node h1 ok1
    try dsimp only at h
    split at h
    · obtain ⟨⟨s2, r2⟩, h2, h⟩ := ob h
      have q3 := (q1.w (a := 72) (i := r1) (v := x) (by decide) (by omega)).tr (q_open h2 (q1.ok.w (by decide) (by omega)) (fun g => by
        rw [gW_c (by decide)] at g ⊢
        rw [(q2 g).2.2.2.1]
        exact n1 (q1 g).1))
      have fin : ∀ (x2 x3 x4 x5 : Int), ps_call_b74 d s2 x2 x3 x4 x5 = some (S, r) → Bd 0 1 σ1 S := fun x2 x3 x4 x5 h =>
        (q3.tr (c74_s ih (4001 - s2 69 5).toNat _ _ _ _ _ _ _ q3.ok (fun g => by have := (q3.ok g).pl; omega) h)).le (by decide) (by decide)
      obtain ⟨⟨s3, r3⟩, h3, h⟩ := ob h
      obtain ⟨rfl, g3⟩ := q_good h3
      try dsimp only at h
      split at h
      · rw [ps_call_b71_e, ps_call_b72_e] at h
        exact fin _ _ _ _ h
      · obtain ⟨⟨s4, r4⟩, h4, h⟩ := ob h
        obtain ⟨rfl, w4⟩ := q_is h4
        try dsimp only at h
        split at h
        · rw [ps_call_b72_e] at h
          exact fin _ _ _ _ h
        · rw [ps_call_b71_e, ps_call_b72_e] at h
          exact fin _ _ _ _ h
    · cases h
  rw [ps_call_e] at h
  split at h
  · obtain ⟨⟨s1, r1⟩, h1, h⟩ := ob h
    have b := q_fails h1 (by decide)
    exact fun g => absurd (b25 s1 (fun z => absurd z b) (fun z => absurd z b) h g).1 b
  · exact b25 σ ok n h
theorem wp_le {z : Int} : wp z ≤ max z 0 + 1 := by
  unfold wp
  split <;> omega
/-- a name behind a point, an atom: the token becomes the name of the node -/
theorem q_name {s : Int} (q : Bd s x σ S) (e : S 69 8 = 0 → k + 1 = S 68 10 ∧ S 77 k = 0 ∧ 0 ≤ k) {T : gM} (h : tk_read (gW (gW S 76 k c) 77 k (S 69 6)) = some (T, y)) (g : S 69 8 = 0) (n : S 69 4 ≠ 0) : Bd (s + 1) (x + 1) σ T := by
  obtain ⟨q1, q2, q3, q4⟩ := q g
  obtain ⟨e1, e2, e3⟩ := e g
  have sz := q2.sz
  have t1 : tkI (gW (gW S 76 k c) 77 k (S 69 6)) := (q2.w (by decide) (by omega)).w (by decide) (by omega)
  have g1 : gW (gW S 76 k c) 77 k (S 69 6) 69 8 = 0 := by rw [gW_c (by decide), gW_c (by decide)]; exact g
  have b := (q_read h (fun _ => t1) g1).1
  have f : Fq (gW (gW S 76 k c) 77 k (S 69 6)) = Fq S + wp (S 69 6) := by
    rw [Fq_set e3 (by rw [gW_c (by decide)]; omega) (by rw [gW_c (by decide)]; exact e2), Fq_mv (S := gW S 76 k c) (σ := S) (gW_cell (by decide)) (gW_c (by decide))]
  intro g'
  obtain ⟨b1, b2, b3, b4⟩ := b g'
  rw [gW_c (by decide), gW_c (by decide)] at b4
  have c6 : gW (gW S 76 k c) 77 k (S 69 6) 69 6 = S 69 6 := by rw [gW_c (by decide), gW_c (by decide)]
  rw [c6] at b3 b4
  have c5 : gW (gW S 76 k c) 77 k (S 69 6) 69 5 = S 69 5 := by rw [gW_c (by decide), gW_c (by decide)]
  rw [c5, f] at b3
  have w := wp_le (z := S 69 6)
  exact ⟨q1, b2, by omega, by omega⟩
end PS
