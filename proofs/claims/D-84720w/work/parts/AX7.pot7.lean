/-! potential: functions and their names -/
def nqN (σ : gM) : Nat → Int
  | 0 => 0
  | m + 1 => nqN σ m + (σ 80 m + 1)
/-- names of functions and all nodes -/
def Gq (σ : gM) : Int := Fq σ + nqN σ (σ 68 19).toNat
/-- no fault: nothing more than the text allows; names of functions stay -/
def Bn (σ S : gM) : Prop := Bd 0 0 σ S ∧ S 80 = σ 80 ∧ S 68 19 = σ 68 19
section PV
variable {σ S T : gM} {c r k x y : Int} {d : Nat}
theorem Bn.tr (h : Bn σ S) (h' : Bn S T) : Bn σ T := ⟨(h.1.tr h'.1).le (by decide) (by decide), by rw [h'.2.1, h.2.1], by rw [h'.2.2, h.2.2]⟩
theorem Bn.w {a i v : Int} (h : Bn σ S) (h1 : a ≠ 1 ∧ a ≠ 118 ∧ a ≠ 69 ∧ a ≠ 77 ∧ a ≠ 80) (h2 : a ≠ 68 ∨ (i ≠ 10 ∧ i ≠ 19)) : Bn σ (gW S a i v) := by
  refine ⟨h.1.w (by omega) (by omega), by rw [gW_cell (by omega)]; exact h.2.1, ?_⟩
  rw [← h.2.2]
  unfold gW
  rw [if_neg (by omega)]
theorem n_read (h : tk_read σ = some (S, r)) : S 80 = σ 80 ∧ S 68 19 = σ 68 19 := by
  have F := fr_inl fm_tk_read (tk_read_l σ) h
  exact ⟨F.r 80 1 (by decide +kernel) (by omega) (by omega), F.f 68 19 1 (by decide +kernel) (by omega) (by omega)⟩
theorem n_opens (h : ps_opens σ c = some (S, r)) : S 80 = σ 80 ∧ S 68 19 = σ 68 19 := by
  have F := fr_inl fm_ps_opens (ps_opens_l σ c) h
  exact ⟨F.r 80 1 (by decide +kernel) (by omega) (by omega), F.f 68 19 1 (by decide +kernel) (by omega) (by omega)⟩
theorem n_closes (h : ps_closes σ c = some (S, r)) : S 80 = σ 80 ∧ S 68 19 = σ 68 19 := by
  have F := fr_inl fm_ps_closes (ps_closes_l σ c) h
  exact ⟨F.r 80 1 (by decide +kernel) (by omega) (by omega), F.f 68 19 1 (by decide +kernel) (by omega) (by omega)⟩
theorem n_block (h : ps_block d σ = some (S, r)) : S 80 = σ 80 ∧ S 68 19 = σ 68 19 := by
  have F := fr_inl (fm_rec_ps_block d 0) (ps_block_l d σ) h
  exact ⟨F.r 80 1 (by decide +kernel) (by omega) (by omega), F.f 68 19 1 (by decide +kernel) (by omega) (by omega)⟩
theorem n_param (h : ps_param σ x = some (S, r)) : S 80 = σ 80 ∧ S 68 19 = σ 68 19 := by
  have F := fr_inl fm_ps_param (ps_param_l σ x) h
  exact ⟨F.r 80 1 (by decide +kernel) (by omega) (by omega), F.f 68 19 1 (by decide +kernel) (by omega) (by omega)⟩
theorem q_node2 (h : ps_node σ k = some (S, r)) (n : 0 ≤ σ 68 20 ∧ σ 68 20 < 300) : S 69 = σ 69 ∧ S 68 20 = σ 68 20 + 1 ∧ S 83 = σ 83 := by
  rw [ps_node_e, if_neg (by omega), ps_node_b31_e] at h
  obtain ⟨⟨s1, r1⟩, h1, h⟩ := ob h
  obtain ⟨rfl, rfl⟩ := sp h
  rw [w32_e (x := σ 68 20 + 1) (by omega) (by omega), ps_blank_e] at h1
  by_cases hb : 0 ≤ σ 68 10 ∧ σ 68 10 < 4200
  · simp only [if_pos hb] at h1
    obtain ⟨rfl, rfl⟩ := sp h1
    refine ⟨?_, by simp [gW], ?_⟩
    · rw [gW_cell (by decide), gW_cell (by decide), gW_cell (by decide), gW_cell (by decide), gW_cell (by decide), gW_cell (by decide), gW_cell (by decide), gW_cell (by decide), gW_cell (by decide), gW_cell (by decide), gW_cell (by decide)]
    · rw [gW_cell (by decide), gW_cell (by decide), gW_cell (by decide), gW_cell (by decide), gW_cell (by decide), gW_cell (by decide), gW_cell (by decide), gW_cell (by decide), gW_cell (by decide), gW_cell (by decide), gW_cell (by decide)]
  · rw [if_neg hb] at h1
    cases h1
/-- how many things are given -/
def gvn (σ : gM) (x : Int) : Prop := σ 69 8 = 0 → σ 68 20 = σ 83 x ∧ 0 ≤ σ 83 x ∧ σ 83 x ≤ 6
theorem q_param (h : ps_param σ x = some (S, r)) (ok : okS σ) (hp : gvn σ x) : Bd 0 0 σ S ∧ gvn S x := by
  have bad : ∀ σ1 : gM, σ1 69 8 ≠ 0 → ps_param_b108 σ1 x = some (S, r) → S 69 8 ≠ 0 := by
    intro σ1 g h
    rw [ps_param_b108_e, ps_good_b g] at h
    simp only [Option.bind_some, if_true] at h
    obtain ⟨rfl, rfl⟩ := sp h
    exact g
  have b69b : ∀ σ1 : gM, σ1 69 8 ≠ 0 → ps_param_b69 σ1 x = some (S, r) → S 69 8 ≠ 0 := by
    intro σ1 g h
    rw [ps_param_b69_e] at h
    obtain ⟨⟨s1, r1⟩, h1, h⟩ := ob h
    obtain rfl := q_local h1
    try dsimp only at h
    split at h
    · exact bad _ g h
    · obtain ⟨⟨s2, r2⟩, h2, h⟩ := ob h
      exact bad _ (q_fails h2 (by decide)) h
  have fin : ∀ {P : Prop}, S 69 8 ≠ 0 → Bd 0 0 σ S ∧ gvn S x := fun b => ⟨Bd.bad b, fun g => absurd g b⟩
  have b34b : ∀ σ1 : gM, σ1 69 8 ≠ 0 → ps_param_b34 σ1 x = some (S, r) → S 69 8 ≠ 0 := by
    intro σ1 g h
    rw [ps_param_b34_e, ps_good_b g] at h
    simp only [Option.bind_some, if_true] at h
    obtain ⟨rfl, rfl⟩ := sp h
    exact g
  rw [ps_param_e] at h
  obtain ⟨⟨s1, r1⟩, h1, h⟩ := ob h
  obtain ⟨rfl, g1⟩ := q_good h1
  try dsimp only at h
  split at h
  · rename_i z
    exact fin (P := True) (b34b _ (g1.mp z) h)
  · rename_i z
    have g := gd0 g1 z
    obtain ⟨p1, p2, p3⟩ := hp g
    split at h
    · rw [ps_param_b34_e, ps_good_g g] at h
      simp only [Option.bind_some, show ((1 : Int) = 0) = False by decide, if_false] at h
      split at h
      · split at h
        · obtain ⟨⟨s2, r2⟩, h2, h⟩ := ob h
          exact fin (P := True) (b69b _ (q_fails h2 (by decide)) h)
        · rw [ps_param_b69_e] at h
          obtain ⟨⟨s2, r2⟩, h2, h⟩ := ob h
          obtain rfl := q_local h2
          try dsimp only at h
          split at h
          · rw [ps_param_b108_e, ps_good_g g] at h
            simp only [Option.bind_some, show ((1 : Int) = 0) = False by decide, if_false] at h
            obtain ⟨⟨s3, r3⟩, h3, h⟩ := ob h
            obtain ⟨q3, e3⟩ := q_node h3 ok
            obtain ⟨n1, n2, n3⟩ := q_node2 h3 (by omega)
            try dsimp only at h
            split at h
            · split at h
              · obtain ⟨⟨s4, r4⟩, h4, h⟩ := ob h
                have q4 := q3.w (a := 76) (i := r3) (v := s3 83 x) (by decide) (by omega)
                obtain ⟨q5, e5⟩ := q_adds h4 q4.ok
                have F5 := fr_inl fm_ps_adds (ps_adds_l _ _ _ _) h4
                have f83 : s4 83 = s3 83 := by rw [F5.r 83 1 (by decide +kernel) (by omega) (by omega), gW_cell (by decide)]
                have f20 : s4 68 20 = s3 68 20 := by rw [F5.f 68 20 1 (by decide +kernel) (by omega) (by omega), gW_c (by decide)]
                have q6 := (q4.tr q5).w (a := 83) (i := x) (v := w32 (s4 83 x + 1)) (by decide) (by omega)
                try dsimp only at h
                obtain ⟨⟨s5, r5⟩, h5, h⟩ := ob h
                obtain ⟨rfl, rfl⟩ := sp h
                have g6 : gW s4 83 x (w32 (s4 83 x + 1)) 69 8 = 0 := by
                  rw [gW_c (by decide), e5, gW_c (by decide), n1]
                  exact g
                have c := (q_read h5 q6.ok g6).2
                refine ⟨(q6.tr (q_read0 h5 q6.ok g6)).le (by decide) (by decide), fun _ => ?_⟩
                rw [c 68 (by decide), c 83 (by decide), gW_c (by decide), gW_at, f83, f20, n2, n3, w32_e (by omega) (by omega)]
                omega
              · cases h
            · omega
          · obtain ⟨⟨s3, r3⟩, h3, h⟩ := ob h
            exact fin (P := True) (bad _ (q_fails h3 (by decide)) h)
      · cases h
    · obtain ⟨⟨s2, r2⟩, h2, h⟩ := ob h
      exact fin (P := True) (b34b _ (q_fails h2 (by decide)) h)
theorem f385 (m : Nat) : ∀ (σ S : gM) (r x y : Int), okS σ → σ 68 10 - y < m → -1 ≤ y → ps_function_b385 σ x y = some (S, r) → Bn σ S := by
  induction m with
  | zero =>
    intro σ S r x y ok hm hy h
    rw [ps_function_b385_e, if_neg (by omega)] at h
    obtain ⟨rfl, rfl⟩ := sp h
    exact ⟨Bd.rf ok, rfl, rfl⟩
  | succ m IH =>
    intro σ S r x y ok hm hy h
    rw [ps_function_b385_e] at h
    split at h
    · obtain ⟨⟨s1, r1⟩, h1, h⟩ := ob h
      have st : ∀ s2 : gM, Bn σ s2 → s2 68 10 = σ 68 10 → y < 4200 → ps_function_b385 s2 x (w32 (y + 1)) = some (S, r) → Bn σ S := by
        intro s2 b e hy2 h
        rw [w32_e (by omega) (by omega)] at h
        exact b.tr (IH _ _ _ _ _ b.1.ok (by omega) (by omega) h)
      rw [ps_resolve_e] at h1
      try dsimp only at h1
      split at h1
      · split at h1
        · obtain ⟨⟨s2, r2⟩, h2, h1⟩ := ob h1
          obtain rfl := q_local h2
          try dsimp only at h1
          split at h1
          · obtain ⟨rfl, rfl⟩ := sp h1
            exact st _ (Bn.w ⟨Bd.rf ok, rfl, rfl⟩ (by decide) (by omega)) (gW_c (by decide)) (by omega) h
          · obtain ⟨rfl, rfl⟩ := sp h1
            exact st _ (Bn.w ⟨Bd.rf ok, rfl, rfl⟩ (by decide) (by omega)) (gW_c (by decide)) (by omega) h
        · obtain ⟨rfl, rfl⟩ := sp h1
          exact st _ ⟨Bd.rf ok, rfl, rfl⟩ rfl (by omega) h
      · cases h1
    · obtain ⟨rfl, rfl⟩ := sp h
      exact ⟨Bd.rf ok, rfl, rfl⟩
/-- the body -/
theorem f307_0 (h : ps_function_b307 σ x 0 = some (S, r)) (ok : okS σ) (hx : σ 69 8 = 0 → 0 ≤ σ 81 x) : Bn σ S := by
  rw [ps_function_b307_e, if_pos rfl] at h
  obtain ⟨⟨s1, r1⟩, h1, h⟩ := ob h
  have q1 := q_closes h1 ok
  obtain ⟨⟨s2, r2⟩, h2, h⟩ := ob h
  have q2 := q1.tr ((lp_bl 60).1 _ _ _ q1.ok h2)
  have n1 := n_closes h1
  have n2 : s2 80 = s1 80 ∧ s2 68 19 = s1 68 19 := n_block h2
  have b : Bn σ s2 := ⟨q2.le (by decide) (by decide), by rw [n2.1, n1.1], by rw [n2.2, n1.2]⟩
  try dsimp only at h
  split at h
  · have b3 := b.w (a := 82) (i := x) (v := r2) (by decide) (by omega)
    obtain ⟨⟨s3, r3⟩, h3, h⟩ := ob h
    obtain ⟨rfl, g3⟩ := q_good h3
    try dsimp only at h
    split at h
    · obtain ⟨rfl, rfl⟩ := sp h
      exact b3
    · rename_i z
      have g := gd0 g3 z
      have gσ := (b3.1 g).1
      have F1 := fr_inl fm_ps_closes (ps_closes_l σ 41) h1
      have F2 := fr_inl (fm_rec_ps_block 60 0) (ps_block_l 60 s1) h2
      have e81 : gW s2 82 x r2 81 x = σ 81 x := by
        rw [gW_c (by decide), F2.r 81 1 (by decide +kernel) (by omega) (by omega), F1.r 81 1 (by decide +kernel) (by omega) (by omega)]
      have m := (b3.1 g).2.1.2
      have hx' := hx gσ
      exact b3.tr (f385 (gW s2 82 x r2 68 10 - gW s2 82 x r2 81 x + 1).toNat _ _ _ _ _ b3.1.ok (by omega) (by omega) h)
  · cases h
theorem f307 (m : Nat) : ∀ (σ S : gM) (r x y : Int), okS σ → gvn σ x → (σ 69 8 = 0 → 0 ≤ σ 81 x) → (σ 69 8 = 0 → 4000 - σ 69 5 < m) → ps_function_b307 σ x y = some (S, r) → Bn σ S := by
  induction m with
  | zero =>
    intro σ S r x y ok gv hx hm h
    by_cases g : σ 69 8 = 0
    · have := (ok g).pl
      have := hm g
      omega
    · by_cases hy : y = 0
      · rw [hy] at h
        exact f307_0 h ok hx
      · rw [ps_function_b307_e, if_neg hy] at h
        obtain ⟨⟨s1, r1⟩, h1, h⟩ := ob h
        have q1 := (q_param h1 ok gv).1
        have b1 : s1 69 8 ≠ 0 := fun z => g (q1 z).1
        obtain ⟨⟨s2, r2⟩, h2, h⟩ := ob h
        rw [ps_good_b b1] at h2
        obtain ⟨rfl, rfl⟩ := sp h2
        try dsimp only at h
        rw [if_pos rfl, ps_function_b339_e, ps_function_b340_e, if_pos rfl] at h
        have q3 := f307_0 h q1.ok (fun z => absurd z b1)
        have n1 := n_param h1
        exact Bn.tr ⟨q1, n1⟩ q3
  | succ m IH =>
    intro σ S r x y ok gv hx hm h
    by_cases hy : y = 0
    · rw [hy] at h
      exact f307_0 h ok hx
    · rw [ps_function_b307_e, if_neg hy] at h
      obtain ⟨⟨s1, r1⟩, h1, h⟩ := ob h
      obtain ⟨q1, gv1⟩ := q_param h1 ok gv
      have b1 : Bn σ s1 := ⟨q1, n_param h1⟩
      have F1 := fr_inl fm_ps_param (ps_param_l σ x) h1
      have e81 : s1 81 = σ 81 := F1.r 81 1 (by decide +kernel) (by omega) (by omega)
      have hx1 : s1 69 8 = 0 → 0 ≤ s1 81 x := fun g => by rw [e81]; exact hx (q1 g).1
      obtain ⟨⟨s2, r2⟩, h2, h⟩ := ob h
      obtain ⟨rfl, g2⟩ := q_good h2
      try dsimp only at h
      split at h
      · rw [ps_function_b339_e, ps_function_b340_e, if_pos rfl] at h
        exact b1.tr (f307_0 h q1.ok hx1)
      · rename_i z
        have g := gd0 g2 z
        obtain ⟨⟨s3, r3⟩, h3, h⟩ := ob h
        obtain ⟨rfl, w3⟩ := q_is h3
        try dsimp only at h
        split at h
        · rw [ps_function_b339_e, ps_function_b340_e, if_pos rfl] at h
          exact b1.tr (f307_0 h q1.ok hx1)
        · rename_i z3
          have w := w3 z3
          rw [ps_function_b340_e, if_neg (by decide)] at h
          obtain ⟨⟨s4, r4⟩, h4, h⟩ := ob h
          have q4 := q_read1 h4 q1.ok g (by omega)
          have c := (q_read h4 q1.ok g).2
          have b4 : Bn s1 s4 := ⟨q4.le (by decide) (by decide), n_read h4⟩
          refine b1.tr (b4.tr (IH _ _ _ _ _ q4.ok (fun g' => ?_) (fun g' => ?_) (fun g' => ?_) h))
          · rw [c 68 (by decide), c 83 (by decide)]
            exact gv1 g
          · rw [c 81 (by decide)]
            exact hx1 g
          · have a := (q4 g').2.2.2
            have b := (q1 g).2.2.2
            have := hm (q1 g).1
            omega
theorem nqN_mv (h : S 80 = σ 80) : ∀ m, nqN S m = nqN σ m
  | 0 => rfl
  | m + 1 => by
    unfold nqN
    rw [nqN_mv h m, h]
theorem nqN_lo : ∀ (m : Nat), (∀ i : Int, i < m → S 80 i = σ 80 i) → nqN S m = nqN σ m
  | 0, _ => rfl
  | m + 1, h => by
    unfold nqN
    rw [nqN_lo m fun i hi => h i (by omega), h m (by omega)]
theorem f181 (h : ps_function_b181 σ = some (S, r)) (ok : okS σ) (g' : S 69 8 = 0) : σ 69 8 = 0 ∧ Gq S - S 69 5 ≤ Gq σ - σ 69 5 ∧ tkI S := by
  rw [ps_function_b181_e] at h
  obtain ⟨⟨s1, r1⟩, h1, h⟩ := ob h
  obtain ⟨rfl, g1⟩ := q_good h1
  try dsimp only at h
  split at h
  · rename_i z
    obtain ⟨rfl, rfl⟩ := sp h
    exact absurd g' (g1.mp z)
  · rename_i z
    have g := gd0 g1 z
    split at h
    · rename_i hb
      rw [w32_e (by omega) (by omega)] at h
      obtain ⟨⟨s2, r2⟩, h2, hh⟩ := ob h
      have tA : tkI (gW (gW (gW (gW (gW (gW (gW (gW (gW σ 68 19 (σ 68 19 + 1)) 79 (σ 68 19) (σ 69 5)) 80 (σ 68 19) (σ 69 6)) 81 (σ 68 19) (σ 68 10)) 83 (σ 68 19) 0) 84 (σ 68 19) 0) 68 20 0) 68 21 0) 68 22 0) :=
        (((((((((ok g).w (by decide) (by decide)).w (by decide) (by omega)).w (by decide) (by omega)).w (by decide) (by omega)).w (by decide) (by omega)).w (by decide) (by omega)).w (by decide) (by decide)).w (by decide) (by decide)).w (by decide) (by decide)
      have a77 : (gW (gW (gW (gW (gW (gW (gW (gW (gW σ 68 19 (σ 68 19 + 1)) 79 (σ 68 19) (σ 69 5)) 80 (σ 68 19) (σ 69 6)) 81 (σ 68 19) (σ 68 10)) 83 (σ 68 19) 0) 84 (σ 68 19) 0) 68 20 0) 68 21 0) 68 22 0) 77 = σ 77 := by
        rw [gW_cell (by decide), gW_cell (by decide), gW_cell (by decide), gW_cell (by decide), gW_cell (by decide), gW_cell (by decide), gW_cell (by decide), gW_cell (by decide), gW_cell (by decide)]
      have a69 : (gW (gW (gW (gW (gW (gW (gW (gW (gW σ 68 19 (σ 68 19 + 1)) 79 (σ 68 19) (σ 69 5)) 80 (σ 68 19) (σ 69 6)) 81 (σ 68 19) (σ 68 10)) 83 (σ 68 19) 0) 84 (σ 68 19) 0) 68 20 0) 68 21 0) 68 22 0) 69 = σ 69 := by
        rw [gW_cell (by decide), gW_cell (by decide), gW_cell (by decide), gW_cell (by decide), gW_cell (by decide), gW_cell (by decide), gW_cell (by decide), gW_cell (by decide), gW_cell (by decide)]
      have a80 : ∀ i, (gW (gW (gW (gW (gW (gW (gW (gW (gW σ 68 19 (σ 68 19 + 1)) 79 (σ 68 19) (σ 69 5)) 80 (σ 68 19) (σ 69 6)) 81 (σ 68 19) (σ 68 10)) 83 (σ 68 19) 0) 84 (σ 68 19) 0) 68 20 0) 68 21 0) 68 22 0) 80 i = if i = σ 68 19 then σ 69 6 else σ 80 i := by
        intro i
        rw [gW_c (by decide), gW_c (by decide), gW_c (by decide), gW_c (by decide), gW_c (by decide), gW_c (by decide), gW_if, gW_c (by decide), gW_c (by decide)]
      have a83 : (gW (gW (gW (gW (gW (gW (gW (gW (gW σ 68 19 (σ 68 19 + 1)) 79 (σ 68 19) (σ 69 5)) 80 (σ 68 19) (σ 69 6)) 81 (σ 68 19) (σ 68 10)) 83 (σ 68 19) 0) 84 (σ 68 19) 0) 68 20 0) 68 21 0) 68 22 0) 83 (σ 68 19) = 0 := by
        rw [gW_c (by decide), gW_c (by decide), gW_c (by decide), gW_c (by decide), gW_at]
      have a81 : (gW (gW (gW (gW (gW (gW (gW (gW (gW σ 68 19 (σ 68 19 + 1)) 79 (σ 68 19) (σ 69 5)) 80 (σ 68 19) (σ 69 6)) 81 (σ 68 19) (σ 68 10)) 83 (σ 68 19) 0) 84 (σ 68 19) 0) 68 20 0) 68 21 0) 68 22 0) 81 (σ 68 19) = σ 68 10 := by
        rw [gW_c (by decide), gW_c (by decide), gW_c (by decide), gW_c (by decide), gW_c (by decide), gW_at]
      have a10 : (gW (gW (gW (gW (gW (gW (gW (gW (gW σ 68 19 (σ 68 19 + 1)) 79 (σ 68 19) (σ 69 5)) 80 (σ 68 19) (σ 69 6)) 81 (σ 68 19) (σ 68 10)) 83 (σ 68 19) 0) 84 (σ 68 19) 0) 68 20 0) 68 21 0) 68 22 0) 68 10 = σ 68 10 := by simp [gW]
      have a19 : (gW (gW (gW (gW (gW (gW (gW (gW (gW σ 68 19 (σ 68 19 + 1)) 79 (σ 68 19) (σ 69 5)) 80 (σ 68 19) (σ 69 6)) 81 (σ 68 19) (σ 68 10)) 83 (σ 68 19) 0) 84 (σ 68 19) 0) 68 20 0) 68 21 0) 68 22 0) 68 19 = σ 68 19 + 1 := by simp [gW]
      have a20 : (gW (gW (gW (gW (gW (gW (gW (gW (gW σ 68 19 (σ 68 19 + 1)) 79 (σ 68 19) (σ 69 5)) 80 (σ 68 19) (σ 69 6)) 81 (σ 68 19) (σ 68 10)) 83 (σ 68 19) 0) 84 (σ 68 19) 0) 68 20 0) 68 21 0) 68 22 0) 68 20 = 0 := by simp [gW]
      generalize (gW (gW (gW (gW (gW (gW (gW (gW (gW σ 68 19 (σ 68 19 + 1)) 79 (σ 68 19) (σ 69 5)) 80 (σ 68 19) (σ 69 6)) 81 (σ 68 19) (σ 68 10)) 83 (σ 68 19) 0) 84 (σ 68 19) 0) 68 20 0) 68 21 0) 68 22 0) = A at *
      have gA : A 69 8 = 0 := by rw [a69]; exact g
      have fA : Fq A = Fq σ := Fq_mv a77 a10
      have nA : nqN A (A 68 19).toNat = nqN σ (σ 68 19).toNat + (σ 69 6 + 1) := by
        rw [a19, show (σ 68 19 + 1).toNat = (σ 68 19).toNat + 1 by omega]
        show nqN A _ + (A 80 ((σ 68 19).toNat : Nat) + 1) = _
        rw [nqN_lo (σ := σ) _ fun i hi => by rw [a80, if_neg (by omega)], show (((σ 68 19).toNat : Nat) : Int) = σ 68 19 by omega, a80, if_pos rfl]
      have m0 := (ok g).2
      have q2 := (q_read h2 (fun _ => tA) gA)
      rw [a69] at q2
      have n2 := n_read h2
      try dsimp only at hh
      obtain ⟨⟨s3, r3⟩, h3, h⟩ := ob hh
      have q3 := q2.1.tr (q_opens h3 q2.1.ok)
      have n3 : s3 80 = s2 80 ∧ s3 68 19 = s2 68 19 := n_opens h3
      have F3 := fr_inl fm_ps_opens (ps_opens_l s2 40) h3
      have e81 : s3 81 = s2 81 := F3.r 81 1 (by decide +kernel) (by omega) (by omega)
      have e83 : s3 83 = s2 83 := F3.r 83 1 (by decide +kernel) (by omega) (by omega)
      have e20 : s3 68 20 = s2 68 20 := F3.f 68 20 1 (by decide +kernel) (by omega) (by omega)
      have gv : gvn s3 (σ 68 19) := fun _ => by
        rw [e20, e83, q2.2 68 (by decide), q2.2 83 (by decide), a20, a83]
        omega
      have hx : s3 69 8 = 0 → 0 ≤ s3 81 (σ 68 19) := fun _ => by
        rw [e81, q2.2 81 (by decide), a81]
        exact m0
      have fin : ∀ y, ps_function_b307 s3 (σ 68 19) y = some (S, r) → σ 69 8 = 0 ∧ Gq S - S 69 5 ≤ Gq σ - σ 69 5 ∧ tkI S := by
        intro y h
        obtain ⟨b, bn1, bn2⟩ := f307 (4001 - s3 69 5).toNat _ _ _ _ _ q3.ok gv hx (fun g => by have := (q3.ok g).pl; omega) h
        obtain ⟨k1, k2, k3, k4⟩ := (q3.tr b) g'
        refine ⟨g, ?_, k2⟩
        have n80 : S 80 = A 80 := by rw [bn1, n3.1, n2.1]
        have n19 : S 68 19 = A 68 19 := by rw [bn2, n3.2, n2.2]
        unfold Gq
        rw [n19, nqN_mv n80, nA]
        rw [fA, a69] at k3
        omega
      obtain ⟨⟨s4, r4⟩, h4, h⟩ := ob h
      obtain ⟨rfl, g4⟩ := q_good h4
      try dsimp only at h
      split at h
      · rw [ps_function_b305_e, ps_function_b306_e] at h
        exact fin _ h
      · obtain ⟨⟨s5, r5⟩, h5, h⟩ := ob h
        obtain ⟨rfl, w5⟩ := q_is h5
        try dsimp only at h
        split at h
        · rw [ps_function_b306_e] at h
          exact fin _ h
        · rw [ps_function_b305_e, ps_function_b306_e] at h
          exact fin _ h
    · cases h
end PV
