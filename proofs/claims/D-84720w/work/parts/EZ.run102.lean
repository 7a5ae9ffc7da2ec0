/-! an empty program: the model -/
section MBS
variable {τ T : gM} {s n : Int}
theorem hb_12 : ∀ (d : Nat) (k : Int) (U : gM), 0 ≤ k → k + d = 4096 → ∃ T, md_houseBegins_b12 U k = md_houseBegins_b34 T 0 ∧ (∀ a, a ≠ 126 → T a = U a) ∧ (∀ i, k ≤ i → i < 4096 → T 126 i = -1) ∧ ∀ i, i < k → T 126 i = U 126 i
  | 0, k, U, k0, hk => ⟨U, by rw [md_houseBegins_b12_e, if_neg (by omega)], fun _ _ => rfl, fun i q1 q2 => by omega, fun _ _ => rfl⟩
  | d + 1, k, U, k0, hk => by
    obtain ⟨T, e1, e2, e3, e4⟩ := hb_12 d (k + 1) (gW U 126 k (-1)) (by omega) (by omega)
    refine ⟨T, ?_, fun a q => by rw [e2 a q, gW_cell q], fun i q1 q2 => ?_, fun i q => by rw [e4 i (by omega), gW_j (by omega)]⟩
    · rw [md_houseBegins_b12_e, if_pos (by omega), if_pos (show 0 ≤ k ∧ k < 4096 by omega), w32_e (x := k + 1) (by omega) (by omega)]
      exact e1
    · by_cases z : i = k
      · rw [z, e4 k (by omega), gW_at]
      · exact e3 i (by omega) q2
theorem hb_34 : ∀ (d : Nat) (k : Int) (U : gM), 0 ≤ k → k + d = 16384 → ∃ T, md_houseBegins_b34 U k = md_houseBegins_b56 T 0 ∧ (∀ a, a ≠ 127 → T a = U a) ∧ (∀ i, k ≤ i → i < 16384 → T 127 i = -1) ∧ ∀ i, i < k → T 127 i = U 127 i
  | 0, k, U, k0, hk => ⟨U, by rw [md_houseBegins_b34_e, if_neg (by omega)], fun _ _ => rfl, fun i q1 q2 => by omega, fun _ _ => rfl⟩
  | d + 1, k, U, k0, hk => by
    obtain ⟨T, e1, e2, e3, e4⟩ := hb_34 d (k + 1) (gW U 127 k (-1)) (by omega) (by omega)
    refine ⟨T, ?_, fun a q => by rw [e2 a q, gW_cell q], fun i q1 q2 => ?_, fun i q => by rw [e4 i (by omega), gW_j (by omega)]⟩
    · rw [md_houseBegins_b34_e, if_pos (by omega), if_pos (show 0 ≤ k ∧ k < 16384 by omega), w32_e (x := k + 1) (by omega) (by omega)]
      exact e1
    · by_cases z : i = k
      · rw [z, e4 k (by omega), gW_at]
      · exact e3 i (by omega) q2
theorem hb_56 : ∀ (d : Nat) (k : Int) (U : gM), 0 ≤ k → k + d = 9000 → ∃ T, md_houseBegins_b56 U k = md_houseBegins_b135 (gW (gW (gW (gW (gW (gW (gW (gW (gW (gW T 119 15 0) 119 55 0) 119 56 0) 119 57 0) 119 89 0) 119 94 1) 188 0 (-1)) 190 0 (-1)) 191 0 0) 119 104 0) 9 ∧ (∀ a, a ≠ 186 → T a = U a) ∧ (∀ i, k ≤ i → i < 9000 → T 186 i = -1) ∧ ∀ i, i < k → T 186 i = U 186 i
  | 0, k, U, k0, hk => ⟨U, by rw [md_houseBegins_b56_e, if_neg (by omega), if_pos (by decide), if_pos (by decide), if_pos (by decide)], fun _ _ => rfl, fun i q1 q2 => by omega, fun _ _ => rfl⟩
  | d + 1, k, U, k0, hk => by
    obtain ⟨T, e1, e2, e3, e4⟩ := hb_56 d (k + 1) (gW U 186 k (-1)) (by omega) (by omega)
    refine ⟨T, ?_, fun a q => by rw [e2 a q, gW_cell q], fun i q1 q2 => ?_, fun i q => by rw [e4 i (by omega), gW_j (by omega)]⟩
    · rw [md_houseBegins_b56_e, if_pos (by omega), if_pos (show 0 ≤ k ∧ k < 9000 by omega), w32_e (x := k + 1) (by omega) (by omega)]
      exact e1
    · by_cases z : i = k
      · rw [z, e4 k (by omega), gW_at]
      · exact e3 i (by omega) q2
theorem hb_135 : ∀ (d : Nat) (k : Int) (U : gM), 0 ≤ k → k + d = 16 → ∃ T, md_houseBegins_b135 U k = md_houseBegins_b156 T 0 ∧ (∀ a, a ≠ 224 → T a = U a) ∧ (∀ i, k ≤ i → i < 16 → T 224 i = 0) ∧ ∀ i, i < k → T 224 i = U 224 i
  | 0, k, U, k0, hk => ⟨U, by rw [md_houseBegins_b135_e, if_neg (by omega)], fun _ _ => rfl, fun i q1 q2 => by omega, fun _ _ => rfl⟩
  | d + 1, k, U, k0, hk => by
    obtain ⟨T, e1, e2, e3, e4⟩ := hb_135 d (k + 1) (gW U 224 k 0) (by omega) (by omega)
    refine ⟨T, ?_, fun a q => by rw [e2 a q, gW_cell q], fun i q1 q2 => ?_, fun i q => by rw [e4 i (by omega), gW_j (by omega)]⟩
    · rw [md_houseBegins_b135_e, if_pos (by omega), if_pos (show 0 ≤ k ∧ k < 16 by omega), w32_e (x := k + 1) (by omega) (by omega)]
      exact e1
    · by_cases z : i = k
      · rw [z, e4 k (by omega), gW_at]
      · exact e3 i (by omega) q2
/-- so many of the given functions are there -/
def MB (n : Int) (τ : gM) : Prop := (mI τ ∧ fJ τ ∧ (∀ i, i8 (τ 121 i)) ∧ ∀ i, i8 (τ 225 i)) ∧ (n ≤ τ 119 10 ∧ τ 119 9 ≤ 12 * τ 119 10) ∧ (τ 119 55 = n ∧ τ 119 56 = n) ∧ ∀ g, 0 ≤ g → g < n → (mS τ g = tx (g + 1) ∧ τ 155 g = g ∧ τ 156 g = g ∧ τ 157 g = g) ∧ (τ 159 g = 0 ∧ τ 161 g = 0 ∧ τ 163 g = 0 ∧ τ 164 g = -1 ∧ τ 165 g = 0 ∧ τ 166 g = 0) ∧ ∀ l, 0 ≤ l → l < 12 → τ 167 (12 * g + l) = 0
theorem MB.w (B : MB n τ) (c : ∀ a, (121 ≤ a ∧ a ≤ 127) ∨ (155 ≤ a ∧ a ≤ 167) ∨ a = 186 ∨ a = 225 → T a = τ a) (f : ∀ i, i = 9 ∨ i = 10 ∨ i = 12 ∨ i = 13 ∨ i = 55 ∨ i = 56 → T 119 i = τ 119 i) : MB n T := by
  obtain ⟨⟨b1, b2, b3, b4⟩, b5, b6, b7⟩ := B
  have eS : ∀ r, mS T r = mS τ r := fun r => by unfold mS; rw [c 121 (by decide), c 122 (by decide), c 123 (by decide)]
  refine ⟨⟨mI_mv b1 (f 9 (by decide)) (f 10 (by decide)) (f 12 (by decide)) (f 13 (by decide)) fun a q1 q2 => c a (by omega), fJ_mv b2 (f 10 (by decide)) (f 56 (by decide)) (c 155 (by decide)) (c 186 (by decide)), by rw [c 121 (by decide)]; exact b3, by rw [c 225 (by decide)]; exact b4⟩, by rw [f 10 (by decide), f 9 (by decide)]; exact b5, by rw [f 55 (by decide), f 56 (by decide)]; exact b6, fun g g0 g1 => ?_⟩
  rw [eS, c 155 (by decide), c 156 (by decide), c 157 (by decide), c 159 (by decide), c 161 (by decide), c 163 (by decide), c 164 (by decide), c 165 (by decide), c 166 (by decide), c 167 (by decide)]
  exact b7 g g0 g1
theorem keep_m (B : MB n τ) (hn : 0 ≤ n) (l : τ 119 10 ≤ 30) (hs : 0 ≤ s ∧ s < 13) : ∃ T k, md_keep τ s = some (T, k) ∧ MB n T ∧ (0 ≤ k ∧ k < T 119 10) ∧ mS T k = tx s ∧ T 119 10 ≤ τ 119 10 + 1 ∧ (k ≠ τ 119 10 → k < τ 119 10 ∧ mS τ k = tx s) ∧ (∀ r, 0 ≤ r → r < τ 119 10 → r < T 119 10 ∧ mS T r = mS τ r) ∧ (∀ c, c ≠ 119 → (c < 121 ∨ 126 < c) → c ≠ 225 → T c = τ c) ∧ (∀ i, i ≠ 9 → i ≠ 10 → T 119 i = τ 119 i) := by
  obtain ⟨⟨b1, b2, b3, b4⟩, b5, b6, b7⟩ := B
  have h12 := gsl_12 hs
  have l61 := (gsl_r (s := s) (by omega)).2
  obtain ⟨T, k, a1, a2, a3, a4, a5, a6, a7, a8, a9, a10, a11, a12, a13, a14⟩ := md_keep_s (s := s) (τ := τ) (by omega) b1 b4 (by omega) (by omega)
  have d : ∀ c, c ≠ 119 → (c < 121 ∨ 126 < c) → c ≠ 225 → T c = τ c := fun c q1 q2 q3 => funext fun i => a10 c i q1 (by omega) (by omega) (by omega) (by omega) (by omega) (by omega) q3
  have ks : ∀ r, 0 ≤ r → r < τ 119 10 → mS T r = mS τ r := fun r q1 q2 => (a5 r (Or.inl ⟨q1, q2⟩)).2.1
  refine ⟨T, k, a1, ⟨⟨a2, ?_, a13 b3, a14⟩, ⟨by omega, ?_⟩, by rw [a11 55 (by decide) (by decide), a11 56 (by decide) (by decide)]; exact b6, fun g g0 g1 => ?_⟩, a3, a4, a6.2, fun q => ?_, fun r q1 q2 => ⟨by omega, ks r q1 q2⟩, d, a11⟩
  · obtain ⟨j1, j2, j3⟩ := b2
    unfold fJ
    rw [d 155 (by decide) (by decide) (by decide), d 186 (by decide) (by decide) (by decide), a11 56 (by decide) (by decide)]
    exact ⟨j1, fun g q1 q2 => ⟨⟨(j2 g q1 q2).1.1, by have := (j2 g q1 q2).1.2; omega⟩, (j2 g q1 q2).2⟩, j3⟩
  · by_cases z : k = τ 119 10
    · have := (a9 z).1
      omega
    · rw [a8 z 119 9 (by decide), a8 z 119 10 (by decide)]
      omega
  · rw [ks g g0 (by omega), d 155 (by decide) (by decide) (by decide), d 156 (by decide) (by decide) (by decide), d 157 (by decide) (by decide) (by decide), d 159 (by decide) (by decide) (by decide), d 161 (by decide) (by decide) (by decide), d 163 (by decide) (by decide) (by decide), d 164 (by decide) (by decide) (by decide), d 165 (by decide) (by decide) (by decide), d 166 (by decide) (by decide) (by decide), d 167 (by decide) (by decide) (by decide)]
    exact b7 g g0 g1
  · have e := a8 q 119 10 (by decide)
    exact ⟨by omega, by rw [← ks k a3.1 (by omega)]; exact a4⟩
theorem plant_m (hn : 0 ≤ n ∧ n < 4) (B : MB n τ) (e10 : τ 119 10 = n) : ∃ T, md_houseBegins_b198 τ n (n + 1) = md_houseBegins_b156 T (n + 1) ∧ MB (n + 1) T ∧ T 119 10 = n + 1 ∧ (∀ c, c ≠ 119 → (c < 121 ∨ 126 < c) → (c < 155 ∨ 167 < c) → c ≠ 186 → c ≠ 225 → T c = τ c) ∧ (∀ i, i ≠ 9 → i ≠ 10 → i ≠ 55 → i ≠ 56 → T 119 i = τ 119 i) := by
  obtain ⟨U, k, u1, BU, u2, u3, u4, u5, u6, u7, u8⟩ := keep_m (s := n + 1) B hn.1 (by omega) (by omega)
  have ek : k = n := by
    by_cases z : k = τ 119 10
    · omega
    · exfalso
      obtain ⟨w1, w2⟩ := u5 z
      have w := (B.2.2.2 k u2.1 (by omega)).1.1
      have := tx_inj (i := k + 1) (j := n + 1) (by omega) (by omega) (by rw [← w, w2])
      omega
  have BU' := BU
  obtain ⟨⟨b1, b2, b3, b4⟩, b5, ⟨b6, b6'⟩, b7⟩ := BU'
  rw [ek] at u1 u2 u3
  have n9 : 0 ≤ n ∧ n < 9000 := by omega
  have z186 : U 186 n = -1 := by
    rcases b2.2.2 n n9.1 n9.2 with y | ⟨y1, y2⟩
    · exact y
    · have := (b7 _ y1.1 (by omega)).1.2.1
      rw [y2] at this
      omega
  have e10' : U 119 10 = n + 1 := by omega
  generalize eV : gW (gW (gW (gW U 155 n n) 156 n (-1)) 186 n n) 119 56 (n + 1) = V
  have ef : md_functionOf U n = some (V, n) := by
    rw [md_functionOf_e, if_pos n9, if_pos (by omega), b6', if_pos n9, if_pos n9, if_pos n9, w32_e (x := n + 1) (by omega) (by omega), show n + 1 - 1 = n by omega, w32_e (by omega) (by omega), eV]
  have v1 : ∀ a, a ≠ 119 → a ≠ 155 → a ≠ 156 → a ≠ 186 → V a = U a := fun a q1 q2 q3 q4 => by rw [← eV, gW_cell q1, gW_cell q4, gW_cell q3, gW_cell q2]
  have v2 : ∀ i, i ≠ 56 → V 119 i = U 119 i := fun i q => by rw [← eV, gW_i q, gW_c (by decide), gW_c (by decide), gW_c (by decide)]
  have v56 : V 119 56 = n + 1 := by rw [← eV, gW_at]
  have v155 : ∀ g, V 155 g = if g = n then n else U 155 g := fun g => by rw [← eV, gW_c (by decide), gW_c (by decide), gW_c (by decide), gW_if]
  have v156 : ∀ g, V 156 g = if g = n then -1 else U 156 g := fun g => by rw [← eV, gW_c (by decide), gW_c (by decide), gW_if, gW_cell (by decide)]
  have v186 : ∀ m, V 186 m = if m = n then n else U 186 m := fun m => by rw [← eV, gW_c (by decide), gW_if, gW_cell (by decide), gW_cell (by decide)]
  clear eV
  generalize eW : gW (gW V 159 n 0) 161 n 0 = W
  have w1 : ∀ a, a ≠ 159 → a ≠ 161 → W a = V a := fun a q1 q2 => by rw [← eW, gW_cell q2, gW_cell q1]
  have w159 : ∀ x, W 159 x = if x = n then 0 else V 159 x := fun x => by rw [← eW, gW_c (by decide), gW_if]
  have w161 : ∀ x, W 161 x = if x = n then 0 else V 161 x := fun x => by rw [← eW, gW_if, gW_cell (by decide)]
  clear eW
  have w55 : W 119 55 = n := by rw [w1 119 (by decide) (by decide), v2 55 (by decide), b6]
  obtain ⟨X, x1, ⟨r1, r2, r3, r4, r5, r6, r7, r8⟩⟩ := md_rootComes_s (W := W) (g := n) (by omega) n9
  rw [w55] at r1 r3 r4 r7 r8
  rw [if_pos (show W 156 n < 0 by rw [w1 156 (by decide) (by decide), v156, if_pos rfl]; decide)] at x1
  have xA : ∀ a, a ≠ 119 → a ≠ 156 → a ≠ 157 → (a < 163 ∨ 167 < a) → X a = W a := fun a q1 q2 q3 q4 => funext fun i => r5 a i q1 q2 q3 q4
  have eS : ∀ r, mS X r = mS U r := fun r => by
    unfold mS
    rw [xA 121 (by decide) (by decide) (by decide) (by decide), xA 122 (by decide) (by decide) (by decide) (by decide), xA 123 (by decide) (by decide) (by decide) (by decide), w1 121 (by decide) (by decide), w1 122 (by decide) (by decide), w1 123 (by decide) (by decide), v1 121 (by decide) (by decide) (by decide) (by decide), v1 122 (by decide) (by decide) (by decide) (by decide), v1 123 (by decide) (by decide) (by decide) (by decide)]
  have x119 : ∀ i, i ≠ 55 → i ≠ 56 → X 119 i = U 119 i := fun i q1 q2 => by rw [r2 i q1, w1 119 (by decide) (by decide), v2 i q2]
  have xU : ∀ a, a ≠ 119 → (a < 155 ∨ 167 < a) → a ≠ 186 → X a = U a := fun a q1 q2 q3 => by rw [xA a q1 (by omega) (by omega) (by omega), w1 a (by omega) (by omega), v1 a q1 (by omega) (by omega) q3]
  refine ⟨X, ?_, ⟨⟨mI_mv b1 (x119 9 (by decide) (by decide)) (x119 10 (by decide) (by decide)) (x119 12 (by decide) (by decide)) (x119 13 (by decide) (by decide)) fun a q1 q2 => xU a (by omega) (by omega) (by omega), ?_, by rw [xU 121 (by decide) (by decide) (by decide)]; exact b3, by rw [xU 225 (by decide) (by decide) (by decide)]; exact b4⟩, ?_, ⟨r1, ?_⟩, fun g g0 g1 => ?_⟩, by rw [x119 10 (by decide) (by decide)]; exact e10', fun c q1 q2 q3 q4 q5 => by rw [xU c q1 q3 q4, u7 c q1 q2 q5], fun i q1 q2 q3 q4 => by rw [x119 i q3 q4, u8 i q1 q2]⟩
  · rw [md_houseBegins_b198_e, u1]
    simp only [Option.bind_some]
    rw [ef]
    simp only [Option.bind_some]
    rw [if_pos (show 0 ≤ n ∧ n < 60 by omega), if_pos (show 0 ≤ n ∧ n < 60 by omega), show gW (gW V 159 n 0) 161 n 0 = W from funext fun a => funext fun i => by
      by_cases z : a = 159
      · rw [z, gW_c (by decide), gW_if, w159]
      · by_cases y : a = 161
        · rw [y, gW_if, w161, gW_cell (by decide)]
        · rw [gW_c y, gW_c z, w1 a z y], x1]
    simp only [Option.bind_some]
    rw [w32_e (x := n + 1) (by omega) (by omega)]
  · obtain ⟨j1, j2, j3⟩ := b2
    have e155 : ∀ g, X 155 g = V 155 g := fun g => by rw [xA 155 (by decide) (by decide) (by decide) (by decide), w1 155 (by decide) (by decide)]
    have e186 : ∀ g, X 186 g = V 186 g := fun g => by rw [xA 186 (by decide) (by decide) (by decide) (by decide), w1 186 (by decide) (by decide)]
    have e56 : X 119 56 = n + 1 := by rw [r2 56 (by decide), w1 119 (by decide) (by decide), v56]
    refine ⟨by omega, fun g q1 q2 => ?_, fun m q1 q2 => ?_⟩
    · rw [e155, v155, x119 10 (by decide) (by decide), e186, v186]
      by_cases w : g = n
      · rw [if_pos w, if_pos rfl]
        exact ⟨by omega, w.symm⟩
      · rw [if_neg w]
        have j := j2 g q1 (by omega)
        refine ⟨j.1, ?_⟩
        rw [if_neg (fun y => by rw [y, z186] at j; omega)]
        exact j.2
    · rw [e186, v186]
      by_cases w : m = n
      · rw [if_pos w, e155, v155, if_pos rfl]
        exact Or.inr ⟨by omega, w.symm⟩
      · rw [if_neg w]
        rcases j3 m q1 q2 with y | ⟨y1, y2⟩
        · exact Or.inl y
        · refine Or.inr ⟨by omega, ?_⟩
          rw [e155, v155, if_neg (by omega)]
          exact y2
  · rw [x119 10 (by decide) (by decide), x119 9 (by decide) (by decide)]
    omega
  · rw [r2 56 (by decide), w1 119 (by decide) (by decide), v56]
  · have e155 : X 155 g = V 155 g := by rw [xA 155 (by decide) (by decide) (by decide) (by decide), w1 155 (by decide) (by decide)]
    have e159 : X 159 g = W 159 g := by rw [xA 159 (by decide) (by decide) (by decide) (by decide)]
    have e161 : X 161 g = W 161 g := by rw [xA 161 (by decide) (by decide) (by decide) (by decide)]
    rw [eS, e155, e159, e161, v155, w159, w161]
    by_cases z : g = n
    · rw [z, if_pos rfl, if_pos rfl, if_pos rfl]
      exact ⟨⟨u3, rfl, r3.2.1, r3.1⟩, ⟨rfl, rfl, r3.2.2.1, r3.2.2.2.1, r3.2.2.2.2.1, r3.2.2.2.2.2⟩, r4⟩
    · obtain ⟨⟨q1, q2, q3, q4⟩, ⟨q5, q6, q7, q8, q9, q10⟩, q11⟩ := b7 g g0 (by omega)
      have o : ∀ a, a = 157 ∨ (163 ≤ a ∧ a ≤ 166) → X a g = U a g := fun a y => by rw [r7 a g y z, w1 a (by omega) (by omega), v1 a (by omega) (by omega) (by omega) (by omega)]
      rw [if_neg z, if_neg z, if_neg z, v1 159 (by decide) (by decide) (by decide) (by decide), v1 161 (by decide) (by decide) (by decide) (by decide), r6 g z, w1 156 (by decide) (by decide), v156, if_neg z, o 157 (by decide), o 163 (by decide), o 164 (by decide), o 165 (by decide), o 166 (by decide)]
      exact ⟨⟨q1, q2, q3, q4⟩, ⟨q5, q6, q7, q8, q9, q10⟩, fun l l0 l1 => by rw [r8 _ (by omega), w1 167 (by decide) (by decide), v1 167 (by decide) (by decide) (by decide) (by decide)]; exact q11 l l0 l1⟩
/-- kept names -/
def KS (L : List (Int × Int)) (τ : gM) : Prop := ∀ p ∈ L, (0 ≤ p.1 ∧ p.1 < τ 119 10) ∧ mS τ p.1 = tx p.2
theorem KS.w {L : List (Int × Int)} (K : KS L τ) (c : ∀ a, 121 ≤ a ∧ a ≤ 123 → T a = τ a) (f : T 119 10 = τ 119 10) : KS L T := fun p hp => by
  have := K p hp
  unfold mS at this ⊢
  rw [f, c 121 (by decide), c 122 (by decide), c 123 (by decide)]
  exact this
theorem keep_k {L : List (Int × Int)} (B : MB 4 τ) (l : τ 119 10 ≤ 30) (K : KS L τ) (hs : 0 ≤ s ∧ s < 13) : ∃ T k, md_keep τ s = some (T, k) ∧ MB 4 T ∧ T 119 10 ≤ τ 119 10 + 1 ∧ KS ((k, s) :: L) T ∧ (∀ c, c ≠ 119 → (c < 121 ∨ 126 < c) → c ≠ 225 → T c = τ c) ∧ (∀ i, i ≠ 9 → i ≠ 10 → T 119 i = τ 119 i) := by
  obtain ⟨T, k, u1, BU, u2, u3, u4, u5, u6, u7, u8⟩ := keep_m (s := s) B (by decide) l hs
  refine ⟨T, k, u1, BU, u4, fun p hp => ?_, u7, u8⟩
  rcases List.mem_cons.mp hp with q | q
  · rw [q]; exact ⟨u2, u3⟩
  · obtain ⟨w1, w2⟩ := K p q
    obtain ⟨y1, y2⟩ := u6 p.1 w1.1 w1.2
    exact ⟨⟨w1.1, y1⟩, by rw [y2, w2]⟩
/-- an empty program -/
def MK (τ : gM) : Prop := MB 4 τ ∧ (∀ k, 0 ≤ k → k < 7 → (0 ≤ τ 187 (kT k) ∧ τ 187 (kT k) < τ 119 10) ∧ mS τ (τ 187 (kT k)) = tx (kX k)) ∧ ((0 ≤ τ 119 92 ∧ τ 119 92 < τ 119 10) ∧ mS τ (τ 119 92) = tx 11) ∧ ((0 ≤ τ 119 93 ∧ τ 119 93 < τ 119 10) ∧ mS τ (τ 119 93) = tx 12) ∧ τ 119 10 ≤ 12 ∧ (τ 119 15 = 0 ∧ τ 119 57 = 0 ∧ τ 119 89 = 0 ∧ τ 119 94 = 1 ∧ τ 119 104 = 0) ∧ (τ 188 0 = -1 ∧ τ 190 0 = -1 ∧ τ 191 0 = 0) ∧ ∀ i, 9 ≤ i → i < 16 → τ 224 i = 0
theorem kinds_m {A : gM} (B : MB 4 A) (e10 : A 119 10 = 4) : ∃ T, md_houseBegins_b156 A 4 = some (T, 0) ∧ MB 4 T ∧ ((∀ k, 0 ≤ k → k < 7 → (0 ≤ T 187 (kT k) ∧ T 187 (kT k) < T 119 10) ∧ mS T (T 187 (kT k)) = tx (kX k)) ∧ ((0 ≤ T 119 92 ∧ T 119 92 < T 119 10) ∧ mS T (T 119 92) = tx 11) ∧ ((0 ≤ T 119 93 ∧ T 119 93 < T 119 10) ∧ mS T (T 119 93) = tx 12)) ∧ T 119 10 ≤ 12 ∧ (∀ c, c ≠ 119 → (c < 121 ∨ 126 < c) → c ≠ 187 → c ≠ 225 → T c = A c) ∧ (∀ i, i ≠ 9 → i ≠ 10 → i ≠ 92 → i ≠ 93 → T 119 i = A 119 i) := by
  obtain ⟨T1, k1, a1, B1, l1, K1, c1, f1⟩ := keep_k (s := 5) (L := []) B (by omega) (fun p hp => by cases hp) (by decide)
  have B1' : MB 4 (gW T1 187 0 k1) := B1.w (fun a q => gW_cell (by omega)) (fun i q => gW_c (by decide))
  have K1' := K1.w (T := gW T1 187 0 k1) (fun a q => gW_cell (by omega)) (gW_c (by decide))
  obtain ⟨T2, k2, a2, B2, l2, K2, c2, f2⟩ := keep_k (s := 6) B1' (by rw [gW_c (by decide)]; omega) K1' (by decide)
  rw [gW_c (by decide)] at l2
  have B2' : MB 4 (gW T2 187 1 k2) := B2.w (fun a q => gW_cell (by omega)) (fun i q => gW_c (by decide))
  have K2' := K2.w (T := gW T2 187 1 k2) (fun a q => gW_cell (by omega)) (gW_c (by decide))
  obtain ⟨T3, k3, a3, B3, l3, K3, c3, f3⟩ := keep_k (s := 7) B2' (by rw [gW_c (by decide)]; omega) K2' (by decide)
  rw [gW_c (by decide)] at l3
  have B3' : MB 4 (gW (gW T3 187 2 k3) 187 3 k3) := B3.w (fun a q => by rw [gW_cell (by omega), gW_cell (by omega)]) (fun i q => by rw [gW_c (by decide), gW_c (by decide)])
  have K3' := K3.w (T := gW (gW T3 187 2 k3) 187 3 k3) (fun a q => by rw [gW_cell (by omega), gW_cell (by omega)]) (by rw [gW_c (by decide), gW_c (by decide)])
  obtain ⟨T4, k4, a4, B4, l4, K4, c4, f4⟩ := keep_k (s := 8) B3' (by rw [gW_c (by decide), gW_c (by decide)]; omega) K3' (by decide)
  rw [gW_c (by decide), gW_c (by decide)] at l4
  have B4' : MB 4 (gW T4 187 4 k4) := B4.w (fun a q => gW_cell (by omega)) (fun i q => gW_c (by decide))
  have K4' := K4.w (T := gW T4 187 4 k4) (fun a q => gW_cell (by omega)) (gW_c (by decide))
  obtain ⟨T5, k5, a5, B5, l5, K5, c5, f5⟩ := keep_k (s := 9) B4' (by rw [gW_c (by decide)]; omega) K4' (by decide)
  rw [gW_c (by decide)] at l5
  have B5' : MB 4 (gW T5 187 5 k5) := B5.w (fun a q => gW_cell (by omega)) (fun i q => gW_c (by decide))
  have K5' := K5.w (T := gW T5 187 5 k5) (fun a q => gW_cell (by omega)) (gW_c (by decide))
  obtain ⟨T6, k6, a6, B6, l6, K6, c6, f6⟩ := keep_k (s := 10) B5' (by rw [gW_c (by decide)]; omega) K5' (by decide)
  rw [gW_c (by decide)] at l6
  have B6' : MB 4 (gW T6 187 6 k6) := B6.w (fun a q => gW_cell (by omega)) (fun i q => gW_c (by decide))
  have K6' := K6.w (T := gW T6 187 6 k6) (fun a q => gW_cell (by omega)) (gW_c (by decide))
  obtain ⟨T7, k7, a7, B7, l7, K7, c7, f7⟩ := keep_k (s := 11) B6' (by rw [gW_c (by decide)]; omega) K6' (by decide)
  rw [gW_c (by decide)] at l7
  have B7' : MB 4 (gW T7 119 92 k7) := B7.w (fun a q => gW_cell (by omega)) (fun i q => gW_i (by omega))
  have K7' := K7.w (T := gW T7 119 92 k7) (fun a q => gW_cell (by omega)) (gW_i (by decide))
  obtain ⟨T8, k8, a8, B8, l8, K8, c8, f8⟩ := keep_k (s := 12) B7' (by rw [gW_i (by decide)]; omega) K7' (by decide)
  rw [gW_i (by decide)] at l8
  have B8' : MB 4 (gW T8 119 93 k8) := B8.w (fun a q => gW_cell (by omega)) (fun i q => gW_i (by omega))
  have K8' := K8.w (T := gW T8 119 93 k8) (fun a q => gW_cell (by omega)) (gW_i (by decide))
  have g7 : ∀ i, i ≠ 6 → T8 187 i = T6 187 i := fun i q => by rw [c8 187 (by decide) (by decide) (by decide), gW_c (by decide), c7 187 (by decide) (by decide) (by decide), gW_i q]
  have g6 : T8 187 6 = k6 := by rw [c8 187 (by decide) (by decide) (by decide), gW_c (by decide), c7 187 (by decide) (by decide) (by decide), gW_at]
  have g5 : T8 187 5 = k5 := by rw [g7 5 (by decide), c6 187 (by decide) (by decide) (by decide), gW_at]
  have h5 : ∀ i, i ≠ 5 → T6 187 i = T5 187 i := fun i q => by rw [c6 187 (by decide) (by decide) (by decide), gW_i q]
  have g4 : T8 187 4 = k4 := by rw [g7 4 (by decide), h5 4 (by decide), c5 187 (by decide) (by decide) (by decide), gW_at]
  have h4 : ∀ i, i ≠ 4 → T5 187 i = T4 187 i := fun i q => by rw [c5 187 (by decide) (by decide) (by decide), gW_i q]
  have g3 : T8 187 3 = k3 := by rw [g7 3 (by decide), h5 3 (by decide), h4 3 (by decide), c4 187 (by decide) (by decide) (by decide), gW_at]
  have g2 : T8 187 2 = k3 := by rw [g7 2 (by decide), h5 2 (by decide), h4 2 (by decide), c4 187 (by decide) (by decide) (by decide), gW_i (by decide), gW_at]
  have h3 : ∀ i, i ≠ 2 → i ≠ 3 → T4 187 i = T3 187 i := fun i q1 q2 => by rw [c4 187 (by decide) (by decide) (by decide), gW_i q2, gW_i q1]
  have g1 : T8 187 1 = k2 := by rw [g7 1 (by decide), h5 1 (by decide), h4 1 (by decide), h3 1 (by decide) (by decide), c3 187 (by decide) (by decide) (by decide), gW_at]
  have g0 : T8 187 0 = k1 := by rw [g7 0 (by decide), h5 0 (by decide), h4 0 (by decide), h3 0 (by decide) (by decide), c3 187 (by decide) (by decide) (by decide), gW_i (by decide), c2 187 (by decide) (by decide) (by decide), gW_at]
  have e92 : T8 119 92 = k7 := by rw [f8 92 (by decide) (by decide), gW_at]
  have m1 := K8' (k1, 5) (by simp)
  have m2 := K8' (k2, 6) (by simp)
  have m3 := K8' (k3, 7) (by simp)
  have m4 := K8' (k4, 8) (by simp)
  have m5 := K8' (k5, 9) (by simp)
  have m6 := K8' (k6, 10) (by simp)
  have m7 := K8' (k7, 11) (by simp)
  have m8 := K8' (k8, 12) (by simp)
  generalize eX : gW T8 119 93 k8 = X at *
  have x187 : X 187 = T8 187 := by rw [← eX, gW_cell (by decide)]
  have x93 : X 119 93 = k8 := by rw [← eX, gW_at]
  have x92 : X 119 92 = k7 := by rw [← eX, gW_i (by decide), e92]
  have x10 : X 119 10 = T8 119 10 := by rw [← eX, gW_i (by decide)]
  refine ⟨X, ?_, B8', ⟨fun k q1 q2 => ?_, by rw [x92]; exact m7, by rw [x93]; exact m8⟩, by omega, fun c q1 q2 q3 q4 => ?_, fun i q1 q2 q3 q4 => ?_⟩
  · rw [md_houseBegins_b156_e, if_neg (by decide), a1]
    simp only [Option.bind_some]
    rw [if_pos (by decide), a2]
    simp only [Option.bind_some]
    rw [if_pos (by decide), a3]
    simp only [Option.bind_some]
    rw [if_pos (by decide), if_pos (by decide), if_pos (by decide), a4]
    simp only [Option.bind_some]
    rw [if_pos (by decide), a5]
    simp only [Option.bind_some]
    rw [if_pos (by decide), a6]
    simp only [Option.bind_some]
    rw [if_pos (by decide), a7]
    simp only [Option.bind_some]
    rw [a8]
    simp only [Option.bind_some]
    rw [eX]
  · rw [x187]
    have c : k = 0 ∨ k = 1 ∨ k = 2 ∨ k = 3 ∨ k = 4 ∨ k = 5 ∨ k = 6 := by omega
    rcases c with c | c | c | c | c | c | c
    · rw [c, show kT 0 = 2 by decide, show kX 0 = 7 by decide, g2]; exact m3
    · rw [c, show kT 1 = 3 by decide, show kX 1 = 7 by decide, g3]; exact m3
    · rw [c, show kT 2 = 4 by decide, show kX 2 = 8 by decide, g4]; exact m4
    · rw [c, show kT 3 = 1 by decide, show kX 3 = 6 by decide, g1]; exact m2
    · rw [c, show kT 4 = 0 by decide, show kX 4 = 5 by decide, g0]; exact m1
    · rw [c, show kT 5 = 5 by decide, show kX 5 = 9 by decide, g5]; exact m5
    · rw [c, show kT 6 = 6 by decide, show kX 6 = 10 by decide, g6]; exact m6
  · rw [← eX, gW_cell q1, c8 c q1 q2 q4, gW_cell q1, c7 c q1 q2 q4, gW_cell q3, c6 c q1 q2 q4, gW_cell q3, c5 c q1 q2 q4, gW_cell q3, c4 c q1 q2 q4, gW_cell q3, gW_cell q3, c3 c q1 q2 q4, gW_cell q3, c2 c q1 q2 q4, gW_cell q3, c1 c q1 q2 q4]
  · rw [← eX, gW_i q4, f8 i q1 q2, gW_i q3, f7 i q1 q2, gW_c (by decide), f6 i q1 q2, gW_c (by decide), f5 i q1 q2, gW_c (by decide), f4 i q1 q2, gW_c (by decide), gW_c (by decide), f3 i q1 q2, gW_c (by decide), f2 i q1 q2, gW_c (by decide), f1 i q1 q2]
theorem house_m (h12 : τ 119 12 = 60000) (h13 : τ 119 13 = 0) (b1 : ∀ i, i8 (τ 121 i)) (b2 : ∀ i, i8 (τ 225 i)) : ∃ T, md_houseBegins τ = some (T, 0) ∧ MK T ∧ (∀ i, 0 ≤ i → i < 16384 → T 127 i = -1) ∧ (∀ c, c ≠ 119 → (c < 121 ∨ 127 < c) → (c < 155 ∨ 167 < c) → c ≠ 186 → c ≠ 187 → c ≠ 188 → c ≠ 190 → c ≠ 191 → c ≠ 224 → c ≠ 225 → T c = τ c) ∧ (∀ i, i ≠ 9 → i ≠ 10 → i ≠ 15 → i ≠ 55 → i ≠ 56 → i ≠ 57 → i ≠ 89 → i ≠ 92 → i ≠ 93 → i ≠ 94 → i ≠ 104 → T 119 i = τ 119 i) := by
  obtain ⟨U1, e1, u1, v1, -⟩ := hb_12 4096 0 (gW (gW τ 119 9 0) 119 10 0) (by decide) (by decide)
  obtain ⟨U2, e2, u2, v2, -⟩ := hb_34 16384 0 U1 (by decide) (by decide)
  obtain ⟨U3, e3, u3, v3, -⟩ := hb_56 9000 0 U2 (by decide) (by decide)
  generalize eW : gW (gW (gW (gW (gW (gW (gW (gW (gW (gW U3 119 15 0) 119 55 0) 119 56 0) 119 57 0) 119 89 0) 119 94 1) 188 0 (-1)) 190 0 (-1)) 191 0 0) 119 104 0 = W at e3
  have w1 : ∀ a, a ≠ 119 → a ≠ 188 → a ≠ 190 → a ≠ 191 → W a = U3 a := fun a q1 q2 q3 q4 => by rw [← eW, gW_cell q1, gW_cell q4, gW_cell q3, gW_cell q2, gW_cell q1, gW_cell q1, gW_cell q1, gW_cell q1, gW_cell q1, gW_cell q1]
  have w2 : ∀ i, i ≠ 15 → i ≠ 55 → i ≠ 56 → i ≠ 57 → i ≠ 89 → i ≠ 94 → i ≠ 104 → W 119 i = U3 119 i := fun i q1 q2 q3 q4 q5 q6 q7 => by rw [← eW, gW_i q7, gW_c (by decide), gW_c (by decide), gW_c (by decide), gW_i q6, gW_i q5, gW_i q4, gW_i q3, gW_i q2, gW_i q1]
  have w3 : W 119 15 = 0 ∧ W 119 55 = 0 ∧ W 119 56 = 0 ∧ W 119 57 = 0 ∧ W 119 89 = 0 ∧ W 119 94 = 1 ∧ W 119 104 = 0 ∧ W 188 0 = -1 ∧ W 190 0 = -1 ∧ W 191 0 = 0 := by
    rw [← eW]
    simp [gW]
  clear eW
  obtain ⟨A, e4, u4, v4, -⟩ := hb_135 7 9 W (by decide) (by decide)
  have a1 : ∀ a, a ≠ 119 → a ≠ 126 → a ≠ 127 → a ≠ 186 → a ≠ 188 → a ≠ 190 → a ≠ 191 → a ≠ 224 → A a = τ a := fun a q1 q2 q3 q4 q5 q6 q7 q8 => by rw [u4 a q8, w1 a q1 q5 q6 q7, u3 a q4, u2 a q3, u1 a q2, gW_cell q1, gW_cell q1]
  have a126 : ∀ i, 0 ≤ i → i < 4096 → A 126 i = -1 := fun i q1 q2 => by rw [u4 126 (by decide), w1 126 (by decide) (by decide) (by decide) (by decide), u3 126 (by decide), u2 126 (by decide)]; exact v1 i q1 q2
  have a127 : ∀ i, 0 ≤ i → i < 16384 → A 127 i = -1 := fun i q1 q2 => by rw [u4 127 (by decide), w1 127 (by decide) (by decide) (by decide) (by decide), u3 127 (by decide)]; exact v2 i q1 q2
  have a186 : ∀ i, 0 ≤ i → i < 9000 → A 186 i = -1 := fun i q1 q2 => by rw [u4 186 (by decide), w1 186 (by decide) (by decide) (by decide) (by decide)]; exact v3 i q1 q2
  have a119 : A 119 = W 119 := u4 119 (by decide)
  have aF : ∀ i, i ≠ 9 → i ≠ 10 → i ≠ 15 → i ≠ 55 → i ≠ 56 → i ≠ 57 → i ≠ 89 → i ≠ 94 → i ≠ 104 → A 119 i = τ 119 i := fun i q1 q2 q3 q4 q5 q6 q7 q8 q9 => by rw [a119, w2 i q3 q4 q5 q6 q7 q8 q9, u3 119 (by decide), u2 119 (by decide), u1 119 (by decide), gW_i q2, gW_i q1]
  have a9 : A 119 9 = 0 ∧ A 119 10 = 0 := by
    rw [a119, w2 9 (by decide) (by decide) (by decide) (by decide) (by decide) (by decide) (by decide), w2 10 (by decide) (by decide) (by decide) (by decide) (by decide) (by decide) (by decide), u3 119 (by decide), u2 119 (by decide), u1 119 (by decide)]
    exact ⟨by rw [gW_i (by decide), gW_at], by rw [gW_at]⟩
  have a12 : A 119 12 = 60000 := by rw [aF 12 (by decide) (by decide) (by decide) (by decide) (by decide) (by decide) (by decide) (by decide) (by decide), h12]
  have a13 : A 119 13 = 0 := by rw [aF 13 (by decide) (by decide) (by decide) (by decide) (by decide) (by decide) (by decide) (by decide) (by decide), h13]
  have a55 : A 119 55 = 0 := by rw [a119]; exact w3.2.1
  have a56 : A 119 56 = 0 := by rw [a119]; exact w3.2.2.1
  have B0 : MB 0 A := by
    refine ⟨⟨⟨by omega, by omega, by omega, by omega, fun s q1 q2 => by omega, fun s q1 q2 => by omega, fun s t q1 q2 => by omega, fun s t q1 q2 => by omega, fun b q1 q2 => Or.inl ⟨a126 b q1 q2, fun s q3 q4 => by omega⟩, fun b q1 q2 => Or.inl ⟨a127 b q1 q2, fun s q3 q4 => by omega⟩⟩, ⟨by omega, fun g q1 q2 => by omega, fun n q1 q2 => Or.inl (a186 n q1 q2)⟩, ?_, ?_⟩, by omega, ⟨a55, a56⟩, fun g q1 q2 => by omega⟩
    · rw [a1 121 (by decide) (by decide) (by decide) (by decide) (by decide) (by decide) (by decide) (by decide)]; exact b1
    · rw [a1 225 (by decide) (by decide) (by decide) (by decide) (by decide) (by decide) (by decide) (by decide)]; exact b2
  have st : ∀ (U : gM) (n : Int), (n = 0 ∨ n = 1 ∨ n = 2 ∨ n = 3) → md_houseBegins_b156 U n = md_houseBegins_b198 U n (n + 1) := fun U n q => by
    rw [md_houseBegins_b156_e, if_pos (by omega)]
    rcases q with q | q | q | q <;> rw [q]
    · rw [if_pos rfl]; rfl
    · rw [if_neg (by decide), if_pos rfl]; rfl
    · rw [if_neg (by decide), if_neg (by decide), if_pos rfl]; rfl
    · rw [if_neg (by decide), if_neg (by decide), if_neg (by decide)]; rfl
  obtain ⟨P1, p1, B1, n1, k1, f1⟩ := plant_m (n := 0) (by decide) B0 a9.2
  obtain ⟨P2, p2, B2, n2, k2, f2⟩ := plant_m (n := 0 + 1) (by decide) B1 n1
  obtain ⟨P3, p3, B3, n3, k3, f3⟩ := plant_m (n := 0 + 1 + 1) (by decide) B2 n2
  obtain ⟨P4, p4, B4, n4, k4, f4⟩ := plant_m (n := 0 + 1 + 1 + 1) (by decide) B3 n3
  have kk : ∀ c, c ≠ 119 → (c < 121 ∨ 126 < c) → (c < 155 ∨ 167 < c) → c ≠ 186 → c ≠ 225 → P4 c = A c := fun c q1 q2 q3 q4 q5 => by rw [k4 c q1 q2 q3 q4 q5, k3 c q1 q2 q3 q4 q5, k2 c q1 q2 q3 q4 q5, k1 c q1 q2 q3 q4 q5]
  have ff : ∀ i, i ≠ 9 → i ≠ 10 → i ≠ 55 → i ≠ 56 → P4 119 i = A 119 i := fun i q1 q2 q3 q4 => by rw [f4 i q1 q2 q3 q4, f3 i q1 q2 q3 q4, f2 i q1 q2 q3 q4, f1 i q1 q2 q3 q4]
  obtain ⟨T, t1, t2, t3, t4, t5, t6⟩ := kinds_m (A := P4) B4 n4
  have tA : ∀ c, c ≠ 119 → (c < 121 ∨ 126 < c) → (c < 155 ∨ 167 < c) → c ≠ 186 → c ≠ 187 → c ≠ 225 → T c = A c := fun c q1 q2 q3 q4 q5 q6 => by rw [t5 c q1 q2 q5 q6, kk c q1 q2 q3 q4 q6]
  have tF : ∀ i, i ≠ 9 → i ≠ 10 → i ≠ 55 → i ≠ 56 → i ≠ 92 → i ≠ 93 → T 119 i = A 119 i := fun i q1 q2 q3 q4 q5 q6 => by rw [t6 i q1 q2 q5 q6, ff i q1 q2 q3 q4]
  refine ⟨T, ?_, ⟨t2, t3.1, t3.2.1, t3.2.2, t4, ?_, ?_, fun i q1 q2 => ?_⟩, fun i q1 q2 => ?_, fun c q1 q2 q3 q4 q5 q6 q7 q8 q9 q10 => ?_, fun i q1 q2 q3 q4 q5 q6 q7 q8 q9 q10 q11 => ?_⟩
  · rw [md_houseBegins_e, e1, e2, e3, e4, st A 0 (by decide), p1, show (0 : Int) + 1 = 1 by decide, st P1 1 (by decide)]
    have p2' : md_houseBegins_b198 P1 1 (1 + 1) = md_houseBegins_b156 P2 2 := p2
    have p3' : md_houseBegins_b198 P2 2 (2 + 1) = md_houseBegins_b156 P3 3 := p3
    have p4' : md_houseBegins_b198 P3 3 (3 + 1) = md_houseBegins_b156 P4 4 := p4
    rw [p2', st P2 2 (by decide), p3', st P3 3 (by decide), p4']
    exact t1
  · rw [tF 15 (by decide) (by decide) (by decide) (by decide) (by decide) (by decide), tF 57 (by decide) (by decide) (by decide) (by decide) (by decide) (by decide), tF 89 (by decide) (by decide) (by decide) (by decide) (by decide) (by decide), tF 94 (by decide) (by decide) (by decide) (by decide) (by decide) (by decide), tF 104 (by decide) (by decide) (by decide) (by decide) (by decide) (by decide), a119]
    exact ⟨w3.1, w3.2.2.2.1, w3.2.2.2.2.1, w3.2.2.2.2.2.1, w3.2.2.2.2.2.2.1⟩
  · rw [tA 188 (by decide) (by decide) (by decide) (by decide) (by decide) (by decide), tA 190 (by decide) (by decide) (by decide) (by decide) (by decide) (by decide), tA 191 (by decide) (by decide) (by decide) (by decide) (by decide) (by decide), u4 188 (by decide), u4 190 (by decide), u4 191 (by decide)]
    exact w3.2.2.2.2.2.2.2
  · rw [tA 224 (by decide) (by decide) (by decide) (by decide) (by decide) (by decide)]; exact v4 i q1 q2
  · rw [tA 127 (by decide) (by decide) (by decide) (by decide) (by decide) (by decide)]; exact a127 i q1 q2
  · rw [tA c q1 (by omega) q3 q4 q5 q10, a1 c q1 (by omega) (by omega) q4 q6 q7 q8 q9]
  · rw [tF i q1 q2 q4 q5 q8 q9, aF i q1 q2 q3 q4 q5 q6 q7 q10 q11]
end MBS
