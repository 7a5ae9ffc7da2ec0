/-! the model numbers what is worked out -/
section NE
variable {σ : gM} {r f A B : Int}
/-- trees of depth d -/
def nT (σ : gM) (r f A B : Int) (d : Nat) : Prop := ∀ (D : Nat) (a b n c : Int) (τ : gM), PT σ τ d 0 a b n c → NB σ τ r f A B → nS σ τ A B D a b → ∃ T, md_number D τ (nd σ n) = some (T, 0) ∧ nR σ τ T d 0 a b n
/-- rows of them -/
def nL (σ : gM) (r f A B : Int) (d : Nat) : Prop := ∀ (D : Nat) (a b n c : Int) (τ : gM) (L : gM → Int → Option (gM × Int)) (K : gM → Option (gM × Int)), PT σ τ d 1 a b n c → NB σ τ r f A B → nS σ τ A B D a b → (∀ τ, L τ (-1) = K τ) → (∀ τ T p, (0 ≤ p ∧ p < 4004) → md_number D τ p = some (T, 0) → L τ p = L T (T 141 p)) → ∃ T, L τ (nh σ n) = K T ∧ nR σ τ T d 1 a b n
theorem nL_s {d : Nat} (iht : nT σ r f A B d) (ihl : nL σ r f A B d) : nL σ r f A B (d + 1) := by
  intro D a b n c τ L K h nb ⟨⟨A0, Aa, bB⟩, h4, c0, c1, hD⟩ l0 l1
  rcases h with ⟨h1, h2, -⟩ | ⟨n0, x, h1, h2, h3⟩
  · refine ⟨τ, by rw [h1, nh_m, l0], by rw [h2]; omega, nF.rf, Or.inl ⟨h1, h2⟩⟩
  · have ab := (PT_ab _ _ _ _ _ _ h1).2.1 (Or.inl rfl)
    have ab2 := (PT_ab _ _ _ _ _ _ h2).1
    have m1 := nd_r (σ := σ) (i := a) (j := x) (by omega) (by omega)
    have m2 := nd_r (σ := σ) (i := x) (j := b) (by omega) ab2
    have m3 := nd_r (σ := σ) (i := b) (j := B) (by omega) bB
    have k30 := (PT0_k h1).1
    have nl := nd_lt (σ := σ) (i := n) (j := x) (by omega) (by omega) k30
    have np := nd_pos (σ := σ) (i := n) (by omega)
    obtain ⟨T, e1, e2, e3, e4⟩ := iht D a x n 0 τ h1 nb ⟨⟨A0, Aa, by omega⟩, h4, c0, by omega, by omega⟩
    obtain ⟨T', g1, g2, g3, g4⟩ := ihl D x b (σ 75 n) (c - 1) T L K (e3.pt (by omega) h2) (e3.nb A0 nb) ⟨⟨A0, by omega, bB⟩, h4, by omega, by omega, by omega⟩ l0 l1
    refine ⟨T', ?_, by omega, e3.tr g3 (Int.le_refl _) (by omega) (by omega) (Int.le_refl _), Or.inr ⟨n0, x, g3.qt (by omega) (Or.inl (Int.le_refl _)) e4, by rw [e2] at g4; exact g4⟩⟩
    rw [nh_p n0, l1 τ T (nd σ n) (by omega) e1, e3 141 (nd σ n) (by omega) (by omega), h3, g1]
theorem nT_s {d : Nat} (iht : nT σ r f A B d) (ihl : nL σ r f A B d) : nT σ r f A B (d + 1) := by
  intro D a b n c τ h nb ⟨⟨A0, Aa, bB⟩, h4, c0, c1, hD⟩
  obtain ⟨hr, hk⟩ := id h
  have k30 := (PT0_k h).1
  have rn := ((nb n (by omega) (by omega)).1 k30).cells
  obtain ⟨r135, r138, r139, r140⟩ := rn
  have nS1 := nd_S (σ := σ) (i := n) (by omega) k30
  have m1 := nd_r (σ := σ) (i := a) (j := n) (by omega) (by omega)
  have m2 := nd_r (σ := σ) (i := n + 1) (j := b) (by omega) (by omega)
  have m3 := nd_r (σ := σ) (i := b) (j := B) (by omega) bB
  have np := nd_pos (σ := σ) (i := n) (by omega)
  have npa := nd_pos (σ := σ) (i := a) (by omega)
  cases D with
  | zero => omega
  | succ D =>
  have hj : 0 ≤ nd σ n ∧ nd σ n < 4004 := by omega
  have hc : 0 ≤ τ 119 57 ∧ τ 119 57 ≤ 20000 := by omega
  have F0 : nF τ (n1 τ (nd σ n)) (nd σ n) (nd σ n + 1) := nF_n1
  obtain ⟨q1, q2⟩ := @n1_n τ (nd σ n)
  generalize eT : n1 τ (nd σ n) = T0 at *
  have cl : ∀ {T p q}, nF τ T p q → ∀ e, e ≠ 144 → e ≠ 119 → T e (nd σ n) = τ e (nd σ n) := fun F e x y => F e _ (by omega) (by omega)
  have go : ∀ {u v x : Int} {T : gM} {p q : Int}, nF τ T p q → PT σ τ d 0 u v x 0 → A ≤ u → v ≤ B → 0 ≤ T 119 57 → T 119 57 + (nd σ v - nd σ u) ≤ 16000 → nd σ v - nd σ u ≤ D → ∃ T', md_number D T (nd σ x) = some (T', 0) ∧ nR σ T T' d 0 u v x := by
    intro u v x T p q F t u0 v0 w0 w1 w2
    exact iht D u v x 0 T (F.pt (by omega) t) (F.nb A0 nb) ⟨⟨A0, u0, v0⟩, h4, w0, w1, w2⟩
  rcases hk with ⟨e, e1, e2, e3, e4, e5⟩ | ⟨e, e1, e2, e3, t⟩ | ⟨e, t, t', e1⟩ | ⟨e, e1, t, e2, e3⟩ | ⟨e, t, q, t', t''⟩ | ⟨e, t, t', e1⟩
  · rw [if_neg (by omega), e3, nh_m] at r138
    rw [if_neg (by omega), if_neg (by omega), e5, nh_m] at r140
    refine ⟨T0, num_g (T1 := T0) (T2 := T0) (y := 0) hj hc (Or.inl ⟨r138, eT.symm⟩) (Or.inr ⟨by rw [cl F0 135 (by decide) (by decide)]; omega, by rw [cl F0 135 (by decide) (by decide)]; omega, by rw [cl F0 135 (by decide) (by decide)]; omega, rfl⟩) ?_ (by rw [cl F0 140 (by decide) (by decide), r140]; exact b131_no), by rw [e2, q2, nS1, e1]; omega, by rw [e2, e1, nS1]; exact F0, q1, hr, Or.inl ⟨e, e1, e2, e3, e4, e5⟩⟩
    by_cases z : σ 70 n = 3
    · exact Or.inl ⟨by rw [cl F0 135 (by decide) (by decide)]; omega, rfl⟩
    · have r := r139 z
      rw [if_neg (by omega), e4, nh_m] at r
      exact Or.inr ⟨by rw [cl F0 135 (by decide) (by decide)]; omega, b96_no (by rw [cl F0 139 (by decide) (by decide), r])⟩
  · have ab := (PT_ab _ _ _ _ _ _ t).2.1 (Or.inl rfl)
    rw [if_pos e, nh_p (by omega)] at r138
    rw [if_pos e] at r140
    have r := r139 (by omega)
    rw [if_neg (by omega), e3, nh_m] at r
    have np' := nd_pos (σ := σ) (i := σ 74 n) (by omega)
    obtain ⟨T1, g1, g2, g3, g4⟩ := go F0 t (by omega) bB (by omega) (by omega) (by omega)
    have F1 : nF τ T1 (nd σ a) (nd σ b) := F0.tr g3 (by rw [e1]; exact Int.le_refl _) (by rw [e1]; omega) (by omega) (Int.le_refl _)
    refine ⟨T1, num_g (T1 := T1) (T2 := T1) (y := 0) hj hc (Or.inr ⟨by omega, by rw [eT, r138]; exact g1⟩) (Or.inr ⟨by rw [cl F1 135 (by decide) (by decide)]; omega, by rw [cl F1 135 (by decide) (by decide)]; omega, by rw [cl F1 135 (by decide) (by decide)]; omega, rfl⟩) (Or.inr ⟨by rw [cl F1 135 (by decide) (by decide)]; omega, b96_no (by rw [cl F1 139 (by decide) (by decide), r])⟩) (by rw [cl F1 140 (by decide) (by decide), r140]; exact b131_no), by rw [g2, q2, nS1, e1]; omega, F1, ?_, hr, Or.inr (Or.inl ⟨e, e1, e2, e3, by rw [q2] at g4; exact g4⟩)⟩
    show T1 144 (nd σ n) = _
    rw [g3 144 (nd σ n) (by omega) (by omega), q1]
  · have ab := (PT_ab _ _ _ _ _ _ t).2.1 (Or.inl rfl)
    have ab' := (PT_ab _ _ _ _ _ _ t').2.1 (Or.inl rfl)
    rw [if_neg (by omega), nh_p (by omega)] at r138
    rw [if_neg (by omega), if_neg (by omega), e1, nh_m] at r140
    have r := r139 (by omega)
    rw [if_neg (by omega), nh_p (by omega)] at r
    have np' := nd_pos (σ := σ) (i := σ 72 n) (by omega)
    have np'' := nd_pos (σ := σ) (i := σ 73 n) (by omega)
    obtain ⟨T1, g1, g2, g3, g4⟩ := go F0 t Aa (by omega) (by omega) (by omega) (by omega)
    have F1 : nF τ T1 (nd σ a) (nd σ b) := F0.tr g3 (by omega) (Int.le_refl _) (by omega) (by omega)
    obtain ⟨T2, i1, i2, i3, i4⟩ := go F1 t' (by omega) bB (by omega) (by omega) (by omega)
    have F2 : nF τ T2 (nd σ a) (nd σ b) := F1.tr i3 (Int.le_refl _) (by omega) (Int.le_refl _) (Int.le_refl _)
    refine ⟨T2, num_g (T1 := T1) (T2 := T2) (y := 0) hj hc (Or.inr ⟨by omega, by rw [eT, r138]; exact g1⟩) (Or.inr ⟨by rw [cl F1 135 (by decide) (by decide)]; omega, by rw [cl F1 135 (by decide) (by decide)]; omega, by rw [cl F1 135 (by decide) (by decide)]; omega, rfl⟩) (Or.inr ⟨by rw [cl F1 135 (by decide) (by decide)]; omega, by rw [cl F1 139 (by decide) (by decide), r]; exact b96_one (by omega) i1⟩) (by rw [cl F2 140 (by decide) (by decide), r140]; exact b131_no), by rw [i2, g2, q2]; omega, F2, ?_, hr, Or.inr (Or.inr (Or.inl ⟨e, ?_, ?_, e1⟩))⟩
    · show T2 144 (nd σ n) = _
      rw [i3 144 (nd σ n) (by omega) (by omega), g3 144 (nd σ n) (by omega) (by omega), q1]
    · rw [q2] at g4
      exact i3.qt (by omega) (Or.inl (by omega)) g4
    · rw [g2, q2] at i4
      exact i4
  · have ab := (PT_ab _ _ _ _ _ _ t).2.1 (Or.inl rfl)
    rw [if_neg (by omega), nh_p (by omega)] at r138
    rw [if_neg (by omega), if_neg (by omega), e3, nh_m] at r140
    have r := r139 (by omega)
    rw [if_neg (by omega), e2, nh_m] at r
    have np' := nd_pos (σ := σ) (i := σ 72 n) (by omega)
    obtain ⟨T1, g1, g2, g3, g4⟩ := go F0 t (by omega) bB (by omega) (by omega) (by omega)
    have F1 : nF τ T1 (nd σ a) (nd σ b) := F0.tr g3 (by rw [e1]; exact Int.le_refl _) (by rw [e1]; omega) (by omega) (Int.le_refl _)
    refine ⟨T1, num_g (T1 := T1) (T2 := T1) (y := 0) hj hc (Or.inr ⟨by omega, by rw [eT, r138]; exact g1⟩) (Or.inr ⟨by rw [cl F1 135 (by decide) (by decide)]; omega, by rw [cl F1 135 (by decide) (by decide)]; omega, by rw [cl F1 135 (by decide) (by decide)]; omega, rfl⟩) (Or.inr ⟨by rw [cl F1 135 (by decide) (by decide)]; omega, b96_no (by rw [cl F1 139 (by decide) (by decide), r])⟩) (by rw [cl F1 140 (by decide) (by decide), r140]; exact b131_no), by rw [g2, q2, nS1, e1]; omega, F1, ?_, hr, Or.inr (Or.inr (Or.inr (Or.inl ⟨e, e1, by rw [q2] at g4; exact g4, e2, e3⟩)))⟩
    show T1 144 (nd σ n) = _
    rw [g3 144 (nd σ n) (by omega) (by omega), q1]
  · have ab := (PT_ab _ _ _ _ _ _ t).2.1 (Or.inl rfl)
    have qr : n + 1 ≤ q ∧ q ≤ b := by
      have x1 : n + 1 ≤ q := by
        rcases t' with x | ⟨-, x⟩
        · omega
        · have := (PT_ab _ _ _ _ _ _ x).1; omega
      have x2 : q ≤ b := by
        rcases t'' with x | ⟨-, x⟩
        · omega
        · have := (PT_ab _ _ _ _ _ _ x).1; omega
      omega
    have mq1 := nd_r (σ := σ) (i := n + 1) (j := q) (by omega) qr.1
    have mq2 := nd_r (σ := σ) (i := q) (j := b) (by omega) qr.2
    rw [if_neg (by omega), nh_p (by omega)] at r138
    rw [if_neg (by omega), if_neg (by omega)] at r140
    have r := r139 (by omega)
    rw [if_neg (by omega)] at r
    have np' := nd_pos (σ := σ) (i := σ 72 n) (by omega)
    obtain ⟨T1, g1, g2, g3, g4⟩ := go F0 t Aa (by omega) (by omega) (by omega) (by omega)
    have F1 : nF τ T1 (nd σ a) (nd σ b) := F0.tr g3 (by omega) (Int.le_refl _) (by omega) (by omega)
    have P2 : ∃ T2, md_number_b96 D T1 (nd σ n) 0 (T1 139 (nd σ n)) = md_number_b124 D T2 (nd σ n) 0 ∧ T2 119 57 = T1 119 57 + (nd σ q - nd σ (n + 1)) ∧ nF T1 T2 (nd σ (n + 1)) (nd σ q) ∧ ((σ 73 n = -1 ∧ q = n + 1) ∨ (0 ≤ σ 73 n ∧ QT σ (fun i => T2 144 (nd σ i)) d 0 (n + 1) q (σ 73 n) (T1 119 57))) := by
      rcases t' with ⟨x1, x2⟩ | ⟨x1, x2⟩
      · exact ⟨T1, b96_no (by rw [cl F1 139 (by decide) (by decide), r, x1, nh_m]), by rw [x2]; omega, nF.rf, Or.inl ⟨x1, x2⟩⟩
      · obtain ⟨T2, i1, i2, i3, i4⟩ := go F1 x2 (by omega) (by omega) (by omega) (by omega) (by omega)
        have np'' := nd_pos (σ := σ) (i := σ 73 n) (by omega)
        exact ⟨T2, by rw [cl F1 139 (by decide) (by decide), r, nh_p x1]; exact b96_one (by omega) i1, i2, i3, Or.inr ⟨x1, i4⟩⟩
    obtain ⟨T2, i1, i2, i3, i4⟩ := P2
    have F2 : nF τ T2 (nd σ a) (nd σ b) := F1.tr i3 (Int.le_refl _) (by omega) (Int.le_refl _) (by omega)
    have P3 : ∃ T3, md_number_b131 D T2 0 (T2 140 (nd σ n)) = some (T3, 0) ∧ T3 119 57 = T2 119 57 + (nd σ b - nd σ q) ∧ nF T2 T3 (nd σ q) (nd σ b) ∧ ((σ 70 n = 21 ∧ σ 74 n = -1 ∧ q = b) ∨ (σ 70 n = 22 ∧ QT σ (fun i => T3 144 (nd σ i)) d 0 q b (σ 74 n) (T2 119 57))) := by
      rcases t'' with ⟨x0, x1, x2⟩ | ⟨x1, x2⟩
      · exact ⟨T2, by rw [cl F2 140 (by decide) (by decide), r140, x1, nh_m]; exact b131_no, by rw [x2]; omega, nF.rf, Or.inl ⟨x0, x1, x2⟩⟩
      · have ab' := (PT_ab _ _ _ _ _ _ x2).2.1 (Or.inl rfl)
        obtain ⟨T3, j1, j2, j3, j4⟩ := go F2 x2 (by omega) bB (by omega) (by omega) (by omega)
        have np'' := nd_pos (σ := σ) (i := σ 74 n) (by omega)
        exact ⟨T3, by rw [cl F2 140 (by decide) (by decide), r140, nh_p (by omega)]; exact b131_one (by omega) j1, j2, j3, Or.inr ⟨x1, j4⟩⟩
    obtain ⟨T3, j1, j2, j3, j4⟩ := P3
    have F3 : nF τ T3 (nd σ a) (nd σ b) := F2.tr j3 (Int.le_refl _) (by omega) (Int.le_refl _) (Int.le_refl _)
    refine ⟨T3, num_g (T1 := T1) (T2 := T2) (y := 0) hj hc (Or.inr ⟨by omega, by rw [eT, r138]; exact g1⟩) (Or.inr ⟨by rw [cl F1 135 (by decide) (by decide)]; omega, by rw [cl F1 135 (by decide) (by decide)]; omega, by rw [cl F1 135 (by decide) (by decide)]; omega, rfl⟩) (Or.inr ⟨by rw [cl F1 135 (by decide) (by decide)]; omega, i1⟩) j1, by rw [j2, i2, g2, q2]; omega, F3, ?_, hr, Or.inr (Or.inr (Or.inr (Or.inr (Or.inl ⟨e, ?_, q, ?_, ?_⟩))))⟩
    · show T3 144 (nd σ n) = _
      rw [j3 144 (nd σ n) (by omega) (by omega), i3 144 (nd σ n) (by omega) (by omega), g3 144 (nd σ n) (by omega) (by omega), q1]
    · rw [q2] at g4
      exact j3.qt (by omega) (Or.inl (by omega)) (i3.qt (by omega) (Or.inl (by omega)) g4)
    · rcases i4 with x | ⟨x1, x2⟩
      · exact Or.inl x
      · rw [g2, q2] at x2
        exact Or.inr ⟨x1, j3.qt (by omega) (Or.inl (Int.le_refl _)) x2⟩
    · rcases j4 with x | ⟨x1, x2⟩
      · exact Or.inl x
      · rw [i2, g2, q2] at x2
        exact Or.inr ⟨x1, x2⟩
  · have ab := (PT_ab _ _ _ _ _ _ t).2.1 (Or.inl rfl)
    rw [if_neg (by omega), nh_p (by omega)] at r138
    rw [if_neg (by omega), if_neg (by omega), e1, nh_m] at r140
    have r := r139 (by omega)
    rw [if_neg (by omega)] at r
    have np' := nd_pos (σ := σ) (i := σ 72 n) (by omega)
    obtain ⟨T1, g1, g2, g3, g4⟩ := go F0 t Aa (by omega) (by omega) (by omega) (by omega)
    have F1 : nF τ T1 (nd σ a) (nd σ b) := F0.tr g3 (by omega) (Int.le_refl _) (by omega) (by omega)
    obtain ⟨T2, i1, i2, i3, i4⟩ := ihl D (n + 1) b (σ 73 n) (σ 76 n) T1 (fun τ x => md_number_b96 D τ (nd σ n) 1 x) (fun τ => md_number_b124 D τ (nd σ n) 1) (F1.pt (by omega) t') (F1.nb A0 nb) ⟨⟨A0, by omega, bB⟩, h4, by omega, by omega, by omega⟩ (fun τ => b96_no rfl) (fun τ T p hp hh => b96_l hp hh)
    have F2 : nF τ T2 (nd σ a) (nd σ b) := F1.tr i3 (Int.le_refl _) (by omega) (Int.le_refl _) (Int.le_refl _)
    refine ⟨T2, num_g (T1 := T1) (T2 := T2) (y := 1) hj hc (Or.inr ⟨by omega, by rw [eT, r138]; exact g1⟩) (Or.inl ⟨by rw [cl F1 135 (by decide) (by decide)]; omega, rfl⟩) (Or.inr ⟨by rw [cl F1 135 (by decide) (by decide)]; omega, by rw [cl F1 139 (by decide) (by decide), r]; exact i1⟩) (by rw [cl F2 140 (by decide) (by decide), r140]; exact b131_no), by rw [i2, g2, q2]; omega, F2, ?_, hr, Or.inr (Or.inr (Or.inr (Or.inr (Or.inr ⟨e, ?_, ?_, e1⟩))))⟩
    · show T2 144 (nd σ n) = _
      rw [i3 144 (nd σ n) (by omega) (by omega), g3 144 (nd σ n) (by omega) (by omega), q1]
    · rw [q2] at g4
      exact i3.qt (by omega) (Or.inl (by omega)) g4
    · rw [g2, q2] at i4
      exact i4
/-- all of them -/
theorem nTL : ∀ d : Nat, nT σ r f A B d ∧ nL σ r f A B d
  | 0 => ⟨fun _ _ _ _ _ _ h => h.elim, fun _ _ _ _ _ _ _ _ h => h.elim⟩
  | d + 1 => ⟨nT_s (nTL d).1 (nTL d).2, nL_s (nTL d).1 (nTL d).2⟩
end NE
