/-! the model numbers statements -/
section NV
variable {σ : gM} {r f A B : Int}
def nT3 (σ : gM) (r f A B : Int) (d : Nat) : Prop := ∀ (D : Nat) (a b n c : Int) (τ : gM), PT σ τ d 3 a b n c → NB σ τ r f A B → nS σ τ A B D a b → ∃ T, md_number D τ (ps σ n) = some (T, 0) ∧ nR σ τ T d 3 a b n
def nL2 (σ : gM) (r f A B : Int) (d : Nat) : Prop := ∀ (D : Nat) (a b n c : Int) (τ : gM) (L : gM → Int → Option (gM × Int)) (K : gM → Option (gM × Int)), 0 ≤ a → PT σ τ d 2 a b n c → NB σ τ r f A B → nS σ τ A B D a b → (∀ τ, L τ (-1) = K τ) → (∀ τ T p, (0 ≤ p ∧ p < 4004) → md_number D τ p = some (T, 0) → L τ p = L T (T 141 p)) → ∃ T, L τ (ph σ n) = K T ∧ nR σ τ T d 2 a b n
theorem nL2_s {d : Nat} (iht : nT3 σ r f A B d) (ihl : nL2 σ r f A B d) : nL2 σ r f A B (d + 1) := by
  intro D a b n c τ L K a0 h nb ⟨⟨A0, Aa, bB⟩, h4, c0, c1, hD⟩ l0 l1
  rcases h with ⟨h1, h2⟩ | ⟨n0, x, h1, h2, h3⟩
  · refine ⟨τ, by rw [h1, ph_m, l0], by rw [h2]; omega, nF.rf, Or.inl ⟨h1, h2⟩⟩
  · have ab := (PT_ab _ _ _ _ _ _ h1).2.1 (Or.inr (by omega))
    have ab2 := (PT_ab _ _ _ _ _ _ h2).1
    have m1 := nd_r (σ := σ) (i := a) (j := x) (by omega) (by omega)
    have m2 := nd_r (σ := σ) (i := x) (j := b) (by omega) ab2
    have m3 := nd_r (σ := σ) (i := b) (j := B) (by omega) bB
    have np := nd_pos (σ := σ) (i := a) (by omega)
    have an : a = n := by
      cases d with
      | zero => exact h1.elim
      | succ d => exact h1.1.2.1
    have h1' : PT σ τ d 3 n x n c := by rw [an] at h1; exact h1
    have pp := PT3_ps h1'
    rw [← an] at pp
    obtain ⟨T, e1, e2, e3, e4⟩ := iht D a x n c τ h1 nb ⟨⟨A0, Aa, by omega⟩, h4, c0, by omega, by omega⟩
    obtain ⟨T', g1, g2, g3, g4⟩ := ihl D x b (σ 75 n) c T L K (by omega) (e3.pt (by omega) h2) (e3.nb A0 nb) ⟨⟨A0, by omega, bB⟩, h4, by omega, by omega, by omega⟩ l0 l1
    refine ⟨T', ?_, by omega, e3.tr g3 (Int.le_refl _) (by omega) (by omega) (Int.le_refl _), Or.inr ⟨n0, x, g3.qt (by omega) (Or.inl (Int.le_refl _)) e4, by rw [e2] at g4; exact g4⟩⟩
    rw [ph_p n0, l1 τ T (ps σ n) (by rw [← an]; omega) e1, e3 141 (ps σ n) (by omega) (by omega), h3, g1]
theorem nT3_s {d : Nat} (ih0 : nT σ r f A B d) (ihl : nL2 σ r f A B d) : nT3 σ r f A B (d + 1) := by
  intro D a b n c τ h nb ⟨⟨A0, Aa, bB⟩, h4, c0, c1, hD⟩
  obtain ⟨⟨hr1, hr2, hr3, -⟩, hk⟩ := id h
  have hr : 0 ≤ a ∧ a = n ∧ n < b := ⟨hr1, hr2, hr3⟩
  have an : a = n := hr.2.1
  have m2 := nd_r (σ := σ) (i := n + 1) (j := b) (by omega) (by omega)
  have m3 := nd_r (σ := σ) (i := b) (j := B) (by omega) bB
  have np := nd_pos (σ := σ) (i := n) (by omega)
  by_cases k30 : σ 70 n = 30
  · have t : PT σ τ d 0 (n + 1) b (σ 72 n) 0 := by
      rcases hk with ⟨e, -⟩ | ⟨e, -⟩ | ⟨e, -⟩ | ⟨e, -⟩ | ⟨e, t⟩
      · omega
      · omega
      · omega
      · omega
      · exact t
    have e0 : nd σ (n + 1) = nd σ n := by rw [nd_s (by omega), if_pos k30]; omega
    have pe : ps σ n = nd σ (σ 72 n) := by unfold ps; rw [if_pos k30]
    obtain ⟨T, g1, g2, g3, g4⟩ := ih0 D (n + 1) b (σ 72 n) 0 τ t nb ⟨⟨A0, by omega, bB⟩, h4, c0, by rw [e0, ← an]; exact c1, by rw [e0, ← an]; exact hD⟩
    rw [e0] at g2 g3
    exact ⟨T, by rw [pe]; exact g1, by rw [an]; exact g2, by rw [an]; exact g3, hr, fun w => (w k30).elim, Or.inr (Or.inr (Or.inr (Or.inr ⟨k30, g4⟩)))⟩
  have pe : ps σ n = nd σ n := by unfold ps; rw [if_neg k30]
  rw [pe]
  have rn := ((nb n (by omega) (by omega)).1 k30).cells
  obtain ⟨r135, r138, r139, r140⟩ := rn
  have nS1 := nd_S (σ := σ) (i := n) (by omega) k30
  rw [an] at c1 hD
  cases D with
  | zero => omega
  | succ D =>
  have hj : 0 ≤ nd σ n ∧ nd σ n < 4004 := by omega
  have hc : 0 ≤ τ 119 57 ∧ τ 119 57 ≤ 20000 := by omega
  have F0 : nF τ (n1 τ (nd σ n)) (nd σ n) (nd σ n + 1) := nF_n1
  obtain ⟨q1, q2⟩ := @n1_n τ (nd σ n)
  generalize eT : n1 τ (nd σ n) = T0 at *
  have cl : ∀ {T p q}, nF τ T p q → ∀ e, e ≠ 144 → e ≠ 119 → T e (nd σ n) = τ e (nd σ n) := fun F e x y => F e _ (by omega) (by omega)
  have go : ∀ {u v x : Int} {T : gM} {p q : Int}, nF τ T p q → PT σ τ d 0 u v x 0 → A ≤ u → v ≤ B → 0 ≤ T 119 57 → T 119 57 + (nd σ v - nd σ u) ≤ 16000 → nd σ v - nd σ u ≤ D → ∃ T', md_number D T (nd σ x) = some (T', 0) ∧ nR σ T T' d 0 u v x := by
    intro u v x T p q F t u0 v0 w0 w1 w2
    exact ih0 D u v x 0 T (F.pt (by omega) t) (F.nb A0 nb) ⟨⟨A0, u0, v0⟩, h4, w0, w1, w2⟩
  have gol : ∀ {u v x y : Int} {T : gM} {p q : Int} (L : gM → Int → Option (gM × Int)) (K : gM → Option (gM × Int)), nF τ T p q → PT σ τ d 2 u v x y → A ≤ u → v ≤ B → 0 ≤ T 119 57 → T 119 57 + (nd σ v - nd σ u) ≤ 16000 → nd σ v - nd σ u ≤ D → (∀ τ, L τ (-1) = K τ) → (∀ τ T p, (0 ≤ p ∧ p < 4004) → md_number D τ p = some (T, 0) → L τ p = L T (T 141 p)) → ∃ T', L T (ph σ x) = K T' ∧ nR σ T T' d 2 u v x := by
    intro u v x y T p q L K F t u0 v0 w0 w1 w2 l0 l1
    exact ihl D u v x y T L K (by omega) (F.pt (by omega) t) (F.nb A0 nb) ⟨⟨A0, u0, v0⟩, h4, w0, w1, w2⟩ l0 l1
  rcases hk with ⟨e, c, g, t, t', t''⟩ | ⟨e, c, t, t', e1⟩ | ⟨e, t, e1, e2⟩ | ⟨e, e0, e1, e2, e3, -⟩ | ⟨e, t⟩
  · have ab := (PT_ab _ _ _ _ _ _ t).2.1 (Or.inl rfl)
    have ab' := (PT_ab _ _ _ _ _ _ t').1
    have ab'' := (PT_ab _ _ _ _ _ _ t'').1
    have w1 := nd_r (σ := σ) (i := n + 1) (j := c) (by omega) (by omega)
    have w2 := nd_r (σ := σ) (i := c) (j := g) (by omega) (by omega)
    have w3 := nd_r (σ := σ) (i := g) (j := b) (by omega) (by omega)
    rw [if_neg (by omega), nh_p (by omega)] at r138
    rw [if_neg (by omega), if_pos e] at r140
    have r := r139 (by omega)
    rw [if_pos (Or.inl e)] at r
    have np' := nd_pos (σ := σ) (i := σ 72 n) (by omega)
    obtain ⟨T1, g1, g2, g3, g4⟩ := go F0 t (by omega) (by omega) (by omega) (by omega) (by omega)
    have F1 : nF τ T1 (nd σ n) (nd σ b) := F0.tr g3 (Int.le_refl _) (by omega) (by omega) (by omega)
    obtain ⟨T2, i1, i2, i3, i4⟩ := gol (fun τ x => md_number_b96 D τ (nd σ n) 1 x) (fun τ => md_number_b124 D τ (nd σ n) 1) F1 t' (by omega) (by omega) (by omega) (by omega) (by omega) (fun τ => b96_no rfl) (fun τ T p hp hh => b96_l hp hh)
    have F2 : nF τ T2 (nd σ n) (nd σ b) := F1.tr i3 (Int.le_refl _) (by omega) (Int.le_refl _) (by omega)
    obtain ⟨T3, j1, j2, j3, j4⟩ := gol (fun τ x => md_number_b131 D τ 1 x) (fun τ => some (τ, 0)) F2 t'' (by omega) (by omega) (by omega) (by omega) (by omega) (fun τ => b131_no) (fun τ T p hp hh => b131_l hp hh)
    have F3 : nF τ T3 (nd σ n) (nd σ b) := F2.tr j3 (Int.le_refl _) (by omega) (Int.le_refl _) (Int.le_refl _)
    refine ⟨T3, num_g (T1 := T1) (T2 := T2) (y := 1) hj hc (Or.inr ⟨by omega, by rw [eT, r138]; exact g1⟩) (Or.inl ⟨by rw [cl F1 135 (by decide) (by decide)]; omega, rfl⟩) (Or.inr ⟨by rw [cl F1 135 (by decide) (by decide)]; omega, by rw [cl F1 139 (by decide) (by decide), r]; exact i1⟩) (by rw [cl F2 140 (by decide) (by decide), r140]; exact j1), by rw [j2, i2, g2, q2, an]; omega, by rw [an]; exact F3, hr, fun _ => ?_, Or.inl ⟨e, c, g, ?_, ?_, ?_⟩⟩
    · show T3 144 (nd σ n) = _
      rw [j3 144 (nd σ n) (by omega) (by omega), i3 144 (nd σ n) (by omega) (by omega), g3 144 (nd σ n) (by omega) (by omega), q1]
    · rw [q2] at g4
      exact j3.qt (by omega) (Or.inl (by omega)) (i3.qt (by omega) (Or.inl (by omega)) g4)
    · rw [g2, q2] at i4
      exact j3.qt (by omega) (Or.inl (Int.le_refl _)) i4
    · rw [i2, g2, q2] at j4
      rw [show τ 119 57 + 1 + (nd σ g - nd σ (n + 1)) = τ 119 57 + 1 + (nd σ c - nd σ (n + 1)) + (nd σ g - nd σ c) by omega]
      exact j4
  · have ab := (PT_ab _ _ _ _ _ _ t).2.1 (Or.inl rfl)
    have ab' := (PT_ab _ _ _ _ _ _ t').1
    have w1 := nd_r (σ := σ) (i := n + 1) (j := c) (by omega) (by omega)
    have w2 := nd_r (σ := σ) (i := c) (j := b) (by omega) (by omega)
    rw [if_neg (by omega), nh_p (by omega)] at r138
    rw [if_neg (by omega), if_neg (by omega), e1, nh_m] at r140
    have r := r139 (by omega)
    rw [if_pos (Or.inr e)] at r
    have np' := nd_pos (σ := σ) (i := σ 72 n) (by omega)
    obtain ⟨T1, g1, g2, g3, g4⟩ := go F0 t (by omega) (by omega) (by omega) (by omega) (by omega)
    have F1 : nF τ T1 (nd σ n) (nd σ b) := F0.tr g3 (Int.le_refl _) (by omega) (by omega) (by omega)
    obtain ⟨T2, i1, i2, i3, i4⟩ := gol (fun τ x => md_number_b96 D τ (nd σ n) 1 x) (fun τ => md_number_b124 D τ (nd σ n) 1) F1 t' (by omega) (by omega) (by omega) (by omega) (by omega) (fun τ => b96_no rfl) (fun τ T p hp hh => b96_l hp hh)
    have F2 : nF τ T2 (nd σ n) (nd σ b) := F1.tr i3 (Int.le_refl _) (by omega) (Int.le_refl _) (by omega)
    refine ⟨T2, num_g (T1 := T1) (T2 := T2) (y := 1) hj hc (Or.inr ⟨by omega, by rw [eT, r138]; exact g1⟩) (Or.inl ⟨by rw [cl F1 135 (by decide) (by decide)]; omega, rfl⟩) (Or.inr ⟨by rw [cl F1 135 (by decide) (by decide)]; omega, by rw [cl F1 139 (by decide) (by decide), r]; exact i1⟩) (by rw [cl F2 140 (by decide) (by decide), r140]; exact b131_no), by rw [i2, g2, q2, an]; omega, by rw [an]; exact F2, hr, fun _ => ?_, Or.inr (Or.inl ⟨e, c, ?_, ?_, e1⟩)⟩
    · show T2 144 (nd σ n) = _
      rw [i3 144 (nd σ n) (by omega) (by omega), g3 144 (nd σ n) (by omega) (by omega), q1]
    · rw [q2] at g4
      exact i3.qt (by omega) (Or.inl (Int.le_refl _)) g4
    · rw [g2, q2] at i4
      exact i4
  · rw [if_neg (by omega)] at r138
    rw [if_neg (by omega), if_neg (by omega), e2, nh_m] at r140
    have r := r139 (by omega)
    rw [if_neg (by omega), e1, nh_m] at r
    have P1 : ∃ T1, ((τ 138 (nd σ n) = -1 ∧ T1 = n1 τ (nd σ n)) ∨ (τ 138 (nd σ n) ≠ -1 ∧ md_number D (n1 τ (nd σ n)) (τ 138 (nd σ n)) = some (T1, 0))) ∧ T1 119 57 = T0 119 57 + (nd σ b - nd σ (n + 1)) ∧ nF T0 T1 (nd σ (n + 1)) (nd σ b) ∧ ((σ 72 n = -1 ∧ b = n + 1) ∨ (0 ≤ σ 72 n ∧ QT σ (fun i => T1 144 (nd σ i)) d 0 (n + 1) b (σ 72 n) (T0 119 57))) := by
      rcases t with ⟨x1, x2⟩ | ⟨x1, x2⟩
      · exact ⟨T0, Or.inl ⟨by rw [r138, x1, nh_m], eT.symm⟩, by rw [x2]; omega, nF.rf, Or.inl ⟨x1, x2⟩⟩
      · obtain ⟨T1, g1, g2, g3, g4⟩ := go F0 x2 (by omega) bB (by omega) (by omega) (by omega)
        have np' := nd_pos (σ := σ) (i := σ 72 n) x1
        rw [nh_p x1] at r138
        exact ⟨T1, Or.inr ⟨by omega, by rw [eT, r138]; exact g1⟩, g2, g3, Or.inr ⟨x1, g4⟩⟩
    obtain ⟨T1, g1, g2, g3, g4⟩ := P1
    have F1 : nF τ T1 (nd σ n) (nd σ b) := F0.tr g3 (Int.le_refl _) (by omega) (by omega) (Int.le_refl _)
    refine ⟨T1, num_g (T1 := T1) (T2 := T1) (y := 0) hj hc g1 (Or.inr ⟨by rw [cl F1 135 (by decide) (by decide)]; omega, by rw [cl F1 135 (by decide) (by decide)]; omega, by rw [cl F1 135 (by decide) (by decide)]; omega, rfl⟩) (Or.inr ⟨by rw [cl F1 135 (by decide) (by decide)]; omega, b96_no (by rw [cl F1 139 (by decide) (by decide), r])⟩) (by rw [cl F1 140 (by decide) (by decide), r140]; exact b131_no), by rw [g2, q2, an]; omega, by rw [an]; exact F1, hr, fun _ => ?_, Or.inr (Or.inr (Or.inl ⟨e, by rw [q2] at g4; exact g4, e1, e2⟩))⟩
    show T1 144 (nd σ n) = _
    rw [g3 144 (nd σ n) (by omega) (by omega), q1]
  · rw [if_neg (by omega), e1, nh_m] at r138
    rw [if_neg (by omega), if_neg (by omega), e3, nh_m] at r140
    have r := r139 (by omega)
    rw [if_neg (by omega), e2, nh_m] at r
    exact ⟨T0, num_g (T1 := T0) (T2 := T0) (y := 0) hj hc (Or.inl ⟨r138, eT.symm⟩) (Or.inr ⟨by rw [cl F0 135 (by decide) (by decide)]; omega, by rw [cl F0 135 (by decide) (by decide)]; omega, by rw [cl F0 135 (by decide) (by decide)]; omega, rfl⟩) (Or.inr ⟨by rw [cl F0 135 (by decide) (by decide)]; omega, b96_no (by rw [cl F0 139 (by decide) (by decide), r])⟩) (by rw [cl F0 140 (by decide) (by decide), r140]; exact b131_no), by rw [e0, q2, nS1, an]; omega, by rw [e0, an, nS1]; exact F0, hr, fun _ => q1, Or.inr (Or.inr (Or.inr (Or.inl ⟨e, e0, e1, e2, e3⟩)))⟩
  · exact (k30 e).elim
/-- all statements -/
theorem nTL3 : ∀ d : Nat, nT3 σ r f A B d ∧ nL2 σ r f A B d
  | 0 => ⟨fun _ _ _ _ _ _ h => h.elim, fun _ _ _ _ _ _ _ _ _ h => h.elim⟩
  | d + 1 => ⟨nT3_s (nTL d).1 (nTL3 d).2, nL2_s (nTL3 d).1 (nTL3 d).2⟩
end NV
