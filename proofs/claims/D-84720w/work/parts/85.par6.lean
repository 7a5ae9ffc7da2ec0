/-! what is worked out: leaves, what stands in front and behind -/
theorem wV_17 {L : List Int} (h : (wV L).2 = 17) : L.length = 4 := by
  unfold wV at h
  by_cases c0 : L = lt (gsc 13) 0 8
  · rw [if_pos c0] at h; exact absurd h (by decide)
  by_cases c1 : L = lt (gsc 13) 9 2
  · rw [if_neg c0, if_pos c1] at h; exact absurd h (by decide)
  by_cases c2 : L = lt (gsc 13) 12 4
  · rw [if_neg c0, if_neg c1, if_pos c2] at h; exact absurd h (by decide)
  by_cases c3 : L = lt (gsc 13) 17 5
  · rw [if_neg c0, if_neg c1, if_neg c2, if_pos c3] at h; exact absurd h (by decide)
  by_cases c4 : L = lt (gsc 13) 23 6
  · rw [if_neg c0, if_neg c1, if_neg c2, if_neg c3, if_pos c4] at h; exact absurd h (by decide)
  by_cases c5 : L = lt (gsc 13) 30 5
  · rw [if_neg c0, if_neg c1, if_neg c2, if_neg c3, if_neg c4, if_pos c5] at h; exact absurd h (by decide)
  by_cases c6 : L = lt (gsc 13) 36 8
  · rw [if_neg c0, if_neg c1, if_neg c2, if_neg c3, if_neg c4, if_neg c5, if_pos c6] at h; exact absurd h (by decide)
  by_cases c7 : L = lt (gsc 13) 45 4
  · rw [c7, lt_len]
  rw [if_neg c0, if_neg c1, if_neg c2, if_neg c3, if_neg c4, if_neg c5, if_neg c6, if_neg c7] at h
  by_cases c8 : L = lt (gsc 13) 50 5
  · rw [if_pos c8] at h; exact absurd h (by decide)
  by_cases c9 : L = lt (gsc 13) 56 4
  · rw [if_neg c8, if_pos c9] at h; exact absurd h (by decide)
  rw [if_neg c8, if_neg c9] at h; exact absurd h (by decide)
theorem wV_18 {L : List Int} (h : (wV L).2 = 18) : L.length = 5 := by
  unfold wV at h
  by_cases c0 : L = lt (gsc 13) 0 8
  · rw [if_pos c0] at h; exact absurd h (by decide)
  by_cases c1 : L = lt (gsc 13) 9 2
  · rw [if_neg c0, if_pos c1] at h; exact absurd h (by decide)
  by_cases c2 : L = lt (gsc 13) 12 4
  · rw [if_neg c0, if_neg c1, if_pos c2] at h; exact absurd h (by decide)
  by_cases c3 : L = lt (gsc 13) 17 5
  · rw [if_neg c0, if_neg c1, if_neg c2, if_pos c3] at h; exact absurd h (by decide)
  by_cases c4 : L = lt (gsc 13) 23 6
  · rw [if_neg c0, if_neg c1, if_neg c2, if_neg c3, if_pos c4] at h; exact absurd h (by decide)
  by_cases c5 : L = lt (gsc 13) 30 5
  · rw [if_neg c0, if_neg c1, if_neg c2, if_neg c3, if_neg c4, if_pos c5] at h; exact absurd h (by decide)
  by_cases c6 : L = lt (gsc 13) 36 8
  · rw [if_neg c0, if_neg c1, if_neg c2, if_neg c3, if_neg c4, if_neg c5, if_pos c6] at h; exact absurd h (by decide)
  by_cases c7 : L = lt (gsc 13) 45 4
  · rw [if_neg c0, if_neg c1, if_neg c2, if_neg c3, if_neg c4, if_neg c5, if_neg c6, if_pos c7] at h; exact absurd h (by decide)
  rw [if_neg c0, if_neg c1, if_neg c2, if_neg c3, if_neg c4, if_neg c5, if_neg c6, if_neg c7] at h
  by_cases c8 : L = lt (gsc 13) 50 5
  · rw [c8, lt_len]
  by_cases c9 : L = lt (gsc 13) 56 4
  · rw [if_neg c8, if_pos c9] at h; exact absurd h (by decide)
  rw [if_neg c8, if_neg c9] at h; exact absurd h (by decide)
theorem tK.sz {σ τ : gM} (k : tK σ τ) : (τ 119 25 = 17 → σ 69 6 = 4) ∧ (τ 119 25 = 18 → σ 69 6 = 5) := by
  obtain ⟨k1, k2⟩ := k
  unfold tKp at k1
  have g : ∀ t, (t = 17 ∨ t = 18) → τ 119 25 = t → τ 119 25 = (wV (lt (τ 134) (σ 69 5) (σ 69 6).toNat)).2 := fun t ht e => by
    unfold tKk at k2
    rcases k2 with w | w | w | w | ⟨_, w, _⟩ | ⟨_, _, w, _⟩
    · omega
    · omega
    · omega
    · omega
    · have := sG_30 w; omega
    · exact w
  constructor
  · intro e
    have := wV_17 (L := lt (τ 134) (σ 69 5) (σ 69 6).toNat) (by rw [← g 17 (Or.inl rfl) e]; exact e)
    rw [lt_len] at this
    omega
  · intro e
    have := wV_18 (L := lt (τ 134) (σ 69 5) (σ 69 6).toNat) (by rw [← g 18 (Or.inr rfl) e]; exact e)
    rw [lt_len] at this
    omega
theorem tKk.f {σ τ : gM} (k : tKk σ τ) : (σ 69 4 = 1 → 1 ≤ σ 69 6 ∧ σ 69 6 ≤ 12) ∧ (σ 69 4 = 2 → (1 ≤ σ 69 6 ∧ σ 69 6 ≤ 36) ∧ ∀ j, σ 69 5 ≤ j → j < σ 69 3 → isD (τ 134 j)) ∧ (σ 69 4 = 3 → 2 ≤ σ 69 6 ∧ σ 69 6 ≤ 42) := by
  unfold tKk at k
  rcases k with k | ⟨k1, k2, k3, k4⟩ | ⟨k1, k2, k3, k4, k5⟩ | ⟨k1, k2, k3, k4⟩ | ⟨k1, -, -⟩ | ⟨k1, -⟩
  · exact ⟨fun w => by omega, fun w => by omega, fun w => by omega⟩
  · exact ⟨fun _ => ⟨k3, k4⟩, fun w => by omega, fun w => by omega⟩
  · exact ⟨fun w => by omega, fun _ => ⟨⟨k3, k4⟩, k5⟩, fun w => by omega⟩
  · exact ⟨fun w => by omega, fun w => by omega, fun _ => ⟨k3, k4⟩⟩
  · exact ⟨fun w => by omega, fun w => by omega, fun w => by omega⟩
  · exact ⟨fun w => by omega, fun w => by omega, fun w => by omega⟩
theorem RN_leaf {S T σ τ : gM} {f n m K vt : Int} (n0 : 0 ≤ n) (nn : nd S n = m) (s70 : S 70 n = K) (s71 : S 71 n = σ 69 5) (s72 : S 72 n = -1) (s73 : S 73 n = -1) (s74 : S 74 n = -1) (s76 : S 76 n = σ 69 5) (s77 : S 77 n = σ 69 6) (t135 : T 135 m = K) (t136 : T 136 m = σ 69 5) (t138 : T 138 m = -1) (t139 : T 139 m = vt) (t140 : T 140 m = -1) (t142 : T 142 m = σ 69 5) (t143 : T 143 m = σ 69 3) (t134 : T 134 = τ 134) (s692 : S 69 2 = σ 69 2) (k : tK σ τ) (k1 : 1 ≤ σ 69 6)
    (hK : (K = 5 ∧ vt = -1 ∧ σ 69 4 = 1) ∨ (K = 1 ∧ vt = -1 ∧ σ 69 4 = 2) ∨ (K = 2 ∧ vt = -1 ∧ σ 69 4 = 3) ∨ (K = 3 ∧ vt = τ 119 25 ∧ (τ 119 25 = 17 ∨ τ 119 25 = 18)) ∨ (K = 4 ∧ vt = -1)) : RN S T 0 f (n + 1) n := by
  have nm : nh S (-1) = -1 := rfl
  have pm : ph S (-1) = -1 := rfl
  unfold RN
  rw [nn, s70, s71, s72, s73, s74, s76, s77, t135, t136, t138, t139, t140, t142, t143, t134, s692, nm, pm]
  clear s70 s71 s72 s73 s74 s76 s77 t135 t136 t138 t139 t140 t142 t143 t134 s692 nm pm nn
  have sz := k.sz
  obtain ⟨kf1, kf2, kf3⟩ := k.2.f
  have kp := k.1
  unfold tKp at kp
  obtain ⟨kp1, kp2, kp3, kp4, kp5, -⟩ := kp
  clear k
  rcases hK with ⟨rfl, rfl, k4⟩ | ⟨rfl, rfl, k4⟩ | ⟨rfl, rfl, k4⟩ | ⟨rfl, rfl, k4⟩ | ⟨rfl, rfl⟩
  · have kq := kf1 k4
    exact ⟨⟨rfl, by decide, by decide⟩, rfl, ⟨by decide, by omega, by decide, by omega, by decide, by omega, fun w => absurd w (by decide)⟩, by simp, fun _ => by simp, by simp, fun w => absurd w (by decide), fun w => ⟨rfl, kp4, ⟨kp2, k1, by omega⟩, fun w1 => absurd w1 (by decide), fun w1 => absurd w1 (by decide), fun _ _ => kq.2, fun _ => rfl⟩, fun w => absurd w (by decide)⟩
  · have kq := kf2 k4
    exact ⟨⟨rfl, by decide, by decide⟩, rfl, ⟨by decide, by omega, by decide, by omega, by decide, by omega, fun w => absurd w (by decide)⟩, by simp, fun _ => by simp, by simp, fun w => absurd w (by decide), fun w => ⟨rfl, kp4, ⟨kp2, k1, by omega⟩, fun w1 => ⟨kq.1.2, fun j j0 j1 => kq.2 j j0 (by omega)⟩, fun w1 => absurd w1 (by decide), fun w1 _ => absurd rfl w1, fun w1 => absurd w1 (by decide)⟩, fun w => absurd w (by decide)⟩
  · have kq := kf3 k4
    exact ⟨⟨rfl, by decide, by decide⟩, rfl, ⟨by decide, by omega, by decide, by omega, by decide, by omega, fun w => absurd w (by decide)⟩, by simp, fun _ => by simp, by simp, fun w => absurd w (by decide), fun w => ⟨rfl, kp4, ⟨kp2, k1, by omega⟩, fun w1 => absurd w1 (by decide), fun w1 => kq, fun _ w1 => absurd rfl w1, fun w1 => absurd w1 (by decide)⟩, fun w => absurd w (by decide)⟩
  · refine ⟨⟨rfl, by decide, by decide⟩, rfl, ⟨by decide, by omega, by decide, by omega, by decide, by omega, fun w => absurd w (by decide)⟩, by simp, fun w => absurd rfl w, by simp, fun _ => ?_, fun w => absurd w (by decide), fun w => absurd w (by decide)⟩
    rcases k4 with k4 | k4
    · exact Or.inl ⟨sz.1 k4, k4⟩
    · exact Or.inr ⟨sz.2 k4, k4⟩
  · exact ⟨⟨rfl, by decide, by decide⟩, rfl, ⟨by decide, by omega, by decide, by omega, by decide, by omega, fun w => absurd w (by decide)⟩, by simp, fun _ => by simp, by simp, fun w => absurd w (by decide), fun w => absurd w (by decide), fun w => absurd w (by decide)⟩
section LF
variable {σ τ : gM} {d d' D : Nat}
set_option maxHeartbeats 8000000 in
/-- a leaf -/
theorem leaf_s {K vb vt : Int} (G : pG 1 σ τ) (q : σ 68 20 ≠ 300) (h4 : τ 119 25 ≠ 0) (hK : (K = 5 ∧ vb = 1 ∧ vt = -1 ∧ σ 69 4 = 1) ∨ (K = 1 ∧ vb = 0 ∧ vt = -1 ∧ σ 69 4 = 2) ∨ (K = 2 ∧ vb = 0 ∧ vt = -1 ∧ σ 69 4 = 3) ∨ (K = 3 ∧ vb = 0 ∧ vt = τ 119 25 ∧ (τ 119 25 = 17 ∨ τ 119 25 = 18)) ∨ (K = 4 ∧ vb = 0 ∧ vt = -1)) :
    XR bare σ τ (σ 68 10) (ps_atom_b164 d (gW (nC σ K) 78 (σ 68 10) vb) (σ 68 10)) (md_atom_b163 d' (gW (nM τ K) 139 (τ 119 43) vt) (τ 119 43)) := by
  have hK5 : 1 ≤ K ∧ K ≤ 5 := by omega
  have hKf : ∀ _ : Unit, _ := fun _ => hK
  clear hK
  have k1 : 1 ≤ σ 69 6 := by
    have := G.2.1.2.k
    omega
  obtain ⟨-, -, hb, hc⟩ := node_g (K := K) G (by decide) q
  obtain ⟨G1, n1⟩ := pG_node G q (K := K) (by omega)
  have g43 := G.2.2.2.2.1
  have kp := G.2.1.1
  unfold tKp at kp
  have G2 : pG 2 (gW (gW (gW (nC σ K) 78 (σ 68 10) vb) 76 (σ 68 10) (σ 69 5)) 77 (σ 68 10) (σ 69 6)) (gW (nM τ K) 139 (τ 119 43) vt) := (((G1.w (by decide)).w (by decide)).w (by decide)).v (by decide)
  have c5 : gW (nC σ K) 78 (σ 68 10) vb 69 5 = σ 69 5 := by rw [gW_c (by decide), nC_o (by omega) (by omega)]
  have c6 : gW (nC σ K) 78 (σ 68 10) vb 69 6 = σ 69 6 := by rw [gW_c (by decide), nC_o (by omega) (by omega)]
  have e1 : ps_atom_b164 d (gW (nC σ K) 78 (σ 68 10) vb) (σ 68 10) = (tk_read (gW (gW (gW (nC σ K) 78 (σ 68 10) vb) 76 (σ 68 10) (σ 69 5)) 77 (σ 68 10) (σ 69 6))).bind fun p2 => some (p2.1, σ 68 10) := by
    rw [ps_atom_b164_e, if_pos (by omega), if_pos (by omega), c5, c6, ps_good_g G2.2.2.1]
    simp only [Option.bind_some]
    rw [if_neg (by decide)]
  have hp : gW (gW (gW (nC σ K) 78 (σ 68 10) vb) 76 (σ 68 10) (σ 69 5)) 77 (σ 68 10) (σ 69 6) 69 5 = σ 69 5 := by rw [gW_c (by decide), gW_c (by decide), c5]
  rcases rd_p G2 (by rw [gW_c (by decide), nM_o (by omega) (by omega)]; exact h4) with ⟨S, T, r1, r2, r3, F, r5⟩ | ⟨S, T, r1, r2, b, F⟩
  · left
    have f1 : ∀ a, a ≠ 69 → ∀ i, S a i = gW (gW (gW (nC σ K) 78 (σ 68 10) vb) 76 (σ 68 10) (σ 69 5)) 77 (σ 68 10) (σ 69 6) a i := fun a w i => by rw [F.1 a w]
    have f2 : ∀ a, a ≠ 119 → ∀ i, T a i = gW (nM τ K) 139 (τ 119 43) vt a i := fun a w i => by rw [F.2.2.1 a w]
    have n := @nC_n σ K
    have m := @nM_n τ K
    have s10 : S 68 10 = σ 68 10 + 1 := by rw [f1 68 (by decide), gW_c (by decide), gW_c (by decide), gW_c (by decide), n.1]
    have nn : nd S (σ 68 10) = τ 119 43 := by
      rw [← n1]
      refine nd_congr fun j _ _ => ?_
      rw [f1 70 (by decide), gW_c (by decide), gW_c (by decide), gW_c (by decide)]
    have s70 : S 70 (σ 68 10) = K := by rw [f1 70 (by decide), gW_c (by decide), gW_c (by decide), gW_c (by decide), n.2.2.1]
    have s71 : S 71 (σ 68 10) = σ 69 5 := by rw [f1 71 (by decide), gW_c (by decide), gW_c (by decide), gW_c (by decide), n.2.2.2.1]
    have s72 : S 72 (σ 68 10) = -1 := by rw [f1 72 (by decide), gW_c (by decide), gW_c (by decide), gW_c (by decide), n.2.2.2.2.1]
    have s73 : S 73 (σ 68 10) = -1 := by rw [f1 73 (by decide), gW_c (by decide), gW_c (by decide), gW_c (by decide), n.2.2.2.2.2.1]
    have s74 : S 74 (σ 68 10) = -1 := by rw [f1 74 (by decide), gW_c (by decide), gW_c (by decide), gW_c (by decide), n.2.2.2.2.2.2.1]
    have s76 : S 76 (σ 68 10) = σ 69 5 := by rw [f1 76 (by decide), gW_c (by decide), gW_at]
    have s77 : S 77 (σ 68 10) = σ 69 6 := by rw [f1 77 (by decide), gW_at]
    have s78 : S 78 (σ 68 10) = vb := by rw [f1 78 (by decide), gW_c (by decide), gW_c (by decide), gW_at]
    have t135 : T 135 (τ 119 43) = K := by rw [f2 135 (by decide), gW_c (by decide), m.2.1]
    have t136 : T 136 (τ 119 43) = σ 69 5 := by rw [f2 136 (by decide), gW_c (by decide), m.2.2.1]; omega
    have t138 : T 138 (τ 119 43) = -1 := by rw [f2 138 (by decide), gW_c (by decide), m.2.2.2.1]
    have t139 : T 139 (τ 119 43) = vt := by rw [f2 139 (by decide), gW_at]
    have t140 : T 140 (τ 119 43) = -1 := by rw [f2 140 (by decide), gW_c (by decide), m.2.2.2.2.2.1]
    have t142 : T 142 (τ 119 43) = σ 69 5 := by rw [f2 142 (by decide), gW_c (by decide), m.2.2.2.2.2.2.2.1]; omega
    have t143 : T 143 (τ 119 43) = σ 69 3 := by rw [f2 143 (by decide), gW_c (by decide), m.2.2.2.2.2.2.2.2.1]; omega
    have t145 : T 145 (τ 119 43) = 0 := by rw [f2 145 (by decide), gW_c (by decide), m.2.2.2.2.2.2.2.2.2]
    have t134 : T 134 = τ 134 := by
      rw [F.2.2.1 134 (by decide), gW_cell (by decide)]
      funext i
      exact nM_o (by omega) (by omega)
    have s692 : S 69 2 = σ 69 2 := by rw [F.2.1 2 (by omega), gW_c (by decide), gW_c (by decide), gW_c (by decide), nC_o (by omega) (by omega)]
    refine ⟨S, T, σ 68 10, by rw [e1, r1]; rfl, by rw [md_atom_b163_e, r2, nn]; rfl, ⟨r3, ?_, ?_, ?_, by rw [f1 68 (by decide), gW_c (by decide), gW_c (by decide), gW_c (by decide), nC_o (by omega) (by omega)], by rw [f1 68 (by decide), gW_c (by decide), gW_c (by decide), gW_c (by decide), nC_o (by omega) (by omega)]⟩, ?_⟩
    · rw [← g43]
      exact ((((kE_node (Int.le_refl _) (Int.le_refl _)).w (by decide) (Int.le_refl _)).w (by decide) (Int.le_refl _)).w (by decide) (Int.le_refl _)).v (by decide) (Int.le_refl _) |>.tr (kE.rd F (by rw [hp]; rw [hp] at r5; omega)) (Int.le_refl _) (Int.le_refl _)
    · rw [s10]
      exact ⟨1, by omega, Or.inl ⟨by rw [s70]; omega, rfl, rfl, s72, s73, s74⟩⟩
    · rw [s10]
      refine NB.one (by rw [s70]; omega) ?_ NB.nil
      refine RN_leaf G.2.2.2.1.1 nn s70 s71 s72 s73 s74 s76 s77 t135 t136 t138 t139 t140 t142 t143 t134 s692 G.2.1 k1 ?_
      rcases hKf () with ⟨h1, -, h3, h4⟩ | ⟨h1, -, h3, h4⟩ | ⟨h1, -, h3, h4⟩ | ⟨h1, -, h3, h4⟩ | ⟨h1, -, h3⟩
      · exact Or.inl ⟨h1, h3, h4⟩
      · exact Or.inr (Or.inl ⟨h1, h3, h4⟩)
      · exact Or.inr (Or.inr (Or.inl ⟨h1, h3, h4⟩))
      · exact Or.inr (Or.inr (Or.inr (Or.inl ⟨h1, h3, h4⟩)))
      · exact Or.inr (Or.inr (Or.inr (Or.inr ⟨h1, h3⟩)))
    · refine ⟨?_, by rw [f1 75 (by decide), gW_c (by decide), gW_c (by decide), gW_c (by decide), n.2.2.2.2.2.2.2.1], by rw [nn, f2 141 (by decide), gW_c (by decide), m.2.2.2.2.2.2.1]⟩
      unfold bare0
      rw [nn, s78, s70, t145]
      rcases hKf () with ⟨h1, h2, -⟩ | ⟨h1, h2, -⟩ | ⟨h1, h2, -⟩ | ⟨h1, h2, -⟩ | ⟨h1, h2, -⟩
      · exact Or.inl ⟨h2, rfl, Or.inl h1⟩
      · exact Or.inr ⟨h2, Or.inr (by omega)⟩
      · exact Or.inr ⟨h2, Or.inr (by omega)⟩
      · exact Or.inr ⟨h2, Or.inr (by omega)⟩
      · exact Or.inr ⟨h2, Or.inr (by omega)⟩
  · right
    refine ⟨S, T, σ 68 10, by rw [e1, r1]; rfl, by rw [md_atom_b163_e, r2]; rfl, b.le ?_, by omega⟩
    rw [gW_c (by decide), gW_c (by decide), gW_c (by decide), nC_n.1]
    omega
theorem atom_b : XB (ps_atom (d + 1)) := by
  intro σ τ k b hk
  obtain ⟨b1, b2, b3, b4, b5⟩ := b
  refine ⟨bK σ 4, ?_, ⟨?_, ?_, ?_, ?_, ?_⟩, by omega⟩
  · rw [ps_atom_e, ps_good_b b1]
    simp only [Option.bind_some]
    rw [if_pos (by trivial), ps_blank_s (by omega)]
    rfl
  · rw [bK_o (by omega) (by omega)]; exact b1
  · rw [bK_o (by omega) (by omega)]; exact b2
  · rw [bK_o (by omega) (by omega)]; exact b3
  · rw [bK_n.1]; omega
  · rw [bK_n.1]; omega
/-- something in brackets -/
theorem par_s (ih : XS anyB D (ps_e d) (md_e d')) (ihb : XB (ps_e d)) (G : pG 1 σ τ) (ho : 10 * (20 - σ 68 21) + 20 ≤ (D : Int)) (h4 : τ 119 25 = 30) :
    XR bare σ τ (σ 68 10) ((ps_opens σ 40).bind fun p5 => (ps_e d p5.1).bind fun p6 => if 0 ≤ p6.2 ∧ p6.2 < 4200 then ((ps_closes (gW p6.1 78 p6.2 0) 41).bind fun p7 => some (p7.1, p6.2)) else none)
      ((md_pass τ 30).bind fun p13 => gtry p13.2 (fun v14 => (md_e d' p13.1).bind fun p15 => gtry p15.2 (fun v16 => (md_pass p15.1 31).bind fun p17 => gtry p17.2 (fun v18 => if 0 ≤ v16 ∧ v16 < 4004 then (some (gW p17.1 145 v16 1, some v16)) else none) (some (p17.1, none))) (some (p15.1, none))) (some (p13.1, none))) := by
  have g43 := G.2.2.2.2.1
  have h7 := G.2.2.2.2.2.2.1
  have hm := G.2.2.2.1
  have kp := G.2.1.1
  unfold tKp at kp
  have hn := G.1.2.1
  rcases ps_opens_s (c := 40) (t := 30) G (by omega) with ⟨S1, T1, r1, r2, G1, F1, p1, o1, o2⟩ | ⟨S1, T1, r1, r2, b⟩
  · rw [r1, r2]
    simp only [Option.bind_some, gtry]
    have s10 : S1 68 10 = σ 68 10 := by rw [F1.1 68 (by decide), gW_i (by decide)]
    have s19 : S1 68 19 = σ 68 19 := by rw [F1.1 68 (by decide), gW_i (by decide)]
    have t43 : T1 119 43 = τ 119 43 := by rw [F1.2.2.2 43 (by omega) (by decide) (by decide), gW_i (by decide)]
    have G1' : pG 1 S1 T1 := by
      obtain ⟨a1, a2, a3, a4, a5⟩ := G1
      exact ⟨a1, a2, a3, by omega, a5⟩
    rcases ih S1 T1 G1' (by omega) with ⟨S2, T2, n, x1, x2, xg, xa⟩ | ⟨S2, T2, n, x1, x2, b, hnn⟩
    · have xn := xg.n
      obtain ⟨G2, k2, p2, nb2, o2', u2⟩ := xg
      have n1 : nd S1 (σ 68 10) = nd σ (σ 68 10) := by rw [← s10, ← G1.2.2.2.2.1, t43, g43, s10]
      rw [s10] at k2 p2 nb2 xn
      rw [s19] at nb2
      rw [n1] at k2
      have u1 : S1 68 22 = σ 68 22 := by rw [F1.1 68 (by decide), gW_i (by decide)]
      have o3 : S2 68 21 = σ 68 21 + 1 := by rw [o2', o1]
      rw [x1, x2]
      simp only [Option.bind_some]
      rw [if_pos (by omega)]
      have G3 : pG 1 (gW S2 78 n 0) T2 := G2.w (by decide)
      have o4 : gW S2 78 n 0 68 21 = σ 68 21 + 1 := by rw [gW_c (by decide), o3]
      rcases ps_closes_s (c := 41) (t := 31) G3 (by omega) (by omega) with ⟨S4, T4, y1, y2, G4, F4, p4, o5⟩ | ⟨S4, T4, y1, y2, b⟩
      · left
        rw [o4, show σ 68 21 + 1 - 1 = σ 68 21 by omega] at F4 o5
        rw [y1, y2]
        simp only [Option.bind_some]
        rw [if_pos (by omega)]
        have G5 : pG 1 S4 (gW T4 145 (nd S2 n) 1) := by
          obtain ⟨a1, a2, a3, a4, a5⟩ := G4.v (a := 145) (i := nd S2 n) (v := 1) (by decide)
          exact ⟨a1, a2, a3, by omega, a5⟩
        have kq : ∀ M N, kE M N (gW S2 78 n 0) S4 T2 T4 := fun M N => ((kE.rf.o (i := 21) (by decide)).u (i := 28) (by decide)).tr (kE.rd (M := M) (N := N) F4 (by rw [gW_c (by decide)]; omega)) (Int.le_refl _) (Int.le_refl _)
        have k1 : kE (σ 68 10) (nd σ (σ 68 10)) σ S1 τ T1 := ((kE.rf.o (i := 21) (by decide)).u (i := 28) (by decide)).tr (kE.rd F1 (by rw [gW_c (by decide)]; omega)) (Int.le_refl _) (Int.le_refl _)
        have k14 : kE (σ 68 10) (nd σ (σ 68 10)) σ S4 τ T4 := ((k1.tr k2 (Int.le_refl _) (Int.le_refl _)).w (by decide) (by omega)).tr (kq _ _) (Int.le_refl _) (Int.le_refl _)
        have s410 : S4 68 10 = S2 68 10 := by rw [F4.1 68 (by decide), gW_i (by decide), gW_c (by decide)]
        have ndd : ∀ i, nd S4 i = nd S2 i := fun i => nd_congr fun j _ _ => by rw [F4.1 70 (by decide), gW_c (by decide), gW_c (by decide)]
        have lo := nd_r (σ := S2) (i := σ 68 10) (j := n) (by omega) (by omega)
        have lo2 := k2.nd (i := σ 68 10) (Int.le_refl _)
        have e78 : nd (gW S2 78 n 0) (S2 68 10) = nd S2 (S2 68 10) := nd_w (by omega)
        refine ⟨S4, gW T4 145 (nd S2 n) 1, n, rfl, by rw [ndd], ⟨G5, k14.v (by decide) (by omega), ?_, ?_, o5, by rw [F4.1 68 (by decide), gW_i (by decide), gW_c (by decide), u2, u1]⟩, ?_⟩
        · rw [s410]
          exact ((p2.w (by omega) (by omega) (by omega)).kE (kq (S2 68 10) (nd S2 (S2 68 10))) (by omega) (Int.le_refl _) (by rw [e78]; exact Int.le_refl _)).v (by omega) (by omega)
        · rw [s410]
          have f19 : σ 68 19 - 1 = gW S2 78 n 0 68 19 - 1 := by rw [gW_c (by decide), k2.2.2.1 19 (by decide), s19]
          exact ((nb2.w (by decide) (by omega) (by omega)).kE (kq (S2 68 10) (nd S2 (S2 68 10))) f19 (by omega) (Int.le_refl _) (by rw [e78]; exact Int.le_refl _)).v (by omega) (by decide) (by omega)
        · refine ⟨Or.inr ⟨?_, Or.inl ?_⟩, by rw [F4.1 75 (by decide), gW_c (by decide), gW_c (by decide)]; exact xa.1, by rw [ndd, gW_c (by decide), F4.2.2.1 141 (by decide), gW_c (by decide)]; exact xa.2⟩
          · rw [F4.1 78 (by decide), gW_c (by decide), gW_at]
          · rw [ndd, gW_at]
      · right
        rw [y1, y2]
        exact ⟨S4, T4, n, rfl, rfl, b.le (by rw [gW_c (by decide)]; omega), by omega⟩
    · right
      rw [x1, x2]
      simp only [Option.bind_some]
      rw [if_pos hnn, ps_closes_b (b.w (a := 78) (by decide) (by omega)).1]
      exact ⟨_, T2, n, rfl, rfl, (b.w (by decide) (by omega)).w (by decide) (by omega), hnn⟩
  · right
    obtain ⟨S2, x1, x2, x3⟩ := ihb S1 T1 _ b (by omega)
    rw [r1, r2]
    simp only [Option.bind_some]
    rw [x1]
    simp only [Option.bind_some]
    rw [if_pos x3, ps_closes_b (x2.w (a := 78) (by decide) (by omega)).1]
    exact ⟨_, T1, _, rfl, rfl, ((x2.le (by omega)).w (by decide) (by omega)).w (by decide) (by omega), x3⟩
end LF
section AT
variable {σ τ : gM} {d d' D : Nat}
theorem atom_s {D' : Nat} (hD : (D' : Int) ≤ D + 10) (ih : XS anyB D (ps_e d) (md_e d')) (ihb : XB (ps_e d)) : XS bare D' (ps_atom (d + 1)) (md_atom (d' + 1)) := by
  intro σ τ G ho
  have hX := G.1
  have hT := G.2.1
  have g := G.2.2.1
  have kk := hT.2.k
  have hm := G.2.2.2.1
  have hn := hX.2.1
  have kp := hT.1
  unfold tKp at kp
  have w11 := tk_isWord_2_s hX hT g (x := 11) (p := 45) (t := 17) (by unfold wS; decide)
  have w12 := tk_isWord_2_s hX hT g (x := 12) (p := 50) (t := 18) (by unfold wS; decide)
  have w5 := tk_isWord_2_s hX hT g (x := 5) (p := 56) (t := 19) (by unfold wS; decide)
  have z78 : ∀ K, gW (nC σ K) 78 (σ 68 10) 0 = nC σ K := fun K => gW_nop nC_n.2.2.2.2.2.2.2.2.2.2
  have z139 : ∀ K, gW (nM τ K) 139 (τ 119 43) (-1) = nM τ K := fun K => gW_nop nM_n.2.2.2.2.1
  rw [ps_atom_e, ps_good_g g]
  simp only [Option.bind_some]
  rw [if_neg (by decide), md_atom_e]
  -- too many nodes
  have bx : ∀ K, σ 68 20 = 300 → ∀ f : gM → Int → Int, XR bare σ τ (σ 68 10) ((ps_node σ K).bind fun p => ps_atom_b164 d p.1 p.2) ((md_newNode τ K).bind fun p1 => gtry p1.2 (fun v2 => md_atom_b163 d' (gW p1.1 139 v2 (f p1.1 v2)) v2) (some (p1.1, none))) := by
    intro K q f
    obtain ⟨S, T, e1, e2, b, hb, -⟩ := node_x (K := K) G (by decide) q
    right
    refine ⟨gW (gW S 76 (σ 68 10) (S 69 5)) 77 (σ 68 10) (S 69 6), T, σ 68 10, ?_, by rw [e2]; rfl, (((b.le (by omega)).w (by decide) (by omega)).w (by decide) (by omega)), by omega⟩
    rw [e1]
    simp only [Option.bind_some]
    rw [ps_atom_b164_e, if_pos (by omega), if_pos (by omega), ps_good_b ((b.w (a := 76) (by decide) (by omega)).w (a := 77) (by decide) (by omega)).1]
    rfl
  by_cases c1 : σ 69 4 = 1
  · have t1 : τ 119 25 = 1 := by omega
    rw [if_pos c1, if_pos t1]
    by_cases q : σ 68 20 = 300
    · obtain ⟨S, T, e1, e2, b, hb, -⟩ := node_x (K := 5) G (by decide) q
      right
      refine ⟨gW (gW (gW S 78 (σ 68 10) 1) 76 (σ 68 10) (gW S 78 (σ 68 10) 1 69 5)) 77 (σ 68 10) (gW S 78 (σ 68 10) 1 69 6), T, σ 68 10, ?_, by rw [e2]; rfl, ((((b.le (by omega)).w (by decide) (by omega)).w (by decide) (by omega)).w (by decide) (by omega)), by omega⟩
      rw [e1]
      simp only [Option.bind_some]
      rw [if_pos (by omega), ps_atom_b164_e, if_pos (by omega), if_pos (by omega), ps_good_b (((b.w (a := 78) (by decide) (by omega)).w (a := 76) (by decide) (by omega)).w (a := 77) (by decide) (by omega)).1]
      rfl
    · obtain ⟨e1, e2, hb, hc⟩ := node_g (K := 5) G (by decide) q
      rw [e1, e2]
      simp only [Option.bind_some, gtry]
      rw [if_pos (by omega)]
      have := leaf_s (d := d) (d' := d') (K := 5) (vb := 1) (vt := -1) G q (by omega) (by omega)
      rw [z139] at this
      exact this
  · rw [if_neg c1, if_neg (show ¬ τ 119 25 = 1 by omega)]
    by_cases c2 : σ 69 4 = 2
    · rw [if_pos c2, if_pos (show τ 119 25 = 2 by omega)]
      by_cases q : σ 68 20 = 300
      · obtain ⟨S, T, e1, e2, b, hb, -⟩ := node_x (K := 1) G (by decide) q
        have := bx 1 q (fun _ _ => -1)
        rw [e1, e2] at this ⊢
        exact this
      · obtain ⟨e1, e2, hb, hc⟩ := node_g (K := 1) G (by decide) q
        rw [e1, e2]
        simp only [Option.bind_some, gtry]
        have := leaf_s (d := d) (d' := d') (K := 1) (vb := 0) (vt := -1) G q (by omega) (by omega)
        rw [z139, z78] at this
        exact this
    · rw [if_neg c2, if_neg (show ¬ τ 119 25 = 2 by omega)]
      by_cases c3 : σ 69 4 = 3
      · rw [if_pos c3, if_pos (show τ 119 25 = 3 by omega)]
        by_cases q : σ 68 20 = 300
        · obtain ⟨S, T, e1, e2, b, hb, -⟩ := node_x (K := 2) G (by decide) q
          have := bx 2 q (fun _ _ => -1)
          rw [e1, e2] at this ⊢
          exact this
        · obtain ⟨e1, e2, hb, hc⟩ := node_g (K := 2) G (by decide) q
          rw [e1, e2]
          simp only [Option.bind_some, gtry]
          have := leaf_s (d := d) (d' := d') (K := 2) (vb := 0) (vt := -1) G q (by omega) (by omega)
          rw [z139, z78] at this
          exact this
      · rw [if_neg c3, if_neg (show ¬ τ 119 25 = 3 by omega), w11]
        simp only [Option.bind_some]
        have tr : ∀ t, τ 119 25 = t → (t = 17 ∨ t = 18) → XR bare σ τ (σ 68 10) (ps_atom_b108 d σ) ((md_newNode τ 3).bind fun p7 => gtry p7.2 (fun v8 => if 0 ≤ v8 ∧ v8 < 4004 then md_atom_b163 d' (gW p7.1 139 v8 (p7.1 119 25)) v8 else none) (some (p7.1, none))) := by
          intro t ht h17
          rw [ps_atom_b108_e]
          by_cases q : σ 68 20 = 300
          · obtain ⟨S, T, e1, e2, b, hb, -⟩ := node_x (K := 3) G (by decide) q
            have := bx 3 q (fun _ _ => -1)
            rw [e1, e2] at this ⊢
            exact this
          · obtain ⟨e1, e2, hb, hc⟩ := node_g (K := 3) G (by decide) q
            rw [e1, e2]
            simp only [Option.bind_some, gtry]
            rw [if_pos hc, nM_o (a := 119) (i := 25) (by omega) (by omega)]
            have := leaf_s (d := d) (d' := d') (K := 3) (vb := 0) (vt := τ 119 25) G q (by omega) (by omega)
            rw [z78] at this
            exact this
        by_cases c17 : τ 119 25 = 17
        · rw [if_pos c17, if_pos c17, if_neg (by decide)]
          exact tr 17 c17 (Or.inl rfl)
        · rw [if_neg c17, if_neg c17, if_pos (by trivial), w12]
          simp only [Option.bind_some]
          by_cases c18 : τ 119 25 = 18
          · rw [if_pos c18, if_pos c18, if_neg (by decide)]
            exact tr 18 c18 (Or.inr rfl)
          · rw [if_neg c18, if_neg c18, if_pos (by trivial), w5]
            simp only [Option.bind_some]
            by_cases c19 : τ 119 25 = 19
            · rw [if_pos c19, if_pos c19, if_neg (by decide)]
              by_cases q : σ 68 20 = 300
              · obtain ⟨S, T, e1, e2, b, hb, -⟩ := node_x (K := 4) G (by decide) q
                have := bx 4 q (fun _ _ => -1)
                rw [e1, e2] at this ⊢
                exact this
              · obtain ⟨e1, e2, hb, hc⟩ := node_g (K := 4) G (by decide) q
                rw [e1, e2]
                simp only [Option.bind_some, gtry]
                have := leaf_s (d := d) (d' := d') (K := 4) (vb := 0) (vt := -1) G q (by omega) (by omega)
                rw [z139, z78] at this
                exact this
            · rw [if_neg c19, if_neg c19, if_pos (by trivial)]
              by_cases c30 : τ 119 25 = 30
              · rw [if_pos c30]
                exact par_s ih ihb G (by omega) c30
              · rw [if_neg c30]
                have b := bd_of G (k := 2) (p := σ 69 5) (by decide)
                obtain ⟨f1, f2⟩ := fail_s (k := 2) G (p := σ 69 5) (q := τ 119 26) kp.1
                right
                have e1 : ps_opens σ 40 = some (gW (gW σ 69 8 2) 69 9 (σ 69 5), 0) := by
                  rw [ps_opens_e, ps_good_g g]
                  simp only [Option.bind_some]
                  rw [if_neg (by decide), tk_is_s hT.2 g (c := 40) (t := 30) (by unfold sG; decide), if_neg c30]
                  simp only [Option.bind_some]
                  rw [if_pos (by trivial), f1]
                  simp only [Option.bind_some]
                  rw [ps_opens_b34_e, ps_open_b b.1]
                  rfl
                obtain ⟨S2, x1, x2, x3⟩ := ihb _ _ _ b (by omega)
                refine ⟨gW (gW S2 78 (gW (gW σ 69 8 2) 69 9 (σ 69 5) 68 10) 0) 68 21 (w32 (gW S2 78 (gW (gW σ 69 8 2) 69 9 (σ 69 5) 68 10) 0 68 21 - 1)), _, _, ?_, f2, ((x2.le (by omega)).w (a := 78) (v := 0) (by decide) (by omega)).w (by decide) (by omega), x3⟩
                rw [e1]
                simp only [Option.bind_some]
                rw [x1]
                simp only [Option.bind_some]
                rw [if_pos x3, ps_closes_b (x2.w (a := 78) (by decide) (by omega)).1]
                rfl
end AT
