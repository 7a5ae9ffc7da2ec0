/-! what stands behind something: properties -/
section GT
variable {σ τ : gM} {d d' D : Nat} {M0 : Int}
/-- it goes on -/
def fwd (p : Int) (σ τ : gM) (n : Int) : Prop := bare σ τ n ∧ p < σ 69 5
theorem PX.get {S T : gM} {a b n : Int} (h70 : S 70 n = 21) (hl : PX S T 0 a n (S 72 n) 0) (hr : (S 73 n = -1 ∧ b = n + 1) ∨ (0 ≤ S 73 n ∧ PX S T 0 (n + 1) b (S 73 n) 0)) (h74 : S 74 n = -1) : PX S T 0 a b n 0 := by
  rcases hr with ⟨r1, r2⟩ | ⟨r1, r2⟩
  · obtain ⟨d, h1⟩ := hl
    have a1 := (PT_ab _ _ _ _ _ _ h1).2.1 (Or.inl rfl)
    exact ⟨d + 1, by omega, Or.inr (Or.inr (Or.inr (Or.inr (Or.inl ⟨Or.inl h70, h1, n + 1, Or.inl ⟨r1, rfl⟩, Or.inl ⟨h70, h74, by omega⟩⟩))))⟩
  · obtain ⟨d, h1, h2⟩ := hl.two r2
    have a1 := (PT_ab _ _ _ _ _ _ h1).2.1 (Or.inl rfl)
    have a2 := (PT_ab _ _ _ _ _ _ h2).2.1 (Or.inl rfl)
    exact ⟨d + 1, by omega, Or.inr (Or.inr (Or.inr (Or.inr (Or.inl ⟨Or.inl h70, h1, b, Or.inr ⟨r1, h2⟩, Or.inl ⟨h70, h74, rfl⟩⟩))))⟩
theorem beh_186 {S : gM} {n : Int} (hn : 0 ≤ n ∧ n < 4200) : ps_behind_b186 d S n = some (gW S 78 n 1, n) := by rw [ps_behind_b186_e, if_pos hn]
theorem beh_123 {S T : gM} {k n : Int} (b : bd k S T) (hn : 0 ≤ n ∧ n < 4200) : ∃ S', ps_behind_b123 d S n = some (S', n) ∧ bd k S' T := by
  refine ⟨gW (gW (gW S 76 n (S 69 5)) 77 n (S 69 6)) 78 n 1, ?_, ((b.w (by decide) (by omega)).w (by decide) (by omega)).w (by decide) (by omega)⟩
  rw [ps_behind_b123_e, if_pos hn, if_pos hn, ps_good_b ((b.w (a := 76) (by decide) (by omega)).w (a := 77) (by decide) (by omega)).1]
  simp only [Option.bind_some]
  rw [if_pos (by trivial), beh_186 hn]
theorem beh_89 {S T : gM} {k n : Int} (b : bd k S T) (hn : 0 ≤ n ∧ n < 4200) : ∃ S', ps_behind_b89 d S n = some (S', n) ∧ bd k S' T := by
  obtain ⟨S', e, b'⟩ := beh_123 (d := d) b hn
  refine ⟨S', ?_, b'⟩
  rw [ps_behind_b89_e, ps_good_b b.1]
  simp only [Option.bind_some]
  rw [if_pos (by trivial)]; exact e
/-- a property by a name behind a point -/
theorem dot_s {x : Int} (G : pG 1 σ τ) (h4 : τ 119 25 = 38) (hL : PX σ τ 0 M0 (σ 68 10) x 0) (hN : NB σ τ 0 (σ 68 19 - 1) M0 (σ 68 10)) (m0 : 0 ≤ M0) : XR (fwd (σ 69 5)) σ τ M0 (ps_behind_b57 d σ x 1) (md_get_b13 d' τ (nd σ x)) := by
  have g43 := G.2.2.2.2.1
  have lb : 0 ≤ M0 ∧ M0 ≤ x ∧ x < σ 68 10 := by
    obtain ⟨dl, hL'⟩ := hL
    exact (PT_ab _ _ _ _ _ _ hL').2.1 (Or.inl rfl)
  by_cases q : σ 68 20 = 300
  · obtain ⟨S, T, e1, e2, b, hb, -⟩ := node_x (K := 21) G (by decide) q
    obtain ⟨S', x1, x2⟩ := beh_89 (d := d) (n := σ 68 10) (b.w (a := 72) (i := σ 68 10) (v := x) (by decide) (by omega)) (by omega)
    right
    refine ⟨S', T, σ 68 10, ?_, by rw [md_get_b13_e, e2]; rfl, x2.le (by omega), by omega⟩
    rw [ps_behind_b57_e, e1]
    simp only [Option.bind_some]
    rw [if_pos (by omega), if_neg (by decide), ps_good_b (b.w (a := 72) (by decide) (by omega)).1]
    simp only [Option.bind_some]
    rw [if_pos (by trivial)]; exact x1
  · obtain ⟨e1, e2, hb, hc⟩ := node_g (K := 21) G (by decide) q
    obtain ⟨G1, n1⟩ := pG_node G q (K := 21) (by decide)
    have G2 : pG 2 (gW (nC σ 21) 72 (σ 68 10) x) (gW (nM τ 21) 138 (τ 119 43) (nd σ x)) := (G1.w (by decide)).v (by decide)
    have hp : gW (nC σ 21) 72 (σ 68 10) x 69 5 = σ 69 5 := by rw [gW_c (by decide), nC_o (by omega) (by omega)]
    have nf0 : nf (gW (nC σ 21) 72 (σ 68 10) x) (gW (nM τ 21) 138 (τ 119 43) (nd σ x)) (σ 68 10) (τ 119 43) 21 (σ 69 5) (σ 69 3) := (nf_new G).w.v
    have t25 : gW (nM τ 21) 138 (τ 119 43) (nd σ x) 119 25 = 38 := by rw [gW_c (by decide), nM_o (by omega) (by omega)]; exact h4
    have c1 : ps_behind_b57 d σ x 1 = (tk_read (gW (nC σ 21) 72 (σ 68 10) x)).bind fun p6 => ps_behind_b89 d p6.1 (σ 68 10) := by
      rw [ps_behind_b57_e, e1]
      simp only [Option.bind_some]
      rw [if_pos (by omega), if_neg (by decide), ps_good_g G2.2.2.1]
      simp only [Option.bind_some]
      rw [if_neg (by decide)]
    have c2 : md_get_b13 d' τ (nd σ x) = md_get_b41 d' (gW (nM τ 21) 138 (τ 119 43) (nd σ x)) (τ 119 43) 1 := by
      rw [md_get_b13_e, e2]
      simp only [Option.bind_some, gtry]
      rw [if_pos hc, nM_o (a := 119) (i := 25) (by omega) (by omega), if_pos h4]
    rw [c1, c2, md_get_b41_e]
    rcases rd_p G2 (by omega) with ⟨S2, T2, r1, r2, G3, F, r5⟩ | ⟨S2, T2, r1, r2, b, F⟩
    · rw [hp] at r5
      rw [r1, r2]
      simp only [Option.bind_some, gtry]
      rw [if_neg (by decide)]
      have k2 : ∀ M N, kE M N (gW (nC σ 21) 72 (σ 68 10) x) S2 (gW (nM τ 21) 138 (τ 119 43) (nd σ x)) T2 := fun M N => kE.rd F (by rw [hp]; omega)
      have s10 : S2 68 10 = σ 68 10 + 1 := by rw [F.1 68 (by decide), gW_c (by decide), nC_n.1]
      have t43 : T2 119 43 = τ 119 43 + 1 := by rw [F.2.2.2 43 (by omega) (by decide) (by decide), gW_c (by decide), nM_n.1]
      by_cases k1 : T2 119 25 = 1
      · have kk := G3.2.1.2.k
        have k1' : S2 69 4 = 1 := by omega
        have kp := G3.2.1.1
        unfold tKp at kp
        have ky := G3.2.1.2
        unfold tKk at ky
        have G4 : pG 1 (gW (gW S2 76 (σ 68 10) (S2 69 5)) 77 (σ 68 10) (S2 69 6)) (gW (gW T2 142 (τ 119 43) (T2 119 26)) 143 (τ 119 43) (T2 119 27)) := (((G3.w (by decide)).w (by decide)).v (by decide)).v (by decide)
        have c3 : ps_behind_b89 d S2 (σ 68 10) = (tk_read (gW (gW S2 76 (σ 68 10) (S2 69 5)) 77 (σ 68 10) (S2 69 6))).bind fun p2 => ps_behind_b186 d p2.1 (σ 68 10) := by
          rw [ps_behind_b89_e, ps_good_g G3.2.2.1]
          simp only [Option.bind_some]
          rw [if_neg (by decide), if_pos k1', ps_behind_b123_e, if_pos (by omega), if_pos (by omega), ps_good_g G4.2.2.1]
          simp only [Option.bind_some]
          rw [if_neg (by decide)]
        have hp4 : gW (gW S2 76 (σ 68 10) (S2 69 5)) 77 (σ 68 10) (S2 69 6) 69 5 = S2 69 5 := by rw [gW_c (by decide), gW_c (by decide)]
        rw [c3, md_need_e, if_pos k1]
        simp only [Option.bind_some]
        rw [if_pos hc, if_pos hc]
        rcases rd_p G4 (by rw [gW_c (by decide), gW_c (by decide), k1]; decide) with ⟨S4, T4, y1, y2, G5, F5, y5⟩ | ⟨S4, T4, y1, y2, b, F5⟩
        · left
          rw [hp4] at y5
          rw [y1, y2]
          simp only [Option.bind_some]
          rw [beh_186 (by omega)]
          have k5 : ∀ M N, kE M N (gW (gW S2 76 (σ 68 10) (S2 69 5)) 77 (σ 68 10) (S2 69 6)) S4 (gW (gW T2 142 (τ 119 43) (T2 119 26)) 143 (τ 119 43) (T2 119 27)) T4 := fun M N => kE.rd F5 (by rw [hp4]; omega)
          obtain ⟨⟨q70, q71, q73, q74, q75, q76, q77, q78⟩, ⟨z135, z136, z139, z140, z141, z142, z143, z145⟩, znd⟩ := nf0.kE (k2 (σ 68 10 + 1) (τ 119 43 + 1)) (by omega) (by omega)
          have s72 : S2 72 (σ 68 10) = x := by rw [F.1 72 (by decide), gW_at]
          have t138 : T2 138 (τ 119 43) = nd σ x := by rw [F.2.2.1 138 (by decide), gW_at]
          have f1 : ∀ a i, a ≠ 69 → a ≠ 76 → a ≠ 77 → S4 a i = S2 a i := fun a i w1 w2 w3 => by rw [F5.1 a w1, gW_c w3, gW_c w2]
          have f2 : ∀ a i, a ≠ 119 → a ≠ 142 → a ≠ 143 → T4 a i = T2 a i := fun a i w1 w2 w3 => by rw [F5.2.2.1 a w1, gW_c w3, gW_c w2]
          have s76 : S4 76 (σ 68 10) = S2 69 5 := by rw [F5.1 76 (by decide), gW_c (by decide), gW_at]
          have s77 : S4 77 (σ 68 10) = S2 69 6 := by rw [F5.1 77 (by decide), gW_at]
          have t142 : T4 142 (τ 119 43) = S2 69 5 := by rw [F5.2.2.1 142 (by decide), gW_c (by decide), gW_at]; omega
          have t143 : T4 143 (τ 119 43) = S2 69 5 + S2 69 6 := by rw [F5.2.2.1 143 (by decide), gW_at]; omega
          have w : ∀ a i, a ≠ 78 → gW S4 78 (σ 68 10) 1 a i = S4 a i := fun a i q => gW_c q
          have kf : ∀ M N, M ≤ σ 68 10 → N ≤ τ 119 43 → kE M N σ (gW S4 78 (σ 68 10) 1) τ T4 := fun M N hM hN => (((((((kE_node hM hN).w (by decide) hM).v (by decide) hN).tr (k2 M N) (Int.le_refl _) (Int.le_refl _)).w (by decide) hM).w (by decide) hM).v (by decide) hN |>.v (by decide) hN |>.tr (k5 M N) (Int.le_refl _) (Int.le_refl _)).w (by decide) hM
          have kM := kf (σ 68 10) (τ 119 43) (Int.le_refl _) (Int.le_refl _)
          have ndd : ∀ i, nd (gW S4 78 (σ 68 10) 1) i = nd S2 i := fun i => by rw [nd_w (by omega)]; exact nd_congr fun j _ _ => by rw [f1 70 j (by decide) (by decide) (by decide)]
          have c10 : gW S4 78 (σ 68 10) 1 68 10 = σ 68 10 + 1 := by rw [w _ _ (by decide), f1 68 10 (by decide) (by decide) (by decide), s10]
          have ndx : nd S2 x = nd σ x := by
            have := kM.nd (i := x) (by omega)
            rw [ndd] at this
            exact this
          refine ⟨_, T4, σ 68 10, rfl, by rw [ndd, znd], ⟨(G5.le (by decide)).w (by decide), kf M0 (nd σ M0) (by omega) (by rw [g43]; exact (nd_r m0 (by omega)).1), ?_, ?_, by rw [w _ _ (by decide), f1 68 21 (by decide) (by decide) (by decide), F.1 68 (by decide), gW_c (by decide), nC_o (by omega) (by omega)], by rw [w _ _ (by decide), f1 68 22 (by decide) (by decide) (by decide), F.1 68 (by decide), gW_c (by decide), nC_o (by omega) (by omega)]⟩, ?_, by rw [w _ _ (by decide)]; omega⟩
          · rw [c10]
            refine PX.get (by rw [w _ _ (by decide), f1 70 _ (by decide) (by decide) (by decide), q70]) ?_ (Or.inl ⟨by rw [w _ _ (by decide), f1 73 _ (by decide) (by decide) (by decide), q73], rfl⟩) (by rw [w _ _ (by decide), f1 74 _ (by decide) (by decide) (by decide), q74])
            rw [w _ _ (by decide), f1 72 _ (by decide) (by decide) (by decide), s72]
            exact hL.kE kM m0 (Int.le_refl _) (by rw [g43]; exact Int.le_refl _)
          · rw [c10]
            refine (hN.kE kM rfl m0 (Int.le_refl _) (by rw [g43]; exact Int.le_refl _)).cat (NB.one (by rw [w _ _ (by decide), f1 70 _ (by decide) (by decide) (by decide), q70]; decide) ?_ NB.nil) (by omega)
            have nm : ∀ S : gM, nh S (-1) = -1 := fun _ => rfl
            have pm : ∀ S : gM, ph S (-1) = -1 := fun _ => rfl
            have nx : nh (gW S4 78 (σ 68 10) 1) x = nd σ x := by
              unfold nh
              rw [if_neg (by omega), ndd, ndx]
            have s692 : gW S4 78 (σ 68 10) 1 69 2 = S2 69 2 := by rw [w _ _ (by decide), F5.2.1 2 (by omega), gW_c (by decide), gW_c (by decide)]
            unfold RN
            rw [ndd, znd, w 70 _ (by decide), w 71 _ (by decide), w 72 _ (by decide), w 73 _ (by decide), w 74 _ (by decide), w 76 _ (by decide), w 77 _ (by decide), f1 70 _ (by decide) (by decide) (by decide), f1 71 _ (by decide) (by decide) (by decide), f1 72 _ (by decide) (by decide) (by decide), f1 73 _ (by decide) (by decide) (by decide), f1 74 _ (by decide) (by decide) (by decide), s76, s77, q70, q71, s72, q73, q74, f2 135 _ (by decide) (by decide) (by decide), f2 136 _ (by decide) (by decide) (by decide), f2 138 _ (by decide) (by decide) (by decide), f2 139 _ (by decide) (by decide) (by decide), f2 140 _ (by decide) (by decide) (by decide), z135, z136, t138, z139, z140, t142, t143, nm, pm, nx, s692]
            refine ⟨by omega, rfl, by omega, by simp, fun _ => by simp, by simp, fun u => by omega, fun _ => ⟨rfl, rfl, by omega, fun u => by omega, fun u => by omega, fun _ _ => ?_, fun u => by omega⟩, fun u => by omega⟩
            rcases ky with u | u | u | u | u | u <;> omega
          · refine ⟨Or.inl ⟨gW_at _ _ _ _, ?_, Or.inr (by rw [w _ _ (by decide), f1 70 _ (by decide) (by decide) (by decide), q70])⟩, by rw [w _ _ (by decide), f1 75 _ (by decide) (by decide) (by decide), q75], by rw [ndd, znd, f2 141 _ (by decide) (by decide) (by decide), z141]⟩
            rw [ndd, znd, f2 145 _ (by decide) (by decide) (by decide), z145]
        · right
          rw [y1, y2]
          simp only [Option.bind_some]
          rw [beh_186 (by omega)]
          refine ⟨_, T4, σ 68 10, rfl, rfl, (b.le ?_).w (by decide) (by omega), by omega⟩
          rw [gW_c (by decide), gW_c (by decide), s10]
          omega
      · have kk := G3.2.1.2.k
        have b := bd_of G3 (k := 2) (p := S2 69 5) (by decide)
        obtain ⟨f1, f2⟩ := fail_s (k := 2) G3 (p := S2 69 5) (q := T2 119 26) G3.2.1.1.1
        obtain ⟨S', x1, x2⟩ := beh_123 (d := d) (n := σ 68 10) b (by omega)
        right
        refine ⟨S', _, σ 68 10, ?_, ?_, x2.le (by omega), by omega⟩
        · rw [ps_behind_b89_e, ps_good_g G3.2.2.1]
          simp only [Option.bind_some]
          rw [if_neg (by decide), if_neg (by omega), f1]
          simp only [Option.bind_some]
          exact x1
        · rw [md_need_e, if_neg k1, f2]
          rfl
    · right
      obtain ⟨S', x1, x2⟩ := beh_89 (d := d) (n := σ 68 10) b (by omega)
      rw [r1, r2]
      simp only [Option.bind_some]
      refine ⟨S', T2, σ 68 10, x1, rfl, x2.le ?_, by omega⟩
      rw [gW_c (by decide), nC_n.1]
      omega
end GT
