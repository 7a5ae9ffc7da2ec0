/-! a node that is being made; what stands in front of something -/
theorem gW_cm {σ : gM} {a i v b j w : Int} (h : a ≠ b ∨ i ≠ j) : gW (gW σ a i v) b j w = gW (gW σ b j w) a i v := by
  funext x y
  unfold gW
  by_cases h1 : x = b ∧ y = j
  · rw [if_pos h1, if_neg (by omega), if_pos h1]
  · rw [if_neg h1, if_neg h1]
/-- a new node, its parts not yet there -/
def nf (S T : gM) (n m K p e : Int) : Prop := (S 70 n = K ∧ S 71 n = p ∧ S 73 n = -1 ∧ S 74 n = -1 ∧ S 75 n = -1 ∧ S 76 n = -1 ∧ S 77 n = 0 ∧ S 78 n = 0) ∧ (T 135 m = K ∧ T 136 m = p ∧ T 139 m = -1 ∧ T 140 m = -1 ∧ T 141 m = -1 ∧ T 142 m = p ∧ T 143 m = e ∧ T 145 m = 0) ∧ nd S n = m
section NF
variable {σ τ S T S' T' : gM} {n m K p e : Int}
theorem nf.kE {M N : Int} (h : nf S T n m K p e) (k : kE M N S S' T T') (hn : n < M) (hm : m < N) : nf S' T' n m K p e := by
  obtain ⟨h1, h2, h3⟩ := h
  have c : ∀ a, 70 ≤ a → a ≤ 78 → S' a n = S a n := fun a q1 q2 => k.2.1 a n q1 q2 hn
  have t : ∀ a, 135 ≤ a → a ≤ 145 → T' a m = T a m := fun a q1 q2 => k.2.2.2.2.2.2.2.1 a m q1 q2 hm
  unfold nf
  rw [c 70 (by decide) (by decide), c 71 (by decide) (by decide), c 73 (by decide) (by decide), c 74 (by decide) (by decide), c 75 (by decide) (by decide), c 76 (by decide) (by decide), c 77 (by decide) (by decide), c 78 (by decide) (by decide), t 135 (by decide) (by decide), t 136 (by decide) (by decide), t 139 (by decide) (by decide), t 140 (by decide) (by decide), t 141 (by decide) (by decide), t 142 (by decide) (by decide), t 143 (by decide) (by decide), t 145 (by decide) (by decide), k.nd (by omega)]
  exact ⟨h1, h2, h3⟩
theorem nf.w {v i : Int} (h : nf S T n m K p e) : nf (gW S 72 i v) T n m K p e := by
  unfold nf at *
  rw [nd_w (by omega)]
  simp only [gW_c (show (70 : Int) ≠ 72 by decide), gW_c (show (71 : Int) ≠ 72 by decide), gW_c (show (73 : Int) ≠ 72 by decide), gW_c (show (74 : Int) ≠ 72 by decide), gW_c (show (75 : Int) ≠ 72 by decide), gW_c (show (76 : Int) ≠ 72 by decide), gW_c (show (77 : Int) ≠ 72 by decide), gW_c (show (78 : Int) ≠ 72 by decide)]
  exact h
theorem nf.v {v i : Int} (h : nf S T n m K p e) : nf S (gW T 138 i v) n m K p e := by
  unfold nf at *
  simp only [gW_c (show (135 : Int) ≠ 138 by decide), gW_c (show (136 : Int) ≠ 138 by decide), gW_c (show (139 : Int) ≠ 138 by decide), gW_c (show (140 : Int) ≠ 138 by decide), gW_c (show (141 : Int) ≠ 138 by decide), gW_c (show (142 : Int) ≠ 138 by decide), gW_c (show (143 : Int) ≠ 138 by decide), gW_c (show (145 : Int) ≠ 138 by decide)]
  exact h
theorem nf_new {z : Int} (G : pG z σ τ) : nf (nC σ K) (nM τ K) (σ 68 10) (τ 119 43) K (σ 69 5) (σ 69 3) := by
  obtain ⟨h1, ⟨⟨k1, k2, k3, k4, k5, k6, k7⟩, -⟩, h3, h4, h5, -⟩ := G
  have n := @nC_n σ K
  have m := @nM_n τ K
  obtain ⟨n1, n2, n3, n4, n5, n6, n7, n8, n9, n10, n11⟩ := n
  obtain ⟨m1, m2, m3, m4, m5, m6, m7, m8, m9, m10⟩ := m
  exact ⟨⟨n3, n4, n6, n7, n8, n9, n10, n11⟩, ⟨m2, by omega, m5, m6, m7, by omega, by omega, m10⟩, by rw [nd_nC (Int.le_refl _), h5]⟩
/-- slack that a token takes -/
theorem pG.le {z z' : Int} (h : pG z σ τ) (hz : z ≤ z') : pG z' σ τ := by
  obtain ⟨a1, a2, a3, a4, a5⟩ := h
  exact ⟨a1, a2, a3, by omega, a5⟩
/-- a node, its first part, what opens: then the next token -/
theorem nopen_s {x y : Int} (G : pG 1 σ τ) (hK : K ≠ 30) (h4 : τ 119 25 ≠ 0) (ho : σ 68 21 < 20) :
    (∃ S T, ps_node σ K = some (nC σ K, σ 68 10) ∧ ps_open (gW (nC σ K) 72 (σ 68 10) x) = some (S, 0) ∧ md_newNode (gW τ 119 28 (σ 68 21 + 1)) K = some (gW (nM τ K) 119 28 (σ 68 21 + 1), some (τ 119 43)) ∧ md_take (gW (gW (nM τ K) 119 28 (σ 68 21 + 1)) 138 (τ 119 43) y) = some (T, some 0) ∧ pG 1 S T ∧ (∀ M N, M ≤ σ 68 10 → N ≤ τ 119 43 → kE M N σ S τ T) ∧ nf S T (σ 68 10) (τ 119 43) K (σ 69 5) (σ 69 3) ∧ S 72 (σ 68 10) = x ∧ T 138 (τ 119 43) = y ∧ S 68 10 = σ 68 10 + 1 ∧ T 119 43 = τ 119 43 + 1 ∧ S 68 21 = σ 68 21 + 1 ∧ S 68 22 = σ 68 22 ∧ σ 69 5 < S 69 5 ∧ (0 ≤ σ 68 10 ∧ σ 68 10 < 4200) ∧ (0 ≤ τ 119 43 ∧ τ 119 43 < 4004)) ∨
    (∃ S1 S T, ps_node σ K = some (S1, σ 68 10) ∧ ps_open (gW S1 72 (σ 68 10) x) = some (S, 0) ∧ bd 4006 S T ∧ (0 ≤ σ 68 10 ∧ σ 68 10 < 4200) ∧ S1 72 (σ 68 10) = -1 ∧ (md_newNode (gW τ 119 28 (σ 68 21 + 1)) K = some (T, none) ∨ (md_newNode (gW τ 119 28 (σ 68 21 + 1)) K = some (gW (nM τ K) 119 28 (σ 68 21 + 1), some (τ 119 43)) ∧ md_take (gW (gW (nM τ K) 119 28 (σ 68 21 + 1)) 138 (τ 119 43) y) = some (T, none) ∧ (0 ≤ τ 119 43 ∧ τ 119 43 < 4004)))) := by
  by_cases q : σ 68 20 = 300
  · obtain ⟨S, T, e1, e2, b, hb, e3⟩ := node_x (K := K) G (by decide) q
    obtain ⟨T', e4, b'⟩ := e3 (σ 68 21 + 1)
    right
    refine ⟨S, gW S 72 (σ 68 10) x, T', e1, ps_open_b (b'.w (a := 72) (by decide) (by omega)).1, (b'.le (by omega)).w (by decide) (by omega), by omega, hb.2.2, Or.inl e4⟩
  · obtain ⟨e1, -, hb, hc⟩ := node_g (K := K) G (by decide) q
    obtain ⟨G1, n1⟩ := pG_node G q hK
    have h6 := G.2.2.2.2.2.1
    have e2 : md_newNode (gW τ 119 28 (σ 68 21 + 1)) K = some (gW (nM τ K) 119 28 (σ 68 21 + 1), some (τ 119 43)) := by
      rw [md_newNode_g (by rw [gW_i (by decide)]; exact hc) (by rw [gW_i (by decide), gW_i (by decide)]; omega) (by rw [gW_i (by decide)]; omega), nM_28, gW_i (by decide)]
    have G2 : pG 2 (gW (nC σ K) 72 (σ 68 10) x) (gW (nM τ K) 138 (τ 119 43) y) := (G1.w (by decide)).v (by decide)
    have o1 : gW (nC σ K) 72 (σ 68 10) x 68 21 = σ 68 21 := by rw [gW_c (by decide), nC_o (by omega) (by omega)]
    have cm : gW (gW (nM τ K) 119 28 (σ 68 21 + 1)) 138 (τ 119 43) y = gW (gW (nM τ K) 138 (τ 119 43) y) 119 28 (σ 68 21 + 1) := gW_cm (by omega)
    have hg := ps_open_g G2 (by rw [gW_c (by decide), nM_o (by omega) (by omega)]; exact h4) (by rw [o1]; exact ho)
    rw [o1, ← cm] at hg
    rcases hg with ⟨S, T, r1, r2, r3, F, r5, r6⟩ | ⟨S, T, r1, r2, b⟩
    · left
      have hp : gW (nC σ K) 72 (σ 68 10) x 69 5 = σ 69 5 := by rw [gW_c (by decide), nC_o (by omega) (by omega)]
      rw [hp] at r5
      have kk : ∀ M N, M ≤ σ 68 10 → N ≤ τ 119 43 → kE M N σ S τ T := fun M N hM hN => ((((kE_node hM hN).w (a := 72) (i := σ 68 10) (v := x) (by decide) hM).v (a := 138) (i := τ 119 43) (v := y) (by decide) hN).o (i := 21) (v := σ 68 21 + 1) (by decide)).u (i := 28) (v := σ 68 21 + 1) (by decide) |>.tr (by rw [cm] at F; exact kE.rd (M := M) (N := N) F (by rw [gW_c (by decide), hp]; omega)) (Int.le_refl _) (Int.le_refl _)
      have k1 : kE (σ 68 10 + 1) (τ 119 43 + 1) (gW (nC σ K) 72 (σ 68 10) x) S (gW (nM τ K) 138 (τ 119 43) y) T := ((kE.rf.o (i := 21) (v := σ 68 21 + 1) (by decide)).u (i := 28) (v := σ 68 21 + 1) (by decide)).tr (by rw [cm] at F; exact kE.rd (M := σ 68 10 + 1) (N := τ 119 43 + 1) F (by rw [gW_c (by decide), hp]; omega)) (Int.le_refl _) (Int.le_refl _)
      refine ⟨S, T, e1, r1, e2, r2, r3, kk, ((nf_new G).w.v).kE k1 (by omega) (by omega), by rw [k1.2.1 72 _ (by decide) (by decide) (by omega), gW_at], by rw [k1.2.2.2.2.2.2.2.1 138 _ (by decide) (by decide) (by omega), gW_at], by rw [F.1 68 (by decide), gW_i (by decide), gW_c (by decide), nC_n.1], ?_, r6, by rw [F.1 68 (by decide), gW_i (by decide), gW_c (by decide), nC_o (by omega) (by omega)], r5, by omega, hc⟩
      rw [F.2.2.2 43 (by omega) (by decide) (by decide), gW_c (by decide), gW_i (by decide), nM_n.1]
    · right
      refine ⟨nC σ K, S, T, e1, r1, b.le ?_, by omega, nC_n.2.2.2.2.1, Or.inr ⟨e2, r2, hc⟩⟩
      rw [gW_c (by decide), nC_n.1]
      omega
end NF
section UN
variable {σ τ : gM} {d d' D : Nat}
theorem PX.not {S T : gM} {b n : Int} (n0 : 0 ≤ n) (h70 : S 70 n = 20) (hr : PX S T 0 (n + 1) b (S 72 n) 0) (h73 : S 73 n = -1) (h74 : S 74 n = -1) : PX S T 0 n b n 0 := by
  obtain ⟨d, h⟩ := hr
  have a2 := (PT_ab _ _ _ _ _ _ h).2.1 (Or.inl rfl)
  exact ⟨d + 1, by omega, Or.inr (Or.inr (Or.inr (Or.inl ⟨h70, rfl, h, h73, h74⟩)))⟩
/-- not -/
theorem not_s (ih : XS bare D (ps_unary d) (md_unary d')) (ihb : XB (ps_unary d)) (G : pG 1 σ τ) (ho : 10 * (20 - σ 68 21) + 20 ≤ (D : Int)) (h4 : τ 119 25 = 41) :
    XR bare σ τ (σ 68 10) (if σ 68 21 = 20 then ((tk_fails σ 3 (σ 69 5)).bind fun p3 => ps_unary_b37 d p3.1) else ps_unary_b37 d σ)
      ((md_opens τ).bind fun p3 => gtry p3.2 (fun v4 => (md_newNode p3.1 20).bind fun p5 => gtry p5.2 (fun v6 => (md_take p5.1).bind fun p7 => gtry p7.2 (fun v8 => (md_unary d' p7.1).bind fun p9 => gtry p9.2 (fun v10 => if 0 ≤ v6 ∧ v6 < 4004 then (some (gW (gW p9.1 138 v6 v10) 119 28 (w32 ((p9.1 119 28) - 1)), some v6)) else none) (some (p9.1, none))) (some (p7.1, none))) (some (p5.1, none))) (some (p3.1, none))) := by
  have h7 := G.2.2.2.2.2.2.1
  have g43 := G.2.2.2.2.1
  have bad : ∀ (S T : gM) (k : Int), bd k S T → k < 4050 → ∃ S', ps_unary_b37 d S = some (S', S 68 10) ∧ bd (k + 2) S' T ∧ (0 ≤ S 68 10 ∧ S 68 10 < 4200) := by
    intro S T k b hk
    obtain ⟨S1, e1, b1, hb⟩ := ps_node_b (K := 20) b (by omega)
    obtain ⟨S2, x1, x2, x3⟩ := ihb S1 T (k + 1) b1 (by omega)
    refine ⟨gW (gW S2 72 (S 68 10) (S1 68 10)) 68 21 (w32 (S2 68 21 - 1)), ?_, ?_, hb⟩
    · rw [ps_unary_b37_e, e1]
      simp only [Option.bind_some]
      rw [ps_open_b b1.1]
      simp only [Option.bind_some]
      rw [x1]
      simp only [Option.bind_some]
      rw [if_pos hb]
    · rw [show k + 2 = k + 1 + 1 by omega]
      exact (x2.w (by decide) (by omega)).w (by decide) (by omega)
  by_cases o20 : σ 68 21 = 20
  · have b := bd_of G (k := 3) (p := σ 69 5) (by decide)
    obtain ⟨f1, f2⟩ := fail_s (k := 3) G (p := σ 69 5) (q := τ 119 26) G.2.1.1.1
    have kp := G.2.1.1
    unfold tKp at kp
    have hm := G.2.2.2.1
    have hn := G.1.2.1
    obtain ⟨S', e1, e2, e3⟩ := bad _ _ _ b (by omega)
    right
    refine ⟨S', _, _, ?_, ?_, e2.le (by omega), e3⟩
    · rw [if_pos o20, f1]
      simp only [Option.bind_some]
      exact e1
    · rw [md_opens_e, if_pos (by omega), f2]
      rfl
  · rw [if_neg o20, md_opens_g G (by omega)]
    simp only [Option.bind_some, gtry]
    rw [ps_unary_b37_e]
    rcases nopen_s (K := 20) (x := -1) (y := -1) G (by decide) (by omega) (by omega) with ⟨S, T, e1, e2, e3, e4, G1, kk, nn, s72, t138, s10, t43, o1, u1, p1, hb, hc⟩ | ⟨S1, S, T, e1, e2, b, hb, s72, e3⟩
    · have z72 : gW (nC σ 20) 72 (σ 68 10) (-1) = nC σ 20 := gW_nop nC_n.2.2.2.2.1
      have z138 : gW (gW (nM τ 20) 119 28 (σ 68 21 + 1)) 138 (τ 119 43) (-1) = gW (nM τ 20) 119 28 (σ 68 21 + 1) := gW_nop (by rw [gW_c (by decide), nM_n.2.2.2.1])
      rw [z72] at e2
      rw [z138] at e4
      rw [e1, e3]
      simp only [Option.bind_some]
      rw [e2, e4]
      simp only [Option.bind_some]
      rcases ih S T G1 (by rw [o1]; omega) with ⟨S2, T2, rr, x1, x2, xg, -⟩ | ⟨S2, T2, rr, x1, x2, b, hr⟩
      · left
        have xn := xg.n
        obtain ⟨G2, k2, p2, nb2, o2, u2⟩ := xg
        have n2 : nd S (S 68 10) = τ 119 43 + 1 := by rw [← G1.2.2.2.2.1, t43]
        rw [n2] at k2
        rw [s10] at k2 p2 nb2 xn
        have nf2 := nn.kE k2 (by omega) (by omega)
        have s72' : S2 72 (σ 68 10) = -1 := by rw [k2.2.1 72 _ (by decide) (by decide) (by omega), s72]
        obtain ⟨⟨q70, q71, q73, q74, q75, q76, q77, q78⟩, ⟨y135, y136, y139, y140, y141, y142, y143, y145⟩, ynd⟩ := nf2
        rw [x1, x2]
        simp only [Option.bind_some]
        rw [if_pos hb, if_pos hc]
        have t28 : T2 119 28 = σ 68 21 + 1 := by rw [G2.2.2.2.2.2.2.1.2.2, o2, o1]
        have s21 : S2 68 21 = σ 68 21 + 1 := by rw [o2, o1]
        rw [t28, s21, w32_e (by omega) (by omega), show σ 68 21 + 1 - 1 = σ 68 21 by omega]
        have G3 : pG 1 (gW (gW S2 72 (σ 68 10) rr) 68 21 (σ 68 21)) (gW (gW T2 138 (τ 119 43) (nd S2 rr)) 119 28 (σ 68 21)) := ((G2.w (by decide)).v (by decide)).o (by omega)
        have kf := (((((kk (σ 68 10) (τ 119 43) (Int.le_refl _) (Int.le_refl _)).tr k2 (by omega) (by omega)).w (a := 72) (v := rr) (by decide) (Int.le_refl _)).v (a := 138) (v := nd S2 rr) (by decide) (Int.le_refl _)).o (i := 21) (v := σ 68 21) (by decide)).u (i := 28) (v := σ 68 21) (by decide)
        have c : ∀ a i, a ≠ 68 → a ≠ 72 → gW (gW S2 72 (σ 68 10) rr) 68 21 (σ 68 21) a i = S2 a i := fun a i w1 w2 => by rw [gW_c w1, gW_c w2]
        have cn : gW (gW S2 72 (σ 68 10) rr) 68 21 (σ 68 21) 72 (σ 68 10) = rr := by rw [gW_c (by decide), gW_at]
        have c10 : gW (gW S2 72 (σ 68 10) rr) 68 21 (σ 68 21) 68 10 = S2 68 10 := by rw [gW_i (by decide), gW_c (by decide)]
        have t : ∀ a i, a ≠ 119 → a ≠ 138 → gW (gW T2 138 (τ 119 43) (nd S2 rr)) 119 28 (σ 68 21) a i = T2 a i := fun a i w1 w2 => by rw [gW_c w1, gW_c w2]
        have ndd : ∀ i, nd (gW (gW S2 72 (σ 68 10) rr) 68 21 (σ 68 21)) i = nd S2 i := fun i => by rw [nd_w (by omega), nd_w (by omega)]
        refine ⟨_, _, σ 68 10, rfl, by rw [ndd, ynd], ⟨G3, by rw [← g43]; exact kf, ?_, ?_, by rw [gW_at], by rw [gW_i (by decide), gW_c (by decide), u2, u1]⟩, ?_⟩
        · rw [c10]
          refine PX.not (by omega) (by rw [c _ _ (by decide) (by decide), q70]) ?_ (by rw [c _ _ (by decide) (by decide), q73]) (by rw [c _ _ (by decide) (by decide), q74])
          rw [cn]
          exact (((p2.w (by omega) (by omega) (by omega)).w (by omega) (by omega) (by omega)).v (by omega) (by omega)).v (by omega) (by omega)
        · rw [c10]
          refine NB.one (by rw [c _ _ (by decide) (by decide), q70]; decide) ?_ ?_
          · refine RN.op (by rw [c _ _ (by decide) (by decide), q70]; omega) ?_ ?_ ?_ ?_ ?_ ?_
            · rw [ndd, ynd, t _ _ (by decide) (by decide), y135, c _ _ (by decide) (by decide), q70]
            · rw [ndd, ynd, t _ _ (by decide) (by decide), y136, c _ _ (by decide) (by decide), q71]
            · rw [cn, c _ _ (by decide) (by decide), c _ _ (by decide) (by decide), q73, q74]; omega
            · rw [ndd, ynd, gW_c (by decide), gW_at, cn]
              unfold nh
              rw [if_neg (by omega), ndd]
            · rw [ndd, ynd, t _ _ (by decide) (by decide), y139, c _ _ (by decide) (by decide), q73]; rfl
            · rw [ndd, ynd, t _ _ (by decide) (by decide), y140, c _ _ (by decide) (by decide), q74]; rfl
          · have f19 : S 68 19 = σ 68 19 := (kk (σ 68 10) (τ 119 43) (Int.le_refl _) (Int.le_refl _)).2.2.1 19 (by decide)
            rw [f19] at nb2
            have h30 : S2 70 (σ 68 10) ≠ 30 := by rw [q70]; decide
            have ns := nd_S (σ := S2) (i := σ 68 10) (by omega) h30
            have nb3 := (nb2.w (e := 72) (k := σ 68 10) (v := rr) (by decide) (by omega) (fun _ => h30)).v (e := 138) (k := τ 119 43) (v := nd S2 rr) (by omega) (by decide) (by rw [nd_w (by omega), nd_w (by omega)]; omega)
            have kq : kE (S2 68 10) (nd (gW S2 72 (σ 68 10) rr) (S2 68 10)) (gW S2 72 (σ 68 10) rr) (gW (gW S2 72 (σ 68 10) rr) 68 21 (σ 68 21)) (gW T2 138 (τ 119 43) (nd S2 rr)) (gW (gW T2 138 (τ 119 43) (nd S2 rr)) 119 28 (σ 68 21)) := (kE.rf.o (by decide)).u (by decide)
            exact nb3.kE kq (by rw [gW_c (by decide), k2.2.2.1 19 (by decide), f19]) (by omega) (Int.le_refl _) (Int.le_refl _)
        · refine ⟨Or.inr ⟨by rw [c _ _ (by decide) (by decide), q78], Or.inr (by rw [c _ _ (by decide) (by decide), q70]; decide)⟩, by rw [c _ _ (by decide) (by decide), q75], by rw [ndd, ynd, t _ _ (by decide) (by decide), y141]⟩
      · right
        rw [x1, x2]
        simp only [Option.bind_some]
        rw [if_pos hb]
        exact ⟨_, T2, σ 68 10, rfl, rfl, (b.w (by decide) (by omega)).w (by decide) (by omega), hb⟩
    · right
      rw [gW_nop s72] at e2
      obtain ⟨S2, x1, x2, x3⟩ := ihb S T 4006 b (by decide)
      refine ⟨gW (gW S2 72 (σ 68 10) (S 68 10)) 68 21 (w32 (S2 68 21 - 1)), T, σ 68 10, ?_, ?_, ((x2.le (by decide)).w (by decide) (by omega)).w (by decide) (by omega), hb⟩
      · rw [e1]
        simp only [Option.bind_some]
        rw [e2]
        simp only [Option.bind_some]
        rw [x1]
        simp only [Option.bind_some]
        rw [if_pos hb]
      · rcases e3 with e3 | ⟨e3, e4, hc⟩
        · rw [e3]; rfl
        · rw [gW_nop (by rw [gW_c (by decide), nM_n.2.2.2.1])] at e4
          rw [e3]
          simp only [Option.bind_some]
          rw [e4]; rfl
end UN
