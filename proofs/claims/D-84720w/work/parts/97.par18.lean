/-! if -/
section IFS
variable {σ τ S T : gM} {d : Nat}
theorem if_fin {n m c e b p f k : Int} (k0 : 0 ≤ k) (n0 : 0 ≤ n) (q70 : S 70 n = 24) (q71 : S 71 n = p) (ynd : nd S n = m) (y135 : T 135 m = 24) (y136 : T 136 m = p) (t138 : T 138 m = nd S (S 72 n)) (t139 : T 139 m = ph S (S 73 n)) (t140 : T 140 m = ph S (S 74 n)) (p1 : PX S T 0 (n + 1) c (S 72 n) 0) (p2 : PX S T 2 c e (S 73 n) (k - 2)) (p3 : PX S T 2 e b (S 74 n) (k - 2)) (nb1 : NB S T 0 f (n + 1) c) (nb2 : NB S T 0 f c e) (nb3 : NB S T 0 f e b) : PX S T 3 n b n k ∧ NB S T 0 f n b := by
  have lt := (PT_ab _ _ _ _ _ _ p1.choose_spec).2.1 (Or.inl rfl)
  have r2 := pL_r p2
  have r3 := pL_r p3
  constructor
  · obtain ⟨d1, h1, h2, h3⟩ := p1.three p2 p3
    exact ⟨d1 + 1, by omega, Or.inl ⟨q70, c, e, h1, h2, h3⟩⟩
  · refine NB.one (by rw [q70]; decide) ?_ ((nb1.cat nb2 r2.1).cat nb3 r3.1)
    refine RN.st (Or.inl q70) (by rw [ynd, y135, q70]) (by rw [ynd, y136, q71]) (by omega) ?_ (by rw [ynd, t139]) (by rw [ynd, t140]) (fun w => by omega)
    rw [ynd, t138]
    unfold nh
    rw [if_neg (by omega)]
theorem if_s (ihb : ∀ σ τ, pG 0 σ τ → 2 * (21 - σ 68 21) ≤ (d : Int) + 1 → BR σ τ (ps_block (d + 1) σ) (md_block (d + 1) τ)) (G : pG 0 σ τ) (hd : 2 * (21 - σ 68 21) ≤ (d : Int) + 1) (h4 : τ 119 25 = 11) :
    SR σ τ ((ps_node σ 24).bind fun p15 => (ps_condition p15.1 p15.2).bind fun p16 => (ps_block (d + 1) p16.1).bind fun p17 => if 0 ≤ p15.2 ∧ p15.2 < 4200 then ((ps_good (gW p17.1 73 p15.2 p17.2)).bind fun p18 => if p18.2 = 0 then (some (p18.1, p15.2)) else ((tk_isWord_2 p18.1 16).bind fun p19 => if p19.2 = 0 then (some (p19.1, p15.2)) else ((tk_read p19.1).bind fun p20 => (ps_block (d + 1) p20.1).bind fun p21 => if 0 ≤ p15.2 ∧ p15.2 < 4200 then (some (gW p21.1 74 p15.2 p21.2, p15.2)) else none))) else none) (md_statement_b37 (d + 1) τ 11 24) := by
  have hmm := G.2.2.2.1
  have g43 := G.2.2.2.2.1
  rcases head_s (d := d + 1) (K := 24) (x := 11) G (by decide) (by omega) with ⟨S, T, e1, e2, e3, G1, k1, nn, r72, t138, p1, nb1, o1, u1, pl, hb, hc⟩ | ⟨S0, S, T, e1, e2, b, e3, hb⟩
  · have kp1 := G1.2.1.1
    unfold tKp at kp1
    have h8 := G1.2.2.2.2.2.2.2.1
    have hl1 := G1.1.2.1
    have hm1 := G1.2.2.2.1
    have nop : ∀ X : gM, -2147483648 ≤ X 119 29 → X 119 29 ≤ 2147483647 → gW X 119 29 (w32 (X 119 29 + 0)) = X ∧ gW X 119 29 (w32 (X 119 29 - 0)) = X := fun X a1 a2 => ⟨gW_nop (by rw [w32_e (by omega) (by omega)]; omega), gW_nop (by rw [w32_e (by omega) (by omega)]; omega)⟩
    rw [e1, e3, if_neg (by decide), md_statement_b83_e, (nop T (by omega) (by omega)).1]
    simp only [Option.bind_some]
    rw [e2]
    simp only [Option.bind_some]
    have s19 : S 68 19 = σ 68 19 := k1.2.2.1 19 (by decide)
    rcases ihb S T G1 (by rw [o1]; exact hd) with ⟨S2, T2, r, z1, z2, G3, k3, px, nb, ⟨o3, u3⟩, pl3⟩ | ⟨S2, T2, r, z1, z2, b⟩
    · rw [s19] at nb
      rw [show sDp S = sDp σ by unfold sDp; rw [o1, u1]] at px
      have mm := nd_S (σ := S) (i := σ 68 10) (by omega) (by rw [nn.1.1]; decide)
      have lt := (PT_ab _ _ _ _ _ _ p1.choose_spec).2.1 (Or.inl rfl)
      have mm2 := nd_r (σ := S) (i := σ 68 10 + 1) (j := S 68 10) (by omega) (by omega)
      have nd0 := nn.2.2
      obtain ⟨n2, e72, f138, p2, nb2⟩ := body_s nn (by omega) rfl (by omega) (by omega) k3 r72 t138 p1 (by rw [s19]; exact nb1)
      rw [s19] at nb2
      obtain ⟨⟨q70, q71, q73, q74, q75, q76, q77, q78⟩, ⟨y135, y136, y139, y140, y141, y142, y143, y145⟩, ynd⟩ := n2
      have rl := pL_r px
      have kp3 := G3.2.1.1
      unfold tKp at kp3
      have h83 := G3.2.2.2.2.2.2.2.1
      have hl3 := G3.1.2.1
      have hm3 := G3.2.2.2.1
      rw [z1, z2]
      simp only [Option.bind_some, gtry]
      have G4 : pG 0 (gW S2 73 (σ 68 10) r) (gW T2 139 (τ 119 43) (ph S2 r)) := (G3.w (by decide)).v (by decide)
      have x29 : gW T2 139 (τ 119 43) (ph S2 r) 119 29 = T2 119 29 := gW_c (by decide)
      have nop2 : gW (gW T2 139 (τ 119 43) (ph S2 r)) 119 29 (w32 (T2 119 29 - 0)) = gW T2 139 (τ 119 43) (ph S2 r) := by
        have := (nop (gW T2 139 (τ 119 43) (ph S2 r)) (by omega) (by omega)).2
        rw [x29] at this
        exact this
      rw [if_pos hb, if_pos hc, if_neg (by decide), md_statement_b113_e, if_pos (by trivial), nop2, ps_good_g G4.2.2.1]
      simp only [Option.bind_some]
      rw [if_neg (by decide), tk_isWord_2_s G4.1 G4.2.1 G4.2.2.1 (x := 16) (p := 12) (t := 12) (by unfold wS; decide)]
      simp only [Option.bind_some]
      have kf : kE (σ 68 10) (τ 119 43) σ (gW S2 73 (σ 68 10) r) τ (gW T2 139 (τ 119 43) (ph S2 r)) := ((k1.tr k3 (by omega) (by omega)).w (a := 73) (v := r) (by decide) (Int.le_refl _)).v (a := 139) (v := ph S2 r) (by decide) (Int.le_refl _)
      have w : ∀ a i, ¬ (a = 73 ∧ i = σ 68 10) → gW S2 73 (σ 68 10) r a i = S2 a i := fun a i q2 => by unfold gW; rw [if_neg q2]
      have w73 : gW S2 73 (σ 68 10) r 73 (σ 68 10) = r := gW_at _ _ _ _
      have v : ∀ a i, ¬ (a = 139 ∧ i = τ 119 43) → gW T2 139 (τ 119 43) (ph S2 r) a i = T2 a i := fun a i q2 => by unfold gW; rw [if_neg q2]
      have v139 : gW T2 139 (τ 119 43) (ph S2 r) 139 (τ 119 43) = ph S2 r := gW_at _ _ _ _
      have ndF : ∀ i, nd (gW S2 73 (σ 68 10) r) i = nd S2 i := fun i => nd_w (by omega)
      have psF : ∀ i, ps (gW S2 73 (σ 68 10) r) i = ps S2 i := fun i => by
        unfold ps
        rw [w 70 i (by omega), w 72 i (by omega), ndF, ndF]
      have phF : ∀ i, ph (gW S2 73 (σ 68 10) r) i = ph S2 i := fun i => by unfold ph; rw [psF]
      have nl := nd_S (σ := S2) (i := σ 68 10) (by omega) (by rw [q70]; decide)
      have mvP : ∀ (q : Nat) a b x c, σ 68 10 < a → PX S2 T2 q a b x c → PX (gW S2 73 (σ 68 10) r) (gW T2 139 (τ 119 43) (ph S2 r)) q a b x c := fun q a b x c ha hp => (hp.w (e := 73) (i := σ 68 10) (v := r) (by omega) (by omega) (by omega)).v (e := 139) (by omega) (by omega)
      have s219 : S2 68 19 = σ 68 19 := by rw [k3.2.2.1 19 (by decide), s19]
      have mvN : ∀ a b, σ 68 10 < a → NB S2 T2 0 (σ 68 19 - 1) a b → NB (gW S2 73 (σ 68 10) r) (gW T2 139 (τ 119 43) (ph S2 r)) 0 (σ 68 19 - 1) a b := fun a b ha hp => by
        have nla := nd_r (σ := S2) (i := σ 68 10 + 1) (j := a) (by omega) (by omega)
        refine NB.fr hp (by omega) (fun x i x0 x1 x2 i0 i1 => w x i (by omega)) (fun i _ _ => ndF i) (fun x j x0 x1 x2 j0 j1 => v x j (by omega)) (gW_cell (by decide)) (w 69 2 (by omega)) (fun l p e u => ?_)
        exact u.kE (M := 0) (N := 0) ((kE.rf.w (a := 73) (by decide) (by omega)).v (a := 139) (by decide) (by omega)) (by rw [s219])
      have w10 : gW S2 73 (σ 68 10) r 68 10 = S2 68 10 := w 68 10 (by omega)
      have P1 := mvP 0 _ _ _ _ (by omega) p2
      have P2 := mvP 2 _ _ _ _ (by omega) px
      have N1 := mvN _ _ (by omega) nb2
      have N2 := mvN _ _ (by omega) nb
      have f138' : gW T2 139 (τ 119 43) (ph S2 r) 138 (τ 119 43) = nd (gW S2 73 (σ 68 10) r) (S2 72 (σ 68 10)) := by rw [v 138 _ (by omega), f138, ndF]
      have psn : ps (gW S2 73 (σ 68 10) r) (σ 68 10) = τ 119 43 := by rw [psF]; unfold ps; rw [if_neg (by rw [q70]; decide), ynd]
      have t25 : gW T2 139 (τ 119 43) (ph S2 r) 119 25 = T2 119 25 := v 119 25 (by omega)
      by_cases el : T2 119 25 = 12
      · rw [t25, if_pos el, if_pos el, if_neg (by decide)]
        rcases rd_p G4 (by rw [t25]; omega) with ⟨S4, T4, a1, a2, G5, F, a5⟩ | ⟨S4, T4, a1, a2, b, F⟩
        · have h68 : ∀ i, S4 68 i = gW S2 73 (σ 68 10) r 68 i := fun i => by rw [F.1 68 (by decide)]
          have k4 : ∀ M N, kE M N (gW S2 73 (σ 68 10) r) S4 (gW T2 139 (τ 119 43) (ph S2 r)) T4 := fun M N => kE.rd F (by omega)
          rw [a1, a2]
          simp only [Option.bind_some]
          have b10 : S4 68 10 = S2 68 10 := by rw [h68, w10]
          have b19 : S4 68 19 = σ 68 19 := by rw [h68, w 68 19 (by omega), s219]
          have b21 : S4 68 21 = σ 68 21 := by rw [h68, w 68 21 (by omega), o3, o1]
          have b22 : S4 68 22 = σ 68 22 := by rw [h68, w 68 22 (by omega), u3, u1]
          rcases ihb S4 T4 (G5.le (by decide)) (by rw [b21]; exact hd) with ⟨S5, T5, r3, c1, c2, G6, k6, px3, nb3, ⟨o6, u6⟩, pl6⟩ | ⟨S5, T5, r3, c1, c2, b⟩
          · left
            rw [b10] at k6 px3 nb3
            rw [show sDp S4 = sDp σ by unfold sDp; rw [b21, b22]] at px3
            rw [b19] at nb3
            rw [c1, c2]
            simp only [Option.bind_some, gtry]
            rw [if_pos hb, if_pos hc]
            have nd4 : ∀ i, nd S4 i = nd S2 i := fun i => by rw [← ndF]; exact nd_congr fun j _ _ => by rw [F.1 70 (by decide)]
            rw [nd4] at k6
            have k46 : kE (S2 68 10) (nd S2 (S2 68 10)) (gW S2 73 (σ 68 10) r) S5 (gW T2 139 (τ 119 43) (ph S2 r)) T5 := (k4 _ _).tr k6 (Int.le_refl _) (Int.le_refl _)
            have mlt : τ 119 43 < nd S2 (S2 68 10) := by
              have := nd_r (σ := S2) (i := σ 68 10 + 1) (j := S2 68 10) (by omega) (by omega)
              omega
            have c : ∀ a, 70 ≤ a → a ≤ 78 → S5 a (σ 68 10) = gW S2 73 (σ 68 10) r a (σ 68 10) := fun a q1 q2 => k46.2.1 a _ q1 q2 (by omega)
            have t : ∀ a, 135 ≤ a → a ≤ 145 → T5 a (τ 119 43) = gW T2 139 (τ 119 43) (ph S2 r) a (τ 119 43) := fun a q1 q2 => k46.2.2.2.2.2.2.2.1 a _ q1 q2 mlt
            have w5 : ∀ a i, ¬ (a = 74 ∧ i = σ 68 10) → gW S5 74 (σ 68 10) r3 a i = S5 a i := fun a i q2 => by unfold gW; rw [if_neg q2]
            have w574 : gW S5 74 (σ 68 10) r3 74 (σ 68 10) = r3 := gW_at _ _ _ _
            have v5 : ∀ a i, ¬ (a = 140 ∧ i = τ 119 43) → gW T5 140 (τ 119 43) (ph S5 r3) a i = T5 a i := fun a i q2 => by unfold gW; rw [if_neg q2]
            have v5140 : gW T5 140 (τ 119 43) (ph S5 r3) 140 (τ 119 43) = ph S5 r3 := gW_at _ _ _ _
            have nd5 : ∀ i, nd (gW S5 74 (σ 68 10) r3) i = nd S5 i := fun i => nd_w (by omega)
            have ps5 : ∀ i, ps (gW S5 74 (σ 68 10) r3) i = ps S5 i := fun i => by
              unfold ps
              rw [w5 70 i (by omega), w5 72 i (by omega), nd5, nd5]
            have ph5 : ∀ i, ph (gW S5 74 (σ 68 10) r3) i = ph S5 i := fun i => by unfold ph; rw [ps5]
            have e10 : nd S5 (σ 68 10) = τ 119 43 := by rw [k46.nd (by omega), ndF, ynd]
            have s570 : S5 70 (σ 68 10) = 24 := by rw [c 70 (by decide) (by decide), w 70 _ (by omega), q70]
            have nl5 := nd_S (σ := S5) (i := σ 68 10) (by omega) (by rw [s570]; decide)
            have s519 : S5 68 19 = σ 68 19 := by rw [k6.2.2.1 19 (by decide), b19]
            have mvP5 : ∀ (q : Nat) a b x c, σ 68 10 < a → PX S5 T5 q a b x c → PX (gW S5 74 (σ 68 10) r3) (gW T5 140 (τ 119 43) (ph S5 r3)) q a b x c := fun q a b x c ha hp => (hp.w (e := 74) (i := σ 68 10) (v := r3) (by omega) (by omega) (by omega)).v (e := 140) (by omega) (by omega)
            have mvN5 : ∀ a b, σ 68 10 < a → NB S5 T5 0 (σ 68 19 - 1) a b → NB (gW S5 74 (σ 68 10) r3) (gW T5 140 (τ 119 43) (ph S5 r3)) 0 (σ 68 19 - 1) a b := fun a b ha hp => by
              have nla := nd_r (σ := S5) (i := σ 68 10 + 1) (j := a) (by omega) (by omega)
              refine NB.fr hp (by omega) (fun x i x0 x1 x2 i0 i1 => w5 x i (by omega)) (fun i _ _ => nd5 i) (fun x j x0 x1 x2 j0 j1 => v5 x j (by omega)) (gW_cell (by decide)) (w5 69 2 (by omega)) (fun l p e u => ?_)
              exact u.kE (M := 0) (N := 0) ((kE.rf.w (a := 74) (by decide) (by omega)).v (a := 140) (by decide) (by omega)) (by rw [s519])
            have Q1 := mvP5 0 _ _ _ _ (by omega) (P1.kE k46 (by omega) (by omega) (by rw [ndF]; exact (nd_r (by omega) (by omega)).1))
            have Q2 := mvP5 2 _ _ _ _ (by omega) (P2.kE k46 (by omega) (Int.le_refl _) (by rw [ndF]; exact Int.le_refl _))
            have Q3 := mvP5 2 _ _ _ _ (by omega) px3
            have R1 := mvN5 _ _ (by omega) (N1.kE k46 (by rw [w 68 19 (by omega), s219]) (by omega) (by omega) (by rw [ndF]; exact (nd_r (by omega) (by omega)).1))
            have R2 := mvN5 _ _ (by omega) (N2.kE k46 (by rw [w 68 19 (by omega), s219]) (by omega) (Int.le_refl _) (by rw [ndF]; exact Int.le_refl _))
            have R3 := mvN5 _ _ (by omega) nb3
            have i72 : gW S5 74 (σ 68 10) r3 72 (σ 68 10) = S2 72 (σ 68 10) := by rw [w5 72 _ (by omega), c 72 (by decide) (by decide), w 72 _ (by omega)]
            have i73 : gW S5 74 (σ 68 10) r3 73 (σ 68 10) = r := by rw [w5 73 _ (by omega), c 73 (by decide) (by decide), w73]
            have phr : ph S5 r = ph S2 r := by
              rw [← phF]
              rcases rl.2 with q | q
              · rw [q]; rfl
              · refine ph_kE k46 (by omega) (fun u => ?_)
                rw [w 70 _ (by omega)] at u
                rw [w 72 _ (by omega)]
                have := (nb r q.2.1 q.2.2).2 u
                omega
            obtain ⟨fp, fn⟩ := if_fin (S := gW S5 74 (σ 68 10) r3) (T := gW T5 140 (τ 119 43) (ph S5 r3)) (n := σ 68 10) (m := τ 119 43) (p := σ 69 5) (sDp_0 G) (by omega) (by rw [w5 70 _ (by omega), s570]) (by rw [w5 71 _ (by omega), c 71 (by decide) (by decide), w 71 _ (by omega), q71]) (by rw [nd5, e10]) (by rw [v5 135 _ (by omega), t 135 (by decide) (by decide), v 135 _ (by omega), y135]) (by rw [v5 136 _ (by omega), t 136 (by decide) (by decide), v 136 _ (by omega), y136]) (by rw [v5 138 _ (by omega), t 138 (by decide) (by decide), f138', i72, nd5, k46.nd (by omega)]) (by rw [v5 139 _ (by omega), t 139 (by decide) (by decide), v139, i73, ph5, phr]) (by rw [v5140, w574, ph5]) (by rw [i72]; exact Q1) (by rw [i73]; exact Q2) (by rw [w574]; exact Q3) R1 R2 R3
            have w510 : gW S5 74 (σ 68 10) r3 68 10 = S5 68 10 := w5 68 10 (by omega)
            refine ⟨gW S5 74 (σ 68 10) r3, gW T5 140 (τ 119 43) (ph S5 r3), rfl, ?_, (G6.w (by decide)).v (by decide), ?_, by rw [w510]; exact fp, by rw [w510]; exact fn, ⟨by rw [w5 68 21 (by omega), o6, b21], by rw [w5 68 22 (by omega), u6, b22]⟩, ⟨by rw [w5 75 _ (by omega), c 75 (by decide) (by decide), w 75 _ (by omega), q75], ?_⟩, ?_⟩
            · rw [ps5]
              unfold ps
              rw [s570, if_neg (by decide), e10]
            · rw [← g43]
              exact ((kf.tr k46 (by omega) (by omega)).w (by decide) (Int.le_refl _)).v (by decide) (Int.le_refl _)
            · have : ps S5 (σ 68 10) = τ 119 43 := by unfold ps; rw [s570, if_neg (by decide), e10]
              rw [ps5, this, v5 141 _ (by omega), t 141 (by decide) (by decide), v 141 _ (by omega), y141]
            · rw [w5 69 5 (by omega)]
              rw [w 69 5 (by omega)] at a5
              omega
          · right
            rw [c1, c2]
            simp only [Option.bind_some]
            rw [if_pos hb]
            exact ⟨_, T5, _, rfl, rfl, b.w (by decide) (by omega), hb⟩
        · right
          obtain ⟨S5, c1, c2⟩ := block_b (d := d) b
          rw [a1, a2]
          simp only [Option.bind_some]
          rw [c1]
          simp only [Option.bind_some]
          rw [if_pos hb]
          exact ⟨_, T4, _, rfl, rfl, (c2.le (by rw [w10]; omega)).w (by decide) (by omega), hb⟩
      · left
        rw [t25, if_neg el, if_neg el, if_pos (by trivial)]
        obtain ⟨fp, fn⟩ := if_fin (S := gW S2 73 (σ 68 10) r) (T := gW T2 139 (τ 119 43) (ph S2 r)) (n := σ 68 10) (m := τ 119 43) (p := σ 69 5) (b := S2 68 10) (sDp_0 G) (by omega) (by rw [w 70 _ (by omega), q70]) (by rw [w 71 _ (by omega), q71]) (by rw [ndF, ynd]) (by rw [v 135 _ (by omega), y135]) (by rw [v 136 _ (by omega), y136]) (by rw [f138', w 72 _ (by omega)]) (by rw [v139, w73, phF]) (by rw [v 140 _ (by omega), y140, w 74 _ (by omega), q74]; rfl) (by rw [w 72 _ (by omega)]; exact P1) (by rw [w73]; exact P2) (by rw [w 74 _ (by omega), q74]; exact ⟨1, Or.inl ⟨rfl, rfl⟩⟩) N1 N2 NB.nil
        exact ⟨_, _, rfl, by rw [psn], G4, by rw [← g43]; exact kf, by rw [w10]; exact fp, by rw [w10]; exact fn, ⟨by rw [w 68 21 (by omega), o3, o1], by rw [w 68 22 (by omega), u3, u1]⟩, ⟨by rw [w 75 _ (by omega), q75], by rw [psn, v 141 _ (by omega), y141]⟩, by rw [w 69 5 (by omega)]; omega⟩
    · right
      rw [z1, z2]
      simp only [Option.bind_some]
      rw [if_pos hb, ps_good_b (b.w (a := 73) (by decide) (by omega)).1]
      exact ⟨_, T2, _, rfl, rfl, b.w (by decide) (by omega), hb⟩
  · right
    obtain ⟨S2, z1, z2⟩ := block_b (d := d) b
    rw [e1, e3]
    simp only [Option.bind_some]
    rw [e2]
    simp only [Option.bind_some]
    rw [z1]
    simp only [Option.bind_some]
    rw [if_pos hb, ps_good_b (z2.w (a := 73) (by decide) (by omega)).1]
    exact ⟨_, T, _, rfl, rfl, z2.w (by decide) (by omega), hb⟩
end IFS
