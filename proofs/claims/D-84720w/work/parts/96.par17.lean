/-! statements one by one -/
section S1
variable {σ τ S T : gM} {d : Nat}
theorem pL_r {a b r c : Int} (h : PX σ τ 2 a b r c) : a ≤ b ∧ (r = -1 ∨ (0 ≤ a ∧ a ≤ r ∧ r < b)) := by
  obtain ⟨d, h⟩ := h
  have := PT_ab _ _ _ _ _ _ h
  exact ⟨this.1, this.2.2⟩
/-- the body of a node's block, and the row it leaves: the node n, its second part -/
theorem body_s {S1 T1 S2 T2 : gM} {n m K p e c : Int} (nn : nf S1 T1 n m K p e) (n0 : 0 ≤ n) (hc : c = S1 68 10) (hn : n < c) (m1 : m + 1 ≤ nd S1 c) (k2 : kE c (nd S1 c) S1 S2 T1 T2) (r72 : 0 ≤ S1 72 n ∧ S1 72 n < c) (t138 : T1 138 m = nd S1 (S1 72 n)) (p1 : PX S1 T1 0 (n + 1) c (S1 72 n) 0) (nb1 : NB S1 T1 0 (S1 68 19 - 1) (n + 1) c) :
    nf S2 T2 n m K p e ∧ S2 72 n = S1 72 n ∧ T2 138 m = nd S2 (S2 72 n) ∧ PX S2 T2 0 (n + 1) c (S2 72 n) 0 ∧ NB S2 T2 0 (S1 68 19 - 1) (n + 1) c := by
  have e72 : S2 72 n = S1 72 n := k2.2.1 72 n (by decide) (by decide) hn
  refine ⟨nn.kE k2 hn (by omega), e72, ?_, ?_, nb1.kE k2 rfl (by omega) (Int.le_refl _) (Int.le_refl _)⟩
  · rw [e72, k2.2.2.2.2.2.2.2.1 138 m (by decide) (by decide) (by omega), t138, k2.nd (by omega)]
  · rw [e72]; exact p1.kE k2 (by omega) (Int.le_refl _) (Int.le_refl _)
/-- while -/
theorem while_s (ihb : ∀ σ τ, pG 0 σ τ → 2 * (21 - σ 68 21) ≤ (d : Int) + 1 → BR σ τ (ps_block (d + 1) σ) (md_block (d + 1) τ)) (G : pG 0 σ τ) (hd : 2 * (21 - σ 68 21) ≤ (d : Int) + 1) (h4 : τ 119 25 = 13) :
    SR σ τ ((ps_node σ 25).bind fun p12 => (ps_condition p12.1 p12.2).bind fun p13 => (ps_block (d + 1) (gW p13.1 68 22 (w32 ((p13.1 68 22) + 1)))).bind fun p14 => if 0 ≤ p12.2 ∧ p12.2 < 4200 then (some (gW (gW p14.1 73 p12.2 p14.2) 68 22 (w32 ((p14.1 68 22) - 1)), p12.2)) else none) (md_statement_b37 (d + 1) τ 13 25) := by
  have hmm := G.2.2.2.1
  have g43 := G.2.2.2.2.1
  have f19 : ∀ M N (S T : gM), kE M N σ S τ T → S 68 19 = σ 68 19 := fun M N S T k => k.2.2.1 19 (by decide)
  rcases head_s (d := d + 1) (K := 25) (x := 13) G (by decide) (by omega) with ⟨S, T, e1, e2, e3, G1, k1, nn, r72, t138, p1, nb1, o1, u1, pl, hb, hc⟩ | ⟨S0, S, T, e1, e2, b, e3, hb⟩
  · have kp1 := G1.2.1.1
    unfold tKp at kp1
    have h8 := G1.2.2.2.2.2.2.2.1
    have hl1 := G1.1.2.1
    have G2 : pG 0 (gW S 68 22 (S 68 22 + 1)) (gW T 119 29 (S 68 22 + 1)) := G1.u (by have := G.2.2.2.2.2.2.2.1; omega)
    have c10 : gW S 68 22 (S 68 22 + 1) 68 10 = S 68 10 := gW_i (by decide)
    have c21 : gW S 68 22 (S 68 22 + 1) 68 21 = σ 68 21 := by rw [gW_i (by decide), o1]
    rw [e1, e3, if_pos rfl, md_statement_b83_e]
    simp only [Option.bind_some]
    rw [e2]
    simp only [Option.bind_some]
    rw [w32_e (x := S 68 22 + 1) (by omega) (by omega), w32_e (x := T 119 29 + 1) (by omega) (by omega), show T 119 29 = S 68 22 from h8.2.2]
    rcases ihb _ _ G2 (by rw [c21]; exact hd) with ⟨S2, T2, r, z1, z2, G3, k3, px, nb, ⟨o3, u3⟩, pl3⟩ | ⟨S2, T2, r, z1, z2, b⟩
    · left
      rw [c10] at k3 px nb
      have sdp : sDp (gW S 68 22 (S 68 22 + 1)) - 2 = 2 * (sDp σ / 2) - 1 := by
        unfold sDp
        rw [c21, gW_at, if_pos (by omega)]
        split <;> omega
      rw [sdp] at px
      have k0 := sDp_0 G
      have e22 : ∀ j, nd (gW S 68 22 (S 68 22 + 1)) j = nd S j := fun j => nd_w (by omega)
      rw [e22] at k3
      have k3' : kE (S 68 10) (nd S (S 68 10)) S S2 T T2 := ((kE.rf.o (i := 22) (v := S 68 22 + 1) (by decide)).u (i := 29) (v := S 68 22 + 1) (by decide)).tr k3 (Int.le_refl _) (Int.le_refl _)
      have s19 : S 68 19 = σ 68 19 := f19 _ _ _ _ k1
      have d19 : gW S 68 22 (S 68 22 + 1) 68 19 = σ 68 19 := by rw [gW_i (by decide), s19]
      rw [d19] at nb
      rw [gW_i (by decide)] at o3
      rw [gW_at] at u3
      rw [gW_c (by decide)] at pl3
      have mm := nd_S (σ := S) (i := σ 68 10) (by omega) (by rw [nn.1.1]; decide)
      have mm2 := nd_r (σ := S) (i := σ 68 10 + 1) (j := S 68 10) (by omega) (by have := k1.2.2.2.2.1; have := (PT_ab _ _ _ _ _ _ p1.choose_spec).1; omega)
      have lt := (PT_ab _ _ _ _ _ _ p1.choose_spec).2.1 (Or.inl rfl)
      have nd0 := nn.2.2
      obtain ⟨n2, e72, f138, p2, nb2⟩ := body_s nn (by omega) rfl (by omega) (by omega) k3' r72 t138 p1 (by rw [s19]; exact nb1)
      rw [s19] at nb2
      obtain ⟨⟨q70, q71, q73, q74, q75, q76, q77, q78⟩, ⟨y135, y136, y139, y140, y141, y142, y143, y145⟩, ynd⟩ := n2
      have rl := pL_r px
      have t29 : T2 119 29 = S 68 22 + 1 := by rw [G3.2.2.2.2.2.2.2.1.2.2, u3]
      rw [z1, z2]
      simp only [Option.bind_some, gtry]
      rw [if_pos hb, if_pos hc, if_pos trivial, md_statement_b113_e, if_neg (by decide), t29, u3, w32_e (by omega) (by omega), show S 68 22 + 1 - 1 = S 68 22 by omega]
      have kp3 := G3.2.1.1
      unfold tKp at kp3
      have G4 : pG 0 (gW (gW S2 73 (σ 68 10) r) 68 22 (S 68 22)) (gW (gW T2 139 (τ 119 43) (ph S2 r)) 119 29 (S 68 22)) := ((G3.w (by decide)).v (by decide)).u (by rw [gW_c (by decide)]; omega)
      have kf : kE (σ 68 10) (τ 119 43) σ (gW (gW S2 73 (σ 68 10) r) 68 22 (S 68 22)) τ (gW (gW T2 139 (τ 119 43) (ph S2 r)) 119 29 (S 68 22)) := (((((k1.tr k3' (by omega) (by omega)).w (a := 73) (v := r) (by decide) (Int.le_refl _)).v (a := 139) (v := ph S2 r) (by decide) (Int.le_refl _)).o (i := 22) (v := S 68 22) (by decide)).u (i := 29) (v := S 68 22) (by decide))
      have w : ∀ a i, a ≠ 68 → ¬ (a = 73 ∧ i = σ 68 10) → gW (gW S2 73 (σ 68 10) r) 68 22 (S 68 22) a i = S2 a i := fun a i q1 q2 => by
        rw [gW_c q1]; unfold gW; rw [if_neg q2]
      have w73 : gW (gW S2 73 (σ 68 10) r) 68 22 (S 68 22) 73 (σ 68 10) = r := by rw [gW_c (by decide), gW_at]
      have w10 : gW (gW S2 73 (σ 68 10) r) 68 22 (S 68 22) 68 10 = S2 68 10 := by rw [gW_i (by decide), gW_c (by decide)]
      have v : ∀ a i, a ≠ 119 → ¬ (a = 139 ∧ i = τ 119 43) → gW (gW T2 139 (τ 119 43) (ph S2 r)) 119 29 (S 68 22) a i = T2 a i := fun a i q1 q2 => by
        rw [gW_c q1]; unfold gW; rw [if_neg q2]
      have v139 : gW (gW T2 139 (τ 119 43) (ph S2 r)) 119 29 (S 68 22) 139 (τ 119 43) = ph S2 r := by rw [gW_c (by decide), gW_at]
      have ndF : ∀ i, nd (gW (gW S2 73 (σ 68 10) r) 68 22 (S 68 22)) i = nd S2 i := fun i => by rw [nd_w (by omega), nd_w (by omega)]
      have psF : ∀ i, ps (gW (gW S2 73 (σ 68 10) r) 68 22 (S 68 22)) i = ps S2 i := fun i => by
        unfold ps
        rw [w 70 i (by decide) (by omega), w 72 i (by decide) (by omega), ndF, ndF]
      have phF : ∀ i, ph (gW (gW S2 73 (σ 68 10) r) 68 22 (S 68 22)) i = ph S2 i := fun i => by unfold ph; rw [psF]
      have psn : ps S2 (σ 68 10) = τ 119 43 := by unfold ps; rw [if_neg (by rw [q70]; decide), ynd]
      have nl := nd_S (σ := S2) (i := σ 68 10) (by omega) (by rw [q70]; decide)
      have mvP : ∀ (q : Nat) a b x c, σ 68 10 < a → PX S2 T2 q a b x c → PX (gW (gW S2 73 (σ 68 10) r) 68 22 (S 68 22)) (gW (gW T2 139 (τ 119 43) (ph S2 r)) 119 29 (S 68 22)) q a b x c := fun q a b x c ha hp => (((hp.w (e := 73) (i := σ 68 10) (v := r) (by omega) (by omega) (by omega)).w (e := 68) (i := 22) (v := S 68 22) (by omega) (by omega) (by omega)).v (e := 139) (by omega) (by omega)).v (e := 119) (by omega) (by omega)
      have mvN : ∀ a b, σ 68 10 < a → NB S2 T2 0 (σ 68 19 - 1) a b → NB (gW (gW S2 73 (σ 68 10) r) 68 22 (S 68 22)) (gW (gW T2 139 (τ 119 43) (ph S2 r)) 119 29 (S 68 22)) 0 (σ 68 19 - 1) a b := fun a b ha hp => by
        have nla := nd_r (σ := S2) (i := σ 68 10 + 1) (j := a) (by omega) (by omega)
        refine NB.fr hp (by omega) (fun x i x0 x1 x2 i0 i1 => w x i (by omega) (by omega)) (fun i _ _ => ndF i) (fun x j x0 x1 x2 j0 j1 => v x j (by omega) (by omega)) (by rw [gW_cell (by decide), gW_cell (by decide)]) (w 69 2 (by decide) (by omega)) (fun l p e u => ?_)
        exact u.kE (M := 0) (N := 0) ((((kE.rf.w (a := 73) (by decide) (by omega)).v (a := 139) (by decide) (by omega)).o (i := 22) (by decide)).u (i := 29) (by decide)) (by rw [k3'.2.2.1 19 (by decide), s19])
      refine ⟨_, _, rfl, by rw [psF, psn], G4, by rw [← g43]; exact kf, ?_, ?_, ⟨by rw [gW_i (by decide), gW_c (by decide), o3, o1], by rw [gW_at, u1]⟩, ⟨by rw [w 75 _ (by decide) (by omega), q75], by rw [psF, psn, v 141 _ (by decide) (by omega), y141]⟩, by rw [w 69 5 (by decide) (by omega)]; omega⟩
      · rw [w10]
        obtain ⟨d1, h1, h2⟩ := (mvP 0 _ _ _ _ (by omega) p2).two (mvP 2 _ _ _ _ (by omega) px)
        refine ⟨d1 + 1, by omega, Or.inr (Or.inl ⟨by rw [w 70 _ (by decide) (by omega), q70], S 68 10, ?_, ?_, by rw [w 74 _ (by decide) (by omega), q74]⟩)⟩
        · rw [w 72 _ (by decide) (by omega)]; exact h1
        · rw [w73]; exact h2
      · rw [w10]
        refine NB.one (by rw [w 70 _ (by decide) (by omega), q70]; decide) ?_ ((mvN _ _ (by omega) nb2).cat (mvN _ _ (by omega) nb) (by omega))
        refine RN.st (by rw [w 70 _ (by decide) (by omega), q70]; omega) ?_ ?_ ?_ ?_ ?_ ?_ (fun _ => by rw [w 74 _ (by decide) (by omega), q74])
        · rw [ndF, ynd, v 135 _ (by decide) (by omega), y135, w 70 _ (by decide) (by omega), q70]
        · rw [ndF, ynd, v 136 _ (by decide) (by omega), y136, w 71 _ (by decide) (by omega), q71]
        · rw [w 72 _ (by decide) (by omega), w73, w 74 _ (by decide) (by omega), q74, e72]; omega
        · rw [ndF, ynd, v 138 _ (by decide) (by omega), f138, w 72 _ (by decide) (by omega)]
          unfold nh
          rw [if_neg (by omega), ndF]
        · rw [ndF, ynd, v139, w73, phF]
        · rw [ndF, ynd, v 140 _ (by decide) (by omega), y140, w 74 _ (by decide) (by omega), q74]; rfl
    · right
      rw [z1, z2]
      simp only [Option.bind_some]
      rw [if_pos hb]
      exact ⟨_, T2, _, rfl, rfl, (b.w (by decide) (by omega)).w (by decide) (by omega), hb⟩
  · right
    obtain ⟨S2, z1, z2⟩ := block_b (d := d) (b.w (a := 68) (i := 22) (v := w32 (S 68 22 + 1)) (by decide) (by omega))
    rw [e1, e3]
    simp only [Option.bind_some]
    rw [e2]
    simp only [Option.bind_some]
    rw [z1]
    simp only [Option.bind_some]
    rw [if_pos hb]
    exact ⟨_, T, _, rfl, rfl, (z2.w (by decide) (by omega)).w (by decide) (by omega), hb⟩
end S1
