/-! return; what is only worked out; all statements -/
section S4
variable {σ τ S T : gM} {d d' : Nat}
theorem b163_b {k n : Int} (b : bd k S T) : ps_statement_b163 d S n = some (S, n) := by
  rw [ps_statement_b163_e, ps_good_b b.1]
  simp only [Option.bind_some]
  rw [if_pos (by trivial), ps_statement_b192_e, ps_must_b b.1]
  rfl
theorem ret_s (G : pG 0 σ τ) (h4 : τ 119 25 ≠ 0) : SR σ τ ((ps_node σ 26).bind fun p9 => (ps_good p9.1).bind fun p10 => if p10.2 = 0 then (ps_statement_b163 d p10.1 p9.2) else ((tk_read p10.1).bind fun p11 => ps_statement_b163 d p11.1 p9.2))
    ((md_newNode τ 26).bind fun p3 => gtry p3.2 (fun v4 => (md_take p3.1).bind fun p5 => gtry p5.2 (fun v6 => if p5.1 119 25 = 37 then (md_statement_b258 d' p5.1 v4) else ((md_e 300 p5.1).bind fun p7 => gtry p7.2 (fun v8 => if 0 ≤ v4 ∧ v4 < 4004 then (md_statement_b258 d' (gW p7.1 138 v4 v8) v4) else none) (some (p7.1, none)))) (some (p5.1, none))) (some (p3.1, none))) := by
  have hmm := G.2.2.2.1
  have g43 := G.2.2.2.2.1
  by_cases q : σ 68 20 = 300
  · obtain ⟨S, T, e1, e2, b, hb, -⟩ := node_x (K := 26) G (by decide) q
    right
    rw [e1, e2]
    simp only [Option.bind_some]
    rw [ps_good_b b.1]
    simp only [Option.bind_some]
    rw [if_pos (by trivial), b163_b b]
    exact ⟨S, T, σ 68 10, rfl, rfl, b.le (by omega), by omega⟩
  · obtain ⟨e1, e2, hb, hc⟩ := node_g (K := 26) G (by decide) q
    obtain ⟨G1, n1⟩ := pG_node G q (by decide : (26 : Int) ≠ 30)
    have nn := nf_new (K := 26) G
    have s10 : nC σ 26 68 10 = σ 68 10 + 1 := nC_n.1
    have t43 : nM τ 26 119 43 = τ 119 43 + 1 := nM_n.1
    have s72 : nC σ 26 72 (σ 68 10) = -1 := nC_n.2.2.2.2.1
    have t138 : nM τ 26 138 (τ 119 43) = -1 := nM_n.2.2.2.1
    rw [e1, e2]
    simp only [Option.bind_some, gtry]
    rw [ps_good_g G1.2.2.1]
    simp only [Option.bind_some]
    rw [if_neg (by decide)]
    rcases rd_p G1 (by rw [nM_o (by omega) (by omega)]; exact h4) with ⟨S, T, a1, a2, G2, F, a5⟩ | ⟨S, T, a1, a2, b, F⟩
    · rw [a1, a2]
      simp only [Option.bind_some]
      have k1 : ∀ M N, kE M N (nC σ 26) S (nM τ 26) T := fun M N => kE.rd F (by omega)
      have k0 : kE (σ 68 10) (τ 119 43) σ S τ T := (kE_node (Int.le_refl _) (Int.le_refl _)).tr (k1 _ _) (Int.le_refl _) (Int.le_refl _)
      have e10 : S 68 10 = σ 68 10 + 1 := by rw [F.1 68 (by decide), s10]
      have e43 : T 119 43 = τ 119 43 + 1 := by rw [F.2.2.2 43 (by omega) (by decide) (by decide), t43]
      have e21 : S 68 21 = σ 68 21 := by rw [F.1 68 (by decide)]; exact nC_o (by omega) (by omega)
      have e22 : S 68 22 = σ 68 22 := by rw [F.1 68 (by decide)]; exact nC_o (by omega) (by omega)
      have e19 : S 68 19 = σ 68 19 := k0.2.2.1 19 (by decide)
      have n2 := nn.kE (k1 (σ 68 10 + 1) (τ 119 43 + 1)) (by omega) (by omega)
      have q72 : S 72 (σ 68 10) = -1 := by rw [F.1 72 (by decide), s72]
      have y138 : T 138 (τ 119 43) = -1 := by rw [F.2.2.1 138 (by decide), t138]
      rw [ps_statement_b163_e, ps_good_g G2.2.2.1]
      simp only [Option.bind_some]
      rw [if_neg (by decide), tk_is_s G2.2.1.2 G2.2.2.1 (c := 59) (t := 37) (by unfold sG; decide)]
      simp only [Option.bind_some]
      by_cases z : T 119 25 = 37
      · obtain ⟨⟨q70, q71, q73, q74, q75, q76, q77, q78⟩, ⟨y135, y136, y139, y140, y141, y142, y143, y145⟩, ynd⟩ := n2
        rw [if_pos z, if_pos z, if_neg (by decide), ps_statement_b192_e, md_statement_b258_e]
        refine semi_s G (G2.le (by decide)) (by rw [← g43]; exact k0) (PX.ret (sDp_0 G) hb.1 q70 (Or.inl ⟨q72, e10⟩) q73 q74) ?_ ⟨e21, e22⟩ ⟨q75, y141⟩ (by unfold ps; rw [if_neg (by omega), ynd])
        rw [e10]
        refine NB.one (by omega) ?_ NB.nil
        refine RN.op (by omega) (by rw [ynd, y135, q70]) (by rw [ynd, y136, q71]) (by omega) ?_ ?_ ?_
        · rw [ynd, y138, q72]; rfl
        · rw [ynd, y139, q73]; rfl
        · rw [ynd, y140, q74]; rfl
      · rw [if_neg z, if_neg z, if_pos (by trivial)]
        have h7 := G.2.2.2.2.2.2.1
        rcases e_all S T (G2.le (by decide)) (by omega) with ⟨S3, T3, r, x1, x2, xg, xa⟩ | ⟨S3, T3, r, x1, x2, b, hr⟩
        · rw [x1, x2]
          simp only [Option.bind_some]
          have xn := xg.n
          obtain ⟨G3, k3, p3, nb3, o3, u3⟩ := xg
          have n3 : nd S (S 68 10) = τ 119 43 + 1 := by rw [← G2.2.2.2.2.1, e43]
          rw [n3] at k3
          rw [e10] at k3 p3 nb3 xn
          rw [e19] at nb3
          obtain ⟨⟨q70, q71, q73, q74, q75, q76, q77, q78⟩, ⟨y135, y136, y139, y140, y141, y142, y143, y145⟩, ynd⟩ := n2.kE k3 (by omega) (by omega)
          rw [if_pos (show 0 ≤ σ 68 10 ∧ σ 68 10 < 4200 by omega), if_pos (show 0 ≤ τ 119 43 ∧ τ 119 43 < 4004 from hc), ps_statement_b192_e, md_statement_b258_e]
          have w : ∀ a i, ¬ (a = 72 ∧ i = σ 68 10) → gW S3 72 (σ 68 10) r a i = S3 a i := fun a i q2 => by unfold gW; rw [if_neg q2]
          have w72 : gW S3 72 (σ 68 10) r 72 (σ 68 10) = r := gW_at _ _ _ _
          have v : ∀ a i, ¬ (a = 138 ∧ i = τ 119 43) → gW T3 138 (τ 119 43) (nd S3 r) a i = T3 a i := fun a i q2 => by unfold gW; rw [if_neg q2]
          have v138 : gW T3 138 (τ 119 43) (nd S3 r) 138 (τ 119 43) = nd S3 r := gW_at _ _ _ _
          have ndF : ∀ i, nd (gW S3 72 (σ 68 10) r) i = nd S3 i := fun i => nd_w (by omega)
          have w10 : gW S3 72 (σ 68 10) r 68 10 = S3 68 10 := w 68 10 (by omega)
          have nl := nd_S (σ := S3) (i := σ 68 10) (by omega) (by rw [q70]; decide)
          have PP : PX (gW S3 72 (σ 68 10) r) (gW T3 138 (τ 119 43) (nd S3 r)) 0 (σ 68 10 + 1) (S3 68 10) r 0 := (p3.w (e := 72) (i := σ 68 10) (v := r) (by omega) (by omega) (by omega)).v (e := 138) (by omega) (by omega)
          have NN : NB (gW S3 72 (σ 68 10) r) (gW T3 138 (τ 119 43) (nd S3 r)) 0 (σ 68 19 - 1) (σ 68 10 + 1) (S3 68 10) := by
            refine NB.fr nb3 (by omega) (fun x i x0 x1 x2 i0 i1 => w x i (by omega)) (fun i _ _ => ndF i) (fun x j x0 x1 x2 j0 j1 => v x j (by omega)) (gW_cell (by decide)) (w 69 2 (by omega)) (fun l p e u => ?_)
            exact u.kE (M := 0) (N := 0) ((kE.rf.w (a := 72) (by decide) (by omega)).v (a := 138) (by decide) (by omega)) (by rw [k3.2.2.1 19 (by decide), e19])
          refine semi_s G ((G3.w (by decide)).v (by decide)) (by rw [← g43]; exact ((k0.tr k3 (by omega) (by omega)).w (by decide) (Int.le_refl _)).v (by decide) (Int.le_refl _)) (PX.ret (sDp_0 G) hb.1 (by rw [w 70 _ (by omega), q70]) (Or.inr (by rw [w72, w10]; exact PP)) (by rw [w 73 _ (by omega), q73]) (by rw [w 74 _ (by omega), q74])) ?_ ⟨by rw [w 68 21 (by omega), o3, e21], by rw [w 68 22 (by omega), u3, e22]⟩ ⟨by rw [w 75 _ (by omega), q75], by rw [v 141 _ (by omega), y141]⟩ (by unfold ps; rw [w 70 _ (by omega), if_neg (by omega), ndF, ynd])
          rw [w10]
          refine NB.one (by rw [w 70 _ (by omega)]; omega) ?_ NN
          refine RN.op (by rw [w 70 _ (by omega)]; omega) (by rw [ndF, ynd, v 135 _ (by omega), y135, w 70 _ (by omega), q70]) (by rw [ndF, ynd, v 136 _ (by omega), y136, w 71 _ (by omega), q71]) (by rw [w72, w 73 _ (by omega), w 74 _ (by omega)]; omega) ?_ ?_ ?_
          · rw [ndF, ynd, v138, w72]; unfold nh; rw [if_neg (by omega), ndF]
          · rw [ndF, ynd, v 139 _ (by omega), y139, w 73 _ (by omega), q73]; rfl
          · rw [ndF, ynd, v 140 _ (by omega), y140, w 74 _ (by omega), q74]; rfl
        · right
          rw [x1, x2]
          simp only [Option.bind_some]
          rw [if_pos (show 0 ≤ σ 68 10 ∧ σ 68 10 < 4200 by omega), ps_statement_b192_e, ps_must_b (b.w (a := 72) (by decide) (by omega)).1]
          exact ⟨_, T3, σ 68 10, rfl, rfl, b.w (by decide) (by omega), by omega⟩
    · right
      rw [a1, a2]
      simp only [Option.bind_some]
      rw [b163_b b]
      exact ⟨S, T, σ 68 10, rfl, rfl, b.le (by omega), by omega⟩
/-- a node of the component's own -/
theorem pG_blank {z : Int} (G : pG z σ τ) : pG (z + 1) (bK σ 30) τ ∧ nd (bK σ 30) (σ 68 10 + 1) = nd σ (σ 68 10) := by
  have c : ∀ a, (a < 68 ∨ a = 69 ∨ 78 < a) → bK σ 30 a = σ a := fun a q => funext fun i => bK_o (by omega) (by omega)
  have n := @bK_n σ 30
  have G' := G
  obtain ⟨h1, -, h3, h4, h5, h6, h7, h8, h9, h10⟩ := G
  have e : nd (bK σ 30) (σ 68 10 + 1) = nd σ (σ 68 10) := by
    rw [nd_s h4.1, n.2.1, if_pos rfl, nd_bK (Int.le_refl _)]; omega
  refine ⟨G'.mv (c 69 (by omega)) (c 1 (by omega)) (c 118 (by omega)) (c 84 (by omega)) (c 85 (by omega)) (c 86 (by omega)) (by rw [n.1]; omega) ?_ ?_ ?_ ?_ (bK_o (by omega) (by omega)) (fun i q1 q2 => rfl) rfl rfl rfl rfl rfl, e⟩
  · rw [n.1, e, h5]
  · rw [bK_o (i := 20) (by omega) (by omega)]; exact h6
  · rw [bK_o (i := 21) (by omega) (by omega)]; exact h7
  · rw [bK_o (i := 22) (by omega) (by omega)]; exact h8
theorem kE_blank {M N : Int} (hM : M ≤ σ 68 10) : kE M N σ (bK σ 30) τ τ := by
  have n := @bK_n σ 30
  exact ⟨fun a q => funext fun i => bK_o (by omega) (by omega), fun a i q1 q2 q3 => bK_o (Or.inr (by omega)) (by omega), fun i q => bK_o (by omega) (by omega), fun i q => bK_o (by omega) (by omega), ⟨by rw [n.1]; omega, by rw [bK_o (by omega) (by omega)]; exact Int.le_refl _, fun hj => hj⟩, ⟨by rw [bK_o (by omega) (by omega)]; exact Int.le_refl _, fun g _ => ⟨bK_o (by omega) (by omega), rfl⟩, fun j _ => ⟨bK_o (by omega) (by omega), bK_o (by omega) (by omega), rfl, rfl⟩⟩, fun a q1 q2 q3 => rfl, fun a j q1 q2 q3 => rfl, fun i q1 q2 => rfl⟩
/-- what is only worked out -/
theorem does_s (G : pG 0 σ τ) : SR σ τ ((ps_blank σ (σ 68 10) 30).bind fun p6 => (ps_e 300 p6.1).bind fun p7 => if 0 ≤ p6.2 ∧ p6.2 < 4200 then ((ps_must (gW p7.1 72 p6.2 p7.2) 59).bind fun p8 => some (p8.1, p6.2)) else none)
    ((md_e 300 τ).bind fun p1 => gtry p1.2 (fun v2 => md_statement_b258 d' p1.1 v2) (some (p1.1, none))) := by
  have hmm := G.2.2.2.1
  have h7 := G.2.2.2.2.2.2.1
  have kp := G.2.1.1
  unfold tKp at kp
  have hl := G.1.2.1
  have hb : 0 ≤ σ 68 10 ∧ σ 68 10 < 4200 := by omega
  obtain ⟨G1, n1⟩ := pG_blank G
  have bn := @bK_n σ 30
  have b21 : bK σ 30 68 21 = σ 68 21 := bK_o (by omega) (by omega)
  have b22 : bK σ 30 68 22 = σ 68 22 := bK_o (by omega) (by omega)
  have b19 : bK σ 30 68 19 = σ 68 19 := bK_o (by omega) (by omega)
  rw [ps_blank_s hb]
  simp only [Option.bind_some]
  rcases e_all (bK σ 30) τ G1 (by rw [b21]; omega) with ⟨S3, T3, r, x1, x2, xg, xa⟩ | ⟨S3, T3, r, x1, x2, b, hr⟩
  · rw [x1, x2]
    simp only [Option.bind_some, gtry]
    rw [if_pos hb, md_statement_b258_e]
    have xn := xg.n
    obtain ⟨G3, k3, p3, nb3, o3, u3⟩ := xg
    rw [bn.1] at k3 p3 nb3 xn
    rw [n1] at k3
    rw [b19] at nb3
    have c : ∀ a, 70 ≤ a → a ≤ 78 → S3 a (σ 68 10) = bK σ 30 a (σ 68 10) := fun a q1 q2 => k3.2.1 a _ q1 q2 (by omega)
    have q70 : S3 70 (σ 68 10) = 30 := by rw [c 70 (by decide) (by decide), bn.2.1]
    have q75 : S3 75 (σ 68 10) = -1 := by rw [c 75 (by decide) (by decide), bn.2.2.2.2.2.2.1]
    have w : ∀ a i, ¬ (a = 72 ∧ i = σ 68 10) → gW S3 72 (σ 68 10) r a i = S3 a i := fun a i q2 => by unfold gW; rw [if_neg q2]
    have w72 : gW S3 72 (σ 68 10) r 72 (σ 68 10) = r := gW_at _ _ _ _
    have ndF : ∀ i, nd (gW S3 72 (σ 68 10) r) i = nd S3 i := fun i => nd_w (by omega)
    have w10 : gW S3 72 (σ 68 10) r 68 10 = S3 68 10 := w 68 10 (by omega)
    have PP : PX (gW S3 72 (σ 68 10) r) T3 0 (σ 68 10 + 1) (S3 68 10) r 0 := p3.w (e := 72) (i := σ 68 10) (v := r) (by omega) (by omega) (by omega)
    have NN : NB (gW S3 72 (σ 68 10) r) T3 0 (σ 68 19 - 1) (σ 68 10 + 1) (S3 68 10) := by
      refine NB.fr nb3 (by omega) (fun x i x0 x1 x2 i0 i1 => w x i (by omega)) (fun i _ _ => ndF i) (fun x j x0 x1 x2 j0 j1 => rfl) rfl (w 69 2 (by omega)) (fun l p e u => ?_)
      exact u.kE (M := 0) (N := 0) (kE.rf.w (a := 72) (by decide) (by omega)) (by rw [k3.2.2.1 19 (by decide), b19])
    refine semi_s G (G3.w (by decide)) (((kE_blank (Int.le_refl _)).tr k3 (by omega) (Int.le_refl _)).w (by decide) (Int.le_refl _)) ?_ ?_ ⟨by rw [w 68 21 (by omega), o3, b21], by rw [w 68 22 (by omega), u3, b22]⟩ ⟨by rw [w 75 _ (by omega), q75], xa.2⟩ (by unfold ps; rw [w 70 _ (by omega), if_pos q70, w72, ndF])
    · rw [w10]
      obtain ⟨d, h⟩ := PP
      have k0 := sDp_0 G
      exact ⟨d + 1, by omega, Or.inr (Or.inr (Or.inr (Or.inr ⟨by rw [w 70 _ (by omega), q70], by rw [w72]; exact h⟩)))⟩
    · rw [w10]
      intro i i0 i1
      by_cases e : i = σ 68 10
      · rw [e, w 70 _ (by omega), w72]
        exact ⟨fun z => (z q70).elim, fun _ => by omega⟩
      · exact NN i (by omega) i1
  · right
    rw [x1, x2]
    simp only [Option.bind_some]
    rw [if_pos hb, ps_must_b (b.w (a := 72) (by decide) (by omega)).1]
    exact ⟨_, T3, σ 68 10, rfl, rfl, b.w (by decide) (by omega), hb⟩
/-- all of them -/
theorem statement_s (ihb : ∀ σ τ, pG 0 σ τ → 2 * (21 - σ 68 21) ≤ (d : Int) + 1 → BR σ τ (ps_block (d + 1) σ) (md_block (d + 1) τ)) (G : pG 0 σ τ) (hd : 2 * (21 - σ 68 21) ≤ (d : Int) + 1) : SR σ τ (ps_statement (d + 2) σ) (md_statement (d + 2) τ) := by
  have i : ∀ x p t, wS x p t → tk_isWord_2 σ x = some (σ, if τ 119 25 = t then 1 else 0) := fun x p t h => tk_isWord_2_s G.1 G.2.1 G.2.2.1 h
  rw [ps_statement_e, md_statement_e, i 15 9 11 (by unfold wS; decide)]
  simp only [Option.bind_some]
  by_cases a1 : τ 119 25 = 11
  · rw [if_pos a1, if_pos a1, if_neg (by decide), md_statement_b18_e, if_pos a1, a1]
    exact if_s ihb G hd a1
  · rw [if_neg a1, if_neg a1, if_pos (by trivial), i 17 17 13 (by unfold wS; decide)]
    simp only [Option.bind_some]
    by_cases a2 : τ 119 25 = 13
    · rw [if_pos a2, if_pos a2, if_neg (by decide), md_statement_b18_e, if_neg a1, a2]
      exact while_s ihb G hd a2
    · rw [if_neg a2, if_neg a2, if_pos (by trivial), i 18 23 14 (by unfold wS; decide)]
      simp only [Option.bind_some]
      by_cases a3 : τ 119 25 = 14
      · rw [if_pos a3, if_pos a3, if_neg (by decide)]
        exact ret_s G (by omega)
      · rw [if_neg a3, if_neg a3, if_pos (by trivial), i 19 30 15 (by unfold wS; decide)]
        simp only [Option.bind_some]
        by_cases a4 : τ 119 25 = 15
        · rw [if_pos a4, if_pos a4, if_neg (by decide), ps_statement_b225_e, i 19 30 15 (by unfold wS; decide), md_statement_b208_e, if_pos a4]
          simp only [Option.bind_some]
          rw [if_pos a4, if_neg (by decide)]
          exact jump_s (Or.inl rfl) G (by omega)
        · rw [if_neg a4, if_neg a4, if_pos (by trivial), i 20 36 16 (by unfold wS; decide)]
          simp only [Option.bind_some]
          by_cases a5 : τ 119 25 = 16
          · rw [if_pos a5, if_pos a5, if_neg (by decide), ps_statement_b225_e, i 19 30 15 (by unfold wS; decide), md_statement_b208_e, if_neg a4]
            simp only [Option.bind_some]
            rw [if_neg a4, if_pos (by trivial)]
            exact jump_s (Or.inr rfl) G (by omega)
          · rw [if_neg a5, if_neg a5, if_pos (by trivial)]
            exact does_s G
/-- blocks of every depth -/
theorem block_all : ∀ (k : Nat) (σ τ : gM), pG 0 σ τ → 2 * (21 - σ 68 21) ≤ ((2 * k + 1 : Nat) : Int) + 1 → BR σ τ (ps_block (2 * k + 1 + 1) σ) (md_block (2 * k + 1 + 1) τ)
  | 0, σ, τ, G, hd => by
    refine block_s (fun S T g o h => ?_) G hd
    have := g.2.2.2.2.2.2.1
    omega
  | k + 1, σ, τ, G, hd => by
    refine block_s (fun S T g o h => ?_) G hd
    exact statement_s (d := 2 * k + 1) (block_all k) g (by omega)
theorem block_60 (G : pG 0 σ τ) : BR σ τ (ps_block 60 σ) (md_block 60 τ) := block_all 29 σ τ G (by have := G.2.2.2.2.2.2.1; omega)
end S4
