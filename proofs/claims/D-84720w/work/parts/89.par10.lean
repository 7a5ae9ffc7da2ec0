/-! what stands behind something: an index -/
section IX
variable {σ τ : gM} {d d' D : Nat} {M0 : Int}
theorem index_s {x : Int} (ih : XS anyB D (ps_e d) (md_e d')) (ihb : XB (ps_e d)) (G : pG 1 σ τ) (ho : 10 * (20 - σ 68 21) + 20 ≤ (D : Int)) (h4 : τ 119 25 = 34) (hL : PX σ τ 0 M0 (σ 68 10) x 0) (hN : NB σ τ 0 (σ 68 19 - 1) M0 (σ 68 10)) (m0 : 0 ≤ M0) :
    XR (fwd (σ 69 5)) σ τ M0 (if σ 68 21 = 20 then ((tk_fails σ 3 (σ 69 5)).bind fun p3 => ps_behind_b57 d p3.1 x 0) else ps_behind_b57 d σ x 0) ((md_opens τ).bind fun p1 => gtry p1.2 (fun v2 => md_get_b13 d' p1.1 (nd σ x)) (some (p1.1, none))) := by
  have h7 := G.2.2.2.2.2.2.1
  have g43 := G.2.2.2.2.1
  have lb : 0 ≤ M0 ∧ M0 ≤ x ∧ x < σ 68 10 := by
    obtain ⟨dl, hL'⟩ := hL
    exact (PT_ab _ _ _ _ _ _ hL').2.1 (Or.inl rfl)
  -- behind a fault
  have tail : ∀ (S T : gM) (k n : Int), bd k S T → k < 4050 → (0 ≤ n ∧ n < 4200) → ∃ S', ((ps_e d S).bind fun p3 => if 0 ≤ n ∧ n < 4200 then ((ps_closes (gW p3.1 73 n p3.2) 93).bind fun p4 => ps_behind_b186 d p4.1 n) else none) = some (S', n) ∧ bd (k + 1) S' T := by
    intro S T k n b hk hn
    obtain ⟨S2, x1, x2, x3⟩ := ihb S T k b (by omega)
    refine ⟨gW (gW (gW S2 73 n (S 68 10)) 68 21 (w32 (gW S2 73 n (S 68 10) 68 21 - 1))) 78 n 1, ?_, ((x2.w (by decide) (by omega)).w (by decide) (by omega)).w (by decide) (by omega)⟩
    rw [x1]
    simp only [Option.bind_some]
    rw [if_pos hn, ps_closes_b (x2.w (a := 73) (by decide) (by omega)).1]
    simp only [Option.bind_some]
    rw [beh_186 hn]
  by_cases o20 : σ 68 21 = 20
  · have b := bd_of G (k := 3) (p := σ 69 5) (by decide)
    obtain ⟨f1, f2⟩ := fail_s (k := 3) G (p := σ 69 5) (q := τ 119 26) G.2.1.1.1
    have kp := G.2.1.1
    unfold tKp at kp
    have hm := G.2.2.2.1
    have hn := G.1.2.1
    obtain ⟨S1, e1, b1, hb⟩ := ps_node_b (K := 21) b (by omega)
    obtain ⟨S', x1, x2⟩ := tail (gW S1 72 (gW (gW σ 69 8 3) 69 9 (σ 69 5) 68 10) x) _ _ _ (b1.w (a := 72) (by decide) (by omega)) (by omega) hb
    right
    refine ⟨S', _, _, ?_, by rw [md_opens_e, if_pos (by omega), f2]; rfl, x2.le (by omega), hb⟩
    rw [if_pos o20, f1]
    simp only [Option.bind_some]
    rw [ps_behind_b57_e, e1]
    simp only [Option.bind_some]
    rw [if_pos hb, if_pos (by trivial), ps_open_b (b1.w (a := 72) (by decide) (by omega)).1]
    simp only [Option.bind_some]
    exact x1
  · rw [if_neg o20, md_opens_g G (by omega)]
    simp only [Option.bind_some, gtry]
    rw [ps_behind_b57_e, md_get_b13_e]
    rcases nopen_s (K := 21) (x := x) (y := nd σ x) G (by decide) (by omega) (by omega) with ⟨S, T, e1, e2, e3, e4, G1, kk, nn, s72, t138, s10, t43, o1, u1, p1, hb, hc⟩ | ⟨S1, S, T, e1, e2, b, hb, s72, e3⟩
    · have t25 : gW (nM τ 21) 119 28 (σ 68 21 + 1) 119 25 = 34 := by rw [gW_i (by decide), nM_o (by omega) (by omega)]; exact h4
      rw [e1, e3]
      simp only [Option.bind_some, gtry]
      rw [if_pos hb, if_pos (by trivial), if_pos hc, t25, if_neg (by decide), e2, md_get_b41_e, e4]
      simp only [Option.bind_some, gtry]
      rw [if_pos (by trivial)]
      rcases ih S T G1 (by rw [o1]; omega) with ⟨S2, T2, rr, x1, x2, xg, -⟩ | ⟨S2, T2, rr, x1, x2, b, hr⟩
      · have xn := xg.n
        obtain ⟨G2, k2, p2, nb2, o2, u2⟩ := xg
        have n2 : nd S (S 68 10) = τ 119 43 + 1 := by rw [← G1.2.2.2.2.1, t43]
        rw [n2] at k2
        rw [s10] at k2 p2 nb2 xn
        have f19 : S 68 19 = σ 68 19 := (kk (σ 68 10) (τ 119 43) (Int.le_refl _) (Int.le_refl _)).2.2.1 19 (by decide)
        rw [f19] at nb2
        obtain ⟨⟨q70, q71, q73, q74, q75, q76, q77, q78⟩, ⟨y135, y136, y139, y140, y141, y142, y143, y145⟩, ynd⟩ := nn.kE k2 (by omega) (by omega)
        have s72' : S2 72 (σ 68 10) = x := by rw [k2.2.1 72 _ (by decide) (by decide) (by omega), s72]
        have t138' : T2 138 (τ 119 43) = nd σ x := by rw [k2.2.2.2.2.2.2.2.1 138 _ (by decide) (by decide) (by omega), t138]
        rw [x1, x2]
        simp only [Option.bind_some]
        rw [if_pos hb, if_pos hc]
        have G3 : pG 1 (gW S2 73 (σ 68 10) rr) (gW T2 139 (τ 119 43) (nd S2 rr)) := (G2.w (by decide)).v (by decide)
        have s21 : gW S2 73 (σ 68 10) rr 68 21 = σ 68 21 + 1 := by rw [gW_c (by decide), o2, o1]
        rcases ps_closes_s (c := 93) (t := 35) G3 (by omega) (by omega) with ⟨S4, T4, y1, y2, G4, F4, p4, o5⟩ | ⟨S4, T4, y1, y2, b⟩
        · left
          rw [s21, show σ 68 21 + 1 - 1 = σ 68 21 by omega] at F4 o5
          rw [gW_c (by decide)] at p4
          rw [y1, y2]
          simp only [Option.bind_some]
          rw [beh_186 hb]
          have f1 : ∀ a i, a ≠ 69 → a ≠ 68 → a ≠ 73 → S4 a i = S2 a i := fun a i w1 w2 w3 => by rw [F4.1 a w1, gW_c w2, gW_c w3]
          have f2 : ∀ a i, a ≠ 119 → a ≠ 139 → T4 a i = T2 a i := fun a i w1 w2 => by rw [F4.2.2.1 a w1, gW_c w1, gW_c w2]
          have s73 : S4 73 (σ 68 10) = rr := by rw [F4.1 73 (by decide), gW_c (by decide), gW_at]
          have t139 : T4 139 (τ 119 43) = nd S2 rr := by rw [F4.2.2.1 139 (by decide), gW_c (by decide), gW_at]
          have kq : ∀ M N, kE M N (gW S2 73 (σ 68 10) rr) S4 (gW T2 139 (τ 119 43) (nd S2 rr)) T4 := fun M N => ((kE.rf.o (i := 21) (by decide)).u (i := 28) (by decide)).tr (kE.rd (M := M) (N := N) F4 (by rw [gW_c (by decide), gW_c (by decide)]; have := k2.2.2.2.2.1; omega)) (Int.le_refl _) (Int.le_refl _)
          have w : ∀ a i, a ≠ 78 → gW S4 78 (σ 68 10) 1 a i = S4 a i := fun a i q => gW_c q
          have kf : ∀ M N, M ≤ σ 68 10 → N ≤ τ 119 43 → kE M N σ (gW S4 78 (σ 68 10) 1) τ T4 := fun M N hM hN => (((((kk M N hM hN).tr k2 (by omega) (by omega)).w (by decide) hM).v (by decide) hN).tr (kq M N) (Int.le_refl _) (Int.le_refl _)).w (by decide) hM
          have kM := kf (σ 68 10) (τ 119 43) (Int.le_refl _) (Int.le_refl _)
          have ndd : ∀ i, nd (gW S4 78 (σ 68 10) 1) i = nd S2 i := fun i => by rw [nd_w (by omega)]; exact nd_congr fun j _ _ => by rw [f1 70 j (by decide) (by decide) (by decide)]
          have c10 : gW S4 78 (σ 68 10) 1 68 10 = S2 68 10 := by rw [w _ _ (by decide), F4.1 68 (by decide), gW_i (by decide), gW_c (by decide)]
          have ndx : nd S2 x = nd σ x := by
            have := kM.nd (i := x) (by omega)
            rw [ndd] at this
            exact this
          have h30 : S2 70 (σ 68 10) ≠ 30 := by rw [q70]; decide
          have ns := nd_S (σ := S2) (i := σ 68 10) (by omega) h30
          have e73 : ∀ j, nd (gW S2 73 (σ 68 10) rr) j = nd S2 j := fun j => nd_w (by omega)
          refine ⟨_, T4, σ 68 10, rfl, by rw [ndd, ynd], ⟨(G4.le (by decide)).w (by decide), kf M0 (nd σ M0) (by omega) (by rw [g43]; exact (nd_r m0 (by omega)).1), ?_, ?_, by rw [w _ _ (by decide)]; exact o5, by rw [w _ _ (by decide), F4.1 68 (by decide), gW_i (by decide), gW_c (by decide), u2, u1]⟩, ?_, by rw [w _ _ (by decide)]; have := k2.2.2.2.2.1; omega⟩
          · rw [c10]
            refine PX.get (by rw [w _ _ (by decide), f1 70 _ (by decide) (by decide) (by decide), q70]) ?_ (Or.inr ⟨by rw [w _ _ (by decide), s73]; omega, ?_⟩) (by rw [w _ _ (by decide), f1 74 _ (by decide) (by decide) (by decide), q74])
            · rw [w _ _ (by decide), f1 72 _ (by decide) (by decide) (by decide), s72']
              exact hL.kE kM m0 (Int.le_refl _) (by rw [g43]; exact Int.le_refl _)
            · rw [w _ _ (by decide), s73]
              exact (((p2.w (e := 73) (i := σ 68 10) (v := rr) (by omega) (by omega) (by omega)).v (e := 139) (by omega) (by omega)).kE (kq (S2 68 10) (nd S2 (S2 68 10))) (by omega) (Int.le_refl _) (by rw [e73]; exact Int.le_refl _)).w (by omega) (by omega) (by omega)
          · rw [c10]
            refine (hN.kE kM rfl m0 (Int.le_refl _) (by rw [g43]; exact Int.le_refl _)).cat (NB.one (by rw [w _ _ (by decide), f1 70 _ (by decide) (by decide) (by decide), q70]; decide) ?_ ?_) (by omega)
            · have nm : ∀ S : gM, nh S (-1) = -1 := fun _ => rfl
              have nx : nh (gW S4 78 (σ 68 10) 1) x = nd σ x := by
                unfold nh
                rw [if_neg (by omega), ndd, ndx]
              have nr : nh (gW S4 78 (σ 68 10) 1) rr = nd S2 rr := by
                unfold nh
                rw [if_neg (by omega), ndd]
              unfold RN
              rw [ndd, ynd, w 70 _ (by decide), w 71 _ (by decide), w 72 _ (by decide), w 73 _ (by decide), w 74 _ (by decide), f1 70 _ (by decide) (by decide) (by decide), f1 71 _ (by decide) (by decide) (by decide), f1 72 _ (by decide) (by decide) (by decide), s73, f1 74 _ (by decide) (by decide) (by decide), q70, q71, s72', q74, f2 135 _ (by decide) (by decide), f2 136 _ (by decide) (by decide), f2 138 _ (by decide) (by decide), t139, f2 140 _ (by decide) (by decide), y135, y136, t138', y140, nm, nx, nr]
              refine ⟨by omega, rfl, by omega, by simp, fun _ => by simp, by simp, fun u => by omega, fun u => by omega, fun u => by omega⟩
            · have nb3 := (nb2.w (e := 73) (k := σ 68 10) (v := rr) (by decide) (by omega) (by omega)).v (e := 139) (k := τ 119 43) (v := nd S2 rr) (by omega) (by decide) (by rw [e73, e73]; omega)
              exact (nb3.kE (kq (S2 68 10) (nd S2 (S2 68 10))) (by rw [gW_c (by decide), k2.2.2.1 19 (by decide), f19]) (by omega) (Int.le_refl _) (by rw [e73]; exact Int.le_refl _)).w (by decide) (by omega) (by omega)
          · refine ⟨Or.inl ⟨gW_at _ _ _ _, ?_, Or.inr (by rw [w _ _ (by decide), f1 70 _ (by decide) (by decide) (by decide), q70])⟩, by rw [w _ _ (by decide), f1 75 _ (by decide) (by decide) (by decide), q75], by rw [ndd, ynd, f2 141 _ (by decide) (by decide), y141]⟩
            rw [ndd, ynd, f2 145 _ (by decide) (by decide), y145]
        · right
          rw [y1, y2]
          simp only [Option.bind_some]
          rw [beh_186 hb]
          exact ⟨_, T4, σ 68 10, rfl, rfl, (b.le (by rw [gW_c (by decide)]; omega)).w (by decide) (by omega), hb⟩
      · right
        rw [x1, x2]
        simp only [Option.bind_some]
        rw [if_pos hb, ps_closes_b (b.w (a := 73) (by decide) (by omega)).1]
        simp only [Option.bind_some]
        rw [beh_186 hb]
        exact ⟨_, T2, σ 68 10, rfl, rfl, ((b.w (by decide) (by omega)).w (by decide) (by omega)).w (by decide) (by omega), hb⟩
    · right
      obtain ⟨S', x1, x2⟩ := tail S T 4006 (σ 68 10) b (by decide) hb
      refine ⟨S', T, σ 68 10, ?_, ?_, x2.le (by decide), hb⟩
      · rw [e1]
        simp only [Option.bind_some]
        rw [if_pos hb, if_pos (by trivial), e2]
        simp only [Option.bind_some]
        exact x1
      · rcases e3 with e3 | ⟨e3, e4, hc⟩
        · rw [e3]; rfl
        · have t25 : gW (nM τ 21) 119 28 (σ 68 21 + 1) 119 25 = 34 := by rw [gW_i (by decide), nM_o (by omega) (by omega)]; exact h4
          rw [e3]
          simp only [Option.bind_some, gtry]
          rw [if_pos hc, t25, if_neg (by decide), md_get_b41_e, e4]
          rfl
end IX
