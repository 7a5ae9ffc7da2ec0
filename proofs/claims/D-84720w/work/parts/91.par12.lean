/-! calls, what stands behind something, rows of it -/
section CA
variable {σ τ : gM} {d d' D : Nat} {M0 : Int}
theorem PX.call {S T : gM} {a b n : Int} (h70 : S 70 n = 23) (hl : PX S T 0 a n (S 72 n) 0) (hr : PX S T 1 (n + 1) b (S 73 n) (S 76 n)) (h74 : S 74 n = -1) : PX S T 0 a b n 0 := by
  obtain ⟨d, h1, h2⟩ := hl.two hr
  have a1 := (PT_ab _ _ _ _ _ _ h1).2.1 (Or.inl rfl)
  have a2 := (PT_ab _ _ _ _ _ _ h2).1
  exact ⟨d + 1, by omega, Or.inr (Or.inr (Or.inr (Or.inr (Or.inr ⟨h70, h1, h2, h74⟩))))⟩
theorem call_s {x : Int} (ih : XS anyB D (ps_e d) (md_e d')) (G : pG 1 σ τ) (ho : 10 * (20 - σ 68 21) + 20 ≤ (D : Int)) (h4 : τ 119 25 = 30) (hL : PX σ τ 0 M0 (σ 68 10) x 0) (hN : NB σ τ 0 (σ 68 19 - 1) M0 (σ 68 10)) (m0 : 0 ≤ M0) :
    XR (fwd (σ 69 5)) σ τ M0 (ps_call (d + 1) σ x) (md_call (d' + 1) τ (nd σ x)) := by
  have h7 := G.2.2.2.2.2.2.1
  have g43 := G.2.2.2.2.1
  have lb : 0 ≤ M0 ∧ M0 ≤ x ∧ x < σ 68 10 := by
    obtain ⟨dl, hL'⟩ := hL
    exact (PT_ab _ _ _ _ _ _ hL').2.1 (Or.inl rfl)
  -- behind a fault
  have tail : ∀ (S T : gM) (k n : Int), bd k S T → (0 ≤ n ∧ n < 4200) → ∃ S', ((ps_good S).bind fun p3 => if p3.2 = 0 then ps_call_b71 d p3.1 n 0 (-1) else ((tk_is p3.1 41).bind fun p4 => if p4.2 = 0 then ps_call_b72 d p4.1 n 0 (-1) 1 else ps_call_b71 d p4.1 n 0 (-1))) = some (S', n) ∧ bd k S' T := by
    intro S T k n b hn
    refine ⟨gW (gW S 68 21 (w32 (S 68 21 - 1))) 76 n 0, ?_, (b.w (by decide) (by omega)).w (by decide) (by omega)⟩
    rw [ps_good_b b.1]
    simp only [Option.bind_some]
    rw [if_pos (by trivial), ps_call_b71_e, ps_call_b72_e, ps_call_b74_e, if_pos (by trivial), ps_closes_b b.1]
    simp only [Option.bind_some]
    rw [if_pos hn]
  rw [ps_call_e, md_call_e]
  by_cases o20 : σ 68 21 = 20
  · have b := bd_of G (k := 3) (p := σ 69 5) (by decide)
    obtain ⟨f1, f2⟩ := fail_s (k := 3) G (p := σ 69 5) (q := τ 119 26) G.2.1.1.1
    have kp := G.2.1.1
    unfold tKp at kp
    have hm := G.2.2.2.1
    have hn := G.1.2.1
    obtain ⟨S1, e1, b1, hb⟩ := ps_node_b (K := 23) b (by omega)
    obtain ⟨S', x1, x2⟩ := tail (gW S1 72 (gW (gW σ 69 8 3) 69 9 (σ 69 5) 68 10) x) _ _ _ (b1.w (a := 72) (by decide) (by omega)) hb
    right
    refine ⟨S', _, _, ?_, by rw [md_opens_e, if_pos (by omega), f2]; rfl, x2.le (by omega), hb⟩
    rw [if_pos o20, f1]
    simp only [Option.bind_some]
    rw [ps_call_b25_e, e1]
    simp only [Option.bind_some]
    rw [if_pos hb, ps_open_b (b1.w (a := 72) (by decide) (by omega)).1]
    simp only [Option.bind_some]
    exact x1
  · rw [if_neg o20, md_opens_g G (by omega)]
    simp only [Option.bind_some, gtry]
    rw [ps_call_b25_e]
    rcases nopen_s (K := 23) (x := x) (y := nd σ x) G (by decide) (by omega) (by omega) with ⟨S, T, e1, e2, e3, e4, G1, kk, nn, s72, t138, s10, t43, o1, u1, p1, hb, hc⟩ | ⟨S1, S, T, e1, e2, b, hb, s72, e3⟩
    · rw [e1, e3]
      simp only [Option.bind_some]
      rw [if_pos hb, if_pos hc, e2, e4]
      simp only [Option.bind_some]
      rw [ps_good_g G1.2.2.1]
      simp only [Option.bind_some]
      rw [if_neg (by decide), tk_is_s G1.2.1.2 G1.2.2.1 (c := 41) (t := 31) (by unfold sG; decide)]
      simp only [Option.bind_some]
      obtain ⟨⟨q70, q71, q73, q74, q75, q76, q77, q78⟩, ⟨y135, y136, y139, y140, y141, y142, y143, y145⟩, ynd⟩ := nn
      have I : AI S T (σ 68 10) 0 (-1) := ⟨⟨by omega, by omega, q70⟩, by omega, by omega, Or.inl ⟨rfl, q73, by rw [ynd]; exact y139⟩⟩
      have fin : ∀ X Y, AR S T (σ 68 10) 0 (-1) X Y → XR (fwd (σ 69 5)) σ τ M0 X Y := by
        intro X Y h
        rcases h with ⟨S2, T2, z1, z2, ag⟩ | ⟨S2, T2, z1, z2, b⟩
        · left
          obtain ⟨G2, ⟨o2, u2⟩, k2, fa, fb, px, lk, nb⟩ := ag
          rw [ynd] at z2 k2 fb lk
          rw [if_pos (by decide)] at px lk
          rw [s10] at px nb
          have f19 : S 68 19 = σ 68 19 := (kk (σ 68 10) (τ 119 43) (Int.le_refl _) (Int.le_refl _)).2.2.1 19 (by decide)
          rw [f19] at nb
          have fc : ∀ e, 70 ≤ e → e ≤ 78 → e ≠ 76 → e ≠ 73 → S2 e (σ 68 10) = S e (σ 68 10) := fun e e0 e1 e2 e3 => fa e _ e0 e1 (Int.le_refl _) (by omega) (by omega) (by omega) (by omega)
          have ft : ∀ e, 135 ≤ e → e ≤ 145 → e ≠ 139 → T2 e (τ 119 43) = T e (τ 119 43) := fun e e0 e1 e2 => fb e _ e0 e1 (Int.le_refl _) (by omega) (by omega) (by omega)
          have kf : ∀ M N, M ≤ σ 68 10 → N ≤ τ 119 43 → kE M N σ S2 τ T2 := fun M N hM hN => (kk M N hM hN).tr k2 hM hN
          have kM := kf (σ 68 10) (τ 119 43) (Int.le_refl _) (Int.le_refl _)
          have s70 : S2 70 (σ 68 10) = 23 := by rw [fc 70 (by decide) (by decide) (by decide) (by decide), q70]
          have n2 : nd S2 (σ 68 10) = τ 119 43 := by rw [kM.nd (Int.le_refl _), g43]
          have pl := (PT_ab _ _ _ _ _ _ px.choose_spec)
          have a73 : S2 73 (σ 68 10) = -1 ∨ (σ 68 10 + 1 ≤ S2 73 (σ 68 10) ∧ S2 73 (σ 68 10) < S2 68 10) := by omega
          refine ⟨S2, T2, σ 68 10, z1, by rw [n2]; exact z2, ⟨G2, kf M0 (nd σ M0) (by omega) (by rw [g43]; exact (nd_r m0 (by omega)).1), ?_, ?_, by omega, by rw [u2, u1]⟩, ⟨Or.inr ⟨by rw [fc 78 (by decide) (by decide) (by decide) (by decide), q78], Or.inr (by rw [s70]; decide)⟩, by rw [fc 75 (by decide) (by decide) (by decide) (by decide), q75], by rw [n2, ft 141 (by decide) (by decide) (by decide), y141]⟩, by have := k2.2.2.2.2.1; omega⟩
          · refine PX.call s70 ?_ ?_ (by rw [fc 74 (by decide) (by decide) (by decide) (by decide), q74])
            · rw [fc 72 (by decide) (by decide) (by decide) (by decide), s72]
              exact hL.kE kM m0 (Int.le_refl _) (by rw [g43]; exact Int.le_refl _)
            · rw [show S2 76 (σ 68 10) - 0 = S2 76 (σ 68 10) by omega] at px
              exact px
          · refine (hN.kE kM rfl m0 (Int.le_refl _) (by rw [g43]; exact Int.le_refl _)).cat (NB.one (by rw [s70]; decide) ?_ nb) (by omega)
            refine RN.op (by rw [s70]; omega) ?_ ?_ ?_ ?_ ?_ ?_
            · rw [n2, ft 135 (by decide) (by decide) (by decide), y135, s70]
            · rw [n2, ft 136 (by decide) (by decide) (by decide), y136, fc 71 (by decide) (by decide) (by decide) (by decide), q71]
            · rw [fc 72 (by decide) (by decide) (by decide) (by decide), s72, fc 74 (by decide) (by decide) (by decide) (by decide), q74]; omega
            · rw [n2, ft 138 (by decide) (by decide) (by decide), t138, fc 72 (by decide) (by decide) (by decide) (by decide), s72]
              unfold nh
              rw [if_neg (by omega), kM.nd (by omega)]
            · rw [n2]; exact lk
            · rw [n2, ft 140 (by decide) (by decide) (by decide), y140, fc 74 (by decide) (by decide) (by decide) (by decide), q74]; rfl
        · exact Or.inr ⟨S2, T2, σ 68 10, z1, z2, b, hb⟩
      by_cases cl : T 119 25 = 31
      · rw [if_pos cl, if_pos cl, if_neg (by decide), ps_call_b71_e, ps_call_b72_e, md_call_b41_e]
        have := args_0 (d := d) (d' := d') G1 I
        rw [ynd] at this
        exact fin _ _ this
      · rw [if_neg cl, if_neg cl, if_pos (by trivial), ps_call_b72_e, md_call_b41_e]
        have := args_1 (d' := d') ih (S 69 2 - S 69 5).toNat S T _ _ _ G1 (by omega) I (by omega)
        rw [ynd] at this
        exact fin _ _ this
    · right
      obtain ⟨S', x1, x2⟩ := tail S T 4006 (σ 68 10) b hb
      refine ⟨S', T, σ 68 10, ?_, ?_, x2.le (by decide), hb⟩
      · rw [e1]
        simp only [Option.bind_some]
        rw [if_pos hb, e2]
        simp only [Option.bind_some]
        exact x1
      · rcases e3 with e3 | ⟨e3, e4, hc⟩
        · rw [e3]; rfl
        · rw [e3]
          simp only [Option.bind_some]
          rw [if_pos hc, e4]
          rfl
/-- one thing that stands behind -/
theorem behind_s {x : Int} {e2 e3 : Nat} (ihc : XS anyB D (ps_e d) (md_e e2)) (ihe : XS anyB D (ps_e (d + 1)) (md_e e2)) (ihb : XB (ps_e (d + 1))) (G : pG 1 σ τ) (ho : 10 * (20 - σ 68 21) + 20 ≤ (D : Int)) (h4 : τ 119 25 = 30 ∨ τ 119 25 = 38 ∨ τ 119 25 = 34) (hL : PX σ τ 0 M0 (σ 68 10) x 0) (hN : NB σ τ 0 (σ 68 19 - 1) M0 (σ 68 10)) (m0 : 0 ≤ M0) :
    XR (fwd (σ 69 5)) σ τ M0 (ps_behind (d + 2) σ x) (if τ 119 25 = 30 then md_call (e2 + 1) τ (nd σ x) else md_get (e2 + 1) τ (nd σ x)) := by
  have i1 := tk_is_s G.2.1.2 G.2.2.1 (c := 40) (t := 30) (by unfold sG; decide)
  have i2 := tk_is_s G.2.1.2 G.2.2.1 (c := 46) (t := 38) (by unfold sG; decide)
  rw [ps_behind_e, i1]
  simp only [Option.bind_some]
  by_cases c1 : τ 119 25 = 30
  · rw [if_pos c1, if_pos c1, if_neg (by decide)]
    have := call_s (x := x) ihc G ho c1 hL hN m0
    rcases this with ⟨S, T, n, z1, z2, z3⟩ | ⟨S, T, n, z1, z2, z3⟩
    · exact Or.inl ⟨S, T, n, by rw [z1]; rfl, z2, z3⟩
    · exact Or.inr ⟨S, T, n, by rw [z1]; rfl, z2, z3⟩
  · rw [if_neg c1, if_neg c1, if_pos (by trivial), i2, md_get_e]
    simp only [Option.bind_some]
    by_cases c2 : τ 119 25 = 38
    · rw [if_pos c2, if_neg (by decide), if_neg (by omega)]
      exact dot_s G c2 hL hN m0
    · rw [if_neg c2, if_pos (by trivial), if_pos (show τ 119 25 = 34 by omega)]
      exact index_s ihe ihb G ho (by omega) hL hN m0
/-- all that stands behind -/
theorem behinds_s {e2 : Nat} (ihc : XS anyB D (ps_e d) (md_e e2)) (ihe : XS anyB D (ps_e (d + 1)) (md_e e2)) (ihb : XB (ps_e (d + 1))) (m0 : 0 ≤ M0) :
    ∀ (mm : Nat) (σ τ : gM) (n : Int), pG 1 σ τ → 10 * (20 - σ 68 21) + 20 ≤ (D : Int) → PX σ τ 0 M0 (σ 68 10) n 0 → NB σ τ 0 (σ 68 19 - 1) M0 (σ 68 10) → bare σ τ n → σ 69 2 - σ 69 5 ≤ mm → XR bare σ τ M0 (ps_unary_b75 (d + 2) σ n) (md_unary_b51 (e2 + 1) τ (nd σ n)) := by
  intro mm
  have stp : ∀ (σ τ : gM) (n y : Int), pG 1 σ τ → ((τ 119 25 = 30 ∨ τ 119 25 = 38 ∨ τ 119 25 = 34) ∧ ps_unary_b75 (d + 2) σ n = ((ps_behind (d + 2) σ n).bind fun p1 => ps_unary_b75 (d + 2) p1.1 p1.2) ∧ md_unary_b51 (e2 + 1) τ y = ((if τ 119 25 = 30 then md_call (e2 + 1) τ y else md_get (e2 + 1) τ y).bind fun p1 => gtry p1.2 (fun v2 => md_unary_b51 (e2 + 1) p1.1 v2) (some (p1.1, none)))) ∨ (ps_unary_b75 (d + 2) σ n = some (σ, n) ∧ md_unary_b51 (e2 + 1) τ y = some (τ, some y)) := by
    intro σ τ n y G
    have i1 := tk_is_s G.2.1.2 G.2.2.1 (c := 40) (t := 30) (by unfold sG; decide)
    have i2 := tk_is_s G.2.1.2 G.2.2.1 (c := 46) (t := 38) (by unfold sG; decide)
    have i3 := tk_is_s G.2.1.2 G.2.2.1 (c := 91) (t := 34) (by unfold sG; decide)
    rw [ps_unary_b75_e, ps_good_g G.2.2.1, md_unary_b51_e]
    simp only [Option.bind_some]
    rw [if_neg (by decide), i1]
    simp only [Option.bind_some]
    have e118 : ps_unary_b118 (d + 2) σ n = ((ps_behind (d + 2) σ n).bind fun p1 => ps_unary_b75 (d + 2) p1.1 p1.2) := ps_unary_b118_e ..
    by_cases c1 : τ 119 25 = 30
    · left
      refine ⟨Or.inl c1, by rw [if_pos c1, if_neg (by decide), e118], ?_⟩
      rw [if_pos c1, md_unary_b78_e, if_pos c1, if_pos c1]
      simp only [md_unary_b100_e]
    · rw [if_neg c1, if_neg c1, if_pos (by trivial), i2, if_neg c1]
      simp only [Option.bind_some]
      by_cases c2 : τ 119 25 = 38
      · left
        refine ⟨Or.inr (Or.inl c2), by rw [if_pos c2, if_neg (by decide), e118], ?_⟩
        rw [if_pos c2, md_unary_b78_e, if_neg c1]
        simp only [md_unary_b100_e]
      · rw [if_neg c2, if_neg c2, if_pos (by trivial), i3]
        simp only [Option.bind_some]
        by_cases c3 : τ 119 25 = 34
        · left
          refine ⟨Or.inr (Or.inr c3), by rw [if_pos c3, if_neg (by decide), e118], ?_⟩
          rw [if_pos c3, md_unary_b78_e, if_neg c1]
          simp only [md_unary_b100_e]
        · right
          rw [if_neg c3, if_neg c3]
          exact ⟨rfl, rfl⟩
  induction mm with
  | zero =>
    intro σ τ n G ho hp hn hba hm
    rcases stp σ τ n (nd σ n) G with ⟨h4, -, -⟩ | ⟨e1, e2⟩
    · exfalso
      have k := G.2.1.1
      have := G.2.1.2.k
      unfold tKp at k
      omega
    · exact Or.inl ⟨σ, τ, n, e1, e2, ⟨G, kE.rf, hp, hn, rfl, rfl⟩, hba⟩
  | succ mm IH =>
    intro σ τ n G ho hp hn hba hm
    rcases stp σ τ n (nd σ n) G with ⟨h4, e1, e2⟩ | ⟨e1, e2⟩
    · rw [e1, e2]
      rcases behind_s (e3 := 0) ihc ihe ihb G ho h4 hp hn m0 with ⟨S, T, r, z1, z2, xg, xb, xp⟩ | ⟨S, T, r, z1, z2, b, hr⟩
      · rw [z1, z2]
        simp only [Option.bind_some, gtry]
        have kx := xg.2.1
        have k2 := kx.2.2.2.1 2 (by decide)
        exact (IH S T r xg.1 (by rw [xg.2.2.2.2.1]; exact ho) xg.2.2.1 (by rw [kx.2.2.1 19 (by decide)]; exact xg.2.2.2.1) xb (by omega)).of kx xg.2.2.2.2
      · right
        rw [z1, z2]
        refine ⟨S, T, r, ?_, rfl, b, hr⟩
        simp only [Option.bind_some]
        rw [ps_unary_b75_e, ps_good_b b.1]
        rfl
    · exact Or.inl ⟨σ, τ, n, e1, e2, ⟨G, kE.rf, hp, hn, rfl, rfl⟩, hba⟩
theorem unary_s {D' e2 : Nat} (hD : (D' : Int) ≤ D + 10) (ihu : XS bare D (ps_unary (d + 2)) (md_unary (e2 + 1))) (ihub : XB (ps_unary (d + 2))) (ihc : XS anyB D (ps_e d) (md_e e2)) (ihe : XS anyB D (ps_e (d + 1)) (md_e e2)) (ihb : XB (ps_e (d + 1))) : XS bare D' (ps_unary (d + 3)) (md_unary (e2 + 2)) := by
  intro σ τ G ho
  have i := tk_is_s G.2.1.2 G.2.2.1 (c := 33) (t := 41) (by unfold sG; decide)
  rw [ps_unary_e, i, md_unary_e]
  simp only [Option.bind_some]
  by_cases c : τ 119 25 = 41
  · rw [if_pos c, if_pos c, if_neg (by decide)]
    exact not_s ihu ihub G (by omega) c
  · rw [if_neg c, if_neg c, if_pos (by trivial)]
    rcases atom_s (D' := D') hD ihe ihb σ τ G ho with ⟨S, T, n, x1, x2, xg, xb⟩ | ⟨S, T, n, x1, x2, b, hn⟩
    · rw [x1, x2]
      simp only [Option.bind_some, gtry]
      have kx := xg.2.1
      exact (behinds_s ihc ihe ihb G.2.2.2.1.1 (S 69 2 - S 69 5).toNat S T n xg.1 (by rw [xg.2.2.2.2.1]; omega) xg.2.2.1 (by rw [kx.2.2.1 19 (by decide)]; exact xg.2.2.2.1) xb (by omega)).of kx xg.2.2.2.2
    · right
      rw [x1, x2]
      simp only [Option.bind_some]
      refine ⟨S, T, n, ?_, rfl, b, hn⟩
      rw [ps_unary_b75_e, ps_good_b b.1]
      rfl
theorem unary_b : XB (ps_unary (d + 2)) := by
  intro σ τ k b hk
  obtain ⟨S, x1, x2, x3⟩ := atom_b (d := d) σ τ k b hk
  refine ⟨S, ?_, x2, x3⟩
  rw [ps_unary_e, tk_is_b b.1]
  simp only [Option.bind_some]
  rw [if_pos (by trivial), x1]
  simp only [Option.bind_some]
  rw [ps_unary_b75_e, ps_good_b x2.1]
  rfl
end CA
