/-! functions: one thing given -/
section PB
variable {σ τ S T : gM} {f a : Int}
theorem b69_b {z : Int} (G : pG z σ τ) (hf : f = σ 68 19 - 1) {p k : Int} (hk : k ≠ 0) : ps_param_b69 (gW (gW σ 69 8 k) 69 9 p) f = some (gW (gW σ 69 8 k) 69 9 p, 0) := by
  obtain ⟨hX, hK, g8, hm, g43, h6, h7, h8, h9, hL⟩ := G
  have kp := hK.1
  unfold tKp at kp
  have b : gW (gW σ 69 8 k) 69 9 p 69 8 ≠ 0 := by rw [gW_i (by decide), gW_at]; exact hk
  have s2 : gW (gW σ 69 8 k) 69 9 p 69 2 = σ 69 2 := by rw [gW_i (by decide), gW_i (by decide)]
  have s5 : gW (gW σ 69 8 k) 69 9 p 69 5 = σ 69 5 := by rw [gW_i (by decide), gW_i (by decide)]
  have s6 : gW (gW σ 69 8 k) 69 9 p 69 6 = σ 69 6 := by rw [gW_i (by decide), gW_i (by decide)]
  have L : pL (gW (gW σ 69 8 k) 69 9 p) τ (σ 68 19 - 1) := hL.mv (by rw [gW_cell (by decide), gW_cell (by decide)]) (by rw [gW_cell (by decide), gW_cell (by decide)]) (by rw [gW_cell (by decide), gW_cell (by decide)]) s2 rfl rfl rfl rfl
  obtain ⟨r, e1, -, -⟩ := local_s ((hX.l (i := 8) (v := k) (by decide)).l (i := 9) (v := p) (by decide)) (f := f) (p := σ 69 5) (n := σ 69 6) (by omega) (by omega) (by rw [hf]; exact L) (by rw [s2]; omega)
  rw [ps_param_b69_e, s5, s6, e1]
  simp only [Option.bind_some]
  by_cases q : r < 0
  · rw [if_pos q, b108_b b]
  · rw [if_neg q, tk_fails_b b]
    exact b108_b b
set_option maxHeartbeats 4000000 in
/-- one thing more -/
theorem param_s (I : PI f a σ τ) (hf : 0 ≤ f ∧ f < 50) (K : gM → Option (gM × Option Int)) :
    (∃ S T, ps_param σ f = some (S, 0) ∧ pM τ K = K T ∧ PI f a S T ∧ kF f a (nd σ a) σ S τ T ∧ σ 69 5 < S 69 5) ∨ (∃ S T, ps_param σ f = some (S, 0) ∧ pM τ K = some (T, none) ∧ bd 4100 S T) := by
  obtain ⟨G, i19, ⟨i84, i83⟩, ⟨i81, a0, i10, i20⟩, ip, nb, ⟨i21, i22⟩, fn, i148⟩ := I
  obtain ⟨hX, hK, g8, hm, g43, h6, h7, h8, h9, hL⟩ := id G
  have ef : σ 68 19 - 1 = f := by omega
  rw [ef] at hL
  have kp := hK.1
  unfold tKp at kp
  have hl := hX.2.1
  have one := hK.2.one
  have e152 := hL.2.1
  have d84 := hL.1
  rw [ps_param_e, ps_good_g g8]
  unfold pM
  rw [md_need_e]
  simp only [Option.bind_some]
  rw [if_neg (by decide)]
  by_cases a1 : τ 119 25 = 1
  · rw [if_pos (one.mpr a1), if_pos a1, ps_param_b34_e, ps_good_g g8]
    simp only [Option.bind_some, gtry]
    rw [if_neg (by decide), if_pos hf, if_pos (show 0 ≤ τ 119 54 ∧ τ 119 54 < 51 by omega), show τ 119 54 = f by omega, e152, i84]
    by_cases q6 : σ 83 f = 6
    · right
      rw [if_pos q6, if_pos q6]
      obtain ⟨f1, f2⟩ := fail_s (k := 4) G (p := σ 69 5) (q := τ 119 26) kp.1
      rw [f1, f2]
      simp only [Option.bind_some]
      rw [b69_b G ef.symm (by decide)]
      exact ⟨_, _, rfl, rfl, (bd_of G (by decide)).le (by omega)⟩
    · rw [if_neg q6, if_neg q6, ps_param_b69_e]
      obtain ⟨r, e1, e2, e3⟩ := local_s hX (f := f) (p := σ 69 5) (n := σ 69 6) hf (by omega) hL (by omega)
      rw [show σ 69 5 + σ 69 6 = τ 119 27 by omega, kp.1] at e2
      rw [e1, e2]
      simp only [Option.bind_some]
      by_cases rz : r < 0
      · have hn : ∀ l, 0 ≤ l → l < σ 84 f → ¬ tE τ (σ 85 (12 * f + l)) (σ 86 (12 * f + l)) (σ 69 5) (σ 69 6) := by
          rcases e3 with ⟨-, h⟩ | ⟨h, -⟩
          · exact h
          · omega
        clear e3 e1 e2 one
        have len : 1 ≤ σ 69 6 ∧ σ 69 6 ≤ 12 := by
          have h := hK.2
          unfold tKk at h
          rcases h with h | h | h | h | ⟨-, h, -⟩ | h
          · omega
          · omega
          · omega
          · omega
          · have := sG_30 h; omega
          · omega
        clear hK
        obtain ⟨n1, n2, hb, hc⟩ := node_g (K := 0) G (by decide) (by omega)
        obtain ⟨G1, n3⟩ := pG_node G (by omega : σ 68 20 ≠ 300) (by decide : (0 : Int) ≠ 30)
        have nn := nf_new (K := 0) G
        have cn := @nC_n σ 0
        have mn := @nM_n τ 0
        rw [if_pos rz, if_pos rz, ps_param_b108_e, ps_good_g g8, n2]
        simp only [Option.bind_some, gtry]
        rw [if_neg (by decide), n1]
        simp only [Option.bind_some]
        rw [if_pos hf, if_pos (show 0 ≤ σ 68 10 ∧ σ 68 10 < 4200 by omega)]
        have x83 : nC σ 0 83 f = σ 83 f := nC_o (by omega) (by omega)
        have x5 : nC σ 0 69 5 = σ 69 5 := nC_o (by omega) (by omega)
        have x6 : nC σ 0 69 6 = σ 69 6 := nC_o (by omega) (by omega)
        have y26 : nM τ 0 119 26 = σ 69 5 := by rw [nM_o (by omega) (by omega)]; exact kp.1.symm
        have y27 : nM τ 0 119 27 = σ 69 5 + σ 69 6 := by rw [nM_o (by omega) (by omega)]; omega
        rw [x83, x5, x6, y26, y27]
        have G2 : pG 1 (gW (nC σ 0) 76 (σ 68 10) (σ 83 f)) (nM τ 0) := G1.w (by decide)
        have w19 : gW (nC σ 0) 76 (σ 68 10) (σ 83 f) 68 19 - 1 = f := by rw [gW_c (by decide), nC_o (by omega) (by omega)]; exact ef
        have w84 : gW (nC σ 0) 76 (σ 68 10) (σ 83 f) 84 f = σ 84 f := by rw [gW_c (by decide), nC_o (by omega) (by omega)]
        have hL2 := G2.2.2.2.2.2.2.2.2.2
        rw [w19] at hL2
        obtain ⟨ad1, ad2⟩ := adds_l (σ := gW (nC σ 0) 76 (σ 68 10) (σ 83 f)) (τ := nM τ 0) (p := σ 69 5) (n := σ 69 6) (e := σ 69 5 + σ 69 6) hf (by rw [nM_o (by omega) (by omega)]; omega) hL2 (by rw [w84]; omega)
        obtain ⟨G3, k3, lc⟩ := pG_adds (p := σ 69 5) (n := σ 69 6) (e := σ 69 5 + σ 69 6) G2 (by rw [w19, w84]; omega) rfl (by rw [gW_c (by decide), nC_o (by omega) (by omega)]; omega) (fun l l0 l1 => by
          rw [w19] at l1 ⊢
          rw [w84] at l1
          rw [gW_c (by decide), gW_c (by decide), nC_o (by omega) (by omega), nC_o (by omega) (by omega), tE.mv (funext fun i => nM_o (by omega) (by omega))]
          exact hn l l0 l1)
        rw [w19] at G3 k3 lc
        rw [w84] at lc
        rw [ad1, ad2]
        simp only [Option.bind_some]
        rw [if_pos hf, if_pos hf]
        generalize eY : aC (gW (nC σ 0) 76 (σ 68 10) (σ 83 f)) f (σ 69 5) (σ 69 6) = Y at *
        generalize eZ : aM (nM τ 0) (σ 69 5) (σ 69 5 + σ 69 6) = Z at *
        have cY : ∀ e i, e ≠ 84 → e ≠ 85 → e ≠ 86 → ¬ (e = 76 ∧ i = σ 68 10) → Y e i = nC σ 0 e i := fun e i q1 q2 q3 q4 => by
          rw [← eY, aC_o (Or.inl ⟨q1, q2, q3⟩)]; unfold gW; rw [if_neg q4]
        have Y76 : Y 76 (σ 68 10) = σ 83 f := by rw [← eY, aC_o (by omega), gW_at]
        have Y84 : Y 84 f = σ 84 f + 1 := by rw [← eY, aC_n.1, w84]
        have cZ : ∀ e i, e ≠ 152 → e ≠ 153 → e ≠ 154 → Z e i = nM τ 0 e i := fun e i q1 q2 q3 => by rw [← eZ, aM_o (Or.inl ⟨q1, q2, q3⟩)]
        have Y83 : Y 83 f = σ 83 f := by rw [cY 83 f (by decide) (by decide) (by decide) (by omega), x83]
        rw [Y83, w32_e (by omega) (by omega)]
        have G4 : pG 1 (gW Y 83 f (σ 83 f + 1)) Z := G3.c (by decide)
        have kY : kE (σ 68 10) (τ 119 43) σ Y τ Z := ((kE_node (Int.le_refl _) (Int.le_refl _)).w (by decide) (Int.le_refl _)).tr (k3 _ _) (Int.le_refl _) (Int.le_refl _)
        rcases rd_p G4 (by rw [cZ 119 25 (by decide) (by decide) (by decide), nM_o (by omega) (by omega)]; omega) with ⟨S, T, r1, r2, G5, F, r5⟩ | ⟨S, T, r1, r2, b, F⟩
        · left
          rw [r1, r2]
          simp only [Option.bind_some]
          have cS : ∀ e i, e ≠ 69 → e ≠ 83 → S e i = Y e i := fun e i q1 q2 => by rw [F.1 e q1, gW_c q2]
          have tS : ∀ e i, e ≠ 119 → T e i = Z e i := fun e i q1 => by rw [F.2.2.1 e q1]
          have S83 : S 83 f = σ 83 f + 1 := by rw [F.1 83 (by decide), gW_at]
          have S10 : S 68 10 = σ 68 10 + 1 := by rw [cS 68 10 (by decide) (by decide), cY 68 10 (by decide) (by decide) (by decide) (by omega), cn.1]
          have S20 : S 68 20 = σ 68 20 + 1 := by rw [cS 68 20 (by decide) (by decide), cY 68 20 (by decide) (by decide) (by decide) (by omega), cn.2.1]
          have o68 : ∀ i, i ≠ 10 → i ≠ 20 → S 68 i = σ 68 i := fun i q1 q2 => by rw [cS 68 i (by decide) (by decide), cY 68 i (by decide) (by decide) (by decide) (by omega), nC_o (by omega) (by omega)]
          have S2 : S 69 2 = σ 69 2 := by rw [F.2.1 2 (by omega), gW_c (by decide), cY 69 2 (by decide) (by decide) (by decide) (by omega), nC_o (by omega) (by omega)]
          have S5 : gW Y 83 f (σ 83 f + 1) 69 5 = σ 69 5 := by rw [gW_c (by decide), cY 69 5 (by decide) (by decide) (by decide) (by omega), x5]
          have T134 : T 134 = Z 134 := F.2.2.1 134 (by decide)
          have ndS : ∀ i, nd S i = nd Y i := fun i => nd_congr fun j _ _ => by rw [cS 70 j (by decide) (by decide)]
          have old : ∀ e i, 70 ≤ e → e ≤ 78 → i < σ 68 10 → S e i = σ e i := fun e i q1 q2 q3 => by rw [cS e i (by omega) (by omega), kY.2.1 e i q1 q2 q3]
          have lcS : ∀ l p e, isLoc Y Z f l p e → isLoc S T f l p e := fun l p e u => by
            have e84 : S 84 = Y 84 := funext fun i => cS 84 i (by decide) (by decide)
            have e85 : S 85 = Y 85 := funext fun i => cS 85 i (by decide) (by decide)
            have e86 : S 86 = Y 86 := funext fun i => cS 86 i (by decide) (by decide)
            have e69 : S 69 2 = Y 69 2 := by rw [F.2.1 2 (by omega), gW_c (by decide)]
            unfold isLoc at *
            rw [e84, e85, e86, e69, tE.mv T134]
            exact u
          have nY := nd_S (σ := S) (i := σ 68 10) (by omega) (by rw [cS 70 _ (by decide) (by decide), cY 70 _ (by decide) (by decide) (by decide) (by omega), cn.2.2.1]; decide)
          have ndn : nd S (σ 68 10) = τ 119 43 := by rw [ndS, kY.nd (Int.le_refl _), g43]
          have nbS : NB S T 0 f a (σ 68 10) := by
            refine NB.fr (nb.kE (σ' := Y) (τ' := Z) (M := σ 68 10) (N := τ 119 43) kY (by omega) a0 (Int.le_refl _) (by omega)) a0 (fun x i x0 x1 x2 i0 i1 => cS x i (by omega) (by omega)) (fun i _ _ => ndS i) (fun x j x0 x1 x2 j0 j1 => tS x j (by omega)) T134 (by rw [F.2.1 2 (by omega), gW_c (by decide)]) lcS
          have cn' : ∀ e, 70 ≤ e → e ≤ 78 → e ≠ 76 → S e (σ 68 10) = nC σ 0 e (σ 68 10) := fun e q1 q2 q3 => by rw [cS e _ (by omega) (by omega), cY e _ (by omega) (by omega) (by omega) (by omega)]
          have mn' : ∀ e, 135 ≤ e → e ≤ 145 → T e (τ 119 43) = nM τ 0 e (τ 119 43) := fun e q1 q2 => by rw [tS e _ (by omega), cZ e _ (by omega) (by omega) (by omega)]
          have S76 : S 76 (σ 68 10) = σ 83 f := by rw [cS 76 _ (by decide) (by decide), Y76]
          have nb1 : NB S T 0 f (σ 68 10) (σ 68 10 + 1) := by
            refine NB.one (by rw [cn' 70 (by decide) (by decide) (by decide), cn.2.2.1]; decide) ?_ NB.nil
            refine RN_par (l := σ 84 f) (p := σ 69 5) (e := σ 69 5 + σ 69 6) ndn (by rw [cn' 70 (by decide) (by decide) (by decide), cn.2.2.1]) (by rw [cn' 72 (by decide) (by decide) (by decide), cn.2.2.2.2.1]) (by rw [cn' 73 (by decide) (by decide) (by decide), cn.2.2.2.2.2.1]) (by rw [cn' 74 (by decide) (by decide) (by decide), cn.2.2.2.2.2.2.1]) (by rw [S76, i84]) (by rw [mn' 135 (by decide) (by decide), mn.2.1]) (by rw [mn' 136 (by decide) (by decide), mn.2.2.1, cn' 71 (by decide) (by decide) (by decide), cn.2.2.2.1]; exact kp.1.symm) (by rw [mn' 138 (by decide) (by decide), mn.2.2.2.1]) (by rw [mn' 139 (by decide) (by decide), mn.2.2.2.2.1]) (by rw [mn' 140 (by decide) (by decide), mn.2.2.2.2.2.1]) (by rw [mn' 142 (by decide) (by decide), mn.2.2.2.2.2.2.2.1]; exact kp.1.symm) (by rw [mn' 143 (by decide) (by decide), mn.2.2.2.2.2.2.2.2.1]; omega) (by omega) (lcS _ _ _ lc)
          refine ⟨S, T, rfl, rfl, ⟨G5.le (by decide), by rw [o68 19 (by decide) (by decide), i19], ⟨by rw [cS 84 f (by decide) (by decide), Y84, S83, i84], by rw [S83]; omega⟩, ⟨?_, a0, by rw [S10, S83]; omega, by rw [S20, S83]; omega⟩, fun i i0 i1 => ?_, by rw [S10]; exact nbS.cat nb1 (by omega), ⟨by rw [o68 21 (by decide) (by decide), i21], by rw [o68 22 (by decide) (by decide), i22]⟩, ?_, ?_⟩, ?_, by omega⟩
          · rw [cS 81 f (by decide) (by decide), cY 81 f (by decide) (by decide) (by decide) (by omega), nC_o (by omega) (by omega), i81]
          · rw [S10] at i1
            by_cases q : i = σ 68 10
            · rw [q, cn' 70 (by decide) (by decide) (by decide), cn.2.2.1, S76, cn' 72 (by decide) (by decide) (by decide), cn' 73 (by decide) (by decide) (by decide), cn' 74 (by decide) (by decide) (by decide), cn.2.2.2.2.1, cn.2.2.2.2.2.1, cn.2.2.2.2.2.2.1]; omega
            · rw [old 70 i (by decide) (by decide) (by omega), old 76 i (by decide) (by decide) (by omega), old 72 i (by decide) (by decide) (by omega), old 73 i (by decide) (by decide) (by omega), old 74 i (by decide) (by decide) (by omega)]
              exact ip i i0 (by omega)
          · unfold fN at *
            rw [S2, cS 79 f (by decide) (by decide), cS 80 f (by decide) (by decide), cY 79 f (by decide) (by decide) (by decide) (by omega), cY 80 f (by decide) (by decide) (by decide) (by omega), nC_o (by omega) (by omega), nC_o (by omega) (by omega), tS 146 f (by decide), tS 147 f (by decide), cZ 146 f (by decide) (by decide) (by decide), cZ 147 f (by decide) (by decide) (by decide), nM_o (by omega) (by omega), nM_o (by omega) (by omega)]
            exact fn
          · rw [tS 148 f (by decide), cZ 148 f (by decide) (by decide) (by decide), nM_o (by omega) (by omega), i148, ndS, kY.nd (by omega)]
          · have mono := nd_r (σ := σ) (i := a) (j := σ 68 10) a0 (by omega)
            have kf : kF f (σ 68 10) (τ 119 43) σ S τ T := ((kY.toF ef.symm (by omega)).w (e := 83) (v := σ 83 f + 1) (by decide)).rd F
            exact kF.rf.tr kf (by omega) (by omega)
        · right
          rw [r1, r2]
          exact ⟨S, T, rfl, rfl, b.le (by rw [gW_c (by decide), cY 68 10 (by decide) (by decide) (by decide) (by omega), cn.1]; omega)⟩
      · right
        rw [if_neg rz, if_neg rz]
        obtain ⟨f1, f2⟩ := fail_s (k := 6) G (p := σ 69 5) (q := τ 119 26) kp.1
        have b := bd_of G (k := 6) (p := σ 69 5) (by decide)
        rw [f1, f2]
        simp only [Option.bind_some]
        rw [b108_b b.1]
        exact ⟨_, _, rfl, rfl, b.le (by omega)⟩
  · right
    obtain ⟨f1, f2⟩ := fail_s (k := 2) G (p := σ 69 5) (q := τ 119 26) kp.1
    have b := bd_of G (k := 2) (p := σ 69 5) (by decide)
    rw [if_neg (fun w => a1 (one.mp w)), if_neg a1, f1, f2]
    simp only [Option.bind_some, gtry]
    rw [b34_b b.1]
    exact ⟨_, _, rfl, rfl, b.le (by omega)⟩
end PB
