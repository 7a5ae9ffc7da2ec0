/-! the component plants statements: return, break, continue, if -/
section SU
variable {σ S T Z U : gM} {N : Int → Int} {a b n u v x w k c : Int} {d D m f : Nat} {B K : List Int}
/-- return -/
theorem s_ret (H3 : cH3 σ n b) (e : σ 70 n = 26) (hN : N n = σ 8 12) (q : (σ 72 n = -1 ∧ b = n + 1) ∨ (0 ≤ σ 72 n ∧ QT σ N d 0 (n + 1) b (σ 72 n) (σ 8 12 + 1))) (nb : n < b) : ∃ S B K, fr_statement (D + 1) σ n = some (S, 0) ∧ cX σ σ S N 1 n b n B K := by
  obtain ⟨H, r16, rh, rD⟩ := H3
  have H' := H
  obtain ⟨h1, h2, h3, h4, ⟨a0, b4⟩, h6, h7, h8⟩ := H'
  have s := stp.of H
  have nS1 := nd_S (σ := σ) (i := n) a0 (by omega)
  have wS1 := wq_s (σ := σ) (i := n) a0
  have w1 := wt_0 (σ := σ) (n := n) (by omega)
  have m1 := nd_r (σ := σ) (i := n + 1) (j := b) (by omega) (by omega)
  have hn : 0 ≤ n ∧ n < 4200 := by omega
  rw [fr_statement_e, fr_put_s (by omega)]
  simp only [Option.bind_some]
  generalize cPt σ 10 0 (σ 8 12) = U at *
  have X := s.nd n
  obtain ⟨F, e12, e16, e36, e32, ci⟩ := s
  have cu := F.ce
  have h32 : 0 ≤ U 8 32 := by omega
  have u70 : U 70 n = 26 := by rw [cu 70 (by decide) (by decide)]; exact e
  rw [if_pos h32, if_pos hn, u70, if_neg (by decide), if_neg (by decide), if_pos (by trivial), fr_node_s h32 hn (by omega)]
  simp only [Option.bind_some]
  rw [e12]
  generalize cNd U n = X0 at *
  obtain ⟨FX, x12, x16, x36, x32, xi, xo⟩ := X
  have cx := FX.ce
  have x72 : X0 72 n = σ 72 n := by rw [cx 72 (by decide) (by decide)]
  -- the value
  have val : ∃ T, ((if X0 72 n < 0 then (fr_put X0 17 0 (-1)).bind fun p12 => fr_statement_b202 D p12.1 (σ 8 12) else if 0 ≤ X0 8 32 then (if 0 ≤ n ∧ n < 4200 then (fr_work 1000 X0 (X0 72 n)).bind fun p11 => fr_statement_b202 D p11.1 (σ 8 12) else none) else none) = fr_statement_b202 D T (σ 8 12)) ∧ cFr (wq σ b - wq σ (n + 1)) X0 T ∧ T 8 12 = σ 8 12 + (nd σ b - nd σ n) ∧ (T 8 36 = σ 8 36 ∧ T 8 37 = σ 8 37) ∧ (σ 8 16 + 1 < T 8 16 ∧ T 8 16 < σ 8 16 + 3 * (nd σ b - nd σ n)) ∧ ((σ 72 n < 0 ∧ T 8 16 = σ 8 16 + 2 ∧ cI T (σ 8 16 + 1) 17 0 (-1)) ∨ (0 ≤ σ 72 n ∧ C0 T N 0 (σ 72 n) (σ 8 16 + 1) (T 8 16))) ∧ cA T N (n + 1) b (σ 8 12) (T 8 12) := by
    rcases q with ⟨z, rfl⟩ | ⟨z, q⟩
    · refine ⟨cPt X0 17 0 (-1), ?_, (cFr.rf FX.1 FX.2.1 (by omega)).put, ?_, ⟨?_, ?_⟩, ?_, Or.inl ⟨by omega, ?_, ?_⟩, cA.nil (Int.le_refl _)⟩
      · rw [if_pos (by omega), fr_put_s (by omega)]
        rfl
      · rw [cPt_o (by omega) (Or.inl (by decide))]; omega
      · rw [cPt_o (by omega) (Or.inl (by decide))]; omega
      · rw [cPt_o (by omega) (Or.inl (by decide))]; omega
      · rw [cPt_n.1]; omega
      · rw [cPt_n.1]; omega
      · have := @cI_put X0 (-1) 17 0
        rw [x16] at this
        exact this
    · have m2 := QT0_nd q
      obtain ⟨T, e1, F1, t12, t36, C, A, t16, tm⟩ := cW.go H FX (by rw [x12]; exact q) (by omega) (Int.le_refl _) (by omega) (by omega) (by omega) (by omega)
      obtain ⟨tm1, tm2, tm3⟩ := tm rfl
      refine ⟨T, ?_, F1, by omega, ⟨by omega, by omega⟩, by omega, Or.inr ⟨z, by rw [← x16]; exact C⟩, A.wd (by omega) (Int.le_refl _)⟩
      rw [if_neg (by omega), if_pos (by omega), if_pos hn, x72, e1]
      rfl
  rw [if_pos (show 0 ≤ X0 8 32 by omega), if_pos hn]
  obtain ⟨T, v1, F1, t12, t36, t16, C, A⟩ := val
  rw [v1, fr_statement_b202_e, fr_put_s (by omega)]
  simp only [Option.bind_some]
  have F01 := FX.tr F1
  have t1 := h3.fr F01
  have FZ := F01.put (o := 16) (t := 0) (n := σ 8 12)
  have c := FZ.ce
  have AZ := A.mv (sameN.put (o := 16) (t := 0) (n := σ 8 12)) t1
  have z16 : cPt T 16 0 (σ 8 12) 8 16 = T 8 16 + 1 := cPt_n.1
  have z12 : cPt T 16 0 (σ 8 12) 8 12 = T 8 12 := cPt_o (by omega) (Or.inl (by decide))
  have z36 : cPt T 16 0 (σ 8 12) 8 36 = T 8 36 := cPt_o (by omega) (Or.inl (by decide))
  have z37 : cPt T 16 0 (σ 8 12) 8 37 = T 8 37 := cPt_o (by omega) (Or.inl (by decide))
  have cj := @cI_put T (σ 8 12) 16 0
  have fpt : ∀ P, sI T (cPt T 16 0 (σ 8 12)) P (T 8 16) := fun P => sI.pt (Int.le_refl _)
  have c0 : cI (cPt T 16 0 (σ 8 12)) (σ 8 16) 10 0 (σ 8 12) := ((F1.si (P := σ 8 16) (E := σ 8 16 + 1) (by omega)).tr (sI.pt (by omega))).ci xi (Int.le_refl _) (by omega)
  have CZ : (σ 72 n < 0 ∧ T 8 16 = σ 8 16 + 2 ∧ cI (cPt T 16 0 (σ 8 12)) (σ 8 16 + 1) 17 0 (-1)) ∨ (0 ≤ σ 72 n ∧ C0 (cPt T 16 0 (σ 8 12)) N 0 (σ 72 n) (σ 8 16 + 1) (T 8 16)) := by
    rcases C with ⟨q1, q2, q3⟩ | ⟨q1, q2⟩
    · exact Or.inl ⟨q1, q2, (fpt (σ 8 16)).ci q3 (by omega) (by omega)⟩
    · exact Or.inr ⟨q1, q2.pt (by decide) (Int.le_refl _)⟩
  have ow := (xo.fr F1 (by omega)).mv (T := cPt T 16 0 (σ 8 12)) fun a q1 q2 _ _ _ => cPt_o (by omega) (by omega)
  generalize cPt T 16 0 (σ 8 12) = Z at *
  have e70 : Z 70 n = σ 70 n := by rw [c 70 (by decide) (by decide)]
  have e71 : Z 71 n = σ 71 n := by rw [c 71 (by decide) (by decide)]
  have e72 : Z 72 n = σ 72 n := by rw [c 72 (by decide) (by decide)]
  refine ⟨Z, [], [], rfl, FZ.le (by omega), by omega, ⟨1, by omega, ?_, Or.inr (Or.inr (Or.inl ⟨by omega, ?_, ?_, rfl, rfl⟩))⟩, ?_, ?_, cA.cat (cA.one fun _ => ⟨?_, by omega, cEn_no (by omega)⟩) (AZ.wd (Int.le_refl _) (by omega)), by omega⟩
  · rw [if_neg (by omega), hN]; exact c0
  · rw [e72]
    rcases CZ with ⟨q1, q2, q3⟩ | ⟨q1, q2⟩
    · exact Or.inl ⟨q1, by omega, q3⟩
    · exact Or.inr ⟨q1, by rw [show Z 8 16 - 1 = T 8 16 by omega]; exact q2⟩
  · rw [show Z 8 16 - 1 = T 8 16 by omega, hN]; exact cj
  · show Z 8 36 = σ 8 36
    omega
  · show Z 8 37 = σ 8 37
    omega
  · rw [hN]
    exact cN1_op (by rw [e70, e71]; exact ow) (by omega)
/-- break, continue -/
theorem s_jump (H3 : cH3 σ n (n + 1)) (e : σ 70 n = 27 ∨ σ 70 n = 28) (hN : N n = σ 8 12) : ∃ S B K, fr_statement (D + 1) σ n = some (S, 0) ∧ cX σ σ S N 1 n (n + 1) n B K := by
  obtain ⟨H, r16, rh, rD⟩ := H3
  have H' := H
  obtain ⟨h1, h2, h3, h4, ⟨a0, b4⟩, h6, h7, h8⟩ := H'
  have s := stp.of H
  have nS1 := nd_S (σ := σ) (i := n) a0 (by omega)
  have wS1 := wq_s (σ := σ) (i := n) a0
  have w1 := wt_0 (σ := σ) (n := n) (by omega)
  have hn : 0 ≤ n ∧ n < 4200 := by omega
  rw [fr_statement_e, fr_put_s (by omega)]
  simp only [Option.bind_some]
  generalize cPt σ 10 0 (σ 8 12) = U at *
  have X := s.nd n
  obtain ⟨F, e12, e16, e36, e32, ci⟩ := s
  have cu := F.ce
  have h32 : 0 ≤ U 8 32 := by omega
  have u70 : U 70 n = σ 70 n := by rw [cu 70 (by decide) (by decide)]
  rw [if_pos h32, if_pos hn, u70, if_neg (by omega), if_neg (by omega), if_neg (by omega), fr_node_s h32 hn (by omega)]
  simp only [Option.bind_some]
  generalize cNd U n = X0 at *
  obtain ⟨FX, x12, x16, x36, x32, xi, xo⟩ := X
  have main : ∀ i h, (i = 36 ∨ i = 37) → X0 8 i = h → -1 ≤ h → h < σ 8 16 → ∃ Z, gW (cPt X0 14 h (-1)) 8 i (X0 8 16) = Z ∧ cFr 0 σ Z ∧ Z 8 12 = σ 8 12 + 1 ∧ Z 8 16 = σ 8 16 + 2 ∧ cI Z (σ 8 16) 10 0 (σ 8 12) ∧ cI Z (σ 8 16 + 1) 14 h (-1) ∧ Z 8 i = σ 8 16 + 1 ∧ (∀ j, j = 36 ∨ j = 37 → j ≠ i → Z 8 j = X0 8 j) ∧ oN Z (σ 70 n) (σ 71 n) (-1) 0 (σ 8 12) := fun i h hi _ _ _ => by
    refine ⟨_, rfl, (FX.put (o := 14) (t := h) (n := -1)).f8 hi, ?_, ?_, ?_, ?_, by rw [gW_at, x16], fun j q1 q2 => by rw [gW_i q2, cPt_o (by omega) (by omega)], xo.mv fun a q1 q2 _ _ _ => by rw [gW_c (by omega), cPt_o (by omega) (by omega)]⟩
    · rw [gW_i (by omega), cPt_o (by omega) (Or.inl (by decide))]; omega
    · rw [gW_i (by omega), cPt_n.1]; omega
    · exact ((sI.pt (P := σ 8 16) (E := σ 8 16 + 1) (by omega)).tr (sI.gw (Or.inl (by decide)))).ci xi (Int.le_refl _) (by omega)
    · have := @cI_put X0 (-1) 14 h
      rw [x16] at this
      exact (sI.gw (P := σ 8 16) (E := σ 8 16 + 2) (Or.inl (by decide))).ci this (by omega) (by omega)
  have wrap : ∀ Z, cFr 0 σ Z → Z 70 n = σ 70 n ∧ Z 71 n = σ 71 n := fun Z FZ => ⟨by rw [FZ.ce 70 (by decide) (by decide)], by rw [FZ.ce 71 (by decide) (by decide)]⟩
  by_cases z : σ 70 n = 27
  · rw [if_pos z, fr_put_s (by omega)]
    simp only [Option.bind_some]
    obtain ⟨Z, zz, FZ, z12, z16, c0, c1, zi, zj, ow⟩ := main 36 (X0 8 36) (by decide) rfl (by omega) (by omega)
    rw [zz]
    obtain ⟨e70, e71⟩ := wrap Z FZ
    have z37 := zj 37 (by decide) (by decide)
    refine ⟨Z, [σ 8 16 + 1], [], rfl, FZ.le (by omega), by omega, ⟨1, by omega, ?_, Or.inr (Or.inr (Or.inr (Or.inl ⟨by omega, by omega, ⟨c1.1, c1.2.2⟩, rfl, rfl⟩)))⟩, ?_, ?_, cA.one fun _ => ⟨?_, by omega, cEn_no (by omega)⟩, by omega⟩
    · rw [if_neg (by omega), hN]; exact c0
    · refine ⟨zi, by omega, fun x hx => by simp at hx, ?_⟩
      show Z 21 (σ 8 16 + 1) = σ 8 36
      rw [c1.2.1]; exact x36.1
    · show Z 8 37 = σ 8 37
      omega
    · rw [hN]
      exact cN1_op (by rw [e70, e71]; exact ow) (by omega)
  · rw [if_neg z, if_pos (by omega), fr_put_s (by omega)]
    simp only [Option.bind_some]
    obtain ⟨Z, zz, FZ, z12, z16, c0, c1, zi, zj, ow⟩ := main 37 (X0 8 37) (by decide) rfl (by omega) (by omega)
    rw [zz]
    obtain ⟨e70, e71⟩ := wrap Z FZ
    have z36 := zj 36 (by decide) (by decide)
    refine ⟨Z, [], [σ 8 16 + 1], rfl, FZ.le (by omega), by omega, ⟨1, by omega, ?_, Or.inr (Or.inr (Or.inr (Or.inr (Or.inl ⟨by omega, by omega, ⟨c1.1, c1.2.2⟩, rfl, rfl⟩))))⟩, ?_, ?_, cA.one fun _ => ⟨?_, by omega, cEn_no (by omega)⟩, by omega⟩
    · rw [if_neg (by omega), hN]; exact c0
    · show Z 8 36 = σ 8 36
      omega
    · refine ⟨zi, by omega, fun x hx => by simp at hx, ?_⟩
      show Z 21 (σ 8 16 + 1) = σ 8 37
      rw [c1.2.1]; exact x36.2
    · rw [hN]
      exact cN1_op (by rw [e70, e71]; exact ow) (by omega)
/-- if -/
theorem s_if (ihl : cSl d) (H3 : cH3 σ n b) (e : σ 70 n = 24) (hN : N n = σ 8 12) (c0 : 0 ≤ c) (sn1 : SN σ f 0 (σ 73 n) (c - 2)) (sn2 : SN σ f 0 (σ 74 n) (c - 2)) (hD : 3 * (c / 2) + 3 ≤ D + 3) {g h : Int} (q1 : QT σ N d 0 (n + 1) g (σ 72 n) (σ 8 12 + 1)) (q2 : QT σ N d 2 g h (σ 73 n) (σ 8 12 + 1 + (nd σ g - nd σ (n + 1)))) (q3 : QT σ N d 2 h b (σ 74 n) (σ 8 12 + 1 + (nd σ h - nd σ (n + 1)))) : ∃ S B K, fr_statement (D + 3) σ n = some (S, 0) ∧ cX σ σ S N 1 n b n B K := by
  obtain ⟨H, r16, rh, rD⟩ := H3
  have H' := H
  obtain ⟨h1, h2, h3, h4, ⟨a0, b4⟩, h6, h7, h8⟩ := H'
  have s := stp.of H
  have nS1 := nd_S (σ := σ) (i := n) a0 (by omega)
  have wS1 := wq_s (σ := σ) (i := n) a0
  have w1 := wt_0 (σ := σ) (n := n) (by omega)
  have ab1 := QT0_N q1
  have m1 := QT0_nd q1
  have ab2 := (QT_ab _ _ _ _ _ _ q2).1
  have ab3 := (QT_ab _ _ _ _ _ _ q3).1
  have m2 := nd_r (σ := σ) (i := g) (j := h) (by omega) ab2
  have m3 := nd_r (σ := σ) (i := h) (j := b) (by omega) ab3
  have l1 := wq_le (u := n + 1) (v := g) H (by omega) (by omega) (by omega)
  have l2 := wq_le (u := g) (v := h) H (by omega) (by omega) (by omega)
  have l3 := wq_le (u := h) (v := b) H (by omega) (by omega) (by omega)
  have hn : 0 ≤ n ∧ n < 4200 := by omega
  rw [fr_statement_e, fr_put_s (by omega)]
  simp only [Option.bind_some]
  generalize cPt σ 10 0 (σ 8 12) = U at *
  have X := s.nd n
  obtain ⟨F, e12, e16, e36, e32, ci⟩ := s
  have cu := F.ce
  have h32 : 0 ≤ U 8 32 := by omega
  have u70 : U 70 n = 24 := by rw [cu 70 (by decide) (by decide)]; exact e
  rw [if_pos h32, if_pos hn, u70, if_pos (by trivial), fr_node_s h32 hn (by omega)]
  simp only [Option.bind_some]
  rw [e12]
  generalize cNd U n = X0 at *
  obtain ⟨FX, x12, x16, x36, x32, xi, xo⟩ := X
  have cx := FX.ce
  -- the condition
  obtain ⟨T1, e1, F1, t12, t36, C1, A1, t16, tm⟩ := cW.go H FX (by rw [x12]; exact q1) (by omega) (by omega) (by omega) (by omega) (by omega) (by omega)
  obtain ⟨tm1, tm2, tm3⟩ := tm rfl
  have G1 := FX.tr F1
  have k1 := h3.fr G1
  rw [if_pos (show 0 ≤ X0 8 32 by omega), if_pos hn, cx 72 (by decide) (by decide), e1]
  simp only [Option.bind_some]
  rw [fr_put_s (by omega)]
  simp only [Option.bind_some]
  have V1 := G1.put (o := 11) (t := 0) (n := σ 8 12)
  have v16 : cPt T1 11 0 (σ 8 12) 8 16 = T1 8 16 + 1 := cPt_n.1
  have v12 : cPt T1 11 0 (σ 8 12) 8 12 = T1 8 12 := cPt_o (by omega) (Or.inl (by decide))
  have v36 : cPt T1 11 0 (σ 8 12) 8 36 = T1 8 36 := cPt_o (by omega) (Or.inl (by decide))
  have v37 : cPt T1 11 0 (σ 8 12) 8 37 = T1 8 37 := cPt_o (by omega) (Or.inl (by decide))
  have i1 := @cI_put T1 (σ 8 12) 11 0
  have s1 : sI T1 (cPt T1 11 0 (σ 8 12)) (σ 8 16) (T1 8 16) := sI.pt (Int.le_refl _)
  have n1 : sameN T1 (cPt T1 11 0 (σ 8 12)) (X0 8 12) (T1 8 12) := sameN.put
  have kv := h3.fr V1
  have AV := A1.mv n1 k1
  have oV := (xo.fr F1 (by omega)).mv (T := cPt T1 11 0 (σ 8 12)) fun a q1 q2 _ _ _ => cPt_o (by omega) (by omega)
  generalize cPt T1 11 0 (σ 8 12) = T2 at *
  -- what is done then
  obtain ⟨T3, B1, K1, e2, F3, u12, ⟨d1, O1⟩, cB1, cK1, A3, u16⟩ := ihl.go (D := D + 1) H V1 (by rw [v12, t12, x12]; exact q2) sn1 (by omega) (by omega) (by omega) (by omega) (by omega) (by omega) ⟨by omega, by omega, by omega, by omega⟩ (by omega)
  have rg1 := (CO_ab _ _ _ _ _ _ _ O1).2
  have hd36 := ch_hd (x := T3 8 16) cB1 (fun p hp => (rg1 p (Or.inl hp)).2) (by omega)
  have hd37 := ch_hd (x := T3 8 16) cK1 (fun p hp => (rg1 p (Or.inr hp)).2) (by omega)
  have G3 := V1.tr F3
  have k3 := h3.fr G3
  rw [if_pos (by rw [kv.1]; decide), if_pos hn, V1.ce 73 (by decide) (by decide), fr_statements_e, e2]
  simp only [Option.bind_some]
  rw [fr_put_s (by omega)]
  simp only [Option.bind_some]
  have V3 := G3.put (o := 14) (t := 0) (n := -1)
  have y16 : cPt T3 14 0 (-1) 8 16 = T3 8 16 + 1 := cPt_n.1
  have y32 : cPt T3 14 0 (-1) 8 32 = 68 := by rw [cPt_o (by omega) (Or.inl (by decide))]; exact k3.1
  have y74 : cPt T3 14 0 (-1) 74 n = σ 74 n := by rw [V3.ce 74 (by decide) (by decide)]
  rw [if_pos (by omega), if_pos (by omega), if_pos hn, y16, y74]
  have V5 := V3.lead (i := T1 8 16) (v := T3 8 16 + 1) (by omega)
  have w16 : gW (cPt T3 14 0 (-1)) 21 (T1 8 16) (T3 8 16 + 1) 8 16 = T3 8 16 + 1 := by rw [gW_c (by decide)]; exact cPt_n.1
  have w8 : ∀ i, i ≠ 16 → gW (cPt T3 14 0 (-1)) 21 (T1 8 16) (T3 8 16 + 1) 8 i = T3 8 i := fun i q => by rw [gW_c (by decide)]; exact cPt_o (by omega) (Or.inl (by decide))
  have w12 := w8 12 (by decide)
  have w36 := w8 36 (by decide)
  have w37 := w8 37 (by decide)
  have i5 : cI (gW (cPt T3 14 0 (-1)) 21 (T1 8 16) (T3 8 16 + 1)) (T1 8 16) 11 (T3 8 16 + 1) (σ 8 12) := by
    refine ⟨?_, gW_at _ _ _ _, ?_⟩
    · rw [gW_c (by decide), cPt_o (by omega) (by omega), F3.2.2.2.2.2.1 20 _ (by decide) (by decide) (by omega)]; exact i1.1
    · rw [gW_c (by decide), cPt_o (by omega) (by omega), F3.2.2.2.2.2.1 22 _ (by decide) (by decide) (by omega)]; exact i1.2.2
  have j5 : cI (gW (cPt T3 14 0 (-1)) 21 (T1 8 16) (T3 8 16 + 1)) (T3 8 16) 14 0 (-1) := (sI.gw (P := T3 8 16) (E := T3 8 16 + 1) (by omega)).ci (@cI_put T3 (-1) 14 0) (Int.le_refl _) (by omega)
  have s3 : sI T3 (gW (cPt T3 14 0 (-1)) 21 (T1 8 16) (T3 8 16 + 1)) (T1 8 16 + 1) (T3 8 16) := (sI.pt (Int.le_refl _)).tr (sI.gw (by omega))
  have s0 : sI T3 (gW (cPt T3 14 0 (-1)) 21 (T1 8 16) (T3 8 16 + 1)) (σ 8 16) (T1 8 16) := (sI.pt (by omega)).tr (sI.gw (by omega))
  have n3 : ∀ lo hi, sameN T3 (gW (cPt T3 14 0 (-1)) 21 (T1 8 16) (T3 8 16 + 1)) lo hi := fun lo hi => sameN.put.tr sameN.lead
  have k5 := h3.fr V5
  have o3 := (oV.fr F3 (by omega)).mv (T := gW (cPt T3 14 0 (-1)) 21 (T1 8 16) (T3 8 16 + 1)) fun a q1 q2 _ _ _ => by rw [gW_c (by omega)]; exact cPt_o (by omega) (by omega)
  generalize gW (cPt T3 14 0 (-1)) 21 (T1 8 16) (T3 8 16 + 1) = T5 at *
  -- what is done else
  obtain ⟨T6, B2, K2, e3, F6, z12, ⟨d2, O2⟩, cB2, cK2, A6, z16⟩ := ihl.go (D := D + 1) H V5 (by rw [w12, u12, v12, t12, x12, show σ 8 12 + 1 + (nd σ g - nd σ (n + 1)) + (nd σ h - nd σ g) = σ 8 12 + 1 + (nd σ h - nd σ (n + 1)) by omega]; exact q3) sn2 (by omega) (by omega) (Int.le_refl _) (by omega) (by omega) (by omega) ⟨by omega, by omega, by omega, by omega⟩ (by omega)
  have rg2 := (CO_ab _ _ _ _ _ _ _ O2).2
  have G6 := V5.tr F6
  have k6 := h3.fr G6
  rw [fr_statements_e, e3]
  simp only [Option.bind_some]
  rw [if_pos (by omega)]
  have FZ := G6.lead (i := T3 8 16) (v := T6 8 16) (by omega)
  have c := FZ.ce
  have f8 : ∀ i, gW T6 21 (T3 8 16) (T6 8 16) 8 i = T6 8 i := fun i => gW_c (by decide)
  have f12 := f8 12
  have f16 := f8 16
  have f36 := f8 36
  have f37 := f8 37
  have sZ : ∀ P E, E ≤ T3 8 16 ∨ T3 8 16 + 1 ≤ P → sI T6 (gW T6 21 (T3 8 16) (T6 8 16)) P E := fun P E q => sI.gw (by omega)
  have jZ : cI (gW T6 21 (T3 8 16) (T6 8 16)) (T3 8 16) 14 (T6 8 16) (-1) := by
    refine ⟨?_, gW_at _ _ _ _, ?_⟩
    · rw [gW_c (by decide), F6.2.2.2.2.2.1 20 _ (by decide) (by decide) (by omega)]; exact j5.1
    · rw [gW_c (by decide), F6.2.2.2.2.2.1 22 _ (by decide) (by decide) (by omega)]; exact j5.2.2
  have nZ : ∀ lo hi, sameN T6 (gW T6 21 (T3 8 16) (T6 8 16)) lo hi := fun lo hi => sameN.lead
  have oZ := (o3.fr F6 (by omega)).mv (T := gW T6 21 (T3 8 16) (T6 8 16)) fun a q1 q2 _ _ _ => gW_c (by omega)
  generalize gW T6 21 (T3 8 16) (T6 8 16) = Z at *
  have e70 : Z 70 n = σ 70 n := by rw [c 70 (by decide) (by decide)]
  have e71 : Z 71 n = σ 71 n := by rw [c 71 (by decide) (by decide)]
  have e72 : Z 72 n = σ 72 n := by rw [c 72 (by decide) (by decide)]
  have e73 : Z 73 n = σ 73 n := by rw [c 73 (by decide) (by decide)]
  have e74 : Z 74 n = σ 74 n := by rw [c 74 (by decide) (by decide)]
  -- rows that stay to the end
  have a1 : sI T1 Z (σ 8 16) (T1 8 16) := (((s1.tr (F3.si (by omega))).tr s0).tr (F6.si (by omega))).tr (sZ _ _ (by omega))
  have a3 : sI T3 Z (T1 8 16 + 1) (T3 8 16) := (s3.tr (F6.si (by omega))).tr (sZ _ _ (by omega))
  have a6 : sI T6 Z (T3 8 16 + 1) (T6 8 16) := sZ _ _ (by omega)
  have c5 : ∀ (X Y : gM), (∀ e, 70 ≤ e → e ≤ 78 → X e = σ e) → (∀ e, 70 ≤ e → e ≤ 78 → Y e = σ e) → ∀ e, 70 ≤ e → e ≤ 78 → Y e = X e := fun X Y p q e e0 e1 => by rw [p e e0 e1, q e e0 e1]
  have CZ1 : C0 Z N 0 (σ 72 n) (σ 8 16 + 1) (T1 8 16) := by rw [← x16]; exact C1.si (by decide) (c5 T1 Z G1.ce c) a1 (by omega) (Int.le_refl _)
  have OZ1 : CO Z N d1 0 (σ 73 n) (T1 8 16 + 1) (T3 8 16) B1 K1 := by rw [← v16]; exact CO_fr (c5 T3 Z G3.ce c) _ _ _ _ _ _ _ (by rw [v16]; exact a3) O1
  have OZ2 : CO Z N d2 0 (σ 74 n) (T3 8 16 + 1) (T6 8 16) B2 K2 := by rw [← w16]; exact CO_fr (c5 T6 Z G6.ce c) _ _ _ _ _ _ _ (by rw [w16]; exact a6) O2
  have b1 : ∀ p, p ∈ B1 ∨ p ∈ K1 → Z 21 p = T3 21 p := fun p hp => (a3 p (by have := rg1 p hp; omega) (by have := rg1 p hp; omega)).2.1
  have b2 : ∀ p, p ∈ B2 ∨ p ∈ K2 → Z 21 p = T6 21 p := fun p hp => (a6 p (by have := rg2 p hp; omega) (by have := rg2 p hp; omega)).2.1
  have ciZ : cI Z (σ 8 16) 10 0 (σ 8 12) := a1.ci ((F1.si (P := σ 8 16) (E := σ 8 16 + 1) (by omega)).ci xi (Int.le_refl _) (by omega)) (Int.le_refl _) (by omega)
  have i6 : cI Z (T1 8 16) 11 (T3 8 16 + 1) (σ 8 12) := ((F6.si (P := T1 8 16) (E := T1 8 16 + 1) (by omega)).tr (sZ _ _ (by omega))).ci i5 (Int.le_refl _) (by omega)
  have nvs : ∀ (X : gM) (w : Int), cFr w σ X → ∀ u v, n ≤ u → v ≤ b → ∀ i, u ≤ i → i < v → nV X i := fun X w F u v q1 q2 i i0 i1 => (h4 i (by omega) (by omega)).fr h3 F
  have AZ1 := ((((AV.fr F3 V1.2.1 kv (nvs _ _ V1 _ _ (by omega) (by omega)) (by omega)).mv (n3 _ _) k3).fr F6 V5.2.1 k5 (nvs _ _ V5 _ _ (by omega) (by omega)) (by omega)).mv (nZ _ _) k6)
  have AZ3 := ((A3.mv (n3 _ _) k3).fr F6 V5.2.1 k5 (nvs _ _ V5 _ _ (by omega) (by omega)) (by omega)).mv (nZ _ _) k6
  have AZ6 := A6.mv (nZ _ _) k6
  refine ⟨Z, B2 ++ B1, K2 ++ K1, rfl, FZ.le (by omega), by omega, ?_, ?_, ?_, cA.cat (cA.one fun _ => ⟨?_, by omega, cEn_no (by omega)⟩) (cA.cat (AZ1.wd (by omega) (by omega)) (cA.cat (AZ3.wd (by omega) (by omega)) (AZ6.wd (by omega) (by omega)))), by omega⟩
  · obtain ⟨d', g1, g2⟩ := CO_two OZ1 OZ2
    refine ⟨d' + 1, by omega, ?_, Or.inl ⟨by omega, T1 8 16, T3 8 16, B1, K1, B2, K2, ?_, ?_, ?_, ?_, ?_, rfl, rfl⟩⟩
    · rw [if_neg (by omega), hN]; exact ciZ
    · rw [e72]; exact CZ1
    · rw [hN]; exact i6
    · rw [e73]; exact g1
    · rw [f16]; exact jZ
    · rw [e74, f16]; exact g2
  · rw [f36]
    rw [w36] at cB2
    rw [v36, t36.1, x36.1] at cB1
    exact ch_app _ _ _ (fun p hp => by have := rg2 p (Or.inl hp); omega) (fun p hp y hy => by have := rg2 p (Or.inl hp); have := rg1 y (Or.inl hy); omega) (ch_fr _ _ (fun p hp => b2 p (Or.inl hp)) cB2) (ch_fr _ _ (fun p hp => b1 p (Or.inl hp)) cB1)
  · rw [f37]
    rw [w37] at cK2
    rw [v37, t36.2, x36.2] at cK1
    exact ch_app _ _ _ (fun p hp => by have := rg2 p (Or.inr hp); omega) (fun p hp y hy => by have := rg2 p (Or.inr hp); have := rg1 y (Or.inr hy); omega) (ch_fr _ _ (fun p hp => b2 p (Or.inr hp)) cK2) (ch_fr _ _ (fun p hp => b1 p (Or.inr hp)) cK1)
  · rw [hN]
    exact cN1_op (by rw [e70, e71]; exact oZ) (by omega)
end SU
