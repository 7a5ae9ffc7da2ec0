/-! the component plants statements: while; all of them -/
section SW
variable {σ S T Z U : gM} {N : Int → Int} {a b n u v x w k c : Int} {d D m f : Nat} {B K : List Int}
/-- while -/
theorem s_while (ihl : cSl d) (H3 : cH3 σ n b) (e : σ 70 n = 25) (hN : N n = σ 8 12) (c0 : 0 ≤ c) (sn1 : SN σ f 0 (σ 73 n) (2 * (c / 2) - 1)) (hD : 3 * (c / 2) + 3 ≤ D + 3) {g : Int} (q1 : QT σ N d 0 (n + 1) g (σ 72 n) (σ 8 12 + 1)) (q2 : QT σ N d 2 g b (σ 73 n) (σ 8 12 + 1 + (nd σ g - nd σ (n + 1)))) : ∃ S B K, fr_statement (D + 3) σ n = some (S, 0) ∧ cX σ σ S N 1 n b n B K := by
  obtain ⟨H, r16, rh, rD⟩ := H3
  have H' := H
  obtain ⟨h1, h2, h3, h4, ⟨a0, b4⟩, h6, h7, h8⟩ := H'
  have s := stp.of H
  have nS1 := nd_S (σ := σ) (i := n) a0 (by omega)
  have wS1 := wq_s (σ := σ) (i := n) a0
  have w1 := wt_0 (σ := σ) (n := n) (by omega)
  have ab1 := QT0_N q1
  have m1 := QT0_nd q1
  have ab2 := (QT_ab _ _ _ _ _ _ q2).1
  have m2 := nd_r (σ := σ) (i := g) (j := b) (by omega) ab2
  have l1 := wq_le (u := n + 1) (v := g) H (by omega) (by omega) (by omega)
  have l2 := wq_le (u := g) (v := b) H (by omega) (by omega) (by omega)
  have hn : 0 ≤ n ∧ n < 4200 := by omega
  rw [fr_statement_e, fr_put_s (by omega)]
  simp only [Option.bind_some]
  generalize cPt σ 10 0 (σ 8 12) = U at *
  have X := s.nd n
  obtain ⟨F, e12, e16, e36, e32, ci⟩ := s
  have cu := F.ce
  have h32 : 0 ≤ U 8 32 := by omega
  have u70 : U 70 n = 25 := by rw [cu 70 (by decide) (by decide)]; exact e
  rw [if_pos h32, if_pos hn, u70, if_neg (by decide), if_pos (by trivial), fr_node_s h32 hn (by omega)]
  simp only [Option.bind_some]
  rw [e12]
  generalize cNd U n = X0 at *
  obtain ⟨FX, x12, x16, x36, x32, xi, xo⟩ := X
  have cx := FX.ce
  rw [fr_loop_e, if_pos (show 0 ≤ X0 8 32 by omega), if_pos hn]
  have FY := (FX.f8 (i := 36) (v := -1) (by decide)).f8 (i := 37) (v := -1) (by decide)
  have y8 : ∀ i, i ≠ 36 → i ≠ 37 → gW (gW X0 8 36 (-1)) 8 37 (-1) 8 i = X0 8 i := fun i q1 q2 => by rw [gW_i q2, gW_i q1]
  have y36 : gW (gW X0 8 36 (-1)) 8 37 (-1) 8 36 = -1 := by rw [gW_i (by decide), gW_at]
  have y37 : gW (gW X0 8 36 (-1)) 8 37 (-1) 8 37 = -1 := gW_at _ _ _ _
  have yi : sI X0 (gW (gW X0 8 36 (-1)) 8 37 (-1)) (σ 8 16) (σ 8 16 + 1) := (sI.gw (Or.inl (by decide))).tr (sI.gw (Or.inl (by decide)))
  have yo := xo.mv (T := gW (gW X0 8 36 (-1)) 8 37 (-1)) fun a q1 q2 _ _ _ => by rw [gW_c (by omega), gW_c (by omega)]
  have y12 := y8 12 (by decide) (by decide)
  have y16 := y8 16 (by decide) (by decide)
  generalize gW (gW X0 8 36 (-1)) 8 37 (-1) = Y at *
  -- the condition
  obtain ⟨T1, e1, F1, t12, t36, C1, A1, t16, tm⟩ := cW.go H FY (by rw [y12, x12]; exact q1) (by omega) (by omega) (by omega) (by omega) (by omega) (by omega)
  obtain ⟨tm1, tm2, tm3⟩ := tm rfl
  have G1 := FY.tr F1
  have k1 := h3.fr G1
  rw [cx 72 (by decide) (by decide), e1]
  simp only [Option.bind_some]
  rw [fr_put_s (by omega)]
  simp only [Option.bind_some]
  have V1 := G1.put (o := 12) (t := 0) (n := σ 8 12)
  have v16 : cPt T1 12 0 (σ 8 12) 8 16 = T1 8 16 + 1 := cPt_n.1
  have v12 : cPt T1 12 0 (σ 8 12) 8 12 = T1 8 12 := cPt_o (by omega) (Or.inl (by decide))
  have v36 : cPt T1 12 0 (σ 8 12) 8 36 = T1 8 36 := cPt_o (by omega) (Or.inl (by decide))
  have v37 : cPt T1 12 0 (σ 8 12) 8 37 = T1 8 37 := cPt_o (by omega) (Or.inl (by decide))
  have i1 := @cI_put T1 (σ 8 12) 12 0
  have s1 : sI T1 (cPt T1 12 0 (σ 8 12)) (σ 8 16) (T1 8 16) := sI.pt (Int.le_refl _)
  have n1 : sameN T1 (cPt T1 12 0 (σ 8 12)) (Y 8 12) (T1 8 12) := sameN.put
  have kv := h3.fr V1
  have AV := A1.mv n1 k1
  have oV := (yo.fr F1 (by omega)).mv (T := cPt T1 12 0 (σ 8 12)) fun a q1 q2 _ _ _ => cPt_o (by omega) (by omega)
  generalize cPt T1 12 0 (σ 8 12) = T2 at *
  -- what is done again and again
  obtain ⟨T3, B, K, e2, F3, u12, ⟨d1, O1⟩, cB, cK, A3, u16⟩ := ihl.go (D := D) H V1 (by rw [v12, t12, y12, x12]; exact q2) sn1 (by omega) (by omega) (Int.le_refl _) (by omega) (by omega) (by omega) ⟨by omega, by omega, by omega, by omega⟩ (by omega)
  have rg := (CO_ab _ _ _ _ _ _ _ O1).2
  have dj := CO_dj _ _ _ _ _ _ _ O1
  rw [v36, t36.1, y36] at cB
  rw [v37, t36.2, y37] at cK
  have G3 := V1.tr F3
  have k3 := h3.fr G3
  rw [if_pos (by rw [kv.1]; decide), if_pos hn, V1.ce 73 (by decide) (by decide), fr_statements_e, e2]
  simp only [Option.bind_some]
  obtain ⟨T4, l1', l2', l3', l4'⟩ := fr_land_s K T3 (T3 8 37) cK fun p hp => by have := rg p (Or.inr hp); omega
  rw [fr_land_e, l1']
  simp only [Option.bind_some]
  have q16 : T4 8 16 = T3 8 16 := l2' 8 16 (by decide)
  rw [fr_put_s (by omega)]
  simp only [Option.bind_some]
  have p16 : cPt T4 13 (X0 8 16) (σ 8 12) 8 16 = T3 8 16 + 1 := by rw [cPt_n.1, q16]
  have p36 : cPt T4 13 (X0 8 16) (σ 8 12) 8 36 = T3 8 36 := by rw [cPt_o (by omega) (Or.inl (by decide))]; exact l2' 8 36 (by decide)
  rw [if_pos (by omega), p16, p36]
  have r21 : ∀ p, p ≠ T1 8 16 → p ≠ T3 8 16 → gW (cPt T4 13 (X0 8 16) (σ 8 12)) 21 (T1 8 16) (T3 8 16 + 1) 21 p = T4 21 p := fun p z1 z2 => by rw [gW_i z1, cPt_o (by omega) (by omega)]
  have ra : ∀ a i, a ≠ 21 → (a ≠ 8 ∨ i ≠ 16) → ((a ≠ 20 ∧ a ≠ 22) ∨ i ≠ T3 8 16) → gW (cPt T4 13 (X0 8 16) (σ 8 12)) 21 (T1 8 16) (T3 8 16 + 1) a i = T3 a i := fun a i z1 z2 z3 => by rw [gW_c z1, cPt_o z2 (by omega), l2' a i z1]
  have r16' : gW (cPt T4 13 (X0 8 16) (σ 8 12)) 21 (T1 8 16) (T3 8 16 + 1) 8 16 = T3 8 16 + 1 := by rw [gW_c (by decide), p16]
  have r1 : gW (cPt T4 13 (X0 8 16) (σ 8 12)) 21 (T1 8 16) (T3 8 16 + 1) 21 (T1 8 16) = T3 8 16 + 1 := gW_at _ _ _ _
  have r3 : cI (gW (cPt T4 13 (X0 8 16) (σ 8 12)) 21 (T1 8 16) (T3 8 16 + 1)) (T3 8 16) 13 (X0 8 16) (σ 8 12) := by
    have := @cI_put T4 (σ 8 12) 13 (X0 8 16)
    rw [q16] at this
    exact (sI.gw (P := T3 8 16) (E := T3 8 16 + 1) (by omega)).ci this (Int.le_refl _) (by omega)
  generalize gW (cPt T4 13 (X0 8 16) (σ 8 12)) 21 (T1 8 16) (T3 8 16 + 1) = T6 at *
  have cB6 : ch T6 (-1) (T3 8 36) B := ch_fr _ _ (fun p hp => by
    have := rg p (Or.inl hp)
    rw [r21 p (by omega) (by omega), l4' p (dj p hp)]) cB
  obtain ⟨T7, j1, j2, j3, j4⟩ := fr_land_s B T6 (T3 8 36) cB6 fun p hp => by have := rg p (Or.inl hp); omega
  rw [fr_land_e, j1]
  simp only [Option.bind_some]
  have zc : ∀ a i, a ≠ 8 → a ≠ 21 → ((a ≠ 20 ∧ a ≠ 22) ∨ i ≠ T3 8 16) → gW (gW T7 8 36 (X0 8 36)) 8 37 (X0 8 37) a i = T3 a i := fun a i z1 z2 z3 => by rw [gW_c z1, gW_c z1, j2 a i z2, ra a i z2 (Or.inl z1) z3]
  have z8 : ∀ i, i ≠ 16 → i ≠ 36 → i ≠ 37 → gW (gW T7 8 36 (X0 8 36)) 8 37 (X0 8 37) 8 i = T3 8 i := fun i z1 z2 z3 => by rw [gW_i z3, gW_i z2, j2 8 i (by decide), ra 8 i (by decide) (Or.inr z1) (Or.inl (by decide))]
  have z36 : gW (gW T7 8 36 (X0 8 36)) 8 37 (X0 8 37) 8 36 = σ 8 36 := by rw [gW_i (by decide), gW_at, x36.1]
  have z37 : gW (gW T7 8 36 (X0 8 36)) 8 37 (X0 8 37) 8 37 = σ 8 37 := by rw [gW_at, x36.2]
  have z16 : gW (gW T7 8 36 (X0 8 36)) 8 37 (X0 8 37) 8 16 = T3 8 16 + 1 := by rw [gW_i (by decide), gW_i (by decide), j2 8 16 (by decide), r16']
  have z21 : ∀ p, gW (gW T7 8 36 (X0 8 36)) 8 37 (X0 8 37) 21 p = T7 21 p := fun p => by rw [gW_c (by decide), gW_c (by decide)]
  have z2x : ∀ a, (a = 20 ∨ a = 22) → ∀ p, gW (gW T7 8 36 (X0 8 36)) 8 37 (X0 8 37) a p = T6 a p := fun a z p => by rw [gW_c (by omega), gW_c (by omega), j2 a p (by omega)]
  generalize gW (gW T7 8 36 (X0 8 36)) 8 37 (X0 8 37) = Z at *
  have z12 := z8 12 (by decide) (by decide) (by decide)
  -- where breaks and continues lead
  have zB : ∀ p, p ∈ B → Z 21 p = T3 8 16 + 1 := fun p hp => by rw [z21, j3 p hp, r16']
  have zK : ∀ p, p ∈ K → Z 21 p = T3 8 16 := fun p hp => by
    have := rg p (Or.inr hp)
    rw [z21, j4 p (fun w => dj p w hp), r21 p (by omega) (by omega), l3' p hp]
  have zO : ∀ p, p ∉ B → p ∉ K → p ≠ T1 8 16 → p ≠ T3 8 16 → Z 21 p = T3 21 p := fun p q1 q2 q3 q4 => by rw [z21, j4 p q1, r21 p q3 q4, l4' p q2]
  have out : ∀ p, p < T1 8 16 + 1 ∨ T3 8 16 ≤ p → p ∉ B ∧ p ∉ K := fun p hp => ⟨fun w => by have := rg p (Or.inl w); omega, fun w => by have := rg p (Or.inr w); omega⟩
  have sl : sL T3 Z (T3 8 16 + 1) (T3 8 16) (T1 8 16 + 1) (T3 8 16) B K := fun p p0 p1 =>
    ⟨zc 20 p (by decide) (by decide) (by omega), zc 22 p (by decide) (by decide) (by omega), zB p, zK p, fun q1 q2 => zO p q1 q2 (by omega) (by omega)⟩
  have s3 : sI T3 Z (σ 8 16) (T1 8 16) := fun p p0 p1 => by
    obtain ⟨o1, o2⟩ := out p (by omega)
    exact ⟨zc 20 p (by decide) (by decide) (by omega), zO p o1 o2 (by omega) (by omega), zc 22 p (by decide) (by decide) (by omega)⟩
  have FZ : cFr (0 + (wq σ g - wq σ (n + 1)) + (wq σ b - wq σ g)) σ Z := by
    refine G3.mv (fun a q => funext fun i => zc a i (by omega) (by omega) (by omega)) (fun i q1 q2 q3 q4 => z8 i q2 q3 q4) (fun a i q1 q2 q3 => zc a i (by omega) (by omega) (by omega)) (fun a p q1 q2 q3 => ?_) ⟨by omega, by omega⟩
    obtain ⟨o1, o2⟩ := out p (by omega)
    by_cases z : a = 21
    · rw [z]; exact zO p o1 o2 (by omega) (by omega)
    · exact zc a p (by omega) z (by omega)
  have cc := FZ.ce
  have nZ : ∀ lo hi, sameN T3 Z lo hi := fun lo hi => ⟨fun a q => funext fun i => zc a i (by omega) (by omega) (by omega), fun i q1 q2 q3 q4 => z8 i q2 q3 q4, fun a i q1 q2 q3 _ _ => zc a i (by omega) (by omega) (by omega), fun i _ _ => zc 15 i (by decide) (by decide) (Or.inl (by decide))⟩
  have oZ := (oV.fr F3 (by omega)).mv (T := Z) fun a q1 q2 _ _ _ => zc a _ (by omega) (by omega) (by omega)
  have e70 : Z 70 n = σ 70 n := by rw [cc 70 (by decide) (by decide)]
  have e71 : Z 71 n = σ 71 n := by rw [cc 71 (by decide) (by decide)]
  have e72 : Z 72 n = σ 72 n := by rw [cc 72 (by decide) (by decide)]
  have e73 : Z 73 n = σ 73 n := by rw [cc 73 (by decide) (by decide)]
  have c5 : ∀ (X Y : gM), (∀ e, 70 ≤ e → e ≤ 78 → X e = σ e) → (∀ e, 70 ≤ e → e ≤ 78 → Y e = σ e) → ∀ e, 70 ≤ e → e ≤ 78 → Y e = X e := fun X Y p q e e0 e1 => by rw [p e e0 e1, q e e0 e1]
  have a1 : sI T1 Z (σ 8 16) (T1 8 16) := (s1.tr (F3.si (by omega))).tr s3
  have CZ1 : C0 Z N 0 (σ 72 n) (σ 8 16 + 1) (T1 8 16) := by rw [← x16, ← y16]; exact C1.si (by decide) (c5 T1 Z G1.ce cc) a1 (by omega) (Int.le_refl _)
  obtain ⟨d2, CZ2⟩ := CO_land (c5 T3 Z G3.ce cc) _ _ _ _ _ _ _ (by rw [v16]; exact sl) O1
  rw [v16] at CZ2
  have ciZ : cI Z (σ 8 16) 10 0 (σ 8 12) := a1.ci ((F1.si (P := σ 8 16) (E := σ 8 16 + 1) (by omega)).ci (yi.ci xi (Int.le_refl _) (by omega)) (Int.le_refl _) (by omega)) (Int.le_refl _) (by omega)
  have i6 : cI Z (T1 8 16) 12 (T3 8 16 + 1) (σ 8 12) := by
    obtain ⟨o1, o2⟩ := out (T1 8 16) (by omega)
    refine ⟨?_, ?_, ?_⟩
    · rw [zc 20 _ (by decide) (by decide) (by omega), F3.2.2.2.2.2.1 20 _ (by decide) (by decide) (by omega)]; exact i1.1
    · rw [z21, j4 _ o1, r1]
    · rw [zc 22 _ (by decide) (by decide) (by omega), F3.2.2.2.2.2.1 22 _ (by decide) (by decide) (by omega)]; exact i1.2.2
  have i7 : cI Z (T3 8 16) 13 (σ 8 16 + 1) (σ 8 12) := by
    obtain ⟨o1, o2⟩ := out (T3 8 16) (by omega)
    rw [← x16]
    exact ⟨by rw [z2x 20 (by decide)]; exact r3.1, by rw [z21, j4 _ o1]; exact r3.2.1, by rw [z2x 22 (by decide)]; exact r3.2.2⟩
  have nvs : ∀ (X : gM) (w : Int), cFr w σ X → ∀ u v, n ≤ u → v ≤ b → ∀ i, u ≤ i → i < v → nV X i := fun X w F u v q1 q2 i i0 i1 => (h4 i (by omega) (by omega)).fr h3 F
  have AZ1 := (AV.fr F3 V1.2.1 kv (nvs _ _ V1 _ _ (by omega) (by omega)) (by omega)).mv (nZ _ _) k3
  have AZ3 := A3.mv (nZ _ _) k3
  refine ⟨Z, [], [], rfl, FZ.le (by omega), by omega, ⟨1, by omega, ?_, Or.inr (Or.inl ⟨by omega, ⟨T1 8 16, d2, ?_, ?_, ?_, ?_⟩, rfl, rfl⟩)⟩, ?_, ?_, cA.cat (cA.one fun _ => ⟨?_, by omega, cEn_no (by omega)⟩) (cA.cat (AZ1.wd (by omega) (by omega)) (AZ3.wd (by omega) (by omega))), by omega⟩
  · rw [if_neg (by omega), hN]; exact ciZ
  · rw [e72]; exact CZ1
  · rw [hN, z16]; exact i6
  · rw [e73, z16, show T3 8 16 + 1 - 1 = T3 8 16 by omega]; exact CZ2
  · rw [hN, z16, show T3 8 16 + 1 - 1 = T3 8 16 by omega]; exact i7
  · show Z 8 36 = σ 8 36
    exact z36
  · show Z 8 37 = σ 8 37
    exact z37
  · rw [hN]
    exact cN1_op (by rw [e70, e71]; exact oZ) (by omega)
theorem cS1_s (ihl : cSl d) : cS1 (d + 1) := by
  intro f D σ N a b n c q sn hc H3
  obtain ⟨hr, hN, hk⟩ := q
  obtain ⟨r1, rfl, r2⟩ := hr
  cases f with
  | zero => exact sn.elim
  | succ f =>
  obtain ⟨c0, alt⟩ := sn
  obtain ⟨D, rfl⟩ : ∃ D', D = D' + 3 := ⟨D - 3, by omega⟩
  have hc' : 3 * (c / 2) + 3 ≤ (D : Int) + 3 := by omega
  rcases hk with ⟨e, g, h, q1, q2, q3⟩ | ⟨e, g, q1, q2, e1⟩ | ⟨e, q, e1⟩ | ⟨e, e0, e1⟩ | ⟨e, q⟩
  · rcases alt with ⟨-, s1, s2⟩ | ⟨z, -⟩ | z | ⟨z, -⟩
    · exact s_if ihl H3 e (hN (by omega)) c0 s1 s2 hc' q1 q2 q3
    · omega
    · omega
    · omega
  · rcases alt with ⟨z, -⟩ | ⟨-, s1⟩ | z | ⟨z, -⟩
    · omega
    · exact s_while ihl H3 e (hN (by omega)) c0 s1 hc' q1 q2
    · omega
    · omega
  · exact s_ret (D := D + 2) H3 e (hN (by omega)) q r2
  · subst e0
    exact s_jump (D := D + 2) H3 e (hN (by omega))
  · exact s_does (D := D + 2) H3 e q
theorem cS_all : ∀ d : Nat, cS1 d ∧ cSl d
  | 0 => ⟨fun _ _ _ _ _ _ _ _ q => q.elim, fun _ _ _ _ _ _ _ _ q => q.elim⟩
  | d + 1 => ⟨cS1_s (cS_all d).2, cSl_s (cS_all d).1 (cS_all d).2⟩
/-- outside of whiles no jump is open -/
theorem SN_even : ∀ (f d m : Nat) (n c P E : Int) (B K : List Int), SN σ f m n c → c % 2 = 0 → CO σ N d m n P E B K → B = [] ∧ K = []
  | 0, _, _, _, _, _, _, _, _, s, _, _ => s.elim
  | _ + 1, 0, _, _, _, _, _, _, _, _, _, h => h.elim
  | f + 1, d + 1, 0, n, c, P, E, B, K, s, hc, h => by
    rcases h with ⟨-, -, h1, h2⟩ | ⟨h0, M, B1, K1, B2, K2, h1, h2, rfl, rfl⟩
    · exact ⟨h1, h2⟩
    · rcases s with s | ⟨-, s1, s2⟩
      · omega
      · obtain ⟨a1, a2⟩ := SN_even f d 1 _ _ _ _ _ _ s1 hc h1
        obtain ⟨b1, b2⟩ := SN_even f d 0 _ _ _ _ _ _ s2 hc h2
        rw [a1, a2, b1, b2]
        exact ⟨rfl, rfl⟩
  | f + 1, d + 1, m + 1, n, c, P, E, B, K, s, hc, h => by
    obtain ⟨-, -, h2⟩ := h
    obtain ⟨c0, alt⟩ := s
    rcases h2 with ⟨e, M, M', B1, K1, B2, K2, t, i, t', i', t'', rfl, rfl⟩ | ⟨e, -, h1, h2⟩ | ⟨e, -, -, h1, h2⟩ | ⟨e, -⟩ | ⟨e, -⟩ | ⟨e, -, -, h1, h2⟩
    · rcases alt with ⟨-, s1, s2⟩ | ⟨z, -⟩ | z | ⟨z, -⟩
      · obtain ⟨a1, a2⟩ := SN_even f d 0 _ _ _ _ _ _ s1 (by omega) t'
        obtain ⟨b1, b2⟩ := SN_even f d 0 _ _ _ _ _ _ s2 (by omega) t''
        rw [a1, a2, b1, b2]
        exact ⟨rfl, rfl⟩
      · omega
      · omega
      · omega
    · exact ⟨h1, h2⟩
    · exact ⟨h1, h2⟩
    · rcases alt with ⟨z, -⟩ | ⟨z, -⟩ | z | ⟨z, w⟩ <;> omega
    · rcases alt with ⟨z, -⟩ | ⟨z, -⟩ | z | ⟨z, w⟩ <;> omega
    · exact ⟨h1, h2⟩
end SW
