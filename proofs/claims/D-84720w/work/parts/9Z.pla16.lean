/-! the component plants what is worked out: nodes with parts -/
section CP
variable {σ S T Z S0 : gM} {N : Int → Int} {a b n u v x w k : Int} {d D m : Nat}
theorem QT0_N (h : QT σ N d 0 a b n k) : N n = k ∧ σ 70 n ≠ 30 ∧ (0 ≤ a ∧ a ≤ n ∧ n < b) := by
  cases d with
  | zero => exact h.elim
  | succ d =>
    obtain ⟨h0, h1, h2⟩ := h
    refine ⟨h0, ?_, h1⟩
    rcases h2 with ⟨e, -⟩ | ⟨e, -⟩ | ⟨e, -⟩ | ⟨e, -⟩ | ⟨e, -⟩ | ⟨e, -⟩ <;> omega
theorem QT0_nd (h : QT σ N d 0 a b n k) : nd σ a + 1 ≤ nd σ b := by
  obtain ⟨-, k30, h⟩ := QT0_N h
  have := nd_lt (σ := σ) (i := n) (j := b) (by omega) (by omega) k30
  have := nd_r (σ := σ) (i := a) (j := n) (by omega) (by omega)
  omega
theorem wq_le (H : cH σ a b) (au : a ≤ u) (uv : u ≤ v) (vb : v ≤ b) : wq σ u ≤ wq σ v := by
  obtain ⟨h1, h2, h3, h4, h5, h6, h7, h8⟩ := H
  exact wq_r (by omega) uv fun i i0 i1 => (h4 i (by omega) (by omega)).wt0
/-- a local is written -/
theorem k_write (ih : cT d) (H : cH σ n b) (hD : 3 * (nd σ b - nd σ n) < D + 3) (hN : N n = σ 8 12) (O : own σ S0 n) (e : σ 70 n = 6) (q1 : QT σ N d 0 (n + 1) b (σ 74 n) (σ 8 12 + 1)) : ∃ Z, fr_work_2 (D + 2) S0 n (σ 8 12) = some (Z, 0) ∧ cZ σ Z N n b n := by
  obtain ⟨F0, o12, o16, o36, o32, o0⟩ := O
  have H' := H
  obtain ⟨h1, h2, h3, h4, ⟨a0, b4⟩, h6, h7, h8⟩ := H'
  have nS1 := nd_S (σ := σ) (i := n) a0 (by omega)
  have wS1 := wq_s (σ := σ) (i := n) a0
  have w1 := wt_0 (σ := σ) (n := n) (by omega)
  have c0 := F0.ce
  have k70 : S0 70 n = σ 70 n := by rw [c0 70 (by decide) (by decide)]
  have k74 : S0 74 n = σ 74 n := by rw [c0 74 (by decide) (by decide)]
  have ab := QT0_N q1
  have m1 := QT0_nd q1
  have F0' := F0.own (a := 13) (i := σ 8 12) (v := S0 76 n) (by decide) (Int.le_refl _)
  have g : ∀ a i, ¬ (a = 13 ∧ i = σ 8 12) → gW S0 13 (σ 8 12) (S0 76 n) a i = S0 a i := fun a i q => by unfold gW; rw [if_neg q]
  have g13 : gW S0 13 (σ 8 12) (S0 76 n) 13 (σ 8 12) = σ 76 n := by rw [gW_at, c0 76 (by decide) (by decide)]
  have ow0 : oN (gW S0 13 (σ 8 12) (S0 76 n)) (σ 70 n) (σ 71 n) (σ 76 n) 0 (σ 8 12) := by
    obtain ⟨b1, b2, b3, b4, b5, b6, b7⟩ := o0
    exact ⟨by rw [g 9 _ (by omega)]; exact b1, by rw [g 10 _ (by omega)]; exact b2, by rw [g 11 _ (by omega)]; exact b3, by rw [g 12 _ (by omega)]; exact b4, by rw [g 18 _ (by omega)]; exact b5, g13, by rw [g 14 _ (by omega)]; exact b7⟩
  have g12 := g 8 12 (by omega)
  have g16 := g 8 16 (by omega)
  have g36 := g 8 36 (by omega)
  have g37 := g 8 37 (by omega)
  generalize eS : gW S0 13 (σ 8 12) (S0 76 n) = S1 at *
  obtain ⟨T, e1, F1, t12, t36, C, A, t16, tm⟩ := ih.go (D := D + 1) H F0' (by rw [g12, o12]; exact q1) (by omega) (Int.le_refl _) (by omega) (by omega) (by omega) (by omega)
  obtain ⟨tm1, tm2, tm3⟩ := tm rfl
  refine ⟨_, w2_6 (d := D + 1) (S1 := T) o32 (by omega) (by omega) (by omega) (by rw [eS, k74]; exact e1) (by omega), ?_⟩
  have FZ := (F0'.tr F1).put (o := 2) (t := 0) (n := σ 8 12)
  have c := FZ.ce
  have CZ := C.pt (o := 2) (t := 0) (x := σ 8 12) (by decide) (Int.le_refl _)
  have tT := h3.fr (F0'.tr F1)
  have AZ := A.mv (sameN.put (o := 2) (t := 0) (n := σ 8 12)) tT
  have z16 : cPt T 2 0 (σ 8 12) 8 16 = T 8 16 + 1 := cPt_n.1
  have z12 : cPt T 2 0 (σ 8 12) 8 12 = T 8 12 := cPt_o (by omega) (Or.inl (by decide))
  have z36 : cPt T 2 0 (σ 8 12) 8 36 = T 8 36 := cPt_o (by omega) (Or.inl (by decide))
  have z37 : cPt T 2 0 (σ 8 12) 8 37 = T 8 37 := cPt_o (by omega) (Or.inl (by decide))
  have ci := @cI_put T (σ 8 12) 2 0
  have ow := (ow0.fr F1 (by omega)).mv (T := cPt T 2 0 (σ 8 12)) fun a q1 q2 _ _ _ => cPt_o (by omega) (by omega)
  generalize cPt T 2 0 (σ 8 12) = Z at *
  have e70 : Z 70 n = σ 70 n := by rw [c 70 (by decide) (by decide)]
  have e74 : Z 74 n = σ 74 n := by rw [c 74 (by decide) (by decide)]
  refine ⟨FZ.le (by omega), by omega, ⟨by omega, by omega⟩, ?_, ?_, by omega⟩
  · obtain ⟨d', CZ⟩ := CZ
    refine ⟨d' + 1, fun br co => ⟨by omega, Or.inr (Or.inr (Or.inl ⟨by omega, ?_, ?_⟩))⟩⟩
    · rw [e74, show Z 8 16 - 1 = T 8 16 by omega, ← o16, ← g16]; exact CZ br co
    · rw [show Z 8 16 - 1 = T 8 16 by omega, hN]; exact ci
  · refine cA.cat (cA.one fun _ => ⟨?_, by omega, fun q => by omega, fun _ => ?_⟩) (AZ.wd (by omega) (by omega))
    · rw [hN]
      refine ⟨?_, fun q => by omega, fun q => by omega, fun q => by omega, fun q => by omega, fun q => by omega, fun q => by omega⟩
      rw [c 70 (by decide) (by decide), c 71 (by decide) (by decide), c 76 (by decide) (by decide), if_pos (Or.inr e), if_neg (by omega), if_neg (by omega)]
      exact ow
    · rw [e74, hN, ab.1]
      exact ⟨rfl, by omega⟩
/-- not -/
theorem k_not (ih : cT d) (H : cH σ n b) (hD : 3 * (nd σ b - nd σ n) < D + 3) (hN : N n = σ 8 12) (O : own σ S0 n) (e : σ 70 n = 20) (q1 : QT σ N d 0 (n + 1) b (σ 72 n) (σ 8 12 + 1)) : ∃ Z, fr_work_2 (D + 2) S0 n (σ 8 12) = some (Z, 0) ∧ cZ σ Z N n b n := by
  obtain ⟨F0, o12, o16, o36, o32, o0⟩ := O
  have H' := H
  obtain ⟨h1, h2, h3, h4, ⟨a0, b4⟩, h6, h7, h8⟩ := H'
  have nS1 := nd_S (σ := σ) (i := n) a0 (by omega)
  have wS1 := wq_s (σ := σ) (i := n) a0
  have w1 := wt_0 (σ := σ) (n := n) (by omega)
  have c0 := F0.ce
  have k70 : S0 70 n = σ 70 n := by rw [c0 70 (by decide) (by decide)]
  have k72 : S0 72 n = σ 72 n := by rw [c0 72 (by decide) (by decide)]
  have ab := QT0_N q1
  have m1 := QT0_nd q1
  obtain ⟨T, e1, F1, t12, t36, C, A, t16, tm⟩ := ih.go (D := D + 1) H F0 (by rw [o12]; exact q1) (by omega) (Int.le_refl _) (by omega) (by omega) (by omega) (by omega)
  obtain ⟨tm1, tm2, tm3⟩ := tm rfl
  refine ⟨_, w2_20 (d := D + 1) (S1 := T) o32 (by omega) (by omega) (by rw [k72]; exact e1) (by omega), ?_⟩
  have FZ := (F0.tr F1).put (o := 6) (t := 0) (n := σ 8 12)
  have c := FZ.ce
  have CZ := C.pt (o := 6) (t := 0) (x := σ 8 12) (by decide) (Int.le_refl _)
  have tT := h3.fr (F0.tr F1)
  have AZ := A.mv (sameN.put (o := 6) (t := 0) (n := σ 8 12)) tT
  have z16 : cPt T 6 0 (σ 8 12) 8 16 = T 8 16 + 1 := cPt_n.1
  have z12 : cPt T 6 0 (σ 8 12) 8 12 = T 8 12 := cPt_o (by omega) (Or.inl (by decide))
  have z36 : cPt T 6 0 (σ 8 12) 8 36 = T 8 36 := cPt_o (by omega) (Or.inl (by decide))
  have z37 : cPt T 6 0 (σ 8 12) 8 37 = T 8 37 := cPt_o (by omega) (Or.inl (by decide))
  have ci := @cI_put T (σ 8 12) 6 0
  have ow := (o0.fr F1 (by omega)).mv (T := cPt T 6 0 (σ 8 12)) fun a q1 q2 _ _ _ => cPt_o (by omega) (by omega)
  generalize cPt T 6 0 (σ 8 12) = Z at *
  have e70 : Z 70 n = σ 70 n := by rw [c 70 (by decide) (by decide)]
  have e71 : Z 71 n = σ 71 n := by rw [c 71 (by decide) (by decide)]
  have e72 : Z 72 n = σ 72 n := by rw [c 72 (by decide) (by decide)]
  refine ⟨FZ.le (by omega), by omega, ⟨by omega, by omega⟩, ?_, ?_, by omega⟩
  · obtain ⟨d', CZ⟩ := CZ
    refine ⟨d' + 1, fun br co => ⟨by omega, Or.inr (Or.inr (Or.inr (Or.inr (Or.inr (Or.inl ⟨by omega, ?_, ?_⟩)))))⟩⟩
    · rw [e72, show Z 8 16 - 1 = T 8 16 by omega, ← o16]; exact CZ br co
    · rw [show Z 8 16 - 1 = T 8 16 by omega, hN]; exact ci
  · refine cA.cat (cA.one fun _ => ⟨?_, by omega, cEn_no (by omega)⟩) (AZ.wd (by omega) (by omega))
    rw [hN]
    exact cN1_op (by rw [e70, e71]; exact ow) (by omega)
/-- two sides -/
theorem k_two (ih : cT d) (H : cH σ a b) (hr : a ≤ n ∧ n < b) (hD : 3 * (nd σ b - nd σ a) < D + 3) (hN : N n = σ 8 12) (O : own σ S0 n) (e : 8 ≤ σ 70 n ∧ σ 70 n ≤ 17) (q1 : QT σ N d 0 a n (σ 72 n) (σ 8 12 + 1)) (q2 : QT σ N d 0 (n + 1) b (σ 73 n) (σ 8 12 + 1 + (nd σ n - nd σ a))) : ∃ Z, fr_work_2 (D + 2) S0 n (σ 8 12) = some (Z, 0) ∧ cZ σ Z N a b n := by
  obtain ⟨F0, o12, o16, o36, o32, o0⟩ := O
  have H' := H
  obtain ⟨h1, h2, h3, h4, ⟨a0, b4⟩, h6, h7, h8⟩ := H'
  have nS1 := nd_S (σ := σ) (i := n) (by omega) (by omega)
  have wS1 := wq_s (σ := σ) (i := n) (by omega)
  have w1 := wt_0 (σ := σ) (n := n) (by omega)
  have c0 := F0.ce
  have k70 : S0 70 n = σ 70 n := by rw [c0 70 (by decide) (by decide)]
  have k72 : S0 72 n = σ 72 n := by rw [c0 72 (by decide) (by decide)]
  have ab := QT0_N q1
  have m1 := QT0_nd q1
  have ab2 := QT0_N q2
  have m2 := QT0_nd q2
  have l1 := wq_le H (Int.le_refl _) hr.1 (by omega)
  have l2 := wq_le (u := n + 1) H (by omega) (by omega) (Int.le_refl _)
  obtain ⟨T, e1, F1, t12, t36, C, A, t16, tm⟩ := ih.go (D := D + 1) H F0 (by rw [o12]; exact q1) (Int.le_refl _) (by omega) (by omega) (by omega) (by omega) (by omega)
  obtain ⟨tm1, tm2, tm3⟩ := tm rfl
  have F01 := F0.tr F1
  obtain ⟨U, e2, F2, u12, u36, C2, A2, u16, um⟩ := ih.go (D := D + 1) H F01 (by rw [t12, o12]; exact q2) (by omega) (Int.le_refl _) (by omega) (by omega) (by omega) (by omega)
  obtain ⟨um1, um2, um3⟩ := um rfl
  have F012 := F01.tr F2
  have t1 := h3.fr F01
  have t2 := h3.fr F012
  have k73 : T 73 n = σ 73 n := by rw [F01.ce 73 (by decide) (by decide)]
  refine ⟨_, w2_8 (d := D + 1) (S1 := T) (S2 := U) o32 (by omega) (by omega) (by rw [k72]; exact e1) t1.1 (by rw [k73]; exact e2) (by omega), ?_⟩
  have FZ := F012.put (o := 3) (t := 0) (n := σ 8 12)
  have c := FZ.ce
  have CZ := (C.cf (by decide) F2 (Int.le_refl _)).pt (o := 3) (t := 0) (x := σ 8 12) (by decide) (by omega)
  have CZ2 := C2.pt (o := 3) (t := 0) (x := σ 8 12) (by decide) (Int.le_refl _)
  have nv1 : ∀ i, a ≤ i → i < n → nV T i := fun i i0 i1 => (h4 i i0 (by omega)).fr h3 F01
  have AZ := (A.fr F2 F01.2.1 t1 nv1 (Int.le_refl _)).mv (sameN.put (o := 3) (t := 0) (n := σ 8 12)) t2
  have AZ2 := A2.mv (sameN.put (o := 3) (t := 0) (n := σ 8 12)) t2
  have x15 : cPt U 3 0 (σ 8 12) 15 (σ 8 12 + 1) = T 8 12 := by
    rw [cPt_o (by omega) (Or.inl (by decide)), F2.2.2.2.2.1 15 _ (by decide) (by decide) (by omega), ← o12]
    exact tm3
  have z16 : cPt U 3 0 (σ 8 12) 8 16 = U 8 16 + 1 := cPt_n.1
  have z12 : cPt U 3 0 (σ 8 12) 8 12 = U 8 12 := cPt_o (by omega) (Or.inl (by decide))
  have z36 : cPt U 3 0 (σ 8 12) 8 36 = U 8 36 := cPt_o (by omega) (Or.inl (by decide))
  have z37 : cPt U 3 0 (σ 8 12) 8 37 = U 8 37 := cPt_o (by omega) (Or.inl (by decide))
  have ci := @cI_put U (σ 8 12) 3 0
  have ow := ((o0.fr F1 (by omega)).fr F2 (by omega)).mv (T := cPt U 3 0 (σ 8 12)) fun a q1 q2 _ _ _ => cPt_o (by omega) (by omega)
  generalize cPt U 3 0 (σ 8 12) = Z at *
  have e70 : Z 70 n = σ 70 n := by rw [c 70 (by decide) (by decide)]
  have e71 : Z 71 n = σ 71 n := by rw [c 71 (by decide) (by decide)]
  have e72 : Z 72 n = σ 72 n := by rw [c 72 (by decide) (by decide)]
  have e73 : Z 73 n = σ 73 n := by rw [c 73 (by decide) (by decide)]
  refine ⟨FZ.le (by omega), by omega, ⟨by omega, by omega⟩, ?_, ?_, by omega⟩
  · obtain ⟨d', g1, g2⟩ := CZ.two CZ2
    refine ⟨d' + 1, fun br co => ⟨by omega, Or.inr (Or.inr (Or.inr (Or.inl ⟨by omega, ⟨T 8 16, ?_, ?_⟩, ?_⟩)))⟩⟩
    · rw [e72, ← o16]; exact g1 br co
    · rw [e73, show Z 8 16 - 1 = U 8 16 by omega]; exact g2 br co
    · rw [show Z 8 16 - 1 = U 8 16 by omega, hN]; exact ci
  · refine cA.cat (cA.cat (AZ.wd (by omega) (by omega)) (cA.one fun _ => ⟨?_, by omega, fun _ _ => ?_, fun q => by omega⟩)) (AZ2.wd (by omega) (by omega))
    · rw [hN]
      exact cN1_op (by rw [e70, e71]; exact ow) (by omega)
    · rw [e72, e73, hN, ab.1, ab2.1, x15]
      exact ⟨rfl, by omega, by omega, by omega⟩
/-- and, or -/
theorem k_and (ih : cT d) (H : cH σ a b) (hr : a ≤ n ∧ n < b) (hD : 3 * (nd σ b - nd σ a) < D + 3) (hN : N n = σ 8 12) (O : own σ S0 n) (e : σ 70 n = 18 ∨ σ 70 n = 19) (q1 : QT σ N d 0 a n (σ 72 n) (σ 8 12 + 1)) (q2 : QT σ N d 0 (n + 1) b (σ 73 n) (σ 8 12 + 1 + (nd σ n - nd σ a))) : ∃ Z, fr_work_2 (D + 2) S0 n (σ 8 12) = some (Z, 0) ∧ cZ σ Z N a b n := by
  obtain ⟨F0, o12, o16, o36, o32, o0⟩ := O
  have H' := H
  obtain ⟨h1, h2, h3, h4, ⟨a0, b4⟩, h6, h7, h8⟩ := H'
  have nS1 := nd_S (σ := σ) (i := n) (by omega) (by omega)
  have wS1 := wq_s (σ := σ) (i := n) (by omega)
  have w1 := wt_0 (σ := σ) (n := n) (by omega)
  have c0 := F0.ce
  have k70 : S0 70 n = σ 70 n := by rw [c0 70 (by decide) (by decide)]
  have k72 : S0 72 n = σ 72 n := by rw [c0 72 (by decide) (by decide)]
  have ab := QT0_N q1
  have m1 := QT0_nd q1
  have ab2 := QT0_N q2
  have m2 := QT0_nd q2
  have l1 := wq_le H (Int.le_refl _) hr.1 (by omega)
  have l2 := wq_le (u := n + 1) H (by omega) (by omega) (Int.le_refl _)
  obtain ⟨T, e1, F1, t12, t36, C, A, t16, tm⟩ := ih.go (D := D + 1) H F0 (by rw [o12]; exact q1) (Int.le_refl _) (by omega) (by omega) (by omega) (by omega) (by omega)
  obtain ⟨tm1, tm2, tm3⟩ := tm rfl
  have F01 := F0.tr F1
  have t1 := h3.fr F01
  have V1 := F01.put (o := 4) (t := 0) (n := σ 8 12)
  have v16 : cPt T 4 0 (σ 8 12) 8 16 = T 8 16 + 1 := cPt_n.1
  have v12 : cPt T 4 0 (σ 8 12) 8 12 = T 8 12 := cPt_o (by omega) (Or.inl (by decide))
  have v36 : cPt T 4 0 (σ 8 12) 8 36 = T 8 36 := cPt_o (by omega) (Or.inl (by decide))
  have v37 : cPt T 4 0 (σ 8 12) 8 37 = T 8 37 := cPt_o (by omega) (Or.inl (by decide))
  have CV := C.pt (o := 4) (t := 0) (x := σ 8 12) (by decide) (Int.le_refl _)
  have AV := A.mv (sameN.put (o := 4) (t := 0) (n := σ 8 12)) t1
  have iV := @cI_put T (σ 8 12) 4 0
  have oV := (o0.fr F1 (by omega)).mv (T := cPt T 4 0 (σ 8 12)) fun a q1 q2 _ _ _ => cPt_o (by omega) (by omega)
  have k73 : T 73 n = σ 73 n := by rw [F01.ce 73 (by decide) (by decide)]
  generalize eV : cPt T 4 0 (σ 8 12) = V at *
  obtain ⟨U, e2, F2, u12, u36, C2, A2, u16, um⟩ := ih.go (D := D + 1) H V1 (by rw [v12, t12, o12]; exact q2) (by omega) (Int.le_refl _) (by omega) (by omega) (by omega) (by omega)
  obtain ⟨um1, um2, um3⟩ := um rfl
  have F012 := V1.tr F2
  have t2 := h3.fr F012
  refine ⟨_, w2_18 (d := D + 1) (S1 := T) (S2 := U) o32 (by omega) (by omega) (by rw [k72]; exact e1) (by omega) t1.1 (by rw [eV, k73]; exact e2) (by omega), ?_⟩
  have zz16 : cPt U 5 0 (σ 8 12) 8 16 = U 8 16 + 1 := cPt_n.1
  have FZ := (F012.put (o := 5) (t := 0) (n := σ 8 12)).lead (i := T 8 16) (v := U 8 16 + 1) (by omega)
  have c := FZ.ce
  have CZ := (((CV.cf (by decide) F2 (by omega)).pt (o := 5) (t := 0) (x := σ 8 12) (by decide) (by omega))).gw (a := 21) (i := T 8 16) (v := U 8 16 + 1) (by decide) (by omega)
  have CZ2 := (C2.pt (o := 5) (t := 0) (x := σ 8 12) (by decide) (Int.le_refl _)).gw (a := 21) (i := T 8 16) (v := U 8 16 + 1) (by decide) (by omega)
  have nv1 : ∀ i, a ≤ i → i < n → nV V i := fun i i0 i1 => (h4 i i0 (by omega)).fr h3 V1
  have tV := h3.fr V1
  have sz : ∀ lo hi, sameN U (gW (cPt U 5 0 (σ 8 12)) 21 (T 8 16) (U 8 16 + 1)) lo hi := fun lo hi => sameN.put.tr sameN.lead
  have AZ := (AV.fr F2 V1.2.1 tV nv1 (by omega)).mv (sz _ _) t2
  have AZ2 := A2.mv (sz _ _) t2
  have z16 : gW (cPt U 5 0 (σ 8 12)) 21 (T 8 16) (U 8 16 + 1) 8 16 = U 8 16 + 1 := by rw [gW_c (by decide)]; exact cPt_n.1
  have z12 : gW (cPt U 5 0 (σ 8 12)) 21 (T 8 16) (U 8 16 + 1) 8 12 = U 8 12 := by rw [gW_c (by decide)]; exact cPt_o (by omega) (Or.inl (by decide))
  have z36 : gW (cPt U 5 0 (σ 8 12)) 21 (T 8 16) (U 8 16 + 1) 8 36 = U 8 36 := by rw [gW_c (by decide)]; exact cPt_o (by omega) (Or.inl (by decide))
  have z37 : gW (cPt U 5 0 (σ 8 12)) 21 (T 8 16) (U 8 16 + 1) 8 37 = U 8 37 := by rw [gW_c (by decide)]; exact cPt_o (by omega) (Or.inl (by decide))
  have ci : cI (gW (cPt U 5 0 (σ 8 12)) 21 (T 8 16) (U 8 16 + 1)) (U 8 16) 5 0 (σ 8 12) := by
    obtain ⟨x1, x2, x3⟩ := @cI_put U (σ 8 12) 5 0
    exact ⟨by rw [gW_c (by decide)]; exact x1, by rw [gW_i (by omega)]; exact x2, by rw [gW_c (by decide)]; exact x3⟩
  have cj : cI (gW (cPt U 5 0 (σ 8 12)) 21 (T 8 16) (U 8 16 + 1)) (T 8 16) 4 (U 8 16 + 1) (σ 8 12) := by
    obtain ⟨x1, x2, x3⟩ := iV
    refine ⟨?_, gW_at _ _ _ _, ?_⟩
    · rw [gW_c (by decide), cPt_o (by omega) (by omega), F2.2.2.2.2.2.1 20 _ (by decide) (by decide) (by omega)]; exact x1
    · rw [gW_c (by decide), cPt_o (by omega) (by omega), F2.2.2.2.2.2.1 22 _ (by decide) (by decide) (by omega)]; exact x3
  have ow := (oV.fr F2 (by omega)).mv (T := gW (cPt U 5 0 (σ 8 12)) 21 (T 8 16) (U 8 16 + 1)) fun a q1 q2 _ _ _ => by rw [gW_c (by omega)]; exact cPt_o (by omega) (by omega)
  generalize gW (cPt U 5 0 (σ 8 12)) 21 (T 8 16) (U 8 16 + 1) = Z at *
  have e70 : Z 70 n = σ 70 n := by rw [c 70 (by decide) (by decide)]
  have e71 : Z 71 n = σ 71 n := by rw [c 71 (by decide) (by decide)]
  have e72 : Z 72 n = σ 72 n := by rw [c 72 (by decide) (by decide)]
  have e73 : Z 73 n = σ 73 n := by rw [c 73 (by decide) (by decide)]
  refine ⟨FZ.le (by omega), by omega, ⟨by omega, by omega⟩, ?_, ?_, by omega⟩
  · obtain ⟨d', g1, g2⟩ := CZ.two CZ2
    refine ⟨d' + 1, fun br co => ⟨by omega, Or.inr (Or.inr (Or.inr (Or.inr (Or.inl ⟨by omega, ⟨T 8 16, ?_, ?_, ?_⟩, ?_⟩))))⟩⟩
    · rw [e72, ← o16]; exact g1 br co
    · rw [z16, hN]; exact cj
    · rw [e73, show Z 8 16 - 1 = U 8 16 by omega, ← v16]; exact g2 br co
    · rw [show Z 8 16 - 1 = U 8 16 by omega, hN]; exact ci
  · refine cA.cat (cA.cat (AZ.wd (by omega) (by omega)) (cA.one fun _ => ⟨?_, by omega, cEn_no (by omega)⟩)) (AZ2.wd (by omega) (by omega))
    rw [hN]
    exact cN1_op (by rw [e70, e71]; exact ow) (by omega)
end CP
