/-! the component plants a function: whole -/
section PW
variable {σ S T Z : gM} {N : Int → Int} {f b w k A row at' c : Int} {d fu : Nat}
/-- where the text lies is told -/
def pS (σ : gM) (row at' : Int) : gM := gW (gW (gW σ 8 32 68) 8 33 row) 8 34 at'
theorem pS_o {a i : Int} (h : a ≠ 8 ∨ (i ≠ 32 ∧ i ≠ 33 ∧ i ≠ 34)) : pS σ row at' a i = σ a i := by
  unfold pS gW
  rw [if_neg (by omega), if_neg (by omega), if_neg (by omega)]
theorem pS_n : pS σ row at' 8 32 = 68 ∧ pS σ row at' 8 33 = row ∧ pS σ row at' 8 34 = at' := by simp [pS, gW]
theorem fr_plant_s (hf : 0 ≤ f ∧ f < 50) (h1 : hI σ) (h2 : fI σ) (t : tI (pS σ row at')) (hnm : 0 ≤ σ 79 f ∧ 1 ≤ σ 80 f ∧ σ 80 f ≤ 12 ∧ σ 79 f + σ 80 f ≤ σ 69 2) (hA : σ 81 f = A ∧ 0 ≤ A ∧ A + σ 83 f ≤ b ∧ b ≤ 4200) (hp : 0 ≤ σ 83 f ∧ σ 83 f ≤ 6) (ip : ∀ i, A ≤ i → i < A + σ 83 f → σ 70 i = 0)
    (nv : ∀ i, A + σ 83 f ≤ i → i < b → nV (pS σ row at') i) (hr : 0 ≤ σ 8 31 ∧ σ 8 31 < 60) (h12 : 0 ≤ σ 8 12 ∧ σ 8 12 + (nd σ b - nd σ A) ≤ 16000) (h16 : 0 ≤ σ 8 16 ∧ σ 8 16 + 3 * (nd σ b - nd σ A) + 2 ≤ 64000) (rm : cRm σ (σ 80 f + 1 + (wq σ b - wq σ (A + σ 83 f)))) (h1000 : 3 * (nd σ b - nd σ A) < 1000)
    (q : QT σ N d 2 (A + σ 83 f) b (σ 82 f) (σ 8 12 + σ 83 f)) (sn : SN σ fu 0 (σ 82 f) 38) :
    ∃ Z fn, fr_plant_2 σ row at' f = some (Z, σ 8 31) ∧ pFr (σ 80 f + 1 + (wq σ b - wq σ (A + σ 83 f))) σ Z fn ∧ cPl σ Z N f b fn ∧ cS Z (Z 23 fn) = lt (σ row) (at' + σ 79 f) (σ 80 f).toNat ∧ Z 8 33 = row ∧ Z 8 34 = at' := by
  have row0 : 0 ≤ row := by have := t.row; rw [pS_n.2.1] at this; omega
  have s0c : ∀ a, a ≠ 8 → pS σ row at' a = σ a := fun a z => funext fun i => pS_o (Or.inl z)
  have h10 : hI (pS σ row at') := hI_mv h1 (s0c 0 (by decide)) (s0c 1 (by decide)) (s0c 2 (by decide)) (s0c 3 (by decide))
  have h20 : fI (pS σ row at') := fI_mv h2 (s0c 0 (by decide)) (s0c 3 (by decide)) (s0c 23 (by decide)) (s0c 24 (by decide)) (pS_o (by decide)) (pS_o (by decide))
  have c8 : ∀ i, i ≠ 32 → i ≠ 33 → i ≠ 34 → pS σ row at' 8 i = σ 8 i := fun i z1 z2 z3 => pS_o (Or.inr ⟨z1, z2, z3⟩)
  have e33 : pS σ row at' 8 33 = row := pS_n.2.1
  have e34 : pS σ row at' 8 34 = at' := pS_n.2.2
  have e32 : pS σ row at' 8 32 = 68 := pS_n.1
  rw [fr_plant_2_e, if_pos row0, if_pos (by decide), if_pos hf, if_pos (by decide), if_pos hf]
  show ∃ Z fn, ((fr_function (pS σ row at') row (w32 (at' + σ 79 f)) (σ 80 f)).bind _) = some (Z, σ 8 31) ∧ _
  have ltx : lt (tl (pS σ row at')) (σ 79 f) (σ 80 f).toNat = lt (σ row) (at' + σ 79 f) (σ 80 f).toNat := by
    rw [← lt_tl, e33, e34]
    have : row ≠ 8 := by have := t.row; rw [pS_n.2.1] at this; omega
    rw [s0c row this]
  have wnn : 0 ≤ wq σ b - wq σ (A + σ 83 f) := by
    have := wq_r (σ := σ) (i := A + σ 83 f) (j := b) (by omega) (by omega) fun x x0 x1 => by
      have := (nv x x0 x1).wt0
      rw [wt_mv (σ := σ) fun e q1 q2 => s0c e (by omega)] at this
      exact this
    omega
  have e7 : pS σ row at' 0 = σ 0 := s0c 0 (by decide)
  have e19 : pS σ row at' 8 19 = σ 8 19 := c8 19 (by decide) (by decide) (by decide)
  have c69 : pS σ row at' 69 = σ 69 := s0c 69 (by decide)
  have e31 := c8 31 (by decide) (by decide) (by decide)
  have e12 := c8 12 (by decide) (by decide) (by decide)
  have e16 := c8 16 (by decide) (by decide) (by decide)
  have gn := tI_gN t
  have gl : gN (pS σ row at' 8 33) ≤ 124600 := by rcases t.row with z | z | z <;> rw [z] <;> decide
  have t34 := t.2.2.1
  rw [e33, e34, c69] at gn
  rw [e33] at gl
  rw [e34] at t34
  generalize pS σ row at' = S0 at *
  have rm0 : cRm S0 (σ 80 f + 1) := by
    unfold cRm at rm ⊢
    rw [e7, e19]
    exact ⟨by omega, by omega, by omega, by omega, rm.2.2.2.2⟩
  obtain ⟨S1, fn, f1, F1, fn0, es, sc, s8, e9⟩ := fr_function_s (f := σ 79 f) (n := (σ 80 f).toNat) (w := σ 80 f + 1) h10 h20 t (by rw [c69]; omega) (by omega) rm0 (by omega)
  rw [e33, e34, show (((σ 80 f).toNat : Nat) : Int) = σ 80 f by omega] at f1
  rw [w32_e (by omega) (by omega), f1]
  simp only [Option.bind_some]
  have g1 := F1.2.1
  have s31 : S1 8 31 = σ 8 31 := by rw [s8 31 (by decide), e31]
  obtain ⟨S2, r1, ro⟩ := fr_rootOf_s (σ := S1) (g := fn) (by omega) (by have := g1.1; omega)
  rw [r1]
  simp only [Option.bind_some]
  obtain ⟨o1, o2, ⟨o25, o24, o26, o28, o32, o33, o34⟩, o35, o4, o5, o6, o7⟩ := ro
  rw [s31] at o1 o25 o24 o26 o28 o32 o33 o34 o35 o6 o7
  have c2 : ∀ e, 69 ≤ e → e ≤ 84 → S2 e = σ e := fun e q1 q2 => funext fun i => by rw [o4 e i (by omega) (by omega), sc e i (by omega) (by omega) (by omega), s0c e (by omega)]
  have p32 : S2 8 32 = 68 := by rw [o2 32 (by decide), s8 32 (by decide), e32]
  rw [s31, if_pos (by omega), if_pos hf, if_pos (by omega), if_pos (by omega), if_pos hf, if_pos (by omega), c2 83 (by decide) (by decide), c2 84 (by decide) (by decide)]
  -- the root's own rows
  have u8 : ∀ i, i ≠ 35 → gW (gW (gW S2 8 35 (σ 8 31)) 30 (σ 8 31) (σ 83 f)) 31 (σ 8 31) (σ 84 f) 8 i = S2 8 i := fun i z => by rw [gW_c (by decide), gW_c (by decide), gW_i z]
  have u835 : gW (gW (gW S2 8 35 (σ 8 31)) 30 (σ 8 31) (σ 83 f)) 31 (σ 8 31) (σ 84 f) 8 35 = σ 8 31 := by rw [gW_c (by decide), gW_c (by decide), gW_at]
  have ua : ∀ a i, a ≠ 8 → ((a ≠ 30 ∧ a ≠ 31) ∨ i ≠ σ 8 31) → gW (gW (gW S2 8 35 (σ 8 31)) 30 (σ 8 31) (σ 83 f)) 31 (σ 8 31) (σ 84 f) a i = S2 a i := fun a i z1 z2 => by
    unfold gW
    rw [if_neg (by omega), if_neg (by omega), if_neg (by omega)]
  have u30 : gW (gW (gW S2 8 35 (σ 8 31)) 30 (σ 8 31) (σ 83 f)) 31 (σ 8 31) (σ 84 f) 30 (σ 8 31) = σ 83 f := by rw [gW_c (by decide), gW_at]
  have u31 : gW (gW (gW S2 8 35 (σ 8 31)) 30 (σ 8 31) (σ 83 f)) 31 (σ 8 31) (σ 84 f) 31 (σ 8 31) = σ 84 f := gW_at _ _ _ _
  generalize gW (gW (gW S2 8 35 (σ 8 31)) 30 (σ 8 31) (σ 83 f)) 31 (σ 8 31) (σ 84 f) = R0 at *
  have rc : ∀ a, a ≠ 8 → (a < 24 ∨ 35 < a) → R0 a = S1 a := fun a z1 z2 => funext fun i => by rw [ua a i z1 (by omega), o4 a i z1 z2]
  have rcσ : ∀ e, 69 ≤ e → e ≤ 84 → R0 e = σ e := fun e q1 q2 => funext fun i => by rw [ua e i (by omega) (by omega), c2 e q1 q2]
  have r8 : ∀ i, i ≠ 31 → i ≠ 35 → R0 8 i = S1 8 i := fun i z1 z2 => by rw [u8 i z2, o2 i z1]
  have r831 : R0 8 31 = σ 8 31 + 1 := by rw [u8 31 (by decide), o1]
  have hR : hI R0 := hI_mv F1.1 (rc 0 (by decide) (by decide)) (rc 1 (by decide) (by decide)) (rc 2 (by decide) (by decide)) (rc 3 (by decide) (by decide))
  have r24 : ∀ x, R0 24 x = if x = fn then σ 8 31 else S1 24 x := fun x => by
    rw [ua 24 x (by decide) (by omega)]
    by_cases z : x = fn
    · rw [if_pos z, z, o24]
    · rw [if_neg z, o5 x z]
  have fR : fI R0 := by
    obtain ⟨b1, b2, b3, b4⟩ := g1
    unfold fI
    rw [r8 19 (by decide) (by decide), rc 23 (by decide) (by decide), rc 0 (by decide) (by decide), rc 3 (by decide) (by decide), r831]
    refine ⟨b1, fun x q1 q2 => ?_, b3, by omega⟩
    obtain ⟨d1, d2, d3⟩ := b2 x q1 q2
    refine ⟨d1, d2, ?_⟩
    rw [r24]
    split <;> omega
  have r12 : R0 8 12 = σ 8 12 := by rw [r8 12 (by decide) (by decide), s8 12 (by decide), e12]
  have r16 : R0 8 16 = σ 8 16 := by rw [r8 16 (by decide) (by decide), s8 16 (by decide), e16]
  have r32 : R0 8 32 = 68 := by rw [r8 32 (by decide) (by decide), s8 32 (by decide), e32]
  have r33 : R0 8 33 = row := by rw [r8 33 (by decide) (by decide), s8 33 (by decide), e33]
  have r34 : R0 8 34 = at' := by rw [r8 34 (by decide) (by decide), s8 34 (by decide), e34]
  have t1 := t.fr F1
  have tR : tI R0 := by
    unfold tI at t1 ⊢
    rw [r32, r33, r34, rc 69 (by decide) (by decide), rc 0 (by decide) (by decide)]
    rw [s8 32 (by decide), s8 33 (by decide), s8 34 (by decide), e32, e33, e34] at t1
    exact t1
  -- the things given
  have ndR : ∀ i, nd R0 i = nd σ i := fun i => nd_mv fun e q1 q2 => rcσ e (by omega) (by omega)
  have nz : nd σ (A + σ 83 f) = nd σ A + σ 83 f := by
    have := nd_zero (σ := σ) (a := A) hA.2.1 (σ 83 f).toNat (fun j q1 q2 => ip j q1 (by omega))
    rw [show ((σ 83 f).toNat : Int) = σ 83 f by omega] at this
    exact this
  have mb := nd_r (σ := σ) (i := A + σ 83 f) (j := b) (by omega) (by omega)
  have e83 : R0 83 f = σ 83 f := by rw [rcσ 83 (by decide) (by decide)]
  have e81 : R0 81 f = A := by rw [rcσ 81 (by decide) (by decide)]; exact hA.1
  obtain ⟨R1, p1, FP, q12, q16, pa⟩ := plant_b91_s (σ := R0) (A := A) hf hR fR r32 ⟨e81, hA.2.1, by omega⟩ (by omega) (fun i q1 q2 => by rw [rcσ 70 (by decide) (by decide)]; exact ip i q1 (by omega)) (by omega) (R0 83 f).toNat 0 R0 (by decide) (by omega) (cFr.rf hR fR (Int.le_refl _)) (by omega) rfl (fun j j0 j1 => by omega)
  rw [p1]
  have k1 := FP.ce
  have kσ : ∀ e, 69 ≤ e → e ≤ 84 → R1 e = σ e := fun e q1 q2 => by rw [FP.2.2.1 e (by omega), rcσ e q1 q2]
  have v32 : R1 8 32 = 68 := by rw [FP.2.2.2.1 32 (by decide) (by decide) (by decide) (by decide) (by decide), r32]
  rw [fr_plant_2_b91_e, if_pos (by omega), if_pos hf, e83, kσ 83 (by decide) (by decide), if_neg (by omega), if_pos (by omega), if_pos hf, kσ 82 (by decide) (by decide)]
  have FQ := (FP.f8 (i := 36) (v := -1) (by decide)).f8 (i := 37) (v := -1) (by decide)
  have y8 : ∀ i, i ≠ 36 → i ≠ 37 → gW (gW R1 8 36 (-1)) 8 37 (-1) 8 i = R1 8 i := fun i q1 q2 => by rw [gW_i q2, gW_i q1]
  have y36 : gW (gW R1 8 36 (-1)) 8 37 (-1) 8 36 = -1 := by rw [gW_i (by decide), gW_at]
  have y37 : gW (gW R1 8 36 (-1)) 8 37 (-1) 8 37 = -1 := gW_at _ _ _ _
  have pa2 : ∀ j, 0 ≤ j → j < σ 83 f → oN (gW (gW R1 8 36 (-1)) 8 37 (-1)) 0 (σ 71 (A + j)) j 0 (σ 8 12 + j) := fun j j0 j1 => by
    have := pa j j0 (by omega)
    rw [rcσ 71 (by decide) (by decide), r12] at this
    exact this.mv fun a z1 z2 _ _ _ => by rw [gW_c (by omega), gW_c (by omega)]
  generalize gW (gW R1 8 36 (-1)) 8 37 (-1) = R2 at *
  have y12 := y8 12 (by decide) (by decide)
  have y16 := y8 16 (by decide) (by decide)
  have c2' : ∀ e, 70 ≤ e → e ≤ 78 → R2 e = σ e := fun e q1 q2 => by rw [FQ.ce e q1 q2, rcσ e (by omega) (by omega)]
  have nd2 : ∀ i, nd R2 i = nd σ i := fun i => nd_mv c2'
  have wq2 : ∀ i, wq R2 i = wq σ i := fun i => wq_mv c2'
  have t2 := tR.fr FQ
  have tls : ∀ j, 0 ≤ j → j < σ 69 2 → tl R0 j = tl S0 j := fun j j0 j1 => by
    have := tI_tl t F1 (j := j) (by rw [c69]; exact ⟨j0, j1⟩)
    rw [← this]
    unfold tl
    rw [r33, r34, s8 33 (by decide), s8 34 (by decide), e33, e34]
    have : row < 24 ∨ 35 < row := by have := t.row; rw [e33] at this; omega
    have rn8 : row ≠ 8 := by have := t.row; rw [e33] at this; omega
    rw [rc row rn8 this]
  have nvR : ∀ i, A + σ 83 f ≤ i → i < b → nV R0 i := fun i i0 i1 => by
    have := nv i i0 i1
    unfold nV at this ⊢
    rw [s0c 70 (by decide), s0c 73 (by decide), s0c 76 (by decide), s0c 77 (by decide), c69] at this
    rw [rcσ 70 (by decide) (by decide), rcσ 73 (by decide) (by decide), rcσ 76 (by decide) (by decide), rcσ 77 (by decide) (by decide), rcσ 69 (by decide) (by decide)]
    intro z
    obtain ⟨x1, x2, x3⟩ := this z
    refine ⟨x1, fun e => ⟨(x2 e).1, fun j j0 j1 => ?_⟩, x3⟩
    rw [tls j (by omega) (by omega)]
    exact (x2 e).2 j j0 j1
  have rm2 : cRm R2 (wq R2 b - wq R2 (A + σ 83 f)) := by
    rw [wq2, wq2]
    have a : cRm R0 (wq σ b - wq σ (A + σ 83 f)) := by
      have : cRm S0 (σ 80 f + 1 + (wq σ b - wq σ (A + σ 83 f))) := by
        unfold cRm at rm ⊢
        rw [e7, e19]
        exact rm
      have := this.fr F1
      unfold cRm at this ⊢
      rw [rc 0 (by decide) (by decide), r8 19 (by decide) (by decide)]
      exact this
    exact cRm.fr (w := 0) (by rw [Int.zero_add]; exact a) FQ
  have H3 : cH3 R2 (A + σ 83 f) b := by
    refine ⟨⟨FQ.1, FQ.2.1, t2, fun i i0 i1 => (nvR i i0 i1).fr tR FQ, by omega, rm2, ?_, ?_⟩, ?_, ?_, ?_⟩
    · rw [nd2, nd2]; omega
    · rw [nd2, nd2]; omega
    · rw [nd2, nd2]; omega
    · omega
    · rw [nd2, nd2]; omega
  obtain ⟨T, B, K, x1, FX, x12, ⟨d1, O⟩, -, -, AX, x16⟩ := (cS_all d).2 fu 119 R2 N (A + σ 83 f) b (σ 82 f) 38 (by rw [QT_mv c2', show R2 8 12 = σ 8 12 + σ 83 f by omega]; exact q) (by rw [SN_mv c2']; exact sn) (by decide) H3 (by omega)
  have snT : SN T fu 0 (σ 82 f) 38 := by rw [SN_mv FX.ce, SN_mv c2']; exact sn
  obtain ⟨eB, eK⟩ := SN_even (N := N) fu d1 0 (σ 82 f) 38 _ _ B K snT (by decide) O
  rw [eB, eK] at O
  rw [nd2, nd2] at x12 x16
  rw [wq2, wq2] at FX
  rw [fr_statements_e, x1]
  simp only [Option.bind_some]
  rw [fr_put_s (by omega)]
  simp only [Option.bind_some]
  have v1 : cPt T 17 0 (-1) 8 16 = T 8 16 + 1 := cPt_n.1
  rw [fr_put_s (by omega)]
  simp only [Option.bind_some]
  have FT := FQ.tr FX
  have FV := (FT.put (o := 17) (t := 0) (n := -1)).put (o := 16) (t := 0) (n := -1)
  have w16 : cPt (cPt T 17 0 (-1)) 16 0 (-1) 8 16 = T 8 16 + 2 := by rw [cPt_n.1, v1]; omega
  have w8 : ∀ i, i ≠ 16 → cPt (cPt T 17 0 (-1)) 16 0 (-1) 8 i = T 8 i := fun i z => by rw [cPt_o (by omega) (Or.inl (by decide)), cPt_o (by omega) (Or.inl (by decide))]
  have sV : sI T (cPt (cPt T 17 0 (-1)) 16 0 (-1)) (σ 8 16) (T 8 16) := (sI.pt (Int.le_refl _)).tr (sI.pt (by rw [v1]; omega))
  have i17 : cI (cPt (cPt T 17 0 (-1)) 16 0 (-1)) (T 8 16) 17 0 (-1) := (sI.pt (P := T 8 16) (E := T 8 16 + 1) (by rw [v1]; omega)).ci (@cI_put T (-1) 17 0) (Int.le_refl _) (by omega)
  have i16 : cI (cPt (cPt T 17 0 (-1)) 16 0 (-1)) (T 8 16 + 1) 16 0 (-1) := by
    have := @cI_put (cPt T 17 0 (-1)) (-1) 16 0
    rw [v1] at this
    exact this
  have nV' : ∀ lo hi, sameN T (cPt (cPt T 17 0 (-1)) 16 0 (-1)) lo hi := fun lo hi => sameN.put.tr sameN.put
  have tT := tR.fr FT
  have AV := AX.mv (nV' _ _) tT
  have paV : ∀ j, 0 ≤ j → j < σ 83 f → oN (cPt (cPt T 17 0 (-1)) 16 0 (-1)) 0 (σ 71 (A + j)) j 0 (σ 8 12 + j) := fun j j0 j1 => ((pa2 j j0 j1).fr FX (by omega)).mv fun a z1 z2 _ _ _ => by rw [cPt_o (by omega) (by omega), cPt_o (by omega) (by omega)]
  have OV : ∃ d', CT (cPt (cPt T 17 0 (-1)) 16 0 (-1)) N (-1) (-1) d' 2 (σ 82 f) (σ 8 16) (T 8 16) := by
    rw [show σ 8 16 = R2 8 16 by omega]
    refine CO_land (σ := T) (fun e q1 q2 => funext fun i => by rw [cPt_o (by omega) (by omega), cPt_o (by omega) (by omega)]) d1 0 _ _ _ [] [] (fun x x0 x1 => ?_) O
    obtain ⟨g1', g2', g3'⟩ := sV x (by omega) x1
    exact ⟨g1', g3', fun w => by simp at w, fun w => by simp at w, fun _ _ => g2'⟩
  generalize cPt (cPt T 17 0 (-1)) 16 0 (-1) = V at *
  have tV := tR.fr FV
  have cV : ∀ a, 24 < a → a ≠ 36 → a ≠ 37 → a ≠ 38 → V a = R0 a := fun a z1 z2 z3 z4 => FV.2.2.1 a (Or.inr ⟨z1, z2, z3, z4⟩)
  have V8 : ∀ i, i ≠ 12 → i ≠ 16 → i ≠ 19 → i ≠ 36 → i ≠ 37 → V 8 i = R0 8 i := FV.2.2.2.1
  have v35 : V 8 35 = σ 8 31 := by rw [V8 35 (by decide) (by decide) (by decide) (by decide) (by decide), u835]
  have v26 : V 26 (σ 8 31) = σ 8 12 := by rw [cV 26 (by decide) (by decide) (by decide) (by decide), ua 26 _ (by decide) (by omega), o26, s8 12 (by decide), e12]
  have v28 : V 28 (σ 8 31) = σ 8 16 := by rw [cV 28 (by decide) (by decide) (by decide) (by decide), ua 28 _ (by decide) (by omega), o28, s8 16 (by decide), e16]
  have v12 := w8 12 (by decide)
  have x16a : T 8 16 ≤ σ 8 16 + 3 * (nd σ b - nd σ A) := by omega
  rw [v35, if_pos (by omega), if_pos (by omega), if_pos (by omega), if_pos (by omega), v26, v28, w32_e (by omega) (by omega), w32_e (by omega) (by omega)]
  have zo : ∀ a i, ((a ≠ 27 ∧ a ≠ 29) ∨ i ≠ σ 8 31) → gW (gW V 27 (σ 8 31) (V 8 12 - σ 8 12)) 29 (σ 8 31) (V 8 16 - σ 8 16) a i = V a i := fun a i z => by
    unfold gW
    rw [if_neg (by omega), if_neg (by omega)]
  have z27 : gW (gW V 27 (σ 8 31) (V 8 12 - σ 8 12)) 29 (σ 8 31) (V 8 16 - σ 8 16) 27 (σ 8 31) = V 8 12 - σ 8 12 := by rw [gW_c (by decide), gW_at]
  have z29 : gW (gW V 27 (σ 8 31) (V 8 12 - σ 8 12)) 29 (σ 8 31) (V 8 16 - σ 8 16) 29 (σ 8 31) = V 8 16 - σ 8 16 := gW_at _ _ _ _
  generalize gW (gW V 27 (σ 8 31) (V 8 12 - σ 8 12)) 29 (σ 8 31) (V 8 16 - σ 8 16) = Z at *
  have zc : ∀ a, a ≠ 27 → a ≠ 29 → Z a = V a := fun a z1 z2 => funext fun i => zo a i (Or.inl ⟨z1, z2⟩)
  have z8 : Z 8 = V 8 := zc 8 (by decide) (by decide)
  have zz16 : Z 8 16 = V 8 16 := by rw [z8]
  obtain ⟨a1, a2, a3, a4, a5, a6, a7, a8, a9, a10, a11, a12, a13, a14, a15, a16, a17, a18⟩ := F1
  obtain ⟨b1, b2, b3, b4, b5, b6, b7, b8, b9, b10, b11, b12, b13, b14, b15, b16, b17, b18⟩ := FV
  have rc0 := rc 0 (by decide) (by decide)
  have r19 := r8 19 (by decide) (by decide)
  rw [rc0] at b9 b15 b16 b17 b10 b11 b14
  rw [r19] at b12 b13 b18
  have v9 : S1 0 9 = σ 0 9 := by rw [e9, e7]
  have S0v : ∀ s, vS σ s ↔ vS S0 s := fun s => by unfold vS; rw [e7]
  have S1v : ∀ s, vS S0 s → vS R0 s := fun s z => by
    unfold vS at z ⊢
    rw [rc0, a9 10 (by decide) (by decide) (by decide)]
    omega
  refine ⟨Z, fn, rfl, ⟨hI_mv b1 (zc 0 (by decide) (by decide)) (zc 1 (by decide) (by decide)) (zc 2 (by decide) (by decide)) (zc 3 (by decide) (by decide)), fI_mv b2 (zc 0 (by decide) (by decide)) (zc 3 (by decide) (by decide)) (zc 23 (by decide) (by decide)) (zc 24 (by decide) (by decide)) (by rw [z8]) (by rw [z8]), fun a z => ?_, fun i z1 z2 z3 z4 => ?_, fun a i z1 z2 z3 => ?_, fun a p z1 z2 z3 => ?_, ?_, fun s z => ?_, fun i z1 z2 z3 => ?_, fun i z => ?_, fun s z0 z1 z2 => ?_, fun x z => ?_, fun x z1 z2 z3 => ?_, fun k z => ?_, ?_, ?_, ?_, ?_, fun a x z1 z2 z3 => ?_, fun x z => ?_⟩, ⟨?_, ?_, ?_, ?_, ?_, ?_, ?_, ?_⟩, ?_, by rw [z8, b4 33 (by decide) (by decide) (by decide) (by decide) (by decide), r33], by rw [z8, b4 34 (by decide) (by decide) (by decide) (by decide) (by decide), r34]⟩
  · rw [zc a (by omega) (by omega), b3 a (by omega), rc a (by omega) (by omega), a3 a (by omega), s0c a (by omega)]
  · rw [z8, b4 i z1 z2 z3 (by omega) (by omega), r8 i (by omega) (by omega), s8 i z3, c8 i (by omega) (by omega) (by omega)]
  · rw [zc a (by omega) (by omega), b5 a i z1 z2 (by omega), rc a (by omega) (by omega), sc a i z1 (by omega) (by omega), s0c a (by omega)]
  · rw [zc a (by omega) (by omega), b6 a p z1 z2 (by omega), rc a (by omega) (by omega), sc a p (by omega) (by omega) (by omega), s0c a (by omega)]
  · rw [z8]; omega
  · obtain ⟨m1, m2, m3, m4, m5⟩ := a8 s ((S0v s).mp z)
    obtain ⟨n1, n2, n3, n4, n5⟩ := b8 s (S1v s ((S0v s).mp z))
    rw [cS_mv (zc 1 (by decide) (by decide)) (zc 2 (by decide) (by decide)) (zc 3 (by decide) (by decide)), zc 4 (by decide) (by decide), zc 5 (by decide) (by decide), zc 2 (by decide) (by decide), zc 3 (by decide) (by decide), n1, n2, n3, n4, n5, cS_mv (rc 1 (by decide) (by decide)) (rc 2 (by decide) (by decide)) (rc 3 (by decide) (by decide)), rc 4 (by decide) (by decide), rc 5 (by decide) (by decide), rc 2 (by decide) (by decide), rc 3 (by decide) (by decide), m1, m2, m3, m4, m5, cS_mv (s0c 1 (by decide)) (s0c 2 (by decide)) (s0c 3 (by decide)), s0c 4 (by decide), s0c 5 (by decide), s0c 2 (by decide), s0c 3 (by decide)]
    exact ⟨rfl, rfl, rfl, rfl, rfl⟩
  · rw [zc 0 (by decide) (by decide), b9 i z1 z2 z3, a9 i z1 z2 z3, e7]
  · rw [zc 1 (by decide) (by decide), b10 i (by rw [e7] at a16; omega), rc 1 (by decide) (by decide), a10 i (by rw [e7]; exact z), s0c 1 (by decide)]
  · rw [zc 0 (by decide) (by decide)] at z2
    rw [zc 4 (by decide) (by decide), zc 5 (by decide) (by decide)]
    by_cases zz : s < S1 0 7
    · have hvs : vS R0 s := Or.inl ⟨z0, by rw [rc0]; exact zz⟩
      obtain ⟨-, n2, n3, -⟩ := b8 s hvs
      rw [n2, n3, rc 4 (by decide) (by decide), rc 5 (by decide) (by decide)]
      exact a11 s z0 (by rw [e7]; exact z1) zz
    · exact b11 s z0 (by omega) z2
  · rw [zc 23 (by decide) (by decide), zc 24 (by decide) (by decide)]
    have h19 : x < S1 8 19 := by rw [e19] at a18; omega
    obtain ⟨n1, n2⟩ := b12 x h19
    obtain ⟨m1, m2⟩ := a12 x (by rw [e19]; exact z)
    refine ⟨by rw [n1, rc 23 (by decide) (by decide), m1, s0c 23 (by decide)], fun w => ?_⟩
    rw [n2, r24, if_neg w, m2, s0c 24 (by decide)]
  · rw [zc 24 (by decide) (by decide)]
    rw [z8] at z2
    by_cases zz : x < S1 8 19
    · rw [(b12 x zz).2, r24, if_neg z3]
      exact a13 x (by rw [e19]; exact z1) zz
    · exact b13 x (by omega) z2
  · rw [zc 6 (by decide) (by decide), zc 7 (by decide) (by decide)]
    obtain ⟨n1, n2, n3, n4, n5⟩ := b14 k (by rw [v9]; exact z)
    obtain ⟨m1, m2, m3, m4, m5⟩ := a14 k (by rw [e7]; exact z)
    rw [n1, n2, n3, n4, n5, rc 6 (by decide) (by decide), rc 7 (by decide) (by decide), m1, m2, m3, m4, m5, s0c 6 (by decide), s0c 7 (by decide)]
    exact ⟨rfl, rfl, rfl, rfl, rfl⟩
  · rw [zc 0 (by decide) (by decide)]; rw [e7] at a15; omega
  · rw [zc 0 (by decide) (by decide)]; rw [e7] at a16; omega
  · rw [zc 0 (by decide) (by decide)]; rw [v9] at b17; omega
  · rw [z8]; rw [e19] at a18; omega
  · rw [zo a x (Or.inr (by omega)), cV a (by omega) (by omega) (by omega) (by omega), ua a x (by omega) (Or.inr (by omega)), o6 a x z1 z2 (by omega), a3 a (Or.inr (by omega)), s0c a (by omega)]
  · rw [zc 35 (by decide) (by decide), cV 35 (by decide) (by decide) (by decide) (by decide), ua 35 x (by decide) (by omega), o7 x (Or.inl z), a3 35 (by decide), s0c 35 (by decide)]
  · refine ⟨fn0.1, by rw [z8]; omega, ?_⟩
    rw [zc 24 (by decide) (by decide), (b12 fn fn0.2).2, r24, if_pos rfl]
  · rw [z8, b4 31 (by decide) (by decide) (by decide) (by decide) (by decide), r831, hA.1]
    omega
  · rw [z27, z29, zc 25 (by decide) (by decide), zc 26 (by decide) (by decide), zc 28 (by decide) (by decide), zc 30 (by decide) (by decide), zc 31 (by decide) (by decide), zc 32 (by decide) (by decide), zc 33 (by decide) (by decide), zc 34 (by decide) (by decide), zc 35 (by decide) (by decide), v26, v28, z8, hA.1]
    refine ⟨?_, rfl, by omega, rfl, rfl, ?_, ?_, ?_, ?_, ?_, fun i i0 i1 => ?_⟩
    · rw [cV 25 (by decide) (by decide) (by decide) (by decide), ua 25 _ (by decide) (by omega), o25]
    · rw [cV 30 (by decide) (by decide) (by decide) (by decide), u30]
    · rw [cV 31 (by decide) (by decide) (by decide) (by decide), u31]
    · rw [cV 32 (by decide) (by decide) (by decide) (by decide), ua 32 _ (by decide) (by omega), o32]
    · rw [cV 33 (by decide) (by decide) (by decide) (by decide), ua 33 _ (by decide) (by omega), o33]
    · rw [cV 34 (by decide) (by decide) (by decide) (by decide), ua 34 _ (by decide) (by omega), o34]
    · rw [cV 35 (by decide) (by decide) (by decide) (by decide), ua 35 _ (by decide) (by omega), o35 i i0 i1]
  · rw [hA.1]
    exact fun i i0 i1 => (paV i i0 i1).mv fun a q1 q2 _ _ _ => zo a _ (Or.inl (by omega))
  · rw [hA.1, z8, show σ 8 12 + σ 83 f = R2 8 12 by omega, v12]
    exact AV.mv ⟨fun a q => zc a (by omega) (by omega), fun i _ _ _ _ => by rw [z8], fun a i q1 q2 _ _ _ => zo a i (Or.inl (by omega)), fun i _ _ => zo 15 i (Or.inl (by decide))⟩ tV
  · rw [z8, w16, show T 8 16 + 2 - 2 = T 8 16 by omega]
    obtain ⟨d', OV⟩ := OV
    exact ⟨d', CT_fr (fun e q1 q2 => zc e (by omega) (by omega)) _ _ _ _ _ _ _ (fun x _ _ => ⟨zo 20 x (Or.inl (by decide)), zo 21 x (Or.inl (by decide)), zo 22 x (Or.inl (by decide))⟩) OV⟩
  · rw [z8, w16, show T 8 16 + 2 - 2 = T 8 16 by omega]
    exact ⟨by rw [zc 20 (by decide) (by decide)]; exact i17.1, by rw [zc 21 (by decide) (by decide)]; exact i17.2.1, by rw [zc 22 (by decide) (by decide)]; exact i17.2.2⟩
  · rw [z8, w16, show T 8 16 + 2 - 1 = T 8 16 + 1 by omega]
    exact ⟨by rw [zc 20 (by decide) (by decide)]; exact i16.1, by rw [zc 21 (by decide) (by decide)]; exact i16.2.1, by rw [zc 22 (by decide) (by decide)]; exact i16.2.2⟩
  · have s23 := g1.2.1 fn fn0.1 fn0.2
    have hvs : vS R0 (S1 23 fn) := Or.inl (by rw [rc0]; exact s23.1)
    rw [cS_mv (zc 1 (by decide) (by decide)) (zc 2 (by decide) (by decide)) (zc 3 (by decide) (by decide)), zc 23 (by decide) (by decide), (b12 fn fn0.2).1, rc 23 (by decide) (by decide), (b8 _ hvs).1, cS_mv (rc 1 (by decide) (by decide)) (rc 2 (by decide) (by decide)) (rc 3 (by decide) (by decide)), es, ltx]
end PW
