/-! functions are defined one by one: the step, the loops -/
/-- room for m functions from f on -/
def dRm (σ τ : gM) (m : Nat) (f : Int) : Prop := cRm σ (wSu σ m f) ∧ mRm τ (wSu σ m f) ∧ (4 ≤ σ 8 31 ∧ σ 8 31 + m ≤ 60) ∧ σ 8 12 + nCu σ m f ≤ 15600 ∧ σ 8 16 + 3 * nCu σ m f + 2 * m + 902 ≤ 64000
/-- all that is related, and newest roots -/
def rPr (σ τ : gM) : Prop := rPg σ τ ∧ rRp σ
/-- nodes that come are new; new roots have new nodes -/
def nwD (σ Z X : gM) : Prop := (∀ y, σ 8 12 ≤ y → y < Z 8 12 → Z 11 y = 0 ∧ Z 18 y = 0 ∧ X 179 y = 0) ∧ ∀ r, σ 8 31 ≤ r → r < Z 8 31 → σ 8 12 ≤ Z 26 r
section SP
variable {σ τ : gM} {f : Int}
theorem def_step {m : Nat} (h : rPr σ τ) (D : dG σ τ) (f0 : 0 ≤ f) (hm : f + (m + 1 : Nat) ≤ σ 68 19) (R : dRm σ τ (m + 1) f) :
    ∃ Z Z' X, fr_plant_2 σ (σ 69 0) (σ 69 1) f = some (Z, σ 8 31) ∧ cd_defined Z (Z 25 (σ 8 31)) = some (Z', 0) ∧ (σ 52 10 = 0 → Z' = Z) ∧ md_define_b2 τ f = md_define_b2 X (f + 1) ∧ rPr Z' X ∧ dG Z' X ∧ dRm Z' X m (f + 1) ∧ dFr (σ 80 f + 1 + (wq σ (eG σ f) - wq σ (σ 81 f))) 1 σ τ Z' X ∧ Z' 8 12 = σ 8 12 + (nd σ (eG σ f) - nd σ (σ 81 f)) ∧ Z' 8 16 ≤ σ 8 16 + 3 * (nd σ (eG σ f) - nd σ (σ 81 f)) + 2 ∧ nwD σ Z' X := by
  obtain ⟨P, Rp⟩ := h
  have D' := D
  obtain ⟨d1, d2, d3, d4, d5, d6, d7⟩ := D'
  obtain ⟨R1, R2, R3, R4, R5⟩ := R
  obtain ⟨fF, fe⟩ := d1 f f0 (by omega)
  have w0 := fF.w0
  have wr := wSu_0 d1 m (f + 1) (by omega) (by omega)
  have ew : wSu σ (m + 1) f = (σ 80 f + 1 + (wq σ (eG σ f) - wq σ (σ 81 f))) + wSu σ m (f + 1) := rfl
  have en : nCu σ (m + 1) f = (nd σ (eG σ f) - nd σ (σ 81 f)) + nCu σ m (f + 1) := rfl
  have P' := P
  obtain ⟨⟨p1, p2, p3⟩, hv, hn, hk, hg, hs, hc, hb, hN, hCs, hIn, ⟨hU, hP, hV⟩, -⟩ := P'
  have rb := hb.1.1
  have nb := hN.1
  have ib := hIn.1
  rw [ew] at R1 R2
  rw [en] at R4 R5
  generalize hw : σ 80 f + 1 + (wq σ (eG σ f) - wq σ (σ 81 f)) = w at *
  have jr : ∀ j, nd σ (σ 81 f) ≤ j → j < nd σ (eG σ f) → τ 141 j = -1 ∨ (0 ≤ τ 141 j ∧ τ 141 j < 4004) := fun j j0 j1 => by
    have fr := fF.2.1
    have a := nd_pos (σ := σ) (i := σ 81 f) fr.1
    have b := nd_r (σ := σ) (i := eG σ f) (j := σ 68 10) (by omega) fe
    have := d7.1 j (by omega) (by rw [d7.2]; omega)
    omega
  obtain ⟨x1, x2, x3, x4, x5⟩ := id R1
  obtain ⟨y1, y2, y3, y4, y5⟩ := id R2
  obtain ⟨Z, W, fn, g, e1, e2, pF, mD, nf⟩ := plant_pair fF d2 (by omega) (by omega) d4 p1 hv.1 p2 hv.2.1 p3 d3 ⟨by omega, by omega, rb.2.2⟩ ⟨by omega, by omega, nb.2.2⟩ ⟨by omega, by omega⟩ (by omega) (fun j j0 j1 => jr j j0 j1) (by rw [hw]; exact ⟨by omega, by omega, by omega, by omega, x5⟩) (by rw [hw]; exact ⟨by omega, by omega, by omega, by omega, y5⟩)
  rw [hw] at pF mD
  have W5 : W 119 55 = σ 8 31 := by rw [mD.2.2.2.2.1 55 (by decide) (by decide) (by decide) (by decide) (by decide), rb.2.2]
  have g9 : g < 9000 := by have := mD.2.1.1; have := nf.2.1; omega
  obtain ⟨X, ex, rt⟩ := md_rootComes_s (W := W) (g := g) (by omega) ⟨nf.2.1.1, g9⟩
  obtain ⟨F, w55⟩ := sFr.of pF mD nf rt rb.2.2 nb.2.2 g9
  have gr0 : 20 * Z 0 9 ≤ 20 * σ 0 9 + w := pF.2.2.2.2.2.2.2.2.2.2.2.2.2.2.2.2.1.2
  have fr1 := dFr.of pF mD rt F w55 hv.1 hv.2.1 hg
  have gr := fr1.2.1.2.2.2.2.2.2.2.2.2.2.2
  have gm := fr1.2.2.2.2.2.2.2.2.2
  have z12 := nf.2.2.2.1
  have P2 : rPg Z X := P.new F nf rt w55 (by omega) (by omega) (by omega) (by omega) (by omega)
  have z31 : Z 8 31 = σ 8 31 + 1 := z12.1
  have z25 : Z 25 (σ 8 31) = fn := nf.2.2.2.2.1.1
  have x157 : X 157 (σ 8 31) = g := by have := rt.2.2.1.1; rw [w55] at this; exact this
  have rfn : rFn Z X fn g := by
    have := P2.2.2.1 (σ 8 31) (by omega) (by omega)
    rw [z25, x157] at this
    exact this
  have Rp2 : rRp Z := by
    intro r r0 r1
    obtain ⟨-, -, -, -, -, ⟨-, -, -, -, -, -, -, -, a9, -, -, a12, -⟩, -⟩ := F
    by_cases z : r = σ 8 31
    · rw [z, z25, nf.1.2.2]; omega
    · rw [a12 25 r (by decide) (by decide) (by omega)]
      by_cases y : σ 25 r = fn
      · rw [y, nf.1.2.2]; omega
      · rw [(a9 _ (hn r r0 (by omega)).1.2).2 y]
        exact Rp r r0 (by omega)
  have nw : nwD σ Z X := ⟨fun y q1 q2 => by
    obtain ⟨v1, -, v3, v4⟩ := (nf.2.2.2.2.2.2.1 y q1 q2).2.2.1
    exact ⟨v3, v1, by rw [rt.2.2.2.2.1 179 y (by decide) (by decide) (by decide) (by decide)]; exact v4⟩, fun r q1 q2 => by
    rw [show r = σ 8 31 by omega, nf.2.2.2.2.1.2.1]
    exact Int.le_refl _⟩
  rw [e1, e2, ex]
  have rm : ∀ Z' X', dFr w 1 σ τ Z' X' → Z' 8 12 = Z 8 12 → Z' 8 16 = Z 8 16 → dRm Z' X' m (f + 1) := by
    intro Z' X' F1 q1 q2
    obtain ⟨-, ⟨b1, -, -, -, -, -, -, -, -, -, b11, b12, b13, b14, b15⟩, ⟨-, -, -, -, -, -, -, c8, c9, c10, c11⟩⟩ := F1
    have cc : ∀ e, 68 ≤ e → e ≤ 86 → Z' e = σ e := fun e q1 q2 => b1 e (by omega) (by omega)
    unfold dRm
    rw [wSu_mv cc, nCu_mv cc, q1, q2]
    refine ⟨⟨by omega, by omega, by omega, by omega, by omega⟩, ⟨by omega, by omega, by omega, by omega, by omega⟩, by omega, by omega, by omega⟩
  by_cases z : W 156 g < 0
  · rw [if_pos z]
    have no : ∀ r, 0 ≤ r → r < σ 8 31 → σ 25 r ≠ fn := by
      intro r r0 r1 q
      have k1 := hn r r0 r1
      have k2 := k1.fr F hv.1 hv.2.1
      rw [q] at k2
      have k3 : τ 157 r = g := (rFn_inj F.1 F.2.2.1 F.2.1 F.2.2.2.1 k2 rfn).mp rfl
      have k4 := hv.2.2.1 _ _ k1
      have k5 := Rp r r0 r1
      rw [k3] at k1 k4
      have k6 := (mD.2.2.2.2.2.2.2.1 g k1.2.1.2).2
      omega
    have b2 := P2.2.2.2.2.2.2.2.1
    have n2 := P2.2.2.2.2.2.2.2.2.1
    refine ⟨Z, Z, X, rfl, ?_, fun _ => rfl, rfl, ⟨P2, Rp2⟩, D.mv fr1, rm Z X fr1 rfl rfl, fr1, z12.2.1, by omega, nw⟩
    rw [z25, cd_defined_e]
    exact cd_defined_no b2 n2 (dno_new F hb hN hU no) (Z 52 10).toNat 0 (by decide) (by have := b2.2.1; omega)
  · rw [if_neg z]
    have b2 := P2.2.2.2.2.2.2.2.1
    have n2 := P2.2.2.2.2.2.2.2.2.1
    obtain ⟨Z', X', q1, q2, q3, q4, q5, q6⟩ := cd_defined_s (f := fn) (g := g) (Z 52 10).toNat Z X 0 b2 n2 (sameF_of P2 rfn) (by decide) (by have := b2.2.1; omega)
    have fr2 := fr1.ef q4 q5 q6
    refine ⟨Z, Z', X', rfl, by rw [z25, cd_defined_e]; exact q1, fun k => ?_, ?_, ⟨P2.ef q3 q4 q5 q6, ?_⟩, D.mv fr2, rm Z' X' fr2 (q4 8 12 (by decide) (by decide) (by decide)) (q4 8 16 (by decide) (by decide) (by decide)), fr2, by rw [q4 8 12 (by decide) (by decide) (by decide)]; exact z12.2.1, by rw [q4 8 16 (by decide) (by decide) (by decide)]; omega, ?_⟩
    · have k2 : Z 52 10 = 0 := by rw [F.2.2.2.2.2.1.1 52 (by decide)]; exact k
      rw [cd_defined_b2_e, if_neg (by omega)] at q1
      simp only [Option.some.injEq, Prod.mk.injEq] at q1
      exact q1.1.symm
    · rw [md_endCodesOfFunction_e, q2]
      rfl
    · intro r r0 r1
      rw [q4 8 31 (by decide) (by decide) (by decide)] at r1
      rw [q4 24 _ (by decide) (by decide) (by decide), q4 25 _ (by decide) (by decide) (by decide)]
      exact Rp2 r r0 r1
    · refine ⟨fun y w1 w2 => ?_, fun r w1 w2 => ?_⟩
      · rw [q4 8 12 (by decide) (by decide) (by decide)] at w2
        rw [q4 11 _ (by decide) (by decide) (by decide), q4 18 _ (by decide) (by decide) (by decide), q5 179 _ (by decide) (by decide) (by decide)]
        exact nw.1 y w1 w2
      · rw [q4 8 31 (by decide) (by decide) (by decide)] at w2
        rw [q4 26 _ (by decide) (by decide) (by decide)]
        exact nw.2 r w1 w2
/-- define in a run -/
theorem def_loop {x : Int} (hx : 0 ≤ x ∧ x < 108000) : ∀ (m : Nat) (σ τ : gM) (f : Int), rPr σ τ → dG σ τ → 0 ≤ f → f + m = σ 68 19 → dRm σ τ m f → vS σ x → σ 69 0 = 1 → σ 69 1 = σ 2 x →
    ∃ Z X, mc_define_b93 σ x f = some (Z, 1) ∧ md_define_b2 τ f = some (X, 0) ∧ rPr Z X ∧ dFr (wSu σ m f) m σ τ Z X ∧ Z 8 12 = σ 8 12 + nCu σ m f ∧ Z 8 16 ≤ σ 8 16 + 3 * nCu σ m f + 2 * m ∧ nwD σ Z X
  | 0, σ, τ, f, P, D, f0, hm, R, v, c1, c2 => by
    have := D.2.2.2.2.1
    rw [mc_define_b93_e, if_neg (by omega), md_define_b2_e, if_neg (by omega)]
    exact ⟨σ, τ, rfl, rfl, P, dFr.rf, by show _ = σ 8 12 + 0; omega, by show _ ≤ σ 8 16 + 3 * 0 + _; omega, fun y q1 q2 => by omega, fun r q1 q2 => by omega⟩
  | m + 1, σ, τ, f, P, D, f0, hm, R, v, c1, c2 => by
    have d5 := D.2.2.2.2.1
    obtain ⟨Z, Z', X, e1, e2, -, e3, P2, D2, R2, F2, z12, z16, nw1⟩ := def_step P D f0 (by omega) R
    have R3 := R.2.2.1
    obtain ⟨-, ⟨b1, -, -, -, -, -, b7, -, -, -, b11, -⟩, -⟩ := id F2
    have v2 := b7 x v
    have c69 := b1 69 (by decide) (by decide)
    have c68 := b1 68 (by decide) (by decide)
    have z2 : Z' 2 x = σ 2 x := v2.2.2.2.2.2
    obtain ⟨U, Y, i1, i2, i3, i4, i5, i6, i7⟩ := def_loop hx m Z' X (f + 1) P2 D2 (by omega) (by rw [c68]; omega) R2 v2.1 (by rw [c69]; exact c1) (by rw [c69, z2]; exact c2)
    have en : nCu σ (m + 1) f = (nd σ (eG σ f) - nd σ (σ 81 f)) + nCu σ m (f + 1) := rfl
    rw [nCu_mv fun e q1 q2 => b1 e (by omega) (by omega)] at i5 i6
    have i4' := i4
    obtain ⟨-, ⟨-, -, g3, -, g5, -⟩, ⟨-, -, -, -, -, g6, -⟩⟩ := i4'
    refine ⟨U, Y, ?_, by rw [e3]; exact i2, i3, ?_, by omega, by omega, fun y w1 w2 => ?_, fun r w1 w2 => ?_⟩
    · rw [c1, c2] at e1
      rw [mc_define_b93_e, if_pos (by omega), if_pos hx, e1]
      simp only [Option.bind_some]
      rw [if_pos (by omega), e2]
      simp only [Option.bind_some]
      rw [w32_e (by omega) (by omega)]
      exact i1
    · have t := F2.tr i4 (by decide) i4.2.1.2.2.2.2.2.2.2.2.2.2.1.2.1
      rw [wSu_mv fun e q1 q2 => b1 e (by omega) (by omega)] at t
      rw [show ((m + 1 : Nat) : Int) = 1 + (m : Int) by omega]
      exact t
    · by_cases z : y < Z' 8 12
      · rw [g3 11 y (by decide) (by decide) z, g3 18 y (by decide) (by decide) z, g6 179 y (by decide) (by decide) z]
        exact nw1.1 y w1 z
      · exact i7.1 y (by omega) w2
    · by_cases z : r < Z' 8 31
      · rw [g5 26 r (by decide) (by decide) (by decide) z]
        exact nw1.2 r w1 z
      · have := i7.2 r (by omega) w2
        omega
end SP
