/-! the model defines a function: whole, up to its root -/
section MW
variable {σ τ T : gM} {f b : Int}
theorem FN.cells (h : FN σ τ f b) (hb : 0 ≤ σ 81 f) (c : ∀ a, 131 < a → a < 155 → a ≠ 144 → T a = τ a) : FN σ T f b := by
  obtain ⟨fn, r1, hL, ⟨t148, t149, t150, t151, t300⟩, ⟨d, px⟩, nb, ip⟩ := h
  refine ⟨?_, r1, ?_, ⟨by rw [c 148 (by decide) (by decide) (by decide)]; exact t148, by rw [c 149 (by decide) (by decide) (by decide)]; exact t149, by rw [c 150 (by decide) (by decide) (by decide)]; exact t150, by rw [c 151 (by decide) (by decide) (by decide)]; exact t151, t300⟩, ⟨d, ?_⟩, ?_, ip⟩
  · unfold fN at fn ⊢
    rw [c 146 (by decide) (by decide) (by decide), c 147 (by decide) (by decide) (by decide)]
    exact fn
  · obtain ⟨p1, p2, p3, p4⟩ := hL
    refine ⟨p1, by rw [c 152 (by decide) (by decide) (by decide)]; exact p2, by rw [c 153 (by decide) (by decide) (by decide), c 154 (by decide) (by decide) (by decide)]; exact p3, fun l l' q1 q2 q3 => ?_⟩
    rw [tE.mv (c 134 (by decide) (by decide) (by decide))]
    exact p4 l l' q1 q2 q3
  · exact PT_fr _ _ _ _ _ _ (by omega) (fun i _ _ => ⟨Or.inl rfl, rfl, rfl, rfl, fun _ => rfl⟩) (fun _ _ _ _ => rfl) (fun _ _ _ => rfl) (fun i _ _ _ _ => by rw [c 141 (by decide) (by decide) (by decide)]) px
  · exact NB.fr nb hb (fun _ _ _ _ _ _ _ => rfl) (fun _ _ _ => rfl) (fun e j e0 e1 _ _ _ => by rw [c e (by omega) (by omega) (by omega)]) (c 134 (by decide) (by decide) (by decide)) rfl (fun l p e u => u.mv rfl rfl rfl rfl (c 134 (by decide) (by decide) (by decide)))
theorem mN1.mv0 {U V : gM} {j k r L : Int} (h : mN1 U j k r L) (c : ∀ a, a ≠ 119 → a ≠ 162 → V a = U a) (e10 : V 119 10 = U 119 10) (e56 : V 119 56 = U 119 56) (e15 : V 119 15 = U 119 15) : mN1 V j k r L := by
  unfold mN1 nO mK mumIs mB mS at h ⊢
  rw [c 134 (by decide) (by decide), c 135 (by decide) (by decide), c 136 (by decide) (by decide), c 138 (by decide) (by decide), c 139 (by decide) (by decide), c 140 (by decide) (by decide), c 141 (by decide) (by decide), c 142 (by decide) (by decide), c 143 (by decide) (by decide), c 144 (by decide) (by decide), c 168 (by decide) (by decide), c 169 (by decide) (by decide), c 170 (by decide) (by decide), c 171 (by decide) (by decide), c 172 (by decide) (by decide), c 173 (by decide) (by decide), c 174 (by decide) (by decide), c 175 (by decide) (by decide), c 176 (by decide) (by decide), c 177 (by decide) (by decide), c 178 (by decide) (by decide), c 179 (by decide) (by decide), c 180 (by decide) (by decide), c 181 (by decide) (by decide), c 121 (by decide) (by decide), c 122 (by decide) (by decide), c 123 (by decide) (by decide), c 128 (by decide) (by decide), c 155 (by decide) (by decide), e10, e56, e15]
  exact h
theorem md_fn_s (F : FN σ τ f b) (hX : tX σ τ) (hf : 0 ≤ f ∧ f < 50) (told : f < τ 119 54) (hr : 0 ≤ τ 119 55 ∧ τ 119 55 < 60) (h : mI τ) (g : fJ τ) (h8 : ∀ i, i8 (τ 121 i)) (t8 : ∀ i, i8 (τ 134 i)) (b4 : nd σ b ≤ 4003) (h57 : 0 ≤ τ 119 57 ∧ τ 119 57 ≤ 15600)
    (J : ∀ j, nd σ (σ 81 f) ≤ j → j < nd σ b → τ 141 j = -1 ∨ (0 ≤ τ 141 j ∧ τ 141 j < 4004)) (rm : mRm τ (σ 80 f + 1 + (wq σ b - wq σ (σ 81 f)))) :
    ∃ W fn, md_define_b2 τ f = ((md_rootComes W fn).bind fun p4 => md_define_b2 p4.1 (f + 1)) ∧ mDf (σ 80 f + 1 + (wq σ b - wq σ (σ 81 f))) τ W (τ 119 55) ∧ mPl σ τ W f b fn := by
  have A0 : 0 ≤ σ 81 f := F.2.1.1
  have hf1 : 0 ≤ f ∧ f < 51 := by omega
  rw [md_define_b2_e, if_pos told, if_pos hr, if_pos hf1, if_pos hf1, if_pos hr, if_pos hf1, if_pos hr, if_pos hf1, if_pos hr]
  -- the root's own rows
  have c1 : ∀ a i, (a < 158 ∨ 161 < a) ∨ i ≠ τ 119 55 → gW (gW (gW (gW τ 158 (τ 119 55) (τ 119 57)) 159 (τ 119 55) (w32 (τ 149 f - τ 148 f))) 160 (τ 119 55) (τ 150 f)) 161 (τ 119 55) (τ 152 f) a i = τ a i := fun a i q => by
    unfold gW
    rw [if_neg (by omega), if_neg (by omega), if_neg (by omega), if_neg (by omega)]
  have d158 : gW (gW (gW (gW τ 158 (τ 119 55) (τ 119 57)) 159 (τ 119 55) (w32 (τ 149 f - τ 148 f))) 160 (τ 119 55) (τ 150 f)) 161 (τ 119 55) (τ 152 f) 158 (τ 119 55) = τ 119 57 := by simp [gW]
  have d159 : gW (gW (gW (gW τ 158 (τ 119 55) (τ 119 57)) 159 (τ 119 55) (w32 (τ 149 f - τ 148 f))) 160 (τ 119 55) (τ 150 f)) 161 (τ 119 55) (τ 152 f) 159 (τ 119 55) = w32 (τ 149 f - τ 148 f) := by simp [gW]
  have d160 : gW (gW (gW (gW τ 158 (τ 119 55) (τ 119 57)) 159 (τ 119 55) (w32 (τ 149 f - τ 148 f))) 160 (τ 119 55) (τ 150 f)) 161 (τ 119 55) (τ 152 f) 160 (τ 119 55) = τ 150 f := by simp [gW]
  have d161 : gW (gW (gW (gW τ 158 (τ 119 55) (τ 119 57)) 159 (τ 119 55) (w32 (τ 149 f - τ 148 f))) 160 (τ 119 55) (τ 150 f)) 161 (τ 119 55) (τ 152 f) 161 (τ 119 55) = τ 152 f := by simp [gW]
  generalize gW (gW (gW (gW τ 158 (τ 119 55) (τ 119 57)) 159 (τ 119 55) (w32 (τ 149 f - τ 148 f))) 160 (τ 119 55) (τ 150 f)) 161 (τ 119 55) (τ 152 f) = τ1 at *
  have cc1 : ∀ a, a < 158 ∨ 161 < a → τ1 a = τ a := fun a q => funext fun i => c1 a i (Or.inl q)
  have F1 := F.cells (T := τ1) A0 fun a q1 q2 _ => cc1 a (by omega)
  have e119 := cc1 119 (by decide)
  obtain ⟨T1, n1, n57, nf, npar, d, qt⟩ := b76_all (u := τ 119 55) (w := τ 119 57) F1 hf (by omega) (by rw [e119]; exact h57.1) (by rw [e119]; exact h57.2)
  rw [e119] at n57 npar qt
  rw [n1]
  have F1' := F1
  obtain ⟨fn1, ⟨r1, r2, r3, r4, r5⟩, hL, ⟨t148, t149, t150, t151, t300⟩, ⟨dp, px⟩, nb, ip⟩ := F1'
  have tc : ∀ a, a ≠ 119 → a ≠ 144 → T1 a = τ1 a := fun a z1 z2 => funext fun i => nf a i (by omega) (by omega)
  have t119 : ∀ i, i ≠ 57 → T1 119 i = τ 119 i := fun i z => by rw [nf 119 i (by omega) (by omega), e119]
  have e148 : T1 148 f = nd σ (σ 81 f) := by rw [tc 148 (by decide) (by decide), t148]
  have mA := nd_r (σ := σ) (i := σ 81 f) (j := b) A0 (by omega)
  have nz : ∀ i, 0 ≤ i → i ≤ σ 83 f → nd σ (σ 81 f + i) = nd σ (σ 81 f) + i := fun i i0 i1 => by
    have := nd_zero (σ := σ) (a := σ 81 f) A0 i.toNat (fun j q1 q2 => (ip j q1 (by omega)).1)
    rw [show ((i.toNat : Nat) : Int) = i by omega] at this
    exact this
  have nzp := nz (σ 83 f) r2 (Int.le_refl _)
  -- each number once
  have bj : bij σ (fun i => T1 144 (nd σ i)) (σ 81 f) b (τ 119 57) := by
    refine bij.cat (x := σ 81 f + σ 83 f) A0 (by omega) r5 ?_ ?_
    · have := bij.row (σ := σ) (N := fun i => T1 144 (nd σ i)) (σ 83 f).toNat (σ 81 f) (τ 119 57) A0 fun i i0 i1 => ⟨(ip i i0 (by omega)).1, by
        have := npar (i - σ 81 f) (by omega) (by omega)
        rw [show σ 81 f + (i - σ 81 f) = i by omega] at this
        exact this⟩
      rw [show ((σ 83 f).toNat : Int) = σ 83 f by omega] at this
      exact this
    · rw [show τ 119 57 + (nd σ (σ 81 f + σ 83 f) - nd σ (σ 81 f)) = τ 119 57 + σ 83 f by omega]
      exact QT_bij d _ _ _ _ _ (by omega) qt
  have nbT := nf.nb A0 nb
  have hXT : tX σ T1 := by
    unfold tX at hX ⊢
    rw [t119 23 (by decide), tc 134 (by decide) (by decide), cc1 134 (by decide)]
    exact hX
  have hLT : pL σ T1 f := by
    obtain ⟨p1, p2, p3, p4⟩ := hL
    refine ⟨p1, by rw [tc 152 (by decide) (by decide)]; exact p2, by rw [tc 153 (by decide) (by decide), tc 154 (by decide) (by decide)]; exact p3, fun l l' q1 q2 q3 => ?_⟩
    rw [tE.mv (tc 134 (by decide) (by decide))]
    exact p4 l l' q1 q2 q3
  have mT : mI T1 := mI_mv h (t119 9 (by decide)) (t119 10 (by decide)) (t119 12 (by decide)) (t119 13 (by decide)) fun a q1 q2 => by rw [tc a (by omega) (by omega), cc1 a (by omega)]
  have gT : fJ T1 := fJ_mv g (t119 10 (by decide)) (t119 56 (by decide)) (by rw [tc 155 (by decide) (by decide), cc1 155 (by decide)]) (by rw [tc 186 (by decide) (by decide), cc1 186 (by decide)])
  have i8T : ∀ i, i8 (T1 121 i) := by rw [tc 121 (by decide) (by decide), cc1 121 (by decide)]; exact h8
  have e134 : T1 134 = τ 134 := by rw [tc 134 (by decide) (by decide), cc1 134 (by decide)]
  have wpn : 0 ≤ wq σ b - wq σ (σ 81 f) := by
    have := wq_r (σ := σ) (i := σ 81 f) (j := b) A0 (by omega) fun x x0 x1 => by
      by_cases z : σ 70 x = 30
      · rw [wt_0 (by omega)]; omega
      · have rg := bj.1 x x0 x1 z
        have rg' : 0 ≤ T1 144 (nd σ x) ∧ T1 144 (nd σ x) < 16000 := by
          have rg2 : τ 119 57 ≤ T1 144 (nd σ x) ∧ T1 144 (nd σ x) < τ 119 57 + (nd σ b - nd σ (σ 81 f)) := rg
          omega
        have nx := nd_r (σ := σ) (i := σ 81 f) (j := x) A0 x0
        have ny := nd_lt (σ := σ) (i := x) (j := b) (by omega) x1 z
        exact (NB.lV hXT nbT ⟨x0, x1⟩ A0 b4 z rg' (by rw [tc 141 (by decide) (by decide), cc1 141 (by decide)]; exact J _ (by omega) (by omega))).2.2.2.2.2.2.2.2.1
    omega
  have rmT : mRm T1 (wq σ b - wq σ (σ 81 f)) := by
    unfold mRm at rm ⊢
    rw [t119 10 (by decide), t119 9 (by decide), t119 15 (by decide), t119 56 (by decide)]
    have := fn1.1
    exact ⟨by omega, by omega, by omega, by omega, rm.2.2.2.2⟩
  obtain ⟨U, l1, LA⟩ := b146_s (σ := σ) (τ := T1) (f := f) (b := b) (A := σ 81 f) (u := τ 119 55) (w := τ 119 57) hXT hLT hf1 (by rw [e134]; exact t8) A0 (by rw [tc 149 (by decide) (by decide)]; exact t149) (by omega) (fun i i0 i1 z => by
      have rg := bj.1 i i0 i1 z
      have rg2 : τ 119 57 ≤ T1 144 (nd σ i) ∧ T1 144 (nd σ i) < τ 119 57 + (nd σ b - nd σ (σ 81 f)) := rg
      have nx := nd_r (σ := σ) (i := σ 81 f) (j := i) A0 i0
      have ny := nd_lt (σ := σ) (i := i) (j := b) (by omega) i1 z
      exact NB.lV hXT nbT ⟨i0, i1⟩ A0 b4 z (by omega) (by rw [tc 141 (by decide) (by decide), cc1 141 (by decide)]; exact J _ (by omega) (by omega))) (fun i i' i0 i1 z j0 j1 z' w => bj.2.1 i i' i0 i1 z j0 j1 z' w) rmT (fun i _ _ z => wt_0 (by omega)) (b - σ 81 f).toNat (σ 81 f) T1 (Int.le_refl _) (by omega) ⟨mFr.rf mT gT i8T (by omega), fun x x0 x1 => by omega, fun a y _ _ _ => rfl⟩
  rw [e148, l1]
  obtain ⟨FU, mn, oth⟩ := LA
  have uc : ∀ a, 131 < a → a < 155 → U a = T1 a := fun a q1 q2 => FU.2.2.2.1 a (by omega)
  have ud : ∀ a, 156 < a → a < 168 → U a = T1 a := fun a q1 q2 => FU.2.2.2.1 a (by omega)
  have u119 : ∀ i, i ≠ 9 → i ≠ 10 → i ≠ 15 → i ≠ 56 → U 119 i = T1 119 i := FU.2.2.2.2.1
  have u149 : U 149 f = nd σ b := by rw [uc 149 (by decide) (by decide), tc 149 (by decide) (by decide), t149]
  have u151 : U 151 f = ph σ (σ 82 f) := by rw [uc 151 (by decide) (by decide), tc 151 (by decide) (by decide), t151]
  have u159 : U 159 (τ 119 55) = nd σ b - nd σ (σ 81 f) := by
    rw [ud 159 (by decide) (by decide), tc 159 (by decide) (by decide), d159]
    have e1 : τ 149 f = nd σ b := by rw [← cc1 149 (by decide), t149]
    have e2 : τ 148 f = nd σ (σ 81 f) := by rw [← cc1 148 (by decide), t148]
    have := nd_pos (σ := σ) (i := σ 81 f) A0
    rw [e1, e2, w32_e (by omega) (by omega)]
  have pab := (PT_ab _ _ _ _ _ _ px)
  have phr : ph σ (σ 82 f) = -1 ∨ (0 ≤ ph σ (σ 82 f) ∧ ph σ (σ 82 f) < 4004) := by
    rcases pab.2.2 with z | z
    · rw [z]; exact Or.inl rfl
    · exact ph_v (b := b) ⟨by omega, by omega⟩ b4 fun w => (nb (σ 82 f) (by omega) (by omega)).2 w
  rw [md_define_b146_e, if_pos hf1, u149, if_neg (by omega), if_pos hf1, u151, nO_of (τ := U) rfl phr]
  simp only [Option.bind_some]
  rw [if_pos hr, if_pos hr, if_pos hf1, if_pos hf1, u159, w32_e (x := τ 119 57 + (nd σ b - nd σ (σ 81 f))) (by omega) (by omega)]
  -- its name
  have vo : ∀ a i, (a ≠ 162 ∨ i ≠ τ 119 55) → (a ≠ 119 ∨ i ≠ 57) → gW (gW U 162 (τ 119 55) (nO U (ph σ (σ 82 f)))) 119 57 (τ 119 57 + (nd σ b - nd σ (σ 81 f))) a i = U a i := fun a i z1 z2 => by
    unfold gW
    rw [if_neg (by omega), if_neg (by omega)]
  have v162 : gW (gW U 162 (τ 119 55) (nO U (ph σ (σ 82 f)))) 119 57 (τ 119 57 + (nd σ b - nd σ (σ 81 f))) 162 (τ 119 55) = nO U (ph σ (σ 82 f)) := by rw [gW_c (by decide), gW_at]
  have v57 : gW (gW U 162 (τ 119 55) (nO U (ph σ (σ 82 f)))) 119 57 (τ 119 57 + (nd σ b - nd σ (σ 81 f))) 119 57 = τ 119 57 + (nd σ b - nd σ (σ 81 f)) := gW_at _ _ _ _
  have vc : ∀ a, a ≠ 119 → a ≠ 162 → gW (gW U 162 (τ 119 55) (nO U (ph σ (σ 82 f)))) 119 57 (τ 119 57 + (nd σ b - nd σ (σ 81 f))) a = U a := fun a z1 z2 => funext fun i => vo a i (Or.inl z2) (Or.inl z1)
  generalize gW (gW U 162 (τ 119 55) (nO U (ph σ (σ 82 f)))) 119 57 (τ 119 57 + (nd σ b - nd σ (σ 81 f))) = V at *
  have v119 : ∀ i, i ≠ 57 → V 119 i = U 119 i := fun i z => vo 119 i (Or.inl (by decide)) (Or.inr z)
  have mV : mI V := mI_mv FU.1 (v119 9 (by decide)) (v119 10 (by decide)) (v119 12 (by decide)) (v119 13 (by decide)) fun a q1 q2 => vc a (by omega) (by omega)
  have gV : fJ V := fJ_mv FU.2.1 (v119 10 (by decide)) (v119 56 (by decide)) (vc 155 (by decide) (by decide)) (vc 186 (by decide) (by decide))
  have i8V : ∀ i, i8 (V 121 i) := by rw [vc 121 (by decide) (by decide)]; exact FU.2.2.1
  have v134 : V 134 = τ 134 := by rw [vc 134 (by decide) (by decide), uc 134 (by decide) (by decide), e134]
  have v146 : V 146 f = σ 79 f := by rw [vc 146 (by decide) (by decide), uc 146 (by decide) (by decide), tc 146 (by decide) (by decide), fn1.2.1]
  have v147 : V 147 f = σ 79 f + σ 80 f := by rw [vc 147 (by decide) (by decide), uc 147 (by decide) (by decide), tc 147 (by decide) (by decide), fn1.2.2]
  have u146 : U 146 f = σ 79 f := by rw [← vc 146 (by decide) (by decide), v146]
  have u147 : U 147 f = σ 79 f + σ 80 f := by rw [← vc 147 (by decide) (by decide), v147]
  have hnm := fn1.1
  have hl2 := hX.2.1
  have rmU : mRm U (σ 80 f + 1) := by
    refine mRm.fr (w := wq σ b - wq σ (σ 81 f)) ?_ FU
    unfold mRm at rm ⊢
    rw [t119 10 (by decide), t119 9 (by decide), t119 15 (by decide), t119 56 (by decide)]
    exact ⟨by omega, by omega, by omega, by omega, rm.2.2.2.2⟩
  have rmV : mRm V (σ 80 f + 1) := by
    unfold mRm at rmU ⊢
    rw [v119 10 (by decide), v119 9 (by decide), v119 15 (by decide), v119 56 (by decide)]
    exact rmU
  obtain ⟨W1, s, k1, FW1, s0, es, w1c, w119⟩ := md_str (τ := V) (n := (σ 80 f).toNat) (p := σ 79 f) (q := σ 79 f + σ 80 f) (w := σ 80 f + 1) mV gV i8V (by rw [v134]; exact t8) (by omega) (by omega) rmV
  rw [u146, u147, k1]
  simp only [Option.bind_some]
  obtain ⟨W, fn, g1, FW, g0, eg, wc, w10, w9, wcc, w15⟩ := md_functionOf_s (x := s) (w := 2) FW1.1 FW1.2.1 FW1.2.2.1 s0 (by decide) FW1.1.1.2 (by
    rw [w119 56 (by decide) (by decide)]
    have := rmV.2.2.2.1
    omega)
  rw [g1]
  simp only [Option.bind_some]
  rw [w32_e (by omega) (by omega)]
  have FWV := FW1.fn (w119 56 (by decide) (by decide)) FW w10 w9 w15 (by omega)
  refine ⟨W, fn, rfl, ?_, ?_⟩
  · obtain ⟨a1, a2, a3, a4, a5, a6, a7, a8, a9, a10, a11, a12, a13, a14⟩ := FU
    obtain ⟨b1, b2, b3, b4', b5, b6, b7, b8, b9, b10, b11, b12, b13, b14⟩ := FWV
    rw [t119 15 (by decide)] at a10 a13
    rw [t119 56 (by decide)] at a8 a9 a14
    rw [t119 10 (by decide)] at a11
    rw [t119 9 (by decide)] at a12
    rw [v119 15 (by decide)] at b10 b13
    rw [v119 56 (by decide)] at b8 b9 b14
    rw [v119 10 (by decide)] at b11
    rw [v119 9 (by decide)] at b12
    have base : ∀ a, a ≠ 119 → a ≠ 144 → a < 158 ∨ 161 < a → T1 a = τ a := fun a z1 z2 z3 => by rw [tc a z1 z2, cc1 a z3]
    refine ⟨b1, b2, b3, fun a z => ?_, fun i z1 z2 z3 z4 z5 => ?_, fun q z => ?_, fun i z => ?_, fun x z => ?_, fun x z1 z2 => ?_, fun i z => ?_, ⟨by omega, by omega⟩, ⟨by omega, by omega⟩, ⟨by omega, by omega⟩, ⟨by omega, by omega⟩, fun a x z1 z2 z3 => ?_, fun a y z1 z2 z3 => ?_⟩
    · rw [b4' a (by omega), vc a (by omega) (by omega), a4 a (by omega), base a (by omega) (by omega) (by omega)]
    · rw [b5 i z1 z2 z3 z4, v119 i z5, a5 i z1 z2 z3 z4, t119 i z5]
    · have k0 : mKeep τ T1 := fun r hr => ⟨by unfold vM at hr ⊢; rw [t119 10 (by decide), t119 13 (by decide)]; exact hr, mS_mv fun a q1 q2 => base a (by omega) (by omega) (by omega), by rw [base 122 (by decide) (by decide) (by decide)], by rw [base 123 (by decide) (by decide) (by decide)]⟩
      have k2 : mKeep U V := fun r hr => ⟨by unfold vM at hr ⊢; rw [v119 10 (by decide), v119 13 (by decide)]; exact hr, mS_mv fun a q1 q2 => vc a (by omega) (by omega), by rw [vc 122 (by decide) (by decide)], by rw [vc 123 (by decide) (by decide)]⟩
      exact ((k0.tr a6).tr (k2.tr b6)) q z
    · rw [b7 i z, vc 121 (by decide) (by decide), a7 i z, base 121 (by decide) (by decide) (by decide)]
    · obtain ⟨m1, m2⟩ := a8 x z
      obtain ⟨n1', n2'⟩ := b8 x (by omega)
      rw [n1', n2', vc 155 (by decide) (by decide), vc 156 (by decide) (by decide), m1, m2, base 155 (by decide) (by decide) (by decide), base 156 (by decide) (by decide) (by decide)]
      exact ⟨rfl, rfl⟩
    · by_cases zz : x < U 119 56
      · rw [(b8 x zz).2, vc 156 (by decide) (by decide)]
        exact a9 x z1 zz
      · exact b9 x (by omega) z2
    · rw [b10 i (by omega), vc 128 (by decide) (by decide), a10 i z, base 128 (by decide) (by decide) (by decide)]
    · rw [b4' a (by omega), vo a x (Or.inr z3) (Or.inl (by omega)), a4 a (by omega), tc a (by omega) (by omega), c1 a x (Or.inr z3)]
    · rw [wc a y (by omega) (by omega) (by omega) (by omega), w1c a y (by omega), vc a (by omega) (by omega), oth a y z1 z2 (fun x x0 x1 zz w => by
        have rg := bj.1 x x0 x1 zz
        have rg2 : τ 119 57 ≤ T1 144 (nd σ x) ∧ T1 144 (nd σ x) < τ 119 57 + (nd σ b - nd σ (σ 81 f)) := rg
        omega), base a (by omega) (by omega) (by omega)]
  · have wa : ∀ a i, 127 < a → a ≠ 155 → a ≠ 156 → a ≠ 186 → W a i = V a i := fun a i z1 z2 z3 z4 => by rw [wc a i z1 z2 z3 z4, w1c a i z1]
    have w144 : W 144 = T1 144 := funext fun i => by rw [wa 144 i (by decide) (by decide) (by decide) (by decide), vc 144 (by decide) (by decide), uc 144 (by decide) (by decide)]
    have u144 : U 144 = T1 144 := uc 144 (by decide) (by decide)
    refine ⟨?_, ⟨?_, ?_, ?_, ?_, ?_⟩, fun x x0 x1 z => ?_, fun i i0 i1 => ?_, ⟨d, ?_⟩, g0, ?_, ?_⟩
    · rw [FWV.2.2.2.2.1 57 (by decide) (by decide) (by decide) (by decide), v57]
    · rw [wa 158 _ (by decide) (by decide) (by decide) (by decide), vc 158 (by decide) (by decide), ud 158 (by decide) (by decide), tc 158 (by decide) (by decide), d158]
    · rw [wa 159 _ (by decide) (by decide) (by decide) (by decide), vc 159 (by decide) (by decide), u159]
    · rw [wa 160 _ (by decide) (by decide) (by decide) (by decide), vc 160 (by decide) (by decide), ud 160 (by decide) (by decide), tc 160 (by decide) (by decide), d160, ← cc1 150 (by decide), t150]
    · rw [wa 161 _ (by decide) (by decide) (by decide) (by decide), vc 161 (by decide) (by decide), ud 161 (by decide) (by decide), tc 161 (by decide) (by decide), d161, ← cc1 152 (by decide), hL.2.1]
    · rw [wa 162 _ (by decide) (by decide) (by decide) (by decide), v162]
      unfold nO
      rw [w144, u144]
    · have m := mn x x0 x1 z
      rw [w144]
      exact (m.mv0 vc (v119 10 (by decide)) (v119 56 (by decide)) (v119 15 (by decide))).fr FWV gV fun a q1 q2 => wa a _ (by omega) (by omega) (by omega) (by omega)
    · rw [w144]; exact npar i i0 i1
    · rw [w144]; exact qt
    · rw [eg, w10]; exact s0
    · rw [eg, mS_mv wcc, es, v134]
end MW
