/-! a function is planted on both sides -/
/-- what is new: the root, its tree, its function's name -/
def nwF (σ τ Z W : gM) (f b fn g : Int) : Prop := (0 ≤ fn ∧ fn < Z 8 19 ∧ Z 24 fn = σ 8 31) ∧ (0 ≤ g ∧ g < W 119 56) ∧ cS Z (Z 23 fn) = mS W (W 155 g) ∧ (Z 8 31 = σ 8 31 + 1 ∧ Z 8 12 = σ 8 12 + (nd σ b - nd σ (σ 81 f)) ∧ W 119 57 = Z 8 12 ∧ (σ 8 16 + 2 ≤ Z 8 16 ∧ Z 8 16 ≤ σ 8 16 + 3 * (Z 8 12 - σ 8 12) + 2)) ∧
  (Z 25 (σ 8 31) = fn ∧ Z 26 (σ 8 31) = σ 8 12 ∧ Z 27 (σ 8 31) = Z 8 12 - σ 8 12 ∧ Z 28 (σ 8 31) = σ 8 16 ∧ Z 29 (σ 8 31) = Z 8 16 - σ 8 16 ∧ Z 30 (σ 8 31) = σ 83 f ∧ Z 31 (σ 8 31) = σ 84 f ∧ Z 32 (σ 8 31) = 0 ∧ Z 33 (σ 8 31) = 0 ∧ Z 34 (σ 8 31) = -1 ∧ ∀ i, 0 ≤ i → i < 12 → Z 35 (12 * σ 8 31 + i) = 0) ∧
  (W 158 (σ 8 31) = σ 8 12 ∧ W 159 (σ 8 31) = Z 8 12 - σ 8 12 ∧ W 160 (σ 8 31) = σ 83 f ∧ W 161 (σ 8 31) = σ 84 f) ∧ (∀ x, σ 8 12 ≤ x → x < Z 8 12 → nwN Z W (Z 8 12) (σ 8 31) (σ 84 f) x) ∧ (∀ i, 0 ≤ i → i < σ 83 f → Z 9 (σ 8 12 + i) = 0 ∧ Z 13 (σ 8 12 + i) = i) ∧
  RX Z W (σ 8 12) (Z 8 12) (-1) (-1) 2 (W 162 (σ 8 31)) 0 (σ 8 16) (Z 8 16 - 2) ∧ cI Z (Z 8 16 - 2) 17 0 (-1) ∧ cI Z (Z 8 16 - 1) 16 0 (-1) ∧ (0 ≤ σ 83 f ∧ σ 83 f ≤ 6 ∧ σ 83 f ≤ σ 84 f ∧ σ 84 f ≤ 12 ∧ σ 83 f ≤ Z 8 12 - σ 8 12) ∧ Z 8 12 - σ 8 12 ≤ 300
section PP
variable {σ τ : gM} {f b : Int}
theorem wq_par {A : Int} (A0 : 0 ≤ A) : ∀ m : Nat, (∀ i, A ≤ i → i < A + m → σ 70 i = 0) → wq σ (A + m) = wq σ A
  | 0, _ => by rw [show A + ((0 : Nat) : Int) = A by omega]
  | m + 1, h => by
    have := h (A + m) (by omega) (by omega)
    rw [show A + ((m + 1 : Nat) : Int) = A + m + 1 by omega, wq_s (by omega), wt_0 (by omega), wq_par A0 m fun i q1 q2 => h i q1 (by omega)]
    omega
/-- what each node of a tree is -/
def qP (σ : gM) (N : Int → Int) (lo i : Int) : Prop := σ 70 i ≠ 0 ∧ (8 ≤ σ 70 i → σ 70 i ≤ 17 → 0 ≤ σ 72 i ∧ 0 ≤ σ 73 i ∧ lo ≤ N (σ 73 i)) ∧ (σ 70 i = 6 → 0 ≤ σ 74 i) ∧ ((σ 70 i = 21 ∨ σ 70 i = 22) → σ 73 i = -1 ∨ (0 ≤ σ 73 i ∧ lo ≤ N (σ 73 i)))
theorem QT_pt {N : Int → Int} {lo : Int} : ∀ (d m : Nat) (a b n k : Int), 0 ≤ a → lo ≤ k → QT σ N d m a b n k → ∀ i, a ≤ i → i < b → σ 70 i ≠ 30 → qP σ N lo i
  | 0, _, _, _, _, _, _, _, h, _, _, _, _ => h.elim
  | d + 1, 0, a, b, n, k, a0, hk, h, i, i0, i1, k30 => by
    have hn := QT0_N h
    obtain ⟨e, h1, h2⟩ := h
    have go : ∀ {m : Nat} {u v x y : Int}, 0 ≤ u → lo ≤ y → QT σ N d m u v x y → u ≤ i → i < v → qP σ N lo i := fun q1 q2 q3 q4 q5 => QT_pt d _ _ _ _ _ q1 q2 q3 i q4 q5 k30
    have ndn := nd_r (σ := σ) (i := a) (j := n) a0 (by omega)
    rcases h2 with ⟨f, rfl, rfl, _⟩ | ⟨f, rfl, _, _, t⟩ | ⟨f, t, t', _⟩ | ⟨f, rfl, t, _⟩ | ⟨f, t, q, t', t''⟩ | ⟨f, t, t', _⟩
    · have : i = a := by omega
      subst this
      exact ⟨by omega, fun _ _ => by omega, fun _ => by omega, fun _ => by omega⟩
    · by_cases z : i = a
      · subst z
        have := (QT_ab _ _ _ _ _ _ t).2 (Or.inl rfl)
        exact ⟨by omega, fun _ _ => by omega, fun _ => by omega, fun _ => by omega⟩
      · exact go (by omega) (by omega) t (by omega) i1
    · rcases Int.lt_trichotomy i n with z | z | z
      · exact go a0 (by omega) t i0 z
      · subst z
        have x1 := (QT_ab _ _ _ _ _ _ t).2 (Or.inl rfl)
        have x2 := (QT_ab _ _ _ _ _ _ t').2 (Or.inl rfl)
        have x3 := (QT0_N t').1
        exact ⟨by omega, fun _ _ => by omega, fun _ => by omega, fun _ => by omega⟩
      · exact go (by omega) (by omega) t' (by omega) i1
    · by_cases z : i = a
      · subst z
        exact ⟨by omega, fun _ _ => by omega, fun _ => by omega, fun _ => by omega⟩
      · exact go (by omega) (by omega) t (by omega) i1
    · have nq : n + 1 ≤ q := by
        rcases t' with ⟨_, z⟩ | ⟨_, z⟩
        · omega
        · exact (QT_ab _ _ _ _ _ _ z).1
      have ndq := nd_r (σ := σ) (i := n + 1) (j := q) (by omega) nq
      rcases Int.lt_trichotomy i n with z | z | z
      · exact go a0 (by omega) t i0 z
      · subst z
        refine ⟨by omega, fun _ _ => by omega, fun _ => by omega, fun _ => ?_⟩
        rcases t' with ⟨z, _⟩ | ⟨z, t'⟩
        · exact Or.inl z
        · have x3 := (QT0_N t').1
          exact Or.inr ⟨z, by omega⟩
      · by_cases y : i < q
        · rcases t' with ⟨_, t'⟩ | ⟨_, t'⟩
          · omega
          · exact go (by omega) (by omega) t' (by omega) y
        · rcases t'' with ⟨_, _, t''⟩ | ⟨_, t''⟩
          · omega
          · exact go (by omega) (by omega) t'' (by omega) i1
    · rcases Int.lt_trichotomy i n with z | z | z
      · exact go a0 (by omega) t i0 z
      · subst z
        exact ⟨by omega, fun _ _ => by omega, fun _ => by omega, fun _ => by omega⟩
      · exact go (by omega) (by omega) t' (by omega) i1
  | d + 1, 1, a, b, n, k, a0, hk, h, i, i0, i1, k30 => by
    rcases h with ⟨_, rfl⟩ | ⟨_, x, t, t'⟩
    · omega
    · have q1 := (QT_ab _ _ _ _ _ _ t).1
      have ndn := nd_r (σ := σ) (i := a) (j := x) a0 q1
      by_cases z : i < x
      · exact QT_pt d _ _ _ _ _ a0 hk t i i0 z k30
      · exact QT_pt d _ _ _ _ _ (by omega) (by omega) t' i (by omega) i1 k30
  | d + 1, 2, a, b, n, k, a0, hk, h, i, i0, i1, k30 => by
    rcases h with ⟨_, rfl⟩ | ⟨_, x, t, t'⟩
    · omega
    · have q1 := (QT_ab _ _ _ _ _ _ t).1
      have ndn := nd_r (σ := σ) (i := a) (j := x) a0 q1
      by_cases z : i < x
      · exact QT_pt d _ _ _ _ _ a0 hk t i i0 z k30
      · exact QT_pt d _ _ _ _ _ (by omega) (by omega) t' i (by omega) i1 k30
  | d + 1, m + 3, a, b, n, k, a0, hk, h, i, i0, i1, k30 => by
    obtain ⟨⟨r1, rfl, r2⟩, e, h2⟩ := h
    have go : ∀ {m : Nat} {u v x y : Int}, 0 ≤ u → lo ≤ y → QT σ N d m u v x y → u ≤ i → i < v → qP σ N lo i := fun q1 q2 q3 q4 q5 => QT_pt d _ _ _ _ _ q1 q2 q3 i q4 q5 k30
    by_cases z : i = a
    · subst z
      have : 24 ≤ σ 70 i ∧ σ 70 i ≤ 28 := by
        rcases h2 with ⟨f, -⟩ | ⟨f, -⟩ | ⟨f, -⟩ | ⟨f, -⟩ | ⟨f, -⟩ <;> omega
      exact ⟨by omega, fun _ _ => by omega, fun _ => by omega, fun _ => by omega⟩
    · rcases h2 with ⟨f, c, g, t, t', t''⟩ | ⟨f, c, t, t', _⟩ | ⟨f, t, _⟩ | ⟨f, rfl, _⟩ | ⟨f, t⟩
      · have q1 := (QT_ab _ _ _ _ _ _ t).1
        have q2 := (QT_ab _ _ _ _ _ _ t').1
        have n1 := nd_r (σ := σ) (i := a + 1) (j := c) (by omega) q1
        have n2 := nd_r (σ := σ) (i := c) (j := g) (by omega) q2
        by_cases y : i < c
        · exact go (by omega) (by omega) t (by omega) y
        · by_cases w : i < g
          · exact go (by omega) (by omega) t' (by omega) w
          · exact go (by omega) (by omega) t'' (by omega) i1
      · have q1 := (QT_ab _ _ _ _ _ _ t).1
        have n1 := nd_r (σ := σ) (i := a + 1) (j := c) (by omega) q1
        by_cases y : i < c
        · exact go (by omega) (by omega) t (by omega) y
        · exact go (by omega) (by omega) t' (by omega) i1
      · rcases t with ⟨_, t⟩ | ⟨_, t⟩
        · omega
        · exact go (by omega) (by omega) t (by omega) i1
      · omega
      · exact go (by omega) (by omega) t (by omega) i1
theorem plant_pair (F : FN σ τ f b) (hX : tX σ τ) (hf : 0 ≤ f ∧ f < 50) (told : f < τ 119 54) (hov : σ 69 0 = 1 → 24000 ≤ σ 69 1 ∨ σ 69 1 + σ 69 2 ≤ σ 0 8) (h1 : hI σ) (h2 : fI σ) (m1 : mI τ) (m2 : fJ τ) (h8 : ∀ i, i8 (τ 121 i)) (t8 : ∀ i, i8 (τ 134 i)) (hr : 0 ≤ σ 8 31 ∧ σ 8 31 < 60 ∧ τ 119 55 = σ 8 31) (h12 : 0 ≤ σ 8 12 ∧ σ 8 12 ≤ 15600 ∧ τ 119 57 = σ 8 12) (h16 : 0 ≤ σ 8 16 ∧ σ 8 16 + 902 ≤ 64000) (b4 : b ≤ 4000)
    (J : ∀ j, nd σ (σ 81 f) ≤ j → j < nd σ b → τ 141 j = -1 ∨ (0 ≤ τ 141 j ∧ τ 141 j < 4004)) (rm : cRm σ (σ 80 f + 1 + (wq σ b - wq σ (σ 81 f)))) (rn : mRm τ (σ 80 f + 1 + (wq σ b - wq σ (σ 81 f)))) :
    ∃ Z W fn g, fr_plant_2 σ (σ 69 0) (σ 69 1) f = some (Z, σ 8 31) ∧ md_define_b2 τ f = ((md_rootComes W g).bind fun p4 => md_define_b2 p4.1 (f + 1)) ∧ pFr (σ 80 f + 1 + (wq σ b - wq σ (σ 81 f))) σ Z fn ∧ mDf (σ 80 f + 1 + (wq σ b - wq σ (σ 81 f))) τ W (σ 8 31) ∧ nwF σ τ Z W f b fn g := by
  obtain ⟨fn0, ⟨A0, p0, p6, pl, pb⟩, hL, ⟨t148, t149, t150, t151, t300⟩, ⟨dP, px⟩, nb, ip⟩ := id F
  have npb := nd_pos (σ := σ) (i := b) (by omega)
  obtain ⟨W, g, eW, mD, w57, ⟨w158, w159, w160, w161, w162⟩, wn, wp, ⟨d, qt⟩, g0, g155, gnm⟩ := md_fn_s F hX hf told (by omega) m1 m2 h8 t8 (by omega) (by omega) J rn
  rw [hr.2.2] at mD w158 w159 w160 w161 w162 wn
  rw [h12.2.2] at w57 w158 wp qt
  have hN : ∀ i, (fun i => W 144 (nd σ i)) i = W 144 (nd σ i) := fun i => rfl
  generalize (fun i => W 144 (nd σ i)) = N at *
  have nz : ∀ i, 0 ≤ i → i ≤ σ 83 f → nd σ (σ 81 f + i) = nd σ (σ 81 f) + i := fun i i0 i1 => by
    have := nd_zero (σ := σ) (a := σ 81 f) A0 i.toNat (fun j q1 q2 => (ip j q1 (by omega)).1)
    rw [show ((i.toNat : Nat) : Int) = i by omega] at this
    exact this
  have nzp := nz (σ 83 f) p0 (Int.le_refl _)
  have mA := nd_r (σ := σ) (i := σ 81 f + σ 83 f) (j := b) (by omega) pb
  have wqp : wq σ (σ 81 f + σ 83 f) = wq σ (σ 81 f) := by
    have := wq_par (σ := σ) (A := σ 81 f) A0 (σ 83 f).toNat fun i q1 q2 => (ip i q1 (by omega)).1
    rw [show ((σ 83 f).toNat : Int) = σ 83 f by omega] at this
    exact this
  -- where the text lies
  have hl := hX.2.1
  have tx0 := hX.2.2.2
  have row : σ 69 0 = 1 ∨ σ 69 0 = 118 := by rcases hX.1 with z | z <;> omega
  have pc : ∀ a, a ≠ 8 → pS σ (σ 69 0) (σ 69 1) a = σ a := fun a z => funext fun i => pS_o (Or.inl z)
  have tI0 : tI (pS σ (σ 69 0) (σ 69 1)) := by
    unfold tI
    rw [pS_n.1, pS_n.2.1, pS_n.2.2, pc 69 (by decide), pc 0 (by decide)]
    refine ⟨rfl, ?_, by omega, by omega⟩
    rcases hX.1 with z | z
    · exact Or.inl ⟨z.1, by omega, hov z.1⟩
    · exact Or.inr ⟨z.1, by omega⟩
  have tl0 : ∀ j, 0 ≤ j → j < σ 69 2 → tl (pS σ (σ 69 0) (σ 69 1)) j = τ 134 j := fun j j0 j1 => by
    unfold tl
    rw [pS_n.2.1, pS_n.2.2, pc (σ 69 0) (by omega)]
    exact (tx0 j j0 j1).1
  have nv : ∀ i, σ 81 f + σ 83 f ≤ i → i < b → nV (pS σ (σ 69 0) (σ 69 1)) i := fun i i0 i1 => by
    unfold nV
    rw [pc 70 (by decide), pc 73 (by decide), pc 76 (by decide), pc 77 (by decide), pc 69 (by decide)]
    intro z
    have k30 : σ 70 i ≠ 30 := by rcases z with z | z | z | z <;> omega
    obtain ⟨-, -, -, -, -, -, -, r8, -⟩ := (nb i (by omega) i1).1 k30
    obtain ⟨-, -, e3, e4, e5, e6, -⟩ := r8 (by
      rcases z with z | z | z | z
      · exact Or.inl z
      · exact Or.inr (Or.inl z)
      · exact Or.inr (Or.inr (Or.inr (Or.inl z)))
      · exact Or.inr (Or.inr (Or.inr (Or.inr z))))
    refine ⟨e3, fun y => ⟨(e4 y).1, fun j j0 j1 => ?_⟩, fun y => (e5 y).1, e6⟩
    rw [tl0 j (by omega) (by omega)]
    exact (e4 y).2 j j0 j1
  have sn := PT_SN dP 0 _ _ _ _ px
  obtain ⟨Z, fn, eZ, pF, cP, znm, z33, z34⟩ := fr_plant_s (N := N) (A := σ 81 f) (b := b) (row := σ 69 0) (at' := σ 69 1) hf h1 h2 tI0 ⟨fn0.1.1, fn0.1.2.1, fn0.1.2.2.1, fn0.1.2.2.2⟩ ⟨rfl, A0, pb, by omega⟩ ⟨p0, p6⟩ (fun i q1 q2 => (ip i q1 q2).1) nv (by omega) (by omega) (by omega) (by rw [wqp]; exact rm) (by omega) qt sn
  rw [wqp] at pF
  obtain ⟨c1, ⟨c31, c12, c16, c16'⟩, cr, cpar, cAb, ⟨dC, cCT⟩, i17, i16⟩ := cP
  have hZ := pF.1
  have cz : ∀ e, 39 ≤ e → Z e = σ e := fun e q => pF.2.2.1 e (Or.inr (by omega))
  -- cells of the model
  have wc : ∀ a, 131 < a → a < 155 → a ≠ 144 → W a = τ a := fun a q1 q2 q3 => mD.2.2.2.1 a (by omega)
  have FW := F.cells A0 wc
  obtain ⟨-, -, -, -, ⟨dW, pxW⟩, nbW, -⟩ := FW
  have txZ : ∀ j, 0 ≤ j → j < σ 69 2 → tl Z j = W 134 j := fun j j0 j1 => by
    rw [wc 134 (by decide) (by decide) (by decide), ← (tx0 j j0 j1).1]
    unfold tl
    rw [z33, z34]
    rcases row with z | z
    · rw [z]
      exact pF.2.2.2.2.2.2.2.2.2.1 _ (by have := hov z; omega)
    · rw [z, cz 118 (by decide)]
  -- each number once
  have bj : bij σ N (σ 81 f) b (σ 8 12) := by
    refine bij.cat (x := σ 81 f + σ 83 f) A0 (by omega) pb ?_ ?_
    · have := bij.row (σ := σ) (N := N) (σ 83 f).toNat (σ 81 f) (σ 8 12) A0 fun i i0 i1 => ⟨(ip i i0 (by omega)).1, by
        have := wp (i - σ 81 f) (by omega) (by omega)
        rw [show σ 81 f + (i - σ 81 f) = i by omega] at this
        rw [hN]
        exact this⟩
      rw [show ((σ 83 f).toNat : Int) = σ 83 f by omega] at this
      exact this
    · rw [show σ 8 12 + (nd σ (σ 81 f + σ 83 f) - nd σ (σ 81 f)) = σ 8 12 + σ 83 f by omega]
      exact QT_bij d _ _ _ _ _ (by omega) qt
  have rg : ∀ x, σ 81 f ≤ x → x < b → σ 70 x ≠ 30 → σ 8 12 ≤ N x ∧ N x < Z 8 12 := fun x x0 x1 z => by
    have := bj.1 x x0 x1 z
    omega
  have mn : ∀ x, σ 81 f ≤ x → x < b → σ 70 x ≠ 30 → mN1 W (nd σ x) (N x) (σ 8 31) (lcN σ x) := fun x x0 x1 z => by
    rw [hN]
    exact wn x x0 x1 z
  have cAx := cAb
  unfold cA at cAx
  rw [cz 70 (by decide)] at cAx
  have body : ∀ x, σ 81 f ≤ x → x < b → σ 70 x ≠ 30 → σ 70 x ≠ 0 → σ 81 f + σ 83 f ≤ x := fun x x0 x1 z z0 => by
    by_cases y : x < σ 81 f + σ 83 f
    · exact (z0 (ip x x0 y).1).elim
    · omega
  have cel : ∀ x, σ 81 f ≤ x → x < b → σ 70 x ≠ 30 → cell σ Z W N (σ 8 12) (Z 8 12) x := fun x x0 x1 z => by
    obtain ⟨⟨r1, r1', r1''⟩, r2, r3, r4, r5, r6, -⟩ := (nbW x x0 x1).1 z
    obtain ⟨⟨u168, u169, u170, u171, u172, u173, -⟩, -⟩ := mn x x0 x1 z
    refine ⟨by rw [u168, r1], ?_, fun y => ?_, ?_, rg x x0 x1 z, fun y => ?_, fun y e => ?_, fun y e => ?_⟩
    · rw [u170, r4]
      by_cases y : σ 70 x = 6
      · rw [if_pos y, if_pos y, nO_nh hN]
      · rw [if_neg y, if_neg y, nO_nh hN]
    · rw [u171, r1, if_neg y, r5 y]
      by_cases w : σ 70 x = 24 ∨ σ 70 x = 25
      · rw [if_pos w, if_pos w, nO_ph hN]
      · rw [if_neg w, if_neg w, nO_nh hN]
    · rw [u172, r6]
      by_cases y : σ 70 x = 6
      · rw [if_pos y, if_pos y]; rfl
      · rw [if_neg y, if_neg y]
        by_cases w : σ 70 x = 24
        · rw [if_pos w, if_pos w, nO_ph hN]
        · rw [if_neg w, if_neg w, nO_nh hN]
    · obtain ⟨⟨⟨-, -, -, -, -, -, o14⟩, -⟩, -⟩ := cAx x (body x x0 x1 z (by omega)) x1 z
      rw [cz 70 (by decide), if_pos y, cz 76 (by decide)] at o14
      exact o14
    · rw [u173, e, nO_nh hN]
    · rw [u173, e, nO_ph hN]
  have tree := (conv2 (A := σ 81 f) (B := b) (fun e q1 q2 => cz e (by omega)) cel h12.1 dW d dC 0 (-1) (-1) _ _ _ _ _ _ _ pxW qt cCT (by omega) (Int.le_refl _) h16.1 (fun q => by omega)).1 rfl
  have h84 := hL.1
  have e162 : W 162 (σ 8 31) = Np σ N (σ 82 f) := by rw [w162, nO_ph hN]
  refine ⟨Z, W, fn, g, eZ, eW, pF, mD, c1, g0, ?_, ⟨c31, c12, by omega, by omega⟩, ⟨cr.1, cr.2.1, by omega, cr.2.2.2.1, cr.2.2.2.2.1, cr.2.2.2.2.2.1, cr.2.2.2.2.2.2.1, cr.2.2.2.2.2.2.2.1, cr.2.2.2.2.2.2.2.2.1, cr.2.2.2.2.2.2.2.2.2.1, cr.2.2.2.2.2.2.2.2.2.2⟩, ⟨w158, by omega, w160, w161⟩, fun x x0 x1 => ?_, fun i i0 i1 => ?_, ?_, i17, i16, by omega, by omega⟩
  · rw [znm, gnm]
    refine lt_eq.mpr fun j hj => ?_
    rw [Int.add_assoc]
    have := fn0.1
    exact (tx0 (σ 79 f + j) (by omega) (by omega)).1
  · obtain ⟨i, i0, i1, i2, i3⟩ := bj.2.2 x x0 (by omega)
    rw [← i3]
    by_cases y : i < σ 81 f + σ 83 f
    · obtain ⟨q70, q76, -⟩ := ip i i0 y
      have o := cpar (i - σ 81 f) (by omega) (by omega)
      have e : N i = σ 8 12 + (i - σ 81 f) := by
        have := wp (i - σ 81 f) (by omega) (by omega)
        rw [show σ 81 f + (i - σ 81 f) = i by omega] at this
        rw [hN]
        exact this
      rw [show σ 81 f + (i - σ 81 f) = i by omega, ← e] at o
      exact nwN_par nbW ⟨i0, i1⟩ q70 o q76 (mn i i0 i1 i2)
    · have qp := QT_pt (N := N) (lo := σ 8 12) d 2 _ _ _ _ (by omega) (by omega) qt i (by omega) i1 i2
      obtain ⟨cn, -, en⟩ := cAx i (by omega) i1 i2
      refine nwN_of hZ nbW ⟨i0, i1⟩ i2 qp.1 (fun e q1 q2 => cz e (by omega)) cn en (mn i i0 i1 i2) (cel i i0 i1 i2) h12.1 ?_ (fun q1 q2 => qp.2.1 q1 q2) qp.2.2.1
      by_cases kp : σ 70 i = 21 ∨ σ 70 i = 22
      · have p73 := qp.2.2.2 kp
        exact kst_of hZ nbW ⟨i0, i1⟩ i2 (fun e q1 q2 => cz e (by omega)) txZ cn (mn i i0 i1 i2) (cel i i0 i1 i2) (by omega) (fun y y0 y1 y2 y3 => by have := rg y y1 y2 y3; omega) (fun _ w => by omega)
      · have k1 := (nbW i i0 i1).1 i2
        obtain ⟨-, -, ⟨-, -, v3, -⟩, -⟩ := k1
        exact kst_of hZ nbW ⟨i0, i1⟩ i2 (fun e q1 q2 => cz e (by omega)) txZ cn (mn i i0 i1 i2) (cel i i0 i1 i2) (by omega) (fun y y0 y1 y2 y3 => by have := rg y y1 y2 y3; omega) (fun w _ => (kp w).elim)
  · obtain ⟨o9, -, -, -, -, o13, -⟩ := cpar i i0 i1
    exact ⟨o9, o13⟩
  · rw [e162]
    exact tree
end PP
