/-! functions: behind what is given -/
section FR
variable {σ τ S T : gM} {f a : Int}
/-- a function is there -/
def fE (σ τ S T : gM) (f a : Int) : Prop := FN S T f (S 68 10) ∧ kF f a (nd σ a) σ S τ T ∧ (tX S T ∧ tK S T ∧ S 69 8 = 0 ∧ (0 ≤ S 68 10 ∧ S 68 10 ≤ S 69 5) ∧ T 119 43 = nd S (S 68 10) ∧ T 119 28 = 0 ∧ S 68 19 = f + 1 ∧ T 119 54 = f + 1) ∧ S 81 f = a
theorem blk_b {k : Int} (b : bd k S T) (hf : 0 ≤ f ∧ f < 50) : ∃ S', ((ps_block 60 S).bind fun p2 => if 0 ≤ f ∧ f < 50 then ((ps_good (gW p2.1 82 f p2.2)).bind fun p3 => if p3.2 = 0 then (some (p3.1, (0 : Int))) else (if 0 ≤ f ∧ f < 50 then (ps_function_b385 p3.1 f (p3.1 81 f)) else none)) else none) = some (S', 0) ∧ bx S' T := by
  obtain ⟨S2, x1, x2⟩ := block_b (d := 59) b
  have x3 := x2.w (a := 82) (i := f) (v := -1) (by decide) (by omega)
  rw [x1]
  simp only [Option.bind_some]
  rw [if_pos hf, ps_good_b x3.1]
  simp only [Option.bind_some]
  rw [if_pos (by trivial)]
  exact ⟨_, rfl, x3.x⟩
theorem nd_zero (a0 : 0 ≤ a) : ∀ k : Nat, (∀ i, a ≤ i → i < a + k → σ 70 i = 0) → nd σ (a + k) = nd σ a + k
  | 0, _ => by rw [show a + ((0 : Nat) : Int) = a by omega]; omega
  | k + 1, h => by
    have ih := nd_zero a0 k (fun i q1 q2 => h i q1 (by omega))
    have e := nd_S (σ := σ) (i := a + k) (by omega) (by rw [h (a + k) (by omega) (by omega)]; decide)
    rw [show a + ((k + 1 : Nat) : Int) = a + k + 1 by omega, e, ih]
    omega
theorem rest_s (I : PI f a σ τ) (hf : 0 ≤ f ∧ f < 50) : (∃ S T, ps_function_b307 σ f 0 = some (S, 0) ∧ md_function_b171 τ 0 = some (T, some 0) ∧ fE σ τ S T f a ∧ σ 69 5 < S 69 5) ∨ (∃ S T, ps_function_b307 σ f 0 = some (S, 0) ∧ md_function_b171 τ 0 = some (T, none) ∧ bx S T) := by
  obtain ⟨G, i19, ⟨i84, i83⟩, ⟨i81, a0, i10, i20⟩, ip, nb, ⟨i21, i22⟩, fn, i148⟩ := I
  have h9 := G.2.2.2.2.2.2.2.2.1
  have hL := G.2.2.2.2.2.2.2.2.2
  have ef : σ 68 19 - 1 = f := by omega
  rw [ef] at hL
  have e152 := hL.2.1
  have d84 := hL.1
  have t54 : τ 119 54 = f := by omega
  have hf1 : 0 ≤ f ∧ f < 51 := by omega
  have h0 := G.2.2.2.1
  rw [ps_function_b307_e, if_pos (by trivial), md_function_b171_e, if_pos (by trivial), t54, if_pos hf1, if_pos hf1]
  have G1 : pG 0 σ (gW τ 150 f (τ 152 f)) := G.d (by decide)
  rcases ps_closes_s (c := 41) (t := 31) G1 (by omega) (by omega) with ⟨S1, T1, x1, x2, G2, F, p2, o2⟩ | ⟨S1, T1, x1, x2, b⟩
  · rw [x1, x2]
    simp only [Option.bind_some, gtry]
    rw [i21, show (1 : Int) - 1 = 0 by decide] at F o2
    have kq : ∀ M N, kE M N σ S1 (gW τ 150 f (τ 152 f)) T1 := fun M N => ((kE.rf.o (i := 21) (v := 0) (by decide)).u (i := 28) (v := 0) (by decide)).tr (kE.rd (M := M) (N := N) F (by rw [gW_c (by decide)]; omega)) (Int.le_refl _) (Int.le_refl _)
    have s10 : S1 68 10 = σ 68 10 := by rw [F.1 68 (by decide), gW_i (by decide)]
    have s19 : S1 68 19 = f + 1 := by rw [F.1 68 (by decide), gW_i (by decide), i19]
    have T54 : T1 119 54 = f := by rw [F.2.2.2 54 (by omega) (by decide) (by decide), gW_i (by decide), gW_c (by decide), t54]
    rcases block_60 (G2.le (by decide) : pG 0 S1 T1) with ⟨S2, T2, r, z1, z2, G3, k3, px, nb3, ⟨o3, u3⟩, pl3⟩ | ⟨S2, T2, r, z1, z2, b⟩
    · left
      have sdp : sDp S1 - 2 = 38 := by
        unfold sDp
        rw [show S1 68 21 = 0 by rw [F.1 68 (by decide), gW_at], show S1 68 22 = 0 by rw [F.1 68 (by decide), gW_i (by decide), i22], if_neg (by decide)]
        decide
      rw [sdp] at px
      rw [z1, z2]
      simp only [Option.bind_some]
      rw [s19, show f + 1 - 1 = f by omega] at nb3
      have T254 : T2 119 54 = f := by rw [k3.2.2.2.2.2.2.2.2 54 (by omega) (by decide), T54]
      have T244 : T2 119 44 = nd σ a := by
        have h6 := G.2.2.2.2.2.1
        have h5 := G.2.2.2.2.1
        have nz := nd_zero (σ := σ) (a := a) a0 (σ 83 f).toNat (fun i q1 q2 => (ip i q1 (by omega)).1)
        rw [show a + ((σ 83 f).toNat : Int) = σ 68 10 by omega] at nz
        rw [k3.2.2.2.2.2.2.2.2 44 (by omega) (by decide), (kq 0 0).2.2.2.2.2.2.2.2 44 (by omega) (by decide), gW_c (by decide)]
        omega
      have s219 : S2 68 19 = f + 1 := by rw [k3.2.2.1 19 (by decide), s19]
      rw [T54, T254, if_pos hf1, if_pos hf1, if_pos hf1, if_pos hf]
      have fx : ∀ e, 79 ≤ e → e ≤ 83 → S2 e = σ e := fun e q1 q2 => by rw [k3.1 e (by omega), (kq 0 0).1 e (by omega)]
      have tx : ∀ e, 146 ≤ e → e ≤ 151 → T2 e = gW τ 150 f (τ 152 f) e := fun e q1 q2 => by rw [k3.2.2.2.2.2.2.1 e (by omega) (by omega) (by omega), (kq 0 0).2.2.2.2.2.2.1 e (by omega) (by omega) (by omega)]
      have s22 : S2 69 2 = σ 69 2 := by rw [k3.2.2.2.1 2 (by decide), (kq 0 0).2.2.2.1 2 (by decide)]
      have l84 : σ 84 f ≤ S2 84 f := by
        have e1 := (kq 0 0).2.2.2.2.2.1.1
        have e2 := k3.2.2.2.2.2.1.1
        rw [ef] at e1
        rw [s19, show f + 1 - 1 = f by omega] at e2
        omega
      have lt := pL_r px
      have nds : nd S1 (σ 68 10) = nd σ (σ 68 10) := (kq (σ 68 10) 0).nd (Int.le_refl _)
      rw [s10] at k3 px nb3 lt
      have old : ∀ e i, 70 ≤ e → e ≤ 78 → i < σ 68 10 → S2 e i = σ e i := fun e i q1 q2 q3 => by rw [k3.2.1 e i q1 q2 q3, (kq (σ 68 10) 0).2.1 e i q1 q2 q3]
      have nda : nd S2 a = nd σ a := by rw [k3.nd (by omega), (kq (σ 68 10) 0).nd (by omega)]
      have nb0 : NB σ (gW τ 150 f (τ 152 f)) 0 f a (σ 68 10) := NB.fr nb a0 (fun _ _ _ _ _ _ _ => rfl) (fun _ _ _ => rfl) (fun x j x0 x1 x2 _ _ => gW_c (by omega)) (gW_cell (by decide)) rfl (fun l p e u => u.mv rfl rfl rfl rfl (gW_cell (by decide)))
      have nb1 : NB S1 T1 0 f a (σ 68 10) := nb0.kE (kq (σ 68 10) (nd σ (σ 68 10))) ef.symm a0 (Int.le_refl _) (Int.le_refl _)
      have nb2 : NB S2 T2 0 f a (σ 68 10) := nb1.kE k3 (by omega) a0 (Int.le_refl _) (Int.le_refl _)
      have nb4 : NB S2 T2 0 f a (S2 68 10) := nb2.cat nb3 lt.1
      have cU : ∀ e, e ≠ 82 → gW S2 82 f r e = S2 e := fun e q => gW_cell q
      have G4 : pG 0 (gW S2 82 f r) (gW (gW T2 151 f (ph S2 r)) 149 f (T2 119 43)) := ((G3.c (by decide)).d (by decide)).d (by decide)
      have cV : ∀ e, e ≠ 151 → e ≠ 149 → gW (gW T2 151 f (ph S2 r)) 149 f (T2 119 43) e = T2 e := fun e q1 q2 => by rw [gW_cell q2, gW_cell q1]
      have ndU : ∀ i, nd (gW S2 82 f r) i = nd S2 i := fun i => nd_w (Or.inl (by decide))
      have phU : ∀ i, ph (gW S2 82 f r) i = ph S2 i := fun i => by unfold ph ps; rw [ndU, ndU, cU 70 (by decide), cU 72 (by decide)]
      have u83 : gW S2 82 f r 83 f = σ 83 f := by rw [cU 83 (by decide), fx 83 (by decide) (by decide)]
      obtain ⟨S, T, y1, y2, y3, y4, y5, y6, y7⟩ := fin_s (p := 0) (q := 0) G4 hf (by rw [cU 68 (by decide), s219]) (by rw [cU 68 (by decide), o3, o2]) (by
        unfold fN at *
        rw [cU 79 (by decide), cU 80 (by decide), cU 69 (by decide), s22, fx 79 (by decide) (by decide), fx 80 (by decide) (by decide), cV 146 (by decide) (by decide), cV 147 (by decide) (by decide), tx 146 (by decide) (by decide), tx 147 (by decide) (by decide), gW_cell (by decide), gW_cell (by decide)]
        exact fn) (by rw [cU 81 (by decide), fx 81 (by decide) (by decide), i81]) a0 (by rw [u83, cU 84 (by decide), cU 68 (by decide)]; omega) (by rw [cV 119 (by decide) (by decide), T244, ndU, nda]) (by rw [cV 148 (by decide) (by decide), tx 148 (by decide) (by decide), gW_cell (by decide), ndU, nda, i148]) (by rw [gW_at, ndU, cU 68 (by decide), G3.2.2.2.2.1]) (by rw [cV 150 (by decide) (by decide), tx 150 (by decide) (by decide), gW_at, u83, e152, i84]) (by rw [gW_c (by decide), gW_at, gW_at, phU]) (by
        rw [u83, gW_at, cU 68 (by decide), ← i10]
        exact ((px.w (e := 82) (by omega) (Or.inl (by decide)) (by omega)).v (e := 151) (by omega) (Or.inl (by decide))).v (e := 149) (by omega) (Or.inl (by decide))) (by
        rw [cU 68 (by decide)]
        exact NB.fr nb4 a0 (fun x i _ _ _ _ _ => by rw [cU x (by omega)]) (fun i _ _ => ndU i) (fun x j _ _ _ _ _ => by rw [cV x (by omega) (by omega)]) (cV 134 (by decide) (by decide)) (by rw [cU 69 (by decide)]) (fun l p e u => u.mv (cU 84 (by decide)) (cU 85 (by decide)) (cU 86 (by decide)) (by rw [cU 69 (by decide)]) (cV 134 (by decide) (by decide)))) (fun i q1 q2 => by
        rw [u83] at q2
        rw [cU 70 (by decide), cU 76 (by decide), cU 72 (by decide), cU 73 (by decide), cU 74 (by decide), old 70 i (by decide) (by decide) (by omega), old 76 i (by decide) (by decide) (by omega), old 72 i (by decide) (by decide) (by omega), old 73 i (by decide) (by decide) (by omega), old 74 i (by decide) (by decide) (by omega)]
        exact ip i q1 (by omega))
      rw [ps_good_g G4.2.2.1]
      simp only [Option.bind_some]
      rw [if_neg (by decide), if_pos hf, cU 81 (by decide), fx 81 (by decide) (by decide), i81, y1, tx 148 (by decide) (by decide), gW_cell (by decide), i148, ← nda, ← ndU, y2]
      refine ⟨S, T, rfl, rfl, ⟨y3, ?_, y5, y6⟩, ?_⟩
      · have mono := nd_r (σ := σ) (i := a) (j := σ 68 10) a0 (by omega)
        rw [ndU, nda] at y4
        have kA : kF f a (nd σ a) σ S1 τ T1 := (kF.rf.v (e := 150) (v := τ 152 f) (by decide)).tr ((kq a (nd σ a)).toF ef.symm (by omega)) (Int.le_refl _) (Int.le_refl _)
        have kB : kF f (σ 68 10) (nd S1 (σ 68 10)) S1 S2 T1 T2 := k3.toF (by omega) (by
          have e1 := (kq 0 0).2.2.2.2.2.1.1
          rw [ef] at e1
          omega)
        exact ((((kA.tr kB (by omega) (by omega)).w (e := 82) (v := r) (by decide)).v (e := 151) (v := ph S2 r) (by decide)).v (e := 149) (v := T2 119 43) (by decide)).tr y4 (Int.le_refl _) (Int.le_refl _)
      · rw [y7, cU 69 (by decide)]; omega
    · right
      rw [z1, z2]
      simp only [Option.bind_some]
      have b3 := b.w (a := 82) (i := f) (v := r) (by decide) (by omega)
      rw [if_pos hf, ps_good_b b3.1]
      simp only [Option.bind_some]
      rw [if_pos (by trivial)]
      exact ⟨_, T2, rfl, rfl, b3.x⟩
  · right
    rw [x1, x2]
    simp only [Option.bind_some, gtry]
    obtain ⟨S', y1, y2⟩ := blk_b (f := f) b hf
    exact ⟨S', T1, y1, rfl, y2⟩
end FR
