/-! statements -/
theorem e300_b : XB (ps_e 300) := e_b (d := 291)
section ST
variable {σ τ S T : gM} {d : Nat}
/-- a condition in brackets, of a node that is there -/
theorem cond_s {n m K p e : Int} (G : pG 1 S T) (h4 : T 119 25 ≠ 0) (nn : nf S T n m K p e) (n0 : 0 ≤ n) (s10 : S 68 10 = n + 1) (t43 : T 119 43 = m + 1) (hm : 0 ≤ m ∧ m < 4004) :
    (∃ S' T' r T1 T2 T3, ps_condition S n = some (S', 0) ∧ md_take T = some (T1, some 0) ∧ md_pass T1 30 = some (T2, some 0) ∧ md_e 300 T2 = some (T3, some r) ∧ md_pass (gW T3 138 m r) 31 = some (T', some 0) ∧ pG 0 S' T' ∧ kE n m S S' T T' ∧ nf S' T' n m K p e ∧ (0 ≤ S' 72 n ∧ S' 72 n < S' 68 10) ∧ T' 138 m = nd S' (S' 72 n) ∧ PX S' T' 0 (n + 1) (S' 68 10) (S' 72 n) 0 ∧ NB S' T' 0 (S 68 19 - 1) (n + 1) (S' 68 10) ∧ S' 68 21 = S 68 21 ∧ S' 68 22 = S 68 22 ∧ S 69 5 < S' 69 5) ∨
    (∃ S' T', ps_condition S n = some (S', 0) ∧ bd 4100 S' T' ∧ (md_take T = some (T', none) ∨ ∃ T1, md_take T = some (T1, some 0) ∧ (md_pass T1 30 = some (T', none) ∨ ∃ T2, md_pass T1 30 = some (T2, some 0) ∧ (md_e 300 T2 = some (T', none) ∨ ∃ T3 v, md_e 300 T2 = some (T3, some v) ∧ md_pass (gW T3 138 m v) 31 = some (T', none))))) := by
  have kp := G.2.1.1
  unfold tKp at kp
  have hmm := G.2.2.2.1
  have hl := G.1.2.1
  have hn4 : 0 ≤ n ∧ n < 4200 := by omega
  have g43 := G.2.2.2.2.1
  have c1 : ps_condition S n = (tk_read S).bind fun p2 => ps_condition_b14 p2.1 n := by
    rw [ps_condition_e, ps_good_g G.2.2.1]
    simp only [Option.bind_some]
    rw [if_neg (by decide)]
  -- behind a fault
  have tail : ∀ (X Y : gM) (k : Int), bd k X Y → k < 4050 → ∃ S', ps_condition_b14 X n = some (S', 0) ∧ bd 4100 S' Y := by
    intro X Y k b hk
    obtain ⟨S2, x1, x2, x3⟩ := e300_b X Y k b (by omega)
    refine ⟨gW (gW S2 72 n (X 68 10)) 68 21 (w32 (gW S2 72 n (X 68 10) 68 21 - 1)), ?_, ((x2.le (by omega)).w (by decide) (by omega)).w (by decide) (by omega)⟩
    rw [ps_condition_b14_e, ps_opens_b b.1]
    simp only [Option.bind_some]
    rw [x1]
    simp only [Option.bind_some]
    rw [if_pos hn4, ps_closes_b (x2.w (a := 72) (by decide) (by omega)).1]
    rfl
  rcases rd_p G h4 with ⟨S1, T1, r1, r2, G1, F1, r5⟩ | ⟨S1, T1, r1, r2, b, F1⟩
  · have a10 : S1 68 10 = n + 1 := by rw [F1.1 68 (by decide), s10]
    have k1 : ∀ M N, kE M N S S1 T T1 := fun M N => kE.rd F1 (by omega)
    have h68 : ∀ i, S1 68 i = S 68 i := fun i => by rw [F1.1 68 (by decide)]
    rcases ps_opens_s (c := 40) (t := 30) G1 (by omega) with ⟨S2, T2, y1, y2, G2, F2, p2, o2, q2⟩ | ⟨S2, T2, y1, y2, b⟩
    · have k2 : ∀ M N, kE M N S1 S2 T1 T2 := fun M N => ((kE.rf.o (i := 21) (v := S1 68 21 + 1) (by decide)).u (i := 28) (v := S1 68 21 + 1) (by decide)).tr (kE.rd (M := M) (N := N) F2 (by rw [gW_c (by decide)]; omega)) (Int.le_refl _) (Int.le_refl _)
      have b10 : S2 68 10 = n + 1 := by rw [F2.1 68 (by decide), gW_i (by decide), a10]
      have b43 : T2 119 43 = m + 1 := by rw [F2.2.2.2 43 (by omega) (by decide) (by decide), gW_i (by decide), F1.2.2.2 43 (by omega) (by decide) (by decide), t43]
      have b19 : S2 68 19 = S 68 19 := by rw [F2.1 68 (by decide), gW_i (by decide), h68]
      have b22 : S2 68 22 = S 68 22 := by rw [F2.1 68 (by decide), gW_i (by decide), h68]
      have o7 := G2.2.2.2.2.2.2.1
      rcases e_all S2 T2 (G2.le (by omega)) (by omega) with ⟨S3, T3, r, x1, x2, xg, xa⟩ | ⟨S3, T3, r, x1, x2, b, hr⟩
      · have xn := xg.n
        obtain ⟨G3, k3, p3, nb3, o3, u3⟩ := xg
        have n2 : nd S2 (S2 68 10) = m + 1 := by rw [← G2.2.2.2.2.1, b43]
        rw [n2] at k3
        rw [b10] at k3 p3 nb3 xn
        rw [b19] at nb3
        have s21 : gW S3 72 n r 68 21 = S 68 21 + 1 := by rw [gW_c (by decide), o3, o2, h68]
        have G4 : pG 1 (gW S3 72 n r) (gW T3 138 m (nd S3 r)) := (G3.w (by decide)).v (by decide)
        have c2 : ps_condition S n = (ps_closes (gW S3 72 n r) 41).bind fun p3 => some (p3.1, 0) := by
          rw [c1, r1]
          simp only [Option.bind_some]
          rw [ps_condition_b14_e, y1]
          simp only [Option.bind_some]
          rw [x1]
          simp only [Option.bind_some]
          rw [if_pos hn4]
        rcases ps_closes_s (c := 41) (t := 31) G4 (by omega) (by rw [s21]; have := G.2.2.2.2.2.2.1; omega) with ⟨S5, T5, z1, z2, G5, F5, p5, o5⟩ | ⟨S5, T5, z1, z2, b⟩
        · left
          rw [s21, show S 68 21 + 1 - 1 = S 68 21 by omega] at F5 o5
          rw [gW_c (by decide)] at p5
          have kx := k3.2.2.2.2.1
          have kq : ∀ M N, kE M N (gW S3 72 n r) S5 (gW T3 138 m (nd S3 r)) T5 := fun M N => ((kE.rf.o (i := 21) (v := S 68 21) (by decide)).u (i := 28) (v := S 68 21) (by decide)).tr (kE.rd (M := M) (N := N) F5 (by rw [gW_c (by decide), gW_c (by decide)]; omega)) (Int.le_refl _) (Int.le_refl _)
          have ndd : ∀ i, nd S5 i = nd S3 i := fun i => nd_congr fun j _ _ => by rw [F5.1 70 (by decide), gW_c (by decide), gW_c (by decide)]
          have e72 : S5 72 n = r := by rw [F5.1 72 (by decide), gW_c (by decide), gW_at]
          have e138 : T5 138 m = nd S3 r := by rw [F5.2.2.1 138 (by decide), gW_c (by decide), gW_at]
          have e10 : S5 68 10 = S3 68 10 := by rw [F5.1 68 (by decide), gW_i (by decide), gW_c (by decide)]
          have k13 : kE n m S S3 T T3 := ((k1 n m).tr (k2 n m) (Int.le_refl _) (Int.le_refl _)).tr k3 (by omega) (by omega)
          have nf3 : nf S3 T3 n m K p e := ((nn.kE (k1 (n + 1) (m + 1)) (by omega) (by omega)).kE (k2 (n + 1) (m + 1)) (by omega) (by omega)).kE k3 (by omega) (by omega)
          have h30 : S3 70 n ≠ 30 ∨ S3 70 n = 30 := by omega
          have e3 : ∀ j, nd (gW S3 72 n r) j = nd S3 j := fun j => nd_w (by omega)
          refine ⟨S5, T5, nd S3 r, T1, T2, T3, by rw [c2, z1]; rfl, r2, y2, x2, z2, G5, ((k13.w (by decide) (Int.le_refl _)).v (by decide) (Int.le_refl _)).tr (kq n m) (Int.le_refl _) (Int.le_refl _), ((nf3.w).v).kE (kq (n + 1) (m + 1)) (by omega) (by omega), by rw [e72, e10]; omega, by rw [e138, e72, ndd], ?_, ?_, o5, by rw [F5.1 68 (by decide), gW_i (by decide), gW_c (by decide), u3, b22], by omega⟩
          · rw [e72, e10]
            exact ((p3.w (e := 72) (i := n) (v := r) (by omega) (by omega) (by omega)).v (e := 138) (i := m) (v := nd S3 r) (by omega) (by omega)).kE (kq (S3 68 10) (nd S3 (S3 68 10))) (by omega) (Int.le_refl _) (by rw [e3]; exact Int.le_refl _)
          · rw [e10]
            refine NB.fr nb3 (by omega) (fun x i x0 x1 x2 i0 i1 => ?_) (fun i _ _ => ndd i) (fun x j x0 x1 x2 j0 j1 => ?_) (by rw [F5.2.2.1 134 (by decide), gW_cell (by decide), gW_cell (by decide)]) (by rw [F5.2.1 2 (by omega), gW_c (by decide), gW_c (by decide)]) (fun l p e w => ?_)
            · rw [F5.1 x (by omega), gW_c (by omega)]
              unfold gW
              rw [if_neg (by omega)]
            · have : nd S3 (n + 1) = m + 1 := by rw [k3.nd (Int.le_refl _), ← n2, b10]
              rw [F5.2.2.1 x (by omega), gW_c (by omega)]
              unfold gW
              rw [if_neg (by omega)]
            · have kS : kE 0 0 S3 S5 T3 T5 := ((kE.rf.w (a := 72) (by decide) (by omega)).v (a := 138) (by decide) (by omega)).tr (kq 0 0) (Int.le_refl _) (Int.le_refl _)
              exact w.kE kS (by rw [k3.2.2.1 19 (by decide), b19])
        · right
          refine ⟨S5, T5, by rw [c2, z1]; rfl, b.le (by rw [gW_c (by decide)]; omega), Or.inr ⟨T1, r2, Or.inr ⟨T2, y2, Or.inr ⟨T3, _, x2, z2⟩⟩⟩⟩
      · right
        refine ⟨gW (gW S3 72 n r) 68 21 (w32 (gW S3 72 n r 68 21 - 1)), T3, ?_, (b.w (by decide) (by omega)).w (by decide) (by omega), Or.inr ⟨T1, r2, Or.inr ⟨T2, y2, Or.inl x2⟩⟩⟩
        rw [c1, r1]
        simp only [Option.bind_some]
        rw [ps_condition_b14_e, y1]
        simp only [Option.bind_some]
        rw [x1]
        simp only [Option.bind_some]
        rw [if_pos hn4, ps_closes_b (b.w (a := 72) (by decide) (by omega)).1]
        rfl
    · right
      obtain ⟨S2', x1, x2, x3⟩ := e300_b S2 T2 _ b (by omega)
      refine ⟨gW (gW S2' 72 n (S2 68 10)) 68 21 (w32 (gW S2' 72 n (S2 68 10) 68 21 - 1)), T2, ?_, ((x2.le (by omega)).w (by decide) (by omega)).w (by decide) (by omega), Or.inr ⟨T1, r2, Or.inl y2⟩⟩
      rw [c1, r1]
      simp only [Option.bind_some]
      rw [ps_condition_b14_e, y1]
      simp only [Option.bind_some]
      rw [x1]
      simp only [Option.bind_some]
      rw [if_pos hn4, ps_closes_b (x2.w (a := 72) (by decide) (by omega)).1]
      rfl
  · right
    obtain ⟨S', x1, x2⟩ := tail S1 T1 _ b (by omega)
    exact ⟨S', T1, by rw [c1, r1]; exact x1, x2, Or.inl r2⟩
end ST
