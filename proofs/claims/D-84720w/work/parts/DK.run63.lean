/-! a great number is the result: both sides -/
section BP
variable {σ τ S T Z X : gM} {pT hT : Int → Int} {m : Nat} {br co θ n : Int}
theorem has_s {b : Int} (R : RQ σ τ pT hT) (hn : σ 26 (σ 90 (σ 87 21)) ≤ n ∧ n < σ 26 (σ 90 (σ 87 21)) + σ 27 (σ 90 (σ 87 21))) : md_has τ n b = some (τ, if i_and (σ 11 n) b = 0 then 0 else 1) := by
  obtain ⟨c1, c2, c3, c4, c5, c6⟩ := R.cu
  have hN := R.1.1.1.2.2.2.2.2.2.2.2.1
  have n8 := hN.2.1 _ c2.1 c2.2
  have nn := hN.2.2 n (by omega) (by omega)
  rw [md_has_e, if_pos (by omega), nn.2.2.1.1]
  split <;> rfl
theorem gW_eq {σ : gM} {a i v : Int} (h : σ a i = v) : gW σ a i v = σ := by
  funext b j
  unfold gW
  split
  · next q => rw [q.1, q.2, h]
  · rfl
theorem big_pair {z f : Int} (Q : RQ σ τ pT hT) (hn : σ 26 (σ 90 (σ 87 21)) ≤ n ∧ n < σ 26 (σ 90 (σ 87 21)) + σ 27 (σ 90 (σ 87 21))) (hk : 8 ≤ σ 9 n ∧ σ 9 n ≤ 11) (w : wIs σ 111 z) (ww : mIs τ 131 z) (w0 : z = 0 → τ 131 0 = 0) :
    (mc_two_b384 σ n 1 = ((mc_fails σ 9 n).bind fun p5 => g01 p5.2 (some (p5.1, p5.2))) ∧ md_reckons_b276 τ n = ((md_error τ 9 n).bind fun p1 => gthr p1.1 p1.2)) ∨
    (∃ Z X Y, rVal Z X 1 (σ 0 12) 3 (τ 119 16) ∧ RQ Z X pT hT ∧ kq σ τ Z X f ∧ (Z 87 34 = σ 87 34 ∧ Z 87 8 = σ 87 8) ∧ mc_two_b384 σ n 1 = ((mc_settle Z 1 (σ 0 12)).bind fun p4 => some (p4.1, 1)) ∧ md_reckons_b276 τ n = ((md_pairBecomes Y 3 (τ 119 16)).bind fun p1 => some (gW p1.1 119 16 (w32 ((p1.1 119 16) + 1)), some 0)) ∧ X = gW Y 119 16 (τ 119 16 + 1) ∧ Y 119 16 = τ 119 16) := by
  have P1 := Q.1.1.1
  have hi := P1.1.1
  have h5 := hi.2.2.2.2.1
  have gr := P1.2.2.2.2.1
  have C := Q.2.2.2.2.1
  have V3 := Q.2.2.1.2
  have B := Q.1.2.2.2
  have e11 := C.2.2.2.2.2.1.1
  obtain ⟨gr1, gr2, gr3, gr4, gr5, gr6⟩ := gr
  have hs := has_s (b := 2) Q hn
  by_cases q : 100000 < σ 0 13 + 4
  · left
    constructor
    · rw [mc_two_b384_e, if_neg (by decide), hp_makes_e, w32_e (x := σ 0 13 + 4) (by omega) (by omega), if_pos q]
      simp only [Option.bind_some, if_true]
    · rw [md_reckons_b276_e, md_reckons_b277_e, if_pos rfl, e11, w32_e (x := σ 0 13 + 4) (by omega) (by omega), if_pos q]
  · right
    -- the room is counted
    have z0 : ∀ i, i ≠ 13 → gW σ 0 13 (σ 0 13 + 4) 0 i = σ 0 i := fun i h => gW_i h
    have z13 : gW σ 0 13 (σ 0 13 + 4) 0 13 = σ 0 13 + 4 := gW_at ..
    have zc : ∀ a, a ≠ 0 → gW σ 0 13 (σ 0 13 + 4) a = σ a := fun a h => gW_cell h
    have x119 : ∀ i, i ≠ 11 → gW τ 119 11 (σ 0 13 + 4) 119 i = τ 119 i := fun i h => gW_i h
    have x11 : gW τ 119 11 (σ 0 13 + 4) 119 11 = σ 0 13 + 4 := gW_at ..
    have xc : ∀ a, a ≠ 119 → gW τ 119 11 (σ 0 13 + 4) a = τ a := fun a h => gW_cell h
    have F1 : hpF σ τ (gW σ 0 13 (σ 0 13 + 4)) (gW τ 119 11 (σ 0 13 + 4)) := hpF.mk2 P1 (fun a q => zc a (by omega)) (fun i _ h => z0 i h) (by rw [z0 12 (by decide)]; exact Int.le_refl _) (by rw [z13]; omega) (fun k _ => by rw [zc 6 (by decide)]) (fun j _ => by rw [zc 7 (by decide)]) (by rw [zc 87 (by decide)]; exact Int.le_refl _) (fun a q => xc a (by omega)) (fun j _ => by rw [xc 128 (by decide)]) (fun i q => x119 i (by omega)) (by rw [x119 16 (by decide)]; exact Int.le_refl _) (by
      unfold rGr
      rw [z0 9 (by decide), z0 12 (by decide), z13, x119 15 (by decide), x119 16 (by decide)]
      exact ⟨gr1, gr2, gr3, gr4, gr5, by omega⟩)
    have rv1 := (hpF.rf P1 F1).2
    obtain ⟨Q1, -⟩ := Q.hp F1 (fun a q1 q2 => zc a (by omega)) (z0 8 (by decide)) (fun i _ => by rw [zc 87 (by decide)]) (by rw [zc 1 (by decide)]; exact B.1) (fun a q => xc a (by omega)) (fun i q => x119 i (by omega)) (by
      obtain ⟨o1, o2⟩ := V3
      unfold rOb
      rw [zc 87 (by decide), x119 95 (by decide), zc 100 (by decide), zc 101 (by decide), zc 102 (by decide), zc 42 (by decide), zc 47 (by decide), xc 193 (by decide), xc 194 (by decide), xc 195 (by decide)]
      refine ⟨o1, fun o q1 q2 => ?_⟩
      obtain ⟨y1, y2, y3⟩ := o2 o q1 q2
      exact ⟨y1, y2, fun p p0 p1 => rv1 _ _ _ _ (y3 p p0 p1)⟩) (by
      obtain ⟨g1, g2, g3, g4, g5, g6, g7, g8⟩ := C
      refine ⟨by rw [zc 87 (by decide), x119 117 (by decide)]; exact g1, by rw [zc 87 (by decide), x119 118 (by decide)]; exact g2, by rw [zc 87 (by decide), x119 122 (by decide)]; exact g3, by rw [zc 87 (by decide), x119 126 (by decide)]; exact g4, by rw [zc 87 (by decide), zc 103 (by decide), xc 223 (by decide)]; exact g5, ⟨by rw [x11, z13], by rw [x119 12 (by decide), x119 13 (by decide), z13]; have := g6.2; omega⟩, by rw [zc 87 (by decide), x119 1 (by decide)]; exact g7, by rw [x119 127 (by decide)]; exact g8⟩)
    -- the node's state
    have e21 : gW σ 0 13 (σ 0 13 + 4) 90 (gW σ 0 13 (σ 0 13 + 4) 87 21) = σ 90 (σ 87 21) := by rw [zc 87 (by decide), zc 90 (by decide)]
    obtain ⟨S, T, n1, n2, Q2, nd, fS, f87, fT, f119⟩ := needs_pair (n := n) (b := 2) (rep := 1) Q1 (by rw [e21, zc 26 (by decide), zc 27 (by decide)]; exact hn) (by rw [zc 9 (by decide)]; omega) (Or.inr (Or.inl ⟨rfl, rfl⟩)) (fun _ => Or.inr (Or.inl ⟨rfl, rfl⟩))
    rw [zc 11 (by decide)] at n2
    have w' : wIs S 111 z := w.mv (by rw [fS 111 (by decide), zc 111 (by decide)]) (by show S 112 = σ 112; rw [fS 112 (by decide), zc 112 (by decide)])
    have s12 : S 0 12 = σ 0 12 := by rw [fS 0 (by decide), z0 12 (by decide)]
    obtain ⟨Z, h1, h2, h3, h4⟩ := hp_whole_r (σ := S) (by rw [s12]; omega) w'
    rw [s12] at h1 h2 h3 h4
    have t16 : T 119 16 = τ 119 16 := f119 16 (by decide)
    have t11 : T 119 11 = σ 0 13 := by rw [f119 11 (by decide), e11]
    have ww' : mIs (gW T 119 11 (σ 0 13 + 4)) 131 z := ww.mv (by rw [gW_cell (by decide), fT 131 (by decide)])
    obtain ⟨Y, m1, m2, m3, m4⟩ := b372_s (τ := gW T 119 11 (σ 0 13 + 4)) (g := τ 119 16) (by rw [gW_i (by decide)]; exact t16) (by omega) ww' (fun k => by rw [gW_c (by decide), fT 131 (by decide)]; exact w0 k)
    have y16 : Y 119 16 = τ 119 16 := by rw [m3 119 16 (by decide), gW_i (by decide), t16]
    -- what is related then
    have P2 := Q2.1.1.1
    have C2 := Q2.2.2.2.2.1
    have V4 := Q2.2.2.1.2
    have B2 := Q2.1.2.2.2
    have zZ : ∀ a, a ≠ 0 → a ≠ 6 → a ≠ 7 → Z a = S a := fun a q1 q2 q3 => funext fun j => h4 a j (Or.inl q1) (Or.inl q2) (Or.inl q3)
    have z0' : ∀ i, i ≠ 12 → Z 0 i = S 0 i := fun i h => h4 0 i (Or.inr h) (Or.inl (by decide)) (Or.inl (by decide))
    have S13 : S 0 13 = σ 0 13 + 4 := by rw [fS 0 (by decide), z13]
    have S9 : S 0 9 = σ 0 9 := by rw [fS 0 (by decide), z0 9 (by decide)]
    generalize eX : gW Y 119 16 (τ 119 16 + 1) = X
    have xX : ∀ a, a ≠ 119 → a ≠ 128 → X a = gW T 119 11 (σ 0 13 + 4) a := fun a q1 q2 => funext fun j => by rw [← eX, gW_c q1, m3 a j q2]
    have x119' : ∀ i, i ≠ 16 → X 119 i = gW T 119 11 (σ 0 13 + 4) 119 i := fun i h => by rw [← eX, gW_i h, m3 119 i (by decide)]
    have x16' : X 119 16 = τ 119 16 + 1 := by rw [← eX, gW_at]
    have x128 : ∀ j, j < 5 * τ 119 16 ∨ 5 * τ 119 16 + 5 ≤ j → X 128 j = gW T 119 11 (σ 0 13 + 4) 128 j := fun j h => by rw [← eX, gW_c (by decide), m4 j h]
    have mBX : mB X (τ 119 16) z := by
      unfold mB at m2 ⊢
      rw [← eX, gW_c (show (128 : Int) ≠ 119 by decide), gW_c (show (128 : Int) ≠ 119 by decide), gW_c (show (128 : Int) ≠ 119 by decide), gW_c (show (128 : Int) ≠ 119 by decide), gW_c (show (128 : Int) ≠ 119 by decide)]
      exact m2
    have g16 : gW T 119 11 (σ 0 13 + 4) 119 16 = τ 119 16 := by rw [gW_i (by decide), t16]
    have g15 : gW T 119 11 (σ 0 13 + 4) 119 15 = τ 119 15 := by rw [gW_i (by decide), f119 15 (by decide)]
    have g11 : gW T 119 11 (σ 0 13 + 4) 119 11 = σ 0 13 + 4 := gW_at ..
    have F2 : hpF S (gW T 119 11 (σ 0 13 + 4)) Z X := hpF.mk2 P2 (fun a q => zZ a (by omega) (by omega) (by omega)) (fun i h _ => z0' i h) (by rw [h2, s12]; omega) (by rw [z0' 13 (by decide), S13]; omega) (fun k hk => h4 6 k (Or.inl (by decide)) (Or.inr (by rw [s12] at hk; omega)) (Or.inl (by decide))) (fun j hj => h4 7 j (Or.inl (by decide)) (Or.inl (by decide)) (Or.inr (Or.inl (by rw [s12] at hj; omega)))) (by rw [zZ 87 (by decide) (by decide) (by decide)]; exact Int.le_refl _) (fun a q => xX a (by omega) (by omega)) (fun j hj => x128 j (by rw [g16] at hj; omega)) (fun i q => x119' i (by omega)) (by rw [x16', g16]; omega) (by
      unfold rGr
      rw [z0' 9 (by decide), S9, h2, z0' 13 (by decide), S13, x119' 15 (by decide), g15, x16']
      exact ⟨gr1, gr2, by omega, by omega, by omega, by omega⟩)
    have rv2 := (hpF.rf P2 F2).2
    obtain ⟨Q3, -⟩ := Q2.hp F2 (fun a q1 q2 => zZ a (by omega) (by omega) (by omega)) (z0' 8 (by decide)) (fun i _ => by rw [zZ 87 (by decide) (by decide) (by decide)]) (by rw [zZ 1 (by decide) (by decide) (by decide)]; exact B2.1) (fun a q => xX a (by omega) (by omega)) (fun i q => x119' i (by omega)) (by
      obtain ⟨o1, o2⟩ := V4
      unfold rOb
      rw [zZ 87 (by decide) (by decide) (by decide), x119' 95 (by decide), zZ 100 (by decide) (by decide) (by decide), zZ 101 (by decide) (by decide) (by decide), zZ 102 (by decide) (by decide) (by decide), zZ 42 (by decide) (by decide) (by decide), zZ 47 (by decide) (by decide) (by decide), xX 193 (by decide) (by decide), xX 194 (by decide) (by decide), xX 195 (by decide) (by decide)]
      refine ⟨o1, fun o q1 q2 => ?_⟩
      obtain ⟨y1, y2, y3⟩ := o2 o q1 q2
      exact ⟨y1, y2, fun p p0 p1 => rv2 _ _ _ _ (y3 p p0 p1)⟩) (by
      obtain ⟨g1, g2, g3, g4, g5, g6, g7, g8⟩ := C2
      refine ⟨by rw [zZ 87 (by decide) (by decide) (by decide), x119' 117 (by decide)]; exact g1, by rw [zZ 87 (by decide) (by decide) (by decide), x119' 118 (by decide)]; exact g2, by rw [zZ 87 (by decide) (by decide) (by decide), x119' 122 (by decide)]; exact g3, by rw [zZ 87 (by decide) (by decide) (by decide), x119' 126 (by decide)]; exact g4, by rw [zZ 87 (by decide) (by decide) (by decide), zZ 103 (by decide) (by decide) (by decide), xX 223 (by decide) (by decide)]; exact g5, by rw [x119' 11 (by decide), x119' 12 (by decide), x119' 13 (by decide), z0' 13 (by decide)]; exact g6, by rw [zZ 87 (by decide) (by decide) (by decide), x119' 1 (by decide)]; exact g7, by rw [x119' 127 (by decide)]; exact g8⟩)
    obtain ⟨⟨d1, d2, d3, d4⟩, d5, d6, d7, d8, d9⟩ := nd
    have k14 : ∀ a, a = 14 ∨ (20 ≤ a ∧ a ≤ 22) ∨ (26 ≤ a ∧ a ≤ 29) ∨ a = 90 ∨ a = 92 → Z a = σ a := fun a q => by rw [zZ a (by omega) (by omega) (by omega), d1 a q, zc a (by omega)]
    have kX : ∀ a, a = 168 ∨ (170 ≤ a ∧ a ≤ 173) ∨ (212 ≤ a ∧ a ≤ 213) → X a = τ a := fun a q => by rw [xX a (by omega) (by omega), d3 a q, xc a (by omega)]
    have kX2 : ∀ a, 218 ≤ a → a ≤ 222 → X a = τ a := fun a q1 q2 => by rw [xX a (by omega) (by omega), d7 a q1 q2, xc a (by omega)]
    have zf : ∀ i, i = 19 ∨ i = 21 ∨ i = 24 ∨ i = 34 → Z 87 i = σ 87 i := fun i q => by rw [zZ 87 (by decide) (by decide) (by decide), d2 i q, zc 87 (by decide)]
    have z8 : Z 87 8 = σ 87 8 := by rw [zZ 87 (by decide) (by decide) (by decide), d6, zc 87 (by decide)]
    refine ⟨Z, X, Y, Or.inr (Or.inl ⟨rfl, rfl, Or.inr (by rw [h2]; omega), Or.inr (by rw [x16']; omega), z, h3, mBX⟩), Q3, ⟨⟨fun j _ => by rw [k14 14 (by decide)], fun a p q1 q2 _ => by rw [k14 a (by omega)], fun a r q1 q2 _ => by rw [k14 a (by omega)]⟩, fun a q => ?_, fun i q => zf i (by omega), fun a j q _ => by rw [kX a (by omega)], fun a q => ?_, fun a j q1 q2 _ => by rw [kX2 a q1 (by omega)], fun i q => ?_, ?_, fun k x t y q => rv2 _ _ _ _ (d9 _ _ _ _ (rv1 _ _ _ _ q))⟩, ⟨zf 34 (by decide), z8⟩, ?_, ?_, eX.symm, y16⟩
    · by_cases k : a = 90 ∨ a = 92
      · exact k14 a (by omega)
      · rw [zZ a (by omega) (by omega) (by omega), d5 a (by omega), zc a (by omega)]
    · by_cases k : 218 ≤ a
      · exact kX2 a k (by omega)
      · exact kX a (by omega)
    · rw [x119' i (by omega), gW_i (by omega), f119 i (by omega)]
    · rw [x119' 123 (by decide), ccN_eq (S := Z) (σ := S) _ fun j _ _ => by rw [zZ 93 (by decide) (by decide) (by decide)]]
      rw [zc 87 (by decide)] at d4
      rw [d4, x119 123 (by decide), ccN_eq (S := gW σ 0 13 (σ 0 13 + 4)) (σ := σ) _ fun j _ _ => by rw [zc 93 (by decide)]]
    · rw [mc_two_b384_e, if_neg (by decide), hp_makes_e, w32_e (x := σ 0 13 + 4) (by omega) (by omega), if_neg q]
      simp only [Option.bind_some]
      rw [if_neg (show ¬ (1 : Int) = 0 by decide), n1]
      simp only [Option.bind_some]
      rw [h1]
      rfl
    · rw [md_reckons_b276_e, md_reckons_b277_e, if_pos rfl, e11, w32_e (x := σ 0 13 + 4) (by omega) (by omega), if_neg q, md_reckons_b304_e, if_pos rfl, md_reckons_b314_e, hs]
      simp only [Option.bind_some]
      have e344 : ∀ W : gM, W 119 11 = σ 0 13 → md_reckons_b344 W 0 = md_reckons_b372 (gW W 119 11 (σ 0 13 + 4)) 0 := fun W e => by
        rw [md_reckons_b344_e, if_pos rfl, e, w32_e (by omega) (by omega)]
      rcases n2 with ⟨a1, a2⟩ | ⟨a1, a2⟩
      · rw [if_pos a1, if_pos rfl, if_pos trivial, md_reckons_b341_e, a2]
        simp only [Option.bind_some]
        rw [e344 T t11, m1]
      · rw [if_neg a1, if_neg (show ¬ (1 : Int) = 0 by decide), show md_reckons_b344 τ 0 = md_reckons_b344 T 0 by rw [a2], e344 T t11, m1]
end BP
