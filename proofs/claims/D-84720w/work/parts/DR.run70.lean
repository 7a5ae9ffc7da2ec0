/-! joined letters become a string: both sides -/
section JP
variable {σ τ S T Z X : gM} {pT hT : Int → Int} {m : Nat} {br co θ n : Int}
theorem join_pair {N : Nat} {L : List Int} {f : Int} (Q : RQ σ τ pT hT) (hn : σ 26 (σ 90 (σ 87 21)) ≤ n ∧ n < σ 26 (σ 90 (σ 87 21)) + σ 27 (σ 90 (σ 87 21))) (hk : 8 ≤ σ 9 n ∧ σ 9 n ≤ 11) (h14 : σ 0 14 = σ 0 11 + N) (n200 : N ≤ 200) (h151 : τ 119 151 = N) (hL : lt (σ 1) (σ 0 11) N = L) (hM : lt (τ 225) 0 N = L) (l8 : ∀ z ∈ L, i8 z) :
    (((hp_makes σ ((N : Int) + 1)).bind fun p6 => if p6.2 = 0 then ((mc_fails p6.1 9 n).bind fun p10 => g01 p10.2 (some (p10.1, p10.2))) else ((mc_needs p6.1 n 4 0).bind fun p7 => (hp_laidString p7.1).bind fun p8 => (mc_settle p8.1 2 p8.2).bind fun p9 => some (p9.1, 1))) = ((mc_fails σ 9 n).bind fun p10 => g01 p10.2 (some (p10.1, p10.2))) ∧
      (if 100000 < w32 (w32 (τ 119 11 + τ 119 151) + 1) then ((md_error τ 9 n).bind fun p5 => gthr p5.1 p5.2) else ((md_has τ n 4).bind fun p3 => if p3.2 = 0 then ((md_settle p3.1 n 4 0).bind fun p4 => md_joins_b153 p4.1) else (md_joins_b153 p3.1))) = ((md_error τ 9 n).bind fun p5 => gthr p5.1 p5.2)) ∨
    (∃ Z X g, rVal Z X 2 (σ 0 10) 4 g ∧ RQ Z X pT hT ∧ kq σ τ Z X f ∧ (Z 87 34 = σ 87 34 ∧ Z 87 8 = σ 87 8) ∧ ((hp_makes σ ((N : Int) + 1)).bind fun p6 => if p6.2 = 0 then ((mc_fails p6.1 9 n).bind fun p10 => g01 p10.2 (some (p10.1, p10.2))) else ((mc_needs p6.1 n 4 0).bind fun p7 => (hp_laidString p7.1).bind fun p8 => (mc_settle p8.1 2 p8.2).bind fun p9 => some (p9.1, 1))) = ((mc_settle Z 2 (σ 0 10)).bind fun p9 => some (p9.1, 1)) ∧
      (if 100000 < w32 (w32 (τ 119 11 + τ 119 151) + 1) then ((md_error τ 9 n).bind fun p5 => gthr p5.1 p5.2) else ((md_has τ n 4).bind fun p3 => if p3.2 = 0 then ((md_settle p3.1 n 4 0).bind fun p4 => md_joins_b153 p4.1) else (md_joins_b153 p3.1))) = ((md_pairBecomes X 4 g).bind fun p2 => some (p2.1, some 0))) := by
  have P1 := Q.1.1.1
  have hi := P1.1.1
  have h5 := hi.2.2.2.2.1
  have mi := P1.1.2.1
  have gr := P1.2.2.2.2.1
  have C := Q.2.2.2.2.1
  have V3 := Q.2.2.1.2
  have B := Q.1.2.2.2
  obtain ⟨e11, r11⟩ := C.2.2.2.2.2.1
  have mb := mi.2.2.1
  have mc := mi.2.2.2.1
  obtain ⟨gr1, gr2, gr3, gr4, gr5, gr6⟩ := gr
  have hs := has_s (b := 4) Q hn
  have ew : w32 (w32 (τ 119 11 + τ 119 151) + 1) = σ 0 13 + ((N : Int) + 1) := by
    rw [e11, h151, w32_e (x := σ 0 13 + N) (by omega) (by omega), w32_e (by omega) (by omega)]
    omega
  rw [ew]
  by_cases q : 100000 < σ 0 13 + ((N : Int) + 1)
  · left
    constructor
    · rw [hp_makes_e, w32_e (x := σ 0 13 + ((N : Int) + 1)) (by omega) (by omega), if_pos q]
      simp only [Option.bind_some, if_true]
    · rw [if_pos q]
  · right
    generalize ev : σ 0 13 + ((N : Int) + 1) = v at q
    have z0 : ∀ i, i ≠ 13 → gW σ 0 13 v 0 i = σ 0 i := fun i h => gW_i h
    have z13 : gW σ 0 13 v 0 13 = v := gW_at ..
    have zc : ∀ a, a ≠ 0 → gW σ 0 13 v a = σ a := fun a h => gW_cell h
    have x119 : ∀ i, i ≠ 11 → gW τ 119 11 v 119 i = τ 119 i := fun i h => gW_i h
    have x11 : gW τ 119 11 v 119 11 = v := gW_at ..
    have xc : ∀ a, a ≠ 119 → gW τ 119 11 v a = τ a := fun a h => gW_cell h
    have F1 : hpF σ τ (gW σ 0 13 v) (gW τ 119 11 v) := hpF.mk2 P1 (fun a q => zc a (by omega)) (fun i _ h => z0 i h) (by rw [z0 12 (by decide)]; exact Int.le_refl _) (by rw [z13]; omega) (fun k _ => by rw [zc 6 (by decide)]) (fun j _ => by rw [zc 7 (by decide)]) (by rw [zc 87 (by decide)]; exact Int.le_refl _) (fun a q => xc a (by omega)) (fun j _ => by rw [xc 128 (by decide)]) (fun i q => x119 i (by omega)) (by rw [x119 16 (by decide)]; exact Int.le_refl _) (by
      unfold rGr
      rw [z0 9 (by decide), z0 12 (by decide), z13, x119 15 (by decide), x119 16 (by decide)]
      exact ⟨gr1, gr2, gr3, gr4, gr5, by omega⟩)
    have rv1 := (hpF.rf P1 F1).2
    obtain ⟨Q1, -⟩ := Q.hp F1 (fun a q1 q2 => zc a (by omega)) (z0 8 (by decide)) (fun i _ => by rw [zc 87 (by decide)]) (by rw [zc 1 (by decide)]; exact B.1) (fun a q => xc a (by omega)) (fun i q => x119 i (by omega)) (by
      obtain ⟨o1, o2⟩ := V3
      unfold rOb
      rw [zc 87 (by decide), x119 95 (by decide), zc 100 (by decide), zc 101 (by decide), zc 102 (by decide), zc 42 (by decide), zc 47 (by decide), xc 193 (by decide), xc 194 (by decide), xc 195 (by decide)]
      refine ⟨o1, fun o q1 q2 => ?_⟩
      obtain ⟨y1, y2, y3⟩ := o2 o q1 q2
      exact ⟨y1, y2, fun p p0 p1 => rv1 _ _ _ _ (y3 p p0 p1)⟩) (by
      obtain ⟨g1, g2, g3, g4, g5, g6, g7, g8⟩ := C
      refine ⟨by rw [zc 87 (by decide), x119 117 (by decide)]; exact g1, by rw [zc 87 (by decide), x119 118 (by decide)]; exact g2, by rw [zc 87 (by decide), x119 122 (by decide)]; exact g3, by rw [zc 87 (by decide), x119 126 (by decide)]; exact g4, by rw [zc 87 (by decide), zc 103 (by decide), xc 223 (by decide)]; exact g5, ⟨by rw [x11, z13], by rw [x119 12 (by decide), x119 13 (by decide), z13]; omega⟩, by rw [zc 87 (by decide), x119 1 (by decide)]; exact g7, by rw [x119 127 (by decide)]; exact g8⟩)
    have e21 : gW σ 0 13 v 90 (gW σ 0 13 v 87 21) = σ 90 (σ 87 21) := by rw [zc 87 (by decide), zc 90 (by decide)]
    obtain ⟨S, T, n1, n2, Q2, nd, fS, f87, fT, f119⟩ := needs_pair (n := n) (b := 4) (rep := 0) Q1 (by rw [e21, zc 26 (by decide), zc 27 (by decide)]; exact hn) (by rw [zc 9 (by decide)]; omega) (Or.inr (Or.inr (Or.inr (Or.inl ⟨rfl, rfl⟩)))) (fun _ => Or.inr (Or.inr rfl))
    rw [zc 11 (by decide)] at n2
    have S0 : ∀ i, i ≠ 13 → S 0 i = σ 0 i := fun i h => by rw [fS 0 (by decide), z0 i h]
    have S13 : S 0 13 = v := by rw [fS 0 (by decide), z13]
    have S1 : S 1 = σ 1 := by rw [fS 1 (by decide), zc 1 (by decide)]
    -- the component's string
    have eL : hp_laidString S = some (gW (gW (gW (gW (gW (gW S 2 (σ 0 10) (σ 0 11)) 3 (σ 0 10) N) 4 (σ 0 10) (-1)) 5 (σ 0 10) 0) 0 11 (σ 0 11 + N)) 0 10 (σ 0 10 + 1), σ 0 10) := by
      rw [hp_laidString_e, S0 10 (by decide), S0 11 (by decide), S0 14 (by decide), h14, if_pos (by omega), if_pos (by omega), if_pos (by omega), if_pos (by omega), show σ 0 11 + (N : Int) - σ 0 11 = N by omega, w32_e (x := (N : Int)) (by omega) (by omega), w32_e (x := σ 0 10 + 1) (by omega) (by omega), show σ 0 10 + 1 - 1 = σ 0 10 by omega, w32_e (x := σ 0 10) (by omega) (by omega)]
    generalize eZ : gW (gW (gW (gW (gW (gW S 2 (σ 0 10) (σ 0 11)) 3 (σ 0 10) N) 4 (σ 0 10) (-1)) 5 (σ 0 10) 0) 0 11 (σ 0 11 + N)) 0 10 (σ 0 10 + 1) = Z at eL
    have zZ : ∀ a, a ≠ 0 → (a < 2 ∨ 5 < a) → Z a = S a := fun a q1 q2 => by rw [← eZ, gW_cell q1, gW_cell q1, gW_cell (by omega), gW_cell (by omega), gW_cell (by omega), gW_cell (by omega)]
    have z0' : ∀ i, i ≠ 10 → i ≠ 11 → Z 0 i = S 0 i := fun i q1 q2 => by rw [← eZ, gW_i q1, gW_i q2, gW_c (by decide), gW_c (by decide), gW_c (by decide), gW_c (by decide)]
    have z10 : Z 0 10 = σ 0 10 + 1 := by rw [← eZ, gW_at]
    have z11 : Z 0 11 = σ 0 11 + N := by rw [← eZ, gW_i (by decide), gW_at]
    have z25 : ∀ a j, 2 ≤ a → a ≤ 5 → j ≠ σ 0 10 → Z a j = S a j := fun a j q1 q2 q3 => by rw [← eZ, gW_c (by omega), gW_c (by omega), gW_j q3, gW_j q3, gW_j q3, gW_j q3]
    have zn : Z 2 (σ 0 10) = σ 0 11 ∧ Z 3 (σ 0 10) = N ∧ Z 4 (σ 0 10) = -1 ∧ Z 5 (σ 0 10) = 0 := by
      rw [← eZ]
      exact ⟨by rw [gW_c (by decide), gW_c (by decide), gW_c (by decide), gW_c (by decide), gW_c (by decide), gW_at], by rw [gW_c (by decide), gW_c (by decide), gW_c (by decide), gW_c (by decide), gW_at], by rw [gW_c (by decide), gW_c (by decide), gW_c (by decide), gW_at], by rw [gW_c (by decide), gW_c (by decide), gW_at]⟩
    clear eZ
    -- the model's row
    have P2 := Q2.1.1.1
    have t11 : T 119 11 = σ 0 13 := by rw [f119 11 (by decide), e11]
    have t151 : T 119 151 = N := by rw [f119 151 (by decide), h151]
    have u119 : ∀ i, i ≠ 11 → i ≠ 123 → gW T 119 11 v 119 i = τ 119 i := fun i q1 q2 => by rw [gW_i q1, f119 i q2]
    have u225 : ∀ i, gW T 119 11 v 225 i = τ 225 i := fun i => by rw [gW_c (by decide), fT 225 (by decide)]
    obtain ⟨X, g, a1, a2, a3, a4, a5, a6, a7, a8, a9, a10, a11⟩ := md_rowOfRun_w (τ := gW T 119 11 v) (x1 := (N : Int)) (n := N) P2.1.2.1 rfl (by omega) (fun i hi => by
      rw [u225]
      apply l8
      rw [← hM]
      unfold lt
      exact List.mem_map.mpr ⟨i, List.mem_range.mpr hi, by rw [Int.zero_add]⟩) (by rw [u119 13 (by decide) (by decide)]; omega) (by rw [u119 12 (by decide) (by decide)]; omega)
    have mSX : mS X g = L := by
      rw [a4, ← hM]
      exact lt_congr fun i _ => u225 _
    rw [u119 13 (by decide) (by decide)] at a6
    rw [u119 12 (by decide) (by decide)] at a7
    have xX : ∀ a, a ≠ 119 → (a < 121 ∨ 127 < a ∨ a = 126) → X a = gW T 119 11 v a := fun a q1 q2 => funext fun j => a8 a j q1 (by omega) (by omega) (by omega) (by omega) (by omega) (by omega)
    have F2 : hpF S (gW T 119 11 v) Z X := hpF.mk3 (N := (N : Int)) P2 (fun a q => zZ a (by omega) (by omega)) (fun i q1 q2 => z0' i q1 q2) (by rw [z10, S0 10 (by decide)]) (by rw [z11, S0 11 (by decide)]) (by omega) (by rw [S0 10 (by decide), S0 11 (by decide), S13]; omega) (fun a j q1 q2 q3 => z25 a j q1 q2 (by rw [S0 10 (by decide)] at q3; exact q3)) (by rw [S0 10 (by decide), S0 11 (by decide)]; exact zn.1) (by rw [S0 10 (by decide)]; exact zn.2.1) (by rw [S0 10 (by decide)]; exact zn.2.2.1) (by rw [S0 10 (by decide)]; exact zn.2.2.2) (by rw [zZ 87 (by decide) (by decide)]; exact Int.le_refl _) a2 (a11 P2.1.2.2) a5 (fun a q => xX a (by omega) (by omega)) (fun i q => a9 i (by omega) (by omega))
    have rv2 := (hpF.rf P2 F2).2
    have C2 := Q2.2.2.2.2.1
    have V4 := Q2.2.2.1.2
    have B2 := Q2.1.2.2.2
    obtain ⟨Q3, -⟩ := Q2.hp F2 (fun a q1 q2 => zZ a (by omega) (by omega)) (z0' 8 (by decide) (by decide)) (fun i _ => by rw [zZ 87 (by decide) (by decide)]) (by rw [zZ 1 (by decide) (by decide)]; exact B2.1) (fun a q => xX a (by omega) (by omega)) (fun i q => a9 i (by omega) (by omega)) (by
      obtain ⟨o1, o2⟩ := V4
      unfold rOb
      rw [zZ 87 (by decide) (by decide), a9 95 (by decide) (by decide), zZ 100 (by decide) (by decide), zZ 101 (by decide) (by decide), zZ 102 (by decide) (by decide), zZ 42 (by decide) (by decide), zZ 47 (by decide) (by decide), xX 193 (by decide) (by decide), xX 194 (by decide) (by decide), xX 195 (by decide) (by decide)]
      refine ⟨o1, fun o q1 q2 => ?_⟩
      obtain ⟨y1, y2, y3⟩ := o2 o q1 q2
      exact ⟨y1, y2, fun p p0 p1 => rv2 _ _ _ _ (y3 p p0 p1)⟩) (by
      obtain ⟨g1, g2, g3, g4, g5, g6, g7, g8⟩ := C2
      refine ⟨by rw [zZ 87 (by decide) (by decide), a9 117 (by decide) (by decide)]; exact g1, by rw [zZ 87 (by decide) (by decide), a9 118 (by decide) (by decide)]; exact g2, by rw [zZ 87 (by decide) (by decide), a9 122 (by decide) (by decide)]; exact g3, by rw [zZ 87 (by decide) (by decide), a9 126 (by decide) (by decide)]; exact g4, by rw [zZ 87 (by decide) (by decide), zZ 103 (by decide) (by decide), xX 223 (by decide) (by decide)]; exact g5, ⟨by rw [a9 11 (by decide) (by decide), z0' 13 (by decide) (by decide)]; exact g6.1, by rw [z0' 13 (by decide) (by decide), S13]; omega⟩, by rw [zZ 87 (by decide) (by decide), a9 1 (by decide) (by decide)]; exact g7, by rw [a9 127 (by decide) (by decide)]; exact g8⟩)
    obtain ⟨⟨d1, d2, d3, d4⟩, d5, d6, d7, d8, d9⟩ := nd
    have k14 : ∀ a, a = 14 ∨ (20 ≤ a ∧ a ≤ 22) ∨ (26 ≤ a ∧ a ≤ 29) ∨ a = 90 ∨ a = 92 → Z a = σ a := fun a q => by rw [zZ a (by omega) (by omega), d1 a q, zc a (by omega)]
    have kX : ∀ a, a = 168 ∨ (170 ≤ a ∧ a ≤ 173) ∨ (212 ≤ a ∧ a ≤ 213) → X a = τ a := fun a q => by rw [xX a (by omega) (by omega), d3 a q, xc a (by omega)]
    have kX2 : ∀ a, 218 ≤ a → a ≤ 222 → X a = τ a := fun a q1 q2 => by rw [xX a (by omega) (by omega), d7 a q1 q2, xc a (by omega)]
    have zf : ∀ i, i = 19 ∨ i = 21 ∨ i = 24 ∨ i = 34 → Z 87 i = σ 87 i := fun i q => by rw [zZ 87 (by decide) (by decide), d2 i q, zc 87 (by decide)]
    have z8 : Z 87 8 = σ 87 8 := by rw [zZ 87 (by decide) (by decide), d6, zc 87 (by decide)]
    have cZ : cS Z (σ 0 10) = L := by
      unfold cS
      rw [zn.1, zn.2.1, zZ 1 (by decide) (by decide), S1, show ((N : Int)).toNat = N by omega]
      exact hL
    refine ⟨Z, X, g, Or.inr (Or.inr (Or.inl ⟨rfl, rfl, Or.inr (by rw [z10]; omega), a3, by rw [cZ, mSX], by rw [zn.2.1]; omega⟩)), Q3, ⟨⟨fun j _ => by rw [k14 14 (by decide)], fun a p q1 q2 _ => by rw [k14 a (by omega)], fun a r q1 q2 _ => by rw [k14 a (by omega)]⟩, fun a q => ?_, fun i q => zf i (by omega), fun a j q _ => by rw [kX a (by omega)], fun a q => ?_, fun a j q1 q2 _ => by rw [kX2 a q1 (by omega)], fun i q => ?_, ?_, fun k x t y q => rv2 _ _ _ _ (d9 _ _ _ _ (rv1 _ _ _ _ q))⟩, ⟨zf 34 (by decide), z8⟩, ?_, ?_⟩
    · by_cases k : a = 90 ∨ a = 92
      · exact k14 a (by omega)
      · rw [zZ a (by omega) (by omega), d5 a (by omega), zc a (by omega)]
    · by_cases k : 218 ≤ a
      · exact kX2 a k (by omega)
      · exact kX a (by omega)
    · rw [a9 i (by omega) (by omega), gW_i (by omega), f119 i (by omega)]
    · rw [a9 123 (by decide) (by decide), ccN_eq (S := Z) (σ := S) _ fun j _ _ => by rw [zZ 93 (by decide) (by decide)]]
      rw [zc 87 (by decide)] at d4
      rw [d4, x119 123 (by decide), ccN_eq (S := gW σ 0 13 v) (σ := σ) _ fun j _ _ => by rw [zc 93 (by decide)]]
    · rw [hp_makes_e, w32_e (x := σ 0 13 + ((N : Int) + 1)) (by omega) (by omega), ev, if_neg q]
      simp only [Option.bind_some]
      rw [if_neg (show ¬ (1 : Int) = 0 by decide), n1]
      simp only [Option.bind_some]
      rw [eL]
      rfl
    · rw [if_neg q, hs]
      simp only [Option.bind_some]
      have e153 : ∀ W : gM, W = T → md_joins_b153 W = ((md_pairBecomes X 4 g).bind fun p2 => some (p2.1, some 0)) := fun W e => by
        rw [e, md_joins_b153_e, t11, t151, w32_e (x := (N : Int) + 1) (by omega) (by omega), w32_e (x := σ 0 13 + ((N : Int) + 1)) (by omega) (by omega), ev, a1]
        rfl
      rcases n2 with ⟨b1, b2⟩ | ⟨b1, b2⟩
      · rw [if_pos b1, if_pos rfl, b2]
        simp only [Option.bind_some]
        exact e153 T rfl
      · rw [if_neg b1, if_neg (show ¬ (1 : Int) = 0 by decide)]
        exact e153 τ b2.symm
/-- two things are joined, one of them a string -/
theorem op_join {E h' br' co' : Int} (R : RR σ τ pT hT (m + 1) br co θ) (en : τ 218 (τ 212 (σ 87 21) + m + 1) = n) (es : τ 219 (τ 212 (σ 87 21) + m + 1) = 2) (hn : 0 ≤ n ∧ σ 26 (σ 90 (σ 87 21)) ≤ n ∧ n < σ 26 (σ 90 (σ 87 21)) + σ 27 (σ 90 (σ 87 21))) (st : St σ τ (σ 26 (σ 90 (σ 87 21))) (σ 26 (σ 90 (σ 87 21)) + σ 27 (σ 90 (σ 87 21))) (σ 28 (σ 90 (σ 87 21))) (σ 28 (σ 90 (σ 87 21)) + σ 29 (σ 90 (σ 87 21)) - 2) (τ 212 (σ 87 21)) m E h' br' co') (hh : hT (σ 87 21) = h' - 1 + 2) (h1 : 1 ≤ h') (hb : h' ≤ 400) (hE : E = pT (σ 87 21) + 1) (kd : τ 168 n = 8) (i : cI σ (pT (σ 87 21)) 3 0 n) (hk : σ 88 (σ 87 8 - 2) = 2 ∨ σ 88 (σ 87 8 - 1) = 2) : goX σ τ θ ∨ endX σ τ := by
  obtain ⟨-, -, -, -, ⟨t1, t2⟩, t3, -, -, -, t6⟩ := R.top
  obtain ⟨c1, -, c2, pc, c5, c6, c7, c8, c9⟩ := R.cur
  obtain ⟨o, p1, p2, p3, p4, p5, p6⟩ := R.pl
  have Q := R.1
  have c8' := c9 n hn.2.1 hn.2.2
  have k9 : σ 9 n = 8 := by rw [← kd]; exact c8'.1.1.symm
  have n2 : 0 ≤ n ∧ n < 20000 := by omega
  have nb : 0 ≤ n ∧ n < 16000 := by omega
  obtain ⟨oo, w1, w2, w3, w4, w5⟩ := work2 R (n := n) (by omega) (by omega) (by omega) (by omega) i
  generalize eτ : gW τ 219 (τ 212 (σ 87 21) + m + 1) 3 = τ1
  have gs : ∀ a j, a ≠ 219 ∨ j ≠ τ 212 (σ 87 21) + m + 1 → τ1 a j = τ a j := fun a j q => by
    rw [← eτ]
    rcases q with q | q
    · exact gW_c q
    · exact gW_j q
  have dd : smM τ τ1 (τ 212 (σ 87 21)) := by rw [← eτ]; exact smM.g219 (by omega)
  have cc : smC σ σ := ⟨fun _ _ _ _ _ _ => rfl, fun _ _ _ _ => rfl⟩
  have v1 := p2 (σ 87 8 - 2) (by omega) (by omega)
  rw [show σ 87 8 - 2 + o = τ 119 125 - 2 by omega] at v1
  have v2 := p2 (σ 87 8 - 1) (by omega) (by omega)
  rw [show σ 87 8 - 1 + o = τ 119 125 - 1 by omega] at v2
  have v1' := (smC.rv cc dd).mpr v1
  have v2' := (smC.rv cc dd).mpr v2
  obtain ⟨kt1, k10, k16⟩ := v1.kt
  obtain ⟨kt2, k20, k26⟩ := v2.kt
  have tv : ∀ k t, t = kT k → 0 ≤ k → k ≤ 6 → (t = 4 ↔ k = 2) ∧ (4 < t ↔ 5 ≤ k) := fun k t e k0 k6 => by
    rw [e]
    unfold kT
    split
    · omega
    · split
      · omega
      · split <;> omega
  have tv1 := tv _ _ kt1 k10 k16
  have tv2 := tv _ _ kt2 k20 k26
  have Q0 : RQ σ τ1 pT hT := by
    have := Q.sm (S := σ) (T := τ1) (P' := pT (σ 87 21)) (h' := hT (σ 87 21)) cc dd pc
    rw [updF_same, updF_same] at this
    exact this
  have g119 : ∀ j, τ1 119 j = τ 119 j := fun j => gs 119 j (by omega)
  have g221 : ∀ j, τ1 221 j = τ 221 j := fun j => gs 221 j (by omega)
  have g222 : ∀ j, τ1 222 j = τ 222 j := fun j => gs 222 j (by omega)
  have eJ : mc_two σ n = ((mc_joins σ n).bind fun p1 => g01 p1.2 (some (p1.1, p1.2))) := by
    have e55 : mc_two_b55 σ n 8 = mc_two_b91 σ n := by
      rw [mc_two_b55_e, if_pos rfl, w32_e (x := σ 87 8 - 2) (by omega) (by omega), w32_e (x := σ 87 8 - 1) (by omega) (by omega), if_pos (by omega)]
      by_cases z : σ 88 (σ 87 8 - 2) = 2
      · rw [if_pos z]
      · rw [if_neg z, if_pos (by omega), if_pos (by omega)]
    have e0 : mc_two σ n = mc_two_b55 σ n 8 := by
      rw [mc_two_e, if_pos nb, k9, if_neg (by decide), if_neg (by decide), w32_e (x := σ 87 8 - 2) (by omega) (by omega)]
      by_cases z : σ 88 (σ 87 8 - 2) = 0 ∨ σ 88 (σ 87 8 - 2) = 1
      · rw [isN_1 (by omega) z]
        simp only [Option.bind_some]
        rw [if_neg (show ¬ (1 : Int) = 0 by decide), w32_e (x := σ 87 8 - 1) (by omega) (by omega), isN_0 (by omega) (by omega)]
        simp only [Option.bind_some, if_true]
      · rw [isN_0 (by omega) z]
        simp only [Option.bind_some, if_true]
    rw [e0, e55, mc_two_b91_e]
  have ewM : md_works τ (τ 212 (σ 87 21) + m + 1) n (τ 168 n) = (((md_joins τ1 n).bind fun p1 => gtry p1.2 (fun _ => some (p1.1, some 0)) (some (p1.1, none))).bind fun p4 => gtry p4.2 (fun _ => md_works_b98 p4.1) (some (p4.1, none))) := by
    have e42 : md_reckons τ1 n 8 = md_reckons_b42 τ1 n := by
      rw [md_reckons_e, g119, w32_e (x := τ 119 125 - 2) (by omega) (by omega), w32_e (x := τ 119 125 - 1) (by omega) (by omega), if_pos (by omega), if_pos (by omega), if_pos rfl, g221, g221]
      by_cases z : τ 221 (τ 119 125 - 2) = 4
      · rw [if_pos z]
      · rw [if_neg z, if_pos (tv2.1.mpr (by have := tv1.1; omega))]
    rw [md_works_e, kd, if_neg (by decide), if_neg (by decide), if_pos t2, if_pos t2, if_pos t2, es, if_neg (by decide), if_neg (by decide), w32_e (x := 2 + 1) (by decide) (by decide), show (2 : Int) + 1 = 3 by decide, eτ, e42, md_reckons_b42_e]
  have fail : ∀ (S T : gM) (e : Int), RQ S T pT hT → (∀ a, a = 26 ∨ a = 27 ∨ a = 90 → S a = σ a) → S 87 21 = σ 87 21 → T 119 119 = τ 119 119 → mc_joins σ n = ((mc_fails S e n).bind fun p => g01 p.2 (some (p.1, p.2))) → md_joins τ1 n = ((md_error T e n).bind fun p => gthr p.1 p.2) → endX σ τ := fun S T e f1 f2 f3 f4 f5 f6 => by
    refine f1.failX (e := e) (by rw [f3, f2 90 (by decide), f2 26 (by decide), f2 27 (by decide)]; exact ⟨hn.2.1, hn.2.2⟩) t6.1 w3 w1 w4 w2 (fun f => ?_) t6.2.1 t6.2.2 t1 t2 en (fun f => ?_) f4
    · rw [w5, mc_work_b203_e, eJ, f5, f]; rfl
    · rw [ewM, f6, f]; rfl
  have wa : w32 (σ 87 8 - 2) = σ 87 8 - 2 := w32_e (by omega) (by omega)
  have wb : w32 (σ 87 8 - 1) = σ 87 8 - 1 := w32_e (by omega) (by omega)
  have wc : w32 (τ 119 125 - 2) = τ 119 125 - 2 := w32_e (by omega) (by omega)
  have wd : w32 (τ 119 125 - 1) = τ 119 125 - 1 := w32_e (by omega) (by omega)
  by_cases lw : σ 88 (σ 87 8 - 2) < 5 ∧ σ 88 (σ 87 8 - 1) < 5
  · obtain ⟨σ1, τ1', σ2, τ2, L1, L2, e1, e2, e3, e4, l1, l2, l3, x1, x2, x3, x4, x5, x6, y1, y2, y3, y4, m0, n119, n0⟩ := lay_two Q0 v1' v2'
    rw [List.length_append] at x6 y4
    have eC : mc_joins σ n = (if 200 < (L1.length + L2.length : Int) then ((mc_fails (put1 σ2 L2) 8 n).bind fun p11 => g01 p11.2 (some (p11.1, p11.2))) else ((hp_makes (put1 σ2 L2) (((L1.length + L2.length : Nat) : Int) + 1)).bind fun p6 => if p6.2 = 0 then ((mc_fails p6.1 9 n).bind fun p10 => g01 p10.2 (some (p10.1, p10.2))) else ((mc_needs p6.1 n 4 0).bind fun p7 => (hp_laidString p7.1).bind fun p8 => (mc_settle p8.1 2 p8.2).bind fun p9 => some (p9.1, 1)))) := by
      have ll : hp_laidLetters (put1 σ2 L2) = some (put1 σ2 L2, (L1.length + L2.length : Int)) := by
        rw [hp_laidLetters_e, x3, x2 11 (by decide), show ∀ p q : Int, p + q - p = q from fun p q => by omega, w32_e (by omega) (by omega)]
      rw [mc_joins_e, wa, wb, if_pos (by omega), if_pos (by omega), if_pos lw.1, if_pos lw.2, hp_lay_e]
      simp only [Option.bind_some]
      rw [gW_c (show (87 : Int) ≠ 0 by decide), wa, if_pos (by omega), gW_c (show (89 : Int) ≠ 0 by decide), e1]
      simp only [Option.bind_some]
      rw [m0 87 (by decide) (by decide) (by decide), wb, if_pos (by omega), m0 89 (by decide) (by decide) (by decide), e2]
      simp only [Option.bind_some]
      rw [ll]
      simp only [Option.bind_some]
      rw [ll]
      simp only [Option.bind_some]
      rw [w32_e (x := (L1.length + L2.length : Int) + 1) (by omega) (by omega)]
      rfl
    have eM : md_joins τ1 n = (if 200 < (L1.length + L2.length : Int) then ((md_error (put2 τ2 L2) 8 n).bind fun p6 => gthr p6.1 p6.2) else (if 100000 < w32 (w32 (put2 τ2 L2 119 11 + put2 τ2 L2 119 151) + 1) then ((md_error (put2 τ2 L2) 9 n).bind fun p5 => gthr p5.1 p5.2) else ((md_has (put2 τ2 L2) n 4).bind fun p3 => if p3.2 = 0 then ((md_settle p3.1 n 4 0).bind fun p4 => md_joins_b153 p4.1) else (md_joins_b153 p3.1)))) := by
      rw [md_joins_e, g119, wc, wd, if_pos (by omega), g221, g221, g222, if_neg (fun z => by have := tv1.2.mp z; omega), if_pos (by omega), if_neg (fun z => by have := tv2.2.mp z; omega), if_pos (by omega), if_pos (by omega)]
      rw [e3]
      simp only [Option.bind_some]
      rw [n119 125 (by decide), g119, wd, if_pos (by omega), if_pos (by omega), n0 221 (by decide) (by decide) (by decide), n0 222 (by decide) (by decide) (by decide), g221, g222, e4]
      simp only [Option.bind_some]
      rw [y3]
    have P0 := Q0.1.1.1
    have V0 := Q0.2.2.1.2
    have C0 := Q0.2.2.2.2.1
    have F4 : hpF σ τ1 (put1 σ2 L2) (put2 τ2 L2) := hpF.mk P0 (fun a q => x1 a (by omega) (by omega) (by omega)) x4 x2 (by rw [x1 87 (by decide) (by decide) (by decide)]; exact Int.le_refl _) (fun a q => y1 a (by omega) (by omega) (by omega)) (fun i q => y2 i (by omega))
    have rv4 := (hpF.rf P0 F4).2
    obtain ⟨Q4, -⟩ := Q0.hp F4 (fun a q1 q2 => x1 a (by omega) (by omega) (by omega)) (x2 8 (by decide)) (fun i _ => by rw [x1 87 (by decide) (by decide) (by decide)]) x5 (fun a q => y1 a (by omega) (by omega) (by omega)) (fun i q => y2 i (by omega)) (by
      obtain ⟨o1, o2⟩ := V0
      unfold rOb
      rw [x1 87 (by decide) (by decide) (by decide), y2 95 (by decide), x1 100 (by decide) (by decide) (by decide), x1 101 (by decide) (by decide) (by decide), x1 102 (by decide) (by decide) (by decide), x1 42 (by decide) (by decide) (by decide), x1 47 (by decide) (by decide) (by decide), y1 193 (by decide) (by decide) (by decide), y1 194 (by decide) (by decide) (by decide), y1 195 (by decide) (by decide) (by decide)]
      refine ⟨o1, fun o q1 q2 => ?_⟩
      obtain ⟨a1, a2, a3⟩ := o2 o q1 q2
      exact ⟨a1, a2, fun p p0 p1 => rv4 _ _ _ _ (a3 p p0 p1)⟩) (by
      unfold rCt at C0 ⊢
      rw [x1 87 (by decide) (by decide) (by decide), x1 103 (by decide) (by decide) (by decide), x2 13 (by decide), y1 223 (by decide) (by decide) (by decide), y2 117 (by decide), y2 118 (by decide), y2 122 (by decide), y2 126 (by decide), y2 11 (by decide), y2 1 (by decide), y2 127 (by decide), y2 12 (by decide), y2 13 (by decide)]
      exact C0)
    have s8 : put1 σ2 L2 87 8 = σ 87 8 := by rw [x1 87 (by decide) (by decide) (by decide)]
    have kqs : kq σ τ (put1 σ2 L2) (put2 τ2 L2) (τ 212 (σ 87 21) + m) := ⟨⟨fun j _ => by rw [x1 14 (by decide) (by decide) (by decide)], fun a p q1 q2 _ => by rw [x1 a (by omega) (by omega) (by omega)], fun a r q1 q2 _ => by rw [x1 a (by omega) (by omega) (by omega)]⟩, fun a q => x1 a (by omega) (by omega) (by omega), fun i q => by rw [x1 87 (by decide) (by decide) (by decide)], fun a j q _ => by rw [y1 a (by omega) (by omega) (by omega), gs a j (by omega)], fun a q => funext fun j => by rw [y1 a (by omega) (by omega) (by omega), gs a j (by omega)], fun a j q1 q2 q3 => by rw [y1 a (by omega) (by omega) (by omega), gs a j (by omega)], fun i q => by rw [y2 i (by omega), g119], by rw [y2 123 (by decide), g119, ccN_eq (S := put1 σ2 L2) (σ := σ) _ fun j _ _ => by rw [x1 93 (by decide) (by decide) (by decide)]], fun k x t y q => rv4 _ _ _ _ ((smC.rv cc dd).mpr q)⟩
    by_cases gr : 200 < (L1.length + L2.length : Int)
    · rw [if_pos gr] at eC eM
      exact Or.inr (fail _ _ 8 Q4 (fun a q => x1 a (by omega) (by omega) (by omega)) (by rw [x1 87 (by decide) (by decide) (by decide)]) (by rw [y2 119 (by decide), g119]) eC eM)
    · rw [if_neg gr] at eC eM
      have hnS : put1 σ2 L2 26 (put1 σ2 L2 90 (put1 σ2 L2 87 21)) ≤ n ∧ n < put1 σ2 L2 26 (put1 σ2 L2 90 (put1 σ2 L2 87 21)) + put1 σ2 L2 27 (put1 σ2 L2 90 (put1 σ2 L2 87 21)) := by
        rw [x1 87 (by decide) (by decide) (by decide), x1 90 (by decide) (by decide) (by decide), x1 26 (by decide) (by decide) (by decide), x1 27 (by decide) (by decide) (by decide)]
        exact ⟨hn.2.1, hn.2.2⟩
      rcases join_pair (N := L1.length + L2.length) (L := L1 ++ L2) (f := τ 212 (σ 87 21) + m) Q4 hnS (by rw [x1 9 (by decide) (by decide) (by decide)]; omega) (by rw [x3, x2 11 (by decide)]; omega) (by omega) (by rw [y3]; omega) (by rw [x2 11 (by decide)]; exact x6) y4 l3 with ⟨d1, d2⟩ | ⟨Z, X, g, d1, d2, d3, d4, d5, d6⟩
      · exact Or.inr (fail _ _ 9 Q4 (fun a q => x1 a (by omega) (by omega) (by omega)) (by rw [x1 87 (by decide) (by decide) (by decide)]) (by rw [y2 119 (by decide), g119]) (by rw [eC, d1]) (by rw [eM, d2]))
      · left
        obtain ⟨f1, f2, f3, f4, f5, f6⟩ := val_fin (k := 2) (x := put1 σ2 L2 0 10) (t := 4) (y := g) (b0 := σ 87 8 - 2) (b1 := τ 119 125 - 2) (θ' := θ - 1) R st d2 (kqs.tr (x1 8 (by decide) (by decide) (by decide)) d3) (by omega) (by omega) (by omega) (by omega) hE ⟨by rw [i.1]; decide, by rw [i.1]; decide⟩ d1 (by omega) (by omega) (by rw [d4.1, x1 87 (by decide) (by decide) (by decide)]; omega)
        have Z8 : Z 87 8 = σ 87 8 := by rw [d4.2, s8]
        have X25 : ∀ i, i = 119 ∨ i = 120 ∨ i = 125 → X 119 i = τ 119 i := fun i q => by rw [d3.2.2.2.2.2.2.1 i (by omega), y2 i (by omega), g119]
        refine ⟨_, _, _, _, m, br', co', θ - 1, cG_of t6.1 w3 w1 w4 w2 ?_, mG_of t6.2.1 t6.2.2 (work_n (v := 0) t1 t2 en n2 ?_), f6, Or.inl (by omega), ?_, ?_⟩
        · rw [w5, mc_work_b203_e, eJ, eC, d5, mc_settle_e, Z8, wa, f1]
          simp only [Option.bind_some]
          rw [g01_1]
          simp only [Option.bind_some]
          rw [if_neg (show ¬ (1 : Int) = 0 by decide), mc_work_b211_e, puC_o (Or.inr (Or.inr ⟨rfl, by decide⟩)), gW_i (show (22 : Int) ≠ 8 by decide), w32_e (by omega) (by omega)]
        · rw [ewM, eM, d6, md_pairBecomes_e, X25 125 (by decide), wc, f2]
          simp only [Option.bind_some, gtry]
          rw [md_works_b98_e, puM_o (Or.inr (Or.inr ⟨rfl, by decide⟩)), gW_i (show (124 : Int) ≠ 125 by decide), f4, w32_e (by omega) (by omega)]
        · rw [gW_i (by decide), puM_o (Or.inr (Or.inr ⟨rfl, by decide⟩)), gW_i (by decide), X25 119 (by decide)]
        · rw [gW_i (by decide), puM_o (Or.inr (Or.inr ⟨rfl, by decide⟩)), gW_i (by decide), X25 120 (by decide)]
  · refine Or.inr (fail σ τ1 1 Q0 (fun _ _ => rfl) rfl (g119 119) ?_ ?_)
    · rw [mc_joins_e, wa, wb, if_pos (by omega), if_pos (by omega)]
      by_cases z : σ 88 (σ 87 8 - 2) < 5
      · rw [if_pos z, if_neg (fun y => lw ⟨z, y⟩), mc_joins_b34_e]
      · rw [if_neg z, mc_joins_b34_e]
    · rw [md_joins_e, g119, wc, wd, if_pos (by omega), g221, g221]
      by_cases z : σ 88 (σ 87 8 - 2) < 5
      · rw [if_neg (fun y => by have := tv1.2.mp y; omega), if_pos (by omega), if_pos (tv2.2.mpr (by omega)), md_joins_b30_e]
      · rw [if_pos (tv1.2.mpr (by omega)), md_joins_b30_e]
end JP
