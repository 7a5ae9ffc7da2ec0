/-! a property is read: both sides -/
section OG
variable {σ τ S T Z X : gM} {pT hT : Int → Int} {m : Nat} {br co θ n : Int}
theorem mc_work_7 : mc_work σ 7 n = ((mc_get σ n).bind fun p => if p.2 = 0 then (some (p.1, 0)) else (some (gW p.1 87 22 (w32 ((p.1 87 22) + 1)), 0))) := by
  rw [mc_work_e]; rfl
theorem mc_work_8 : mc_work σ 8 n = ((mc_put σ n).bind fun p => if p.2 = 0 then (some (p.1, 0)) else (some (gW p.1 87 22 (w32 ((p.1 87 22) + 1)), 0))) := by
  rw [mc_work_e]; rfl
theorem md_works_21 {i : Int} (kd : τ 168 n = 21) : md_works τ i n (τ 168 n) = ((md_gets τ i n).bind fun p => gtry p.2 (fun _ => some (p.1, some 0)) (some (p.1, none))) := by
  rw [md_works_e, kd, if_neg (by decide), if_pos (by decide), md_works_b109_e]
  rfl
theorem md_works_22 {i : Int} (kd : τ 168 n = 22) : md_works τ i n (τ 168 n) = ((md_puts τ i n).bind fun p => gtry p.2 (fun _ => some (p.1, some 0)) (some (p.1, none))) := by
  rw [md_works_e, kd, if_neg (by decide), if_pos (by decide), md_works_b109_e]
  rfl
/-- the name of a property: the node's own, or a string that was worked out -/
theorem name_pair {a b : Int} (Q : RQ σ τ pT hT) (hn : 0 ≤ n ∧ n < 16000) (h8 : n < σ 8 12) (k9 : σ 9 n = 21 ∨ σ 9 n = 22) (ha : 0 ≤ a ∧ a < 18239) (hb : 0 ≤ b ∧ b < 23999) (v : τ 171 n ≠ -1 → rVal σ τ (σ 88 (a + 1)) (σ 89 (a + 1)) (τ 221 (b + 1)) (τ 222 (b + 1))) :
    (τ 171 n ≠ -1 ∧ τ 221 (b + 1) ≠ 4 ∧ mc_nameAt σ n (a + 1) = some (σ, -1)) ∨ (∃ s w, (τ 171 n = -1 ∨ τ 221 (b + 1) = 4) ∧ vS σ s ∧ vM τ w ∧ cS σ s = mS τ w ∧ σ 3 s ≤ 200 ∧ 0 ≤ s ∧ mc_nameAt σ n (a + 1) = some (σ, s) ∧ md_nameAt τ n (b + 1) = some (τ, w)) := by
  have ks := (Q.1.1.1.2.2.2.2.2.2.2.2.2.2.2.2.2.2.1.1 n hn.1 h8).1.2 k9
  have n2 : 0 ≤ n ∧ n < 20000 := by omega
  have hi := Q.1.1.1.1.1
  rcases ks with ⟨k1, k2, k3, k4, k5, k6⟩ | ⟨k1, k2⟩
  · right
    have := hi.1
    refine ⟨σ 17 n, τ 177 n, Or.inl k1, Or.inl k3, Or.inl k4, k5, by omega, k3.1, ?_, ?_⟩
    · rw [mc_nameAt_e, if_pos hn, if_pos k2, if_pos hn, w32_e (by omega) (by omega)]
    · rw [md_nameAt_e, if_pos n2, if_pos k1, if_pos n2]
  · have nz : τ 171 n ≠ -1 := by omega
    have v := v nz
    by_cases z : σ 88 (a + 1) = 2
    · right
      have sv : τ 221 (b + 1) = 4 ∧ vS σ (σ 89 (a + 1)) ∧ vM τ (τ 222 (b + 1)) ∧ cS σ (σ 89 (a + 1)) = mS τ (τ 222 (b + 1)) ∧ σ 3 (σ 89 (a + 1)) ≤ 200 := by
        rcases v with q | q | q | q | q | q | q
        all_goals first | exact absurd q.1 (by omega) | exact q.2
      have hx := hi.v sv.2.1
      refine ⟨σ 89 (a + 1), τ 222 (b + 1), Or.inr sv.1, sv.2.1, sv.2.2.1, sv.2.2.2.1, sv.2.2.2.2, by omega, ?_, ?_⟩
      · rw [mc_nameAt_e, if_pos hn, if_neg (by omega), if_pos (by omega), if_pos z, if_pos (by omega), w32_e (by omega) (by omega)]
      · rw [md_nameAt_e, if_pos n2, if_neg nz, if_pos (by omega)]
    · left
      refine ⟨nz, fun y => z ?_, ?_⟩
      · rcases v with q | q | q | q | q | q | q
        all_goals first | exact q.1 | (have e := q.2.1; rw [e] at y; exact absurd y (by decide))
      · rw [mc_nameAt_e, if_pos hn, if_neg (by omega), if_pos (by omega), if_neg z]
theorem op_get {E h' br' co' q : Int} (R : RR σ τ pT hT (m + 1) br co θ) (en : τ 218 (τ 212 (σ 87 21) + m + 1) = n) (es : τ 219 (τ 212 (σ 87 21) + m + 1) = q) (hq : (q = 1 ∧ τ 171 n = -1) ∨ (q = 2 ∧ τ 171 n ≠ -1)) (hn : 0 ≤ n ∧ σ 26 (σ 90 (σ 87 21)) ≤ n ∧ n < σ 26 (σ 90 (σ 87 21)) + σ 27 (σ 90 (σ 87 21))) (st : St σ τ (σ 26 (σ 90 (σ 87 21))) (σ 26 (σ 90 (σ 87 21)) + σ 27 (σ 90 (σ 87 21))) (σ 28 (σ 90 (σ 87 21))) (σ 28 (σ 90 (σ 87 21)) + σ 29 (σ 90 (σ 87 21)) - 2) (τ 212 (σ 87 21)) m E h' br' co') (hh : hT (σ 87 21) = h' - 1 + q) (h1 : 1 ≤ h') (hb : h' ≤ 400) (hE : E = pT (σ 87 21) + 1) (kd : τ 168 n = 21) (i : cI σ (pT (σ 87 21)) 7 0 n) : goX σ τ θ ∨ endX σ τ := by
  obtain ⟨-, -, -, -, ⟨t1, t2⟩, t3, -, -, -, t6⟩ := R.top
  obtain ⟨c1, -, c2, pc, c5, c6, c7, c8, c9⟩ := R.cur
  obtain ⟨o', p1, p2, p3, p4, p5, p6⟩ := R.pl
  have Q := R.1
  have hIn := Q.1.1.1.2.2.2.2.2.2.2.2.2.2.1
  obtain ⟨o1, o2, o3, o4, -⟩ := Q.2.1.op rfl i hIn hIn.1.2
  have o4 : σ 20 (σ 87 22) = 7 := by
    rcases o4 with z | z | z
    · exact z
    · omega
    · omega
  have c8' := c9 n hn.2.1 hn.2.2
  have k9 : σ 9 n = 21 := by rw [← kd]; exact c8'.1.1.symm
  have n2 : 0 ≤ n ∧ n < 20000 := by omega
  have nb : 0 ≤ n ∧ n < 16000 := by omega
  have q12 : 1 ≤ q ∧ q ≤ 2 := by omega
  generalize eτ : gW τ 219 (τ 212 (σ 87 21) + m + 1) (q + 1) = τ1
  have gs : ∀ a j, a ≠ 219 ∨ j ≠ τ 212 (σ 87 21) + m + 1 → τ1 a j = τ a j := fun a j w => by
    rw [← eτ]
    rcases w with w | w
    · exact gW_c w
    · exact gW_j w
  have dd : smM τ τ1 (τ 212 (σ 87 21)) := by rw [← eτ]; exact smM.g219 (by omega)
  have cc : smC σ σ := ⟨fun _ _ _ _ _ _ => rfl, fun _ _ _ _ => rfl⟩
  have g119 : ∀ j, τ1 119 j = τ 119 j := fun j => gs 119 j (by omega)
  have g221 : ∀ j, τ1 221 j = τ 221 j := fun j => gs 221 j (by omega)
  have g222 : ∀ j, τ1 222 j = τ 222 j := fun j => gs 222 j (by omega)
  have g171 : τ1 171 n = τ 171 n := gs 171 n (by omega)
  have Q0 : RQ σ τ1 pT hT := by
    have := Q.sm (S := σ) (T := τ1) (P' := pT (σ 87 21)) (h' := hT (σ 87 21)) cc dd pc
    rw [updF_same, updF_same] at this
    exact this
  have ks := (Q0.1.1.1.2.2.2.2.2.2.2.2.2.2.2.2.2.2.1.1 n hn.1 c8'.2.2).1.2 (Or.inl k9)
  rw [g171] at ks
  have e14 : (σ 14 n = 1 ∧ q = 1) ∨ (σ 14 n = 0 ∧ q = 2) := by
    rcases ks with ⟨k1, k2, -⟩ | ⟨k1, k2⟩
    · left; omega
    · right; omega
  -- both sides' beginnings
  have eC : mc_get σ n = mc_get_b28 σ n (σ 87 8 - q) := by
    rw [mc_get_e, if_pos nb]
    rcases e14 with ⟨z1, z2⟩ | ⟨z1, z2⟩
    · rw [if_pos z1, w32_e (by omega) (by omega), z2]
    · rw [if_neg (by omega), w32_e (by omega) (by omega), z2]
  have eM : md_gets τ (τ 212 (σ 87 21) + m + 1) n = md_gets_b85 τ1 n (τ 119 125 - q) := by
    have e60 : md_gets_b60 τ1 n = md_gets_b85 τ1 n (τ 119 125 - q) := by
      rw [md_gets_b60_e, if_pos n2, g171, g119]
      rcases hq with ⟨z1, z2⟩ | ⟨z1, z2⟩
      · rw [if_pos z2, w32_e (by omega) (by omega), z1]
      · rw [if_neg z2, w32_e (by omega) (by omega), z1]
    rw [md_gets_e, if_pos t2, if_pos t2, if_pos t2, es, if_neg (by omega), w32_e (x := q + 1) (by omega) (by omega), eτ]
    rcases hq with ⟨z1, z2⟩ | ⟨z1, z2⟩
    · rw [if_pos z1, if_pos n2, if_pos z2, e60]
    · rw [if_neg (by omega), e60]
  have v0 := p2 (σ 87 8 - q) (by omega) (by omega)
  rw [show σ 87 8 - q + o' = τ 119 125 - q by omega] at v0
  have v0' := (smC.rv cc dd).mpr v0
  obtain ⟨kt0, k00, k06⟩ := v0.kt
  have ba : 0 ≤ σ 87 8 - q ∧ σ 87 8 - q < 18240 := by omega
  have bb : 0 ≤ τ 119 125 - q ∧ τ 119 125 - q < 24000 := by omega
  have fail : ∀ (S T : gM) (e : Int), RQ S T pT hT → ndX σ τ1 S T → mc_get σ n = ((mc_fails S e n).bind fun p => g01 p.2 (some (p.1, p.2))) → md_gets τ (τ 212 (σ 87 21) + m + 1) n = ((md_error T e n).bind fun p => gthr p.1 p.2) → endX σ τ := fun S T e f1 f2 f5 f6 => by
    obtain ⟨⟨x1, x2, x3, x4⟩, x5, x6, x7, x8, x9⟩ := f2
    refine f1.failX (e := e) (by rw [x2 21 (by decide), x1 90 (by decide), x1 26 (by decide), x1 27 (by decide)]; exact ⟨hn.2.1, hn.2.2⟩) t6.1 o1 o4 o3 (by decide) (fun f => ?_) t6.2.1 t6.2.2 t1 t2 en (fun f => ?_) (by rw [x8 119 (by decide), g119])
    · rw [mc_work_7, f5, f]; rfl
    · rw [md_works_21 kd, f6, f]; rfl
  by_cases k6 : σ 88 (σ 87 8 - q) = 6
  · have ob : τ 221 (τ 119 125 - q) = 6 ∧ σ 89 (σ 87 8 - q) = τ 222 (τ 119 125 - q) ∧ 0 ≤ σ 89 (σ 87 8 - q) ∧ σ 89 (σ 87 8 - q) < σ 87 31 := by
      rcases v0 with w | w | w | w | w | w | w
      all_goals first | exact absurd w.1 (by omega) | exact w.2
    obtain ⟨ob1, ob2, ob3⟩ := ob
    generalize eo : σ 89 (σ 87 8 - q) = o at ob2 ob3
    have hob := Q0.2.2.1.2
    have oo := hob.2 o ob3.1 ob3.2
    have ob4 : o < 400 := by have := hob.1; omega
    -- the name
    rcases name_pair (n := n) (a := σ 87 8 - q) (b := τ 119 125 - q) Q0 nb c8'.2.2 (Or.inl k9) (by omega) (by omega) (fun z => by
      rw [g171] at z
      have w := p2 (σ 87 8 - q + 1) (by omega) (by omega)
      rw [show σ 87 8 - q + 1 + o' = τ 119 125 - q + 1 by omega] at w
      exact (smC.rv cc dd).mpr (by rw [g221, g222]; exact w)) with ⟨z1, z2, z3⟩ | ⟨s, w, z1, z2, z3, z4, z5, z6, z7, z8⟩
    · rw [g171] at z1
      rw [g221] at z2
      refine Or.inr (fail σ τ1 1 Q0 ndX.rf ?_ ?_)
      · rw [eC, mc_get_b28_e, if_pos ba, if_pos k6, w32_e (by omega) (by omega), z3]
        simp only [Option.bind_some]
        rw [if_pos (by decide)]
      · rw [eM, md_gets_b85_e, if_pos bb, g221, if_pos ob1, if_pos n2, g171, if_neg z1, w32_e (by omega) (by omega), if_pos (by omega), g221, if_neg z2]
    · rw [g171, g221] at z1
      obtain ⟨S1, r, x1, x2, x3, x4, x5⟩ := Q0.nam z2 z3 z4
      have sh1 := x2.1.1.1.2.2.2.2.2.1
      have c100 : S1 100 o = σ 100 o := by rw [x4 100 (by decide) (by decide)]
      have hs : 0 ≤ σ 100 o ∧ σ 100 o < S1 42 6 := by rw [x4 42 (by decide) (by decide)]; exact oo.2.1
      have sn : ∀ k, sN S1 k = sN σ k := fun k => by unfold sN; rw [x4 48 (by decide) (by decide), x4 49 (by decide) (by decide), x4 50 (by decide) (by decide)]
      have x5' : (r = -1 ∧ ∀ k, 0 ≤ k → k < S1 42 10 → sN S1 k ≠ mS τ1 w) ∨ ((0 ≤ r ∧ r < S1 42 10) ∧ sN S1 r = mS τ1 w) := by
        simp only [sn]
        rw [x4 42 (by decide) (by decide)]
        exact x5
      have eP : md_propertyAt τ1 (σ 100 o) w = some (τ1, plc S1 (σ 100 o) r) := by
        rw [md_propertyAt_e]
        exact md_propertyAt_s sh1 x2.1.1.1.1.2.1 z3 x5' (σ 100 o).toNat (σ 100 o) (Nat.le_refl _) hs.2 hs.1
      have pr := plc_r (n := r) sh1 (σ 100 o).toNat (σ 100 o) (Nat.le_refl _) hs.2 hs.1
      have eG : mc_get σ n = mc_get_b111 S1 n (σ 87 8 - q) o r (plc S1 (σ 100 o) r) := by
        rw [eC, mc_get_b28_e, if_pos ba, if_pos k6, w32_e (by omega) (by omega), z7]
        simp only [Option.bind_some]
        rw [if_neg (by omega), if_pos ba, x1]
        simp only [Option.bind_some]
        rw [eo, w32_e (x := o) (by omega) (by omega)]
        by_cases r0 : r < 0
        · have rm : r = -1 := by
            rcases x5 with y | y
            · exact y.1
            · omega
          rw [if_pos r0, rm, plc_m sh1 (σ 100 o).toNat (σ 100 o) (Nat.le_refl _) hs.2]
        · rw [if_neg r0, if_pos (by omega), sp_place_e, c100, sp_place_s sh1 (σ 100 o).toNat (σ 100 o) (Nat.le_refl _) hs.2 hs.1]
          rfl
      have e136 : md_gets τ (τ 212 (σ 87 21) + m + 1) n = md_gets_b136 τ1 n (τ 119 125 - q) := by
        rw [eM, md_gets_b85_e, if_pos bb, g221, if_pos ob1, if_pos n2, g171]
        rcases z1 with y | y
        · rw [if_pos y]
        · by_cases y2 : τ 171 n = -1
          · rw [if_pos y2]
          · rw [if_neg y2, w32_e (by omega) (by omega), if_pos (by omega), g221, if_pos y]
      have eH : md_gets τ (τ 212 (σ 87 21) + m + 1) n = (if plc S1 (σ 100 o) r < 0 then ((md_error τ1 5 n).bind fun p6 => gthr p6.1 p6.2) else ((md_moves τ1 o).bind fun p3 => if 0 ≤ o ∧ o < 400 then ((md_enter p3.1 n (p3.1 193 o) (plc S1 (σ 100 o) r) (-1) 3).bind fun p4 => if 0 ≤ w32 ((w32 (12 * o)) + plc S1 (σ 100 o) r) ∧ w32 ((w32 (12 * o)) + plc S1 (σ 100 o) r) < 4800 then (if 0 ≤ w32 ((w32 (12 * o)) + plc S1 (σ 100 o) r) ∧ w32 ((w32 (12 * o)) + plc S1 (σ 100 o) r) < 4800 then ((md_push (gW p4.1 119 125 (τ 119 125 - q)) (p4.1 194 (w32 ((w32 (12 * o)) + plc S1 (σ 100 o) r))) (p4.1 195 (w32 ((w32 (12 * o)) + plc S1 (σ 100 o) r)))).bind fun p5 => some (gW p5.1 119 124 (w32 ((p5.1 119 124) - 1)), some 0)) else none) else none) else none)) := by
        rw [e136, md_gets_b136_e, if_pos bb, g222, ← ob2, w32_e (x := o) (by omega) (by omega), if_pos (by omega), w32_e (x := τ 119 125 - q + 1) (by omega) (by omega), z8]
        simp only [Option.bind_some]
        rw [oo.1, eP]
        rfl
      by_cases pn : plc S1 (σ 100 o) r < 0
      · refine Or.inr (fail S1 τ1 5 x2 x3 ?_ ?_)
        · rw [eG, mc_get_b111_e, if_pos pn]
        · rw [eH, if_pos pn]
      · left
        have r0 : 0 ≤ r ∧ r < S1 42 10 := by
          rcases x5' with y | y
          · exfalso
            apply pn
            rw [y.1, plc_m sh1 (σ 100 o).toNat (σ 100 o) (Nat.le_refl _) hs.2]
            decide
          · exact y.1
        obtain ⟨S2, T2, a1, a2, a3, a4, a5, a6, a7, a8, a9, a10, a11, a12⟩ := moves_b (o := o) (cn1 S1 (S1 100 o)) S1 τ1 x2 ob3.1 (by rw [x4 87 (by decide) (by decide)]; exact ob3.2) (Nat.le_refl _)
        have m1 : mc_moves S1 o = some (S2, 0) := by rw [mc_moves_e, ← mc_moves_b0_e]; exact a1
        have m2 : md_moves τ1 o = some (T2, 0) := by rw [md_moves_e, ← md_moves_b0_e]; exact a2
        have oo2 := a3.2.2.1.2.2 o ob3.1 (by rw [a6 31 (by decide), x4 87 (by decide) (by decide)]; exact ob3.2)
        have pl2 : ∀ s k, plc S2 s k = plc S1 s k := fun s k => plc_congr (a5 43 (by decide) (by decide)) (a5 44 (by decide) (by decide)) (a5 47 (by decide) (by decide)) s k
        have b26 : ∀ a, a ≠ 4 → a ≠ 5 → a ≠ 87 → a ≠ 100 → S2 a = σ a := fun a q1 q2 q3 q4 => by rw [a5 a q3 q4, x4 a q1 q2]
        have S21 : S2 87 21 = σ 87 21 := by rw [a6 21 (by decide), x4 87 (by decide) (by decide)]
        have nn := (a3.1.1.1.2.2.2.2.2.2.2.2.1.2.2 n hn.1 (by rw [b26 8 (by decide) (by decide) (by decide) (by decide)]; exact c8'.2.2))
        obtain ⟨S3, T3, u1, u2, u3, u4, u5, u6, -⟩ := a3.en (n := n) (x2 := 3) (x3 := S2 100 o) (x4 := r) (x5 := -1) (y2 := S2 100 o) (y3 := plc S1 (σ 100 o) r) (y4 := -1) (by rw [S21, b26 90 (by decide) (by decide) (by decide) (by decide), b26 26 (by decide) (by decide) (by decide) (by decide), b26 27 (by decide) (by decide) (by decide) (by decide)]; exact ⟨hn.2.1, hn.2.2⟩) ⟨rfl, Or.inr (Or.inl ⟨by rw [b26 9 (by decide) (by decide) (by decide) (by decide)]; exact k9, oo2.2.1, by rw [a5 42 (by decide) (by decide)]; exact r0, rfl, by rw [pl2, a12 r, c100], rfl, by omega⟩)⟩ (by decide) (fun z => by rw [b26 9 (by decide) (by decide) (by decide) (by decide)] at z; omega) (by have := nn.2.2.2.2.2.1; omega)
        have nd : ndX σ τ1 S3 T3 := (x3.tr a4).tr u4
        have nd' := nd
        obtain ⟨⟨y1, y2, y3, y4⟩, y5, y6, y7, y8, y9⟩ := nd'
        have e3 : ∀ a, a = 47 ∨ (100 ≤ a ∧ a ≤ 102) → S3 a = S2 a := fun a w => funext fun j => u5.1 a j (by omega) (by omega) (by omega) (by omega) (by omega) (by omega) (by omega) (by omega) (by omega) (by omega) (by omega)
        have f3 : ∀ a, 193 ≤ a → a ≤ 195 → T3 a = T2 a := fun a w1 w2 => funext fun j => u6.1 a j (by omega) (by omega) (by omega) (by omega) (by omega) (by omega) (by omega) (by omega) (by omega) (by omega)
        have oo3 := u3.2.2.1.2.2 o ob3.1 (by rw [u5.2.2.2.1 31 (by decide) (by decide) (by decide), a6 31 (by decide), x4 87 (by decide) (by decide)]; exact ob3.2)
        have p47 : S3 47 (S3 100 o) = S1 47 (σ 100 o) := by rw [e3 47 (by decide), e3 100 (by decide), a5 47 (by decide) (by decide), a11, c100]
        have val := oo3.2.2 (plc S1 (σ 100 o) r) (by omega) (by rw [p47]; rcases pr.1 with y | y <;> omega)
        have p12 : 0 ≤ plc S1 (σ 100 o) r ∧ plc S1 (σ 100 o) r < 12 := by rcases pr.1 with y | y <;> omega
        have wo : w32 (w32 (12 * o) + plc S1 (σ 100 o) r) = 12 * o + plc S1 (σ 100 o) r := by rw [w32_e (x := 12 * o) (by omega) (by omega), w32_e (by omega) (by omega)]
        obtain ⟨f1, f2, f3', f4, f5⟩ := R.fval (σ1 := σ) (τ1 := τ1) (b0 := σ 87 8 - q) (b1 := τ 119 125 - q) st u3 nd cc dd (fun _ _ _ => rfl) (fun a j w => gs a j (by omega)) (fun a j q1 q2 q3 => gs a j (by omega)) (g119 124) (by omega) (by omega) (by omega) (by omega) hE ⟨by rw [i.1]; decide, by rw [i.1]; decide⟩ val
        refine ⟨_, _, _, _, m, br', co', θ - 1, cG_of t6.1 o1 o4 o3 (by decide) ?_, mG_of t6.2.1 t6.2.2 (work_n (v := 0) t1 t2 en n2 ?_), f5, Or.inl (by omega), ?_, ?_⟩
        · rw [mc_work_7, eG, mc_get_b111_e, if_neg pn, m1]
          simp only [Option.bind_some]
          rw [if_pos (by omega), u1]
          simp only [Option.bind_some]
          rw [wo, if_pos (by omega), if_pos (by omega), f1]
          simp only [Option.bind_some]
          rw [if_neg (show ¬ (1 : Int) = 0 by decide), puC_o (Or.inr (Or.inr ⟨rfl, by decide⟩)), gW_i (show (22 : Int) ≠ 8 by decide), w32_e (by omega) (by omega)]
        · rw [md_works_21 kd, eH, if_neg pn, m2]
          simp only [Option.bind_some]
          rw [if_pos (by omega), oo2.1, u2]
          simp only [Option.bind_some]
          rw [wo, if_pos (by omega), if_pos (by omega), f2]
          simp only [Option.bind_some, gtry]
          rw [puM_o (Or.inr (Or.inr ⟨rfl, by decide⟩)), gW_i (show (124 : Int) ≠ 125 by decide), f4, w32_e (by omega) (by omega)]
        · rw [gW_i (by decide), puM_o (Or.inr (Or.inr ⟨rfl, by decide⟩)), gW_i (by decide), y8 119 (by decide), g119]
        · rw [gW_i (by decide), puM_o (Or.inr (Or.inr ⟨rfl, by decide⟩)), gW_i (by decide), y8 120 (by decide), g119]
  · have t6' : ¬ τ 221 (τ 119 125 - q) = 6 := by
      rw [kt0]
      unfold kT
      split
      · omega
      · split
        · omega
        · split <;> omega
    refine Or.inr (fail σ τ1 4 Q0 ndX.rf ?_ ?_)
    · rw [eC, mc_get_b28_e, if_pos ba, if_neg k6]
    · rw [eM, md_gets_b85_e, if_pos bb, g221, if_neg t6']
end OG
