/-! a property is written: both sides -/
section OPU
variable {σ τ S T Z X : gM} {pT hT : Int → Int} {m : Nat} {br co θ n : Int}
theorem op_put {E h' br' co' q : Int} (R : RR σ τ pT hT (m + 1) br co θ) (en : τ 218 (τ 212 (σ 87 21) + m + 1) = n) (es : τ 219 (τ 212 (σ 87 21) + m + 1) = 3) (hq : (q = 2 ∧ τ 171 n = -1) ∨ (q = 3 ∧ τ 171 n ≠ -1)) (hn : 0 ≤ n ∧ σ 26 (σ 90 (σ 87 21)) ≤ n ∧ n < σ 26 (σ 90 (σ 87 21)) + σ 27 (σ 90 (σ 87 21))) (st : St σ τ (σ 26 (σ 90 (σ 87 21))) (σ 26 (σ 90 (σ 87 21)) + σ 27 (σ 90 (σ 87 21))) (σ 28 (σ 90 (σ 87 21))) (σ 28 (σ 90 (σ 87 21)) + σ 29 (σ 90 (σ 87 21)) - 2) (τ 212 (σ 87 21)) m E h' br' co') (hh : hT (σ 87 21) = h' - 1 + q) (h1 : 1 ≤ h') (hb : h' ≤ 400) (hE : E = pT (σ 87 21) + 1) (kd : τ 168 n = 22) (i : cI σ (pT (σ 87 21)) 8 0 n) : goX σ τ θ ∨ endX σ τ := by
  obtain ⟨-, -, -, -, ⟨t1, t2⟩, t3, -, -, -, t6⟩ := R.top
  obtain ⟨c1, -, c2, pc, c5, c6, c7, c8, c9⟩ := R.cur
  obtain ⟨o', p1, p2, p3, p4, p5, p6⟩ := R.pl
  have Q := R.1
  have hIn := Q.1.1.1.2.2.2.2.2.2.2.2.2.2.1
  obtain ⟨o1, o2, o3, o4, -⟩ := Q.2.1.op rfl i hIn hIn.1.2
  have o4 : σ 20 (σ 87 22) = 8 := by
    rcases o4 with z | z | z
    · exact z
    · omega
    · omega
  have c8' := c9 n hn.2.1 hn.2.2
  have k9 : σ 9 n = 22 := by rw [← kd]; exact c8'.1.1.symm
  have n2 : 0 ≤ n ∧ n < 20000 := by omega
  have nb : 0 ≤ n ∧ n < 16000 := by omega
  have q12 : 2 ≤ q ∧ q ≤ 3 := by omega
  generalize eτ : gW τ 219 (τ 212 (σ 87 21) + m + 1) 4 = τ1
  have gs : ∀ a j, a ≠ 219 ∨ j ≠ τ 212 (σ 87 21) + m + 1 → τ1 a j = τ a j := fun a j w => by
    rw [← eτ]
    rcases w with w | w
    · exact gW_c w
    · exact gW_j w
  have dd : smM τ τ1 (τ 212 (σ 87 21)) := by rw [← eτ]; exact smM.g219 (by omega)
  have cc : smC σ σ := ⟨fun _ _ _ _ _ _ => rfl, fun _ _ _ _ => rfl⟩
  have g119 : ∀ j, τ1 119 j = τ 119 j := fun j => gs 119 j (by omega)
  have g221 : ∀ j, τ1 221 j = τ 221 j := fun j => gs 221 j (by omega)
  have g222 : ∀ j, τ1 222 j = τ 222 j := fun j => gs 222 j (by omega)
  have g171 : τ1 171 n = τ 171 n := gs 171 n (by omega)
  have Q0 : RQ σ τ1 pT hT := by
    have := Q.sm (S := σ) (T := τ1) (P' := pT (σ 87 21)) (h' := hT (σ 87 21)) cc dd pc
    rw [updF_same, updF_same] at this
    exact this
  have K0 : kq σ τ σ τ1 (τ 212 (σ 87 21) + m) := kq.sm cc dd (fun _ _ _ => rfl) (fun a j w => gs a j (by omega)) (fun a j q1 q2 q3 => gs a j (by omega)) (g119 124) (g119 125)
  have ks := (Q0.1.1.1.2.2.2.2.2.2.2.2.2.2.2.2.2.2.1.1 n hn.1 c8'.2.2).1.2 (Or.inr k9)
  rw [g171] at ks
  have e14 : (σ 14 n = 1 ∧ q = 2) ∨ (σ 14 n = 0 ∧ q = 3) := by
    rcases ks with ⟨k1, k2, -⟩ | ⟨k1, k2⟩
    · left; omega
    · right; omega
  -- both sides' beginnings
  have eC : mc_put σ n = mc_put_b28 σ n (σ 87 8 - q) := by
    rw [mc_put_e, if_pos nb]
    rcases e14 with ⟨z1, z2⟩ | ⟨z1, z2⟩
    · rw [if_pos z1, w32_e (by omega) (by omega), z2]
    · rw [if_neg (by omega), w32_e (by omega) (by omega), z2]
  have eM : md_puts τ (τ 212 (σ 87 21) + m + 1) n = md_puts_b96 τ1 n (τ 119 125 - q) := by
    rw [md_puts_e, if_pos t2, if_pos t2, if_pos t2, es, if_neg (by decide), if_pos n2, show w32 ((3 : Int) + 1) = 4 by decide, eτ]
    rcases hq with ⟨z1, z2⟩ | ⟨z1, z2⟩
    · rw [if_pos z2, w32_e (by omega) (by omega), z1]
    · rw [if_neg z2, w32_e (by omega) (by omega), z1]
  have v0 := p2 (σ 87 8 - q) (by omega) (by omega)
  rw [show σ 87 8 - q + o' = τ 119 125 - q by omega] at v0
  have v1 := p2 (σ 87 8 - 1) (by omega) (by omega)
  rw [show σ 87 8 - 1 + o' = τ 119 125 - 1 by omega] at v1
  have v1' := (smC.rv cc dd).mpr v1
  obtain ⟨kt0, k00, k06⟩ := v0.kt
  have ba : 0 ≤ σ 87 8 - q ∧ σ 87 8 - q < 18240 := by omega
  have bb : 0 ≤ τ 119 125 - q ∧ τ 119 125 - q < 24000 := by omega
  have wa : w32 (σ 87 8 - 1) = σ 87 8 - 1 := w32_e (by omega) (by omega)
  have wb : w32 (τ 119 125 - 1) = τ 119 125 - 1 := w32_e (by omega) (by omega)
  have fail : ∀ (S T : gM) (e : Int), RQ S T pT hT → kz σ τ1 S T (τ 212 (σ 87 21) + m) → mc_put σ n = ((mc_fails S e n).bind fun p => g01 p.2 (some (p.1, p.2))) → md_puts τ (τ 212 (σ 87 21) + m + 1) n = ((md_error T e n).bind fun p => gthr p.1 p.2) → endX σ τ := fun S T e f1 f2 f5 f6 => by
    obtain ⟨⟨⟨-, -, x26⟩, x90, x87, -, -, -, x119, -⟩, -⟩ := f2
    refine f1.failX (e := e) (by rw [x87 21 (by decide), x90 90 (by decide), x26 26 _ (by decide) (by decide) c2.2, x26 27 _ (by decide) (by decide) c2.2]; exact ⟨hn.2.1, hn.2.2⟩) t6.1 o1 o4 o3 (by decide) (fun f => ?_) t6.2.1 t6.2.2 t1 t2 en (fun f => ?_) (by rw [x119 119 (by decide), g119])
    · rw [mc_work_8, f5, f]; rfl
    · rw [md_works_22 kd, f6, f]; rfl
  by_cases k6 : σ 88 (σ 87 8 - q) = 6
  · have ob : τ 221 (τ 119 125 - q) = 6 ∧ σ 89 (σ 87 8 - q) = τ 222 (τ 119 125 - q) ∧ 0 ≤ σ 89 (σ 87 8 - q) ∧ σ 89 (σ 87 8 - q) < σ 87 31 := by
      rcases v0 with w | w | w | w | w | w | w
      all_goals first | exact absurd w.1 (by omega) | exact w.2
    obtain ⟨ob1, ob2, ob3⟩ := ob
    generalize eo : σ 89 (σ 87 8 - q) = o at ob2 ob3
    have hob := Q0.2.2.1.2
    have oo := hob.2 o ob3.1 ob3.2
    have ob4 : o < 400 := by have := hob.1; omega
    -- the name
    rcases name_pair (n := n) (a := σ 87 8 - q) (b := τ 119 125 - q) Q0 nb c8'.2.2 (Or.inr k9) (by omega) (by omega) (fun z => by
      rw [g171] at z
      have w := p2 (σ 87 8 - q + 1) (by omega) (by omega)
      rw [show σ 87 8 - q + 1 + o' = τ 119 125 - q + 1 by omega] at w
      exact (smC.rv cc dd).mpr (by rw [g221, g222]; exact w)) with ⟨z1, z2, z3⟩ | ⟨s, w, z1, z2, z3, z4, z5, z6, z7, z8⟩
    · rw [g171] at z1
      rw [g221] at z2
      refine Or.inr (fail σ τ1 1 Q0 kz.rf ?_ ?_)
      · rw [eC, mc_put_b28_e, if_pos ba, if_pos k6, w32_e (by omega) (by omega), z3]
        simp only [Option.bind_some]
        rw [if_pos (by decide)]
      · rw [eM, md_puts_b96_e, if_pos bb, g221, if_pos ob1, if_pos n2, g171, if_neg z1, w32_e (by omega) (by omega), if_pos (by omega), g221, if_neg z2]
    · rw [g171, g221] at z1
      obtain ⟨S1, r, x1, x2, x3, x4, x5⟩ := Q0.nam z2 z3 z4
      have sh1 := x2.1.1.1.2.2.2.2.2.1
      have c100 : S1 100 o = σ 100 o := by rw [x4 100 (by decide) (by decide)]
      have hs : 0 ≤ S1 100 o ∧ S1 100 o < S1 42 6 := by rw [c100, x4 42 (by decide) (by decide)]; exact oo.2.1
      have sn : ∀ k, sN S1 k = sN σ k := fun k => by unfold sN; rw [x4 48 (by decide) (by decide), x4 49 (by decide) (by decide), x4 50 (by decide) (by decide)]
      have x5' : (r = -1 ∧ ∀ k, 0 ≤ k → k < S1 42 10 → sN S1 k ≠ mS τ1 w) ∨ ((0 ≤ r ∧ r < S1 42 10) ∧ sN S1 r = mS τ1 w) := by
        simp only [sn]
        rw [x4 42 (by decide) (by decide)]
        exact x5
      obtain ⟨l, l1, l2, l3, l4, l5, l6⟩ := sp_last_s sh1 (cn1 S1 (S1 100 o)) (S1 100 o) (Nat.le_refl _) hs.2 hs.1
      have l200 : 0 ≤ l ∧ l < 200 := by have := sh1.1; omega
      have eP : md_propertyAt τ1 l w = some (τ1, plc S1 l r) := by
        rw [md_propertyAt_e]
        exact md_propertyAt_s sh1 x2.1.1.1.1.2.1 z3 x5' l.toNat l (Nat.le_refl _) l3.2 l3.1
      have pr := plc_r (n := r) sh1 l.toNat l (Nat.le_refl _) l3.2 l3.1
      generalize ek : σ 88 (σ 87 8 - 1) = k at v1'
      generalize ex : σ 89 (σ 87 8 - 1) = x at v1'
      generalize et : τ 221 (τ 119 125 - 1) = t at v1'
      generalize ey : τ 222 (τ 119 125 - 1) = y at v1'
      have eG : mc_put σ n = mc_put_b148 S1 n (σ 87 8 - q) s o k x l (plc S1 l r) := by
        rw [eC, mc_put_b28_e, if_pos ba, if_pos k6, w32_e (x := σ 87 8 - q + 1) (by omega) (by omega), z7]
        simp only [Option.bind_some]
        rw [if_neg (by omega), if_pos ba, wa, if_pos (by omega), if_pos (by omega), x1]
        simp only [Option.bind_some]
        rw [eo, w32_e (x := o) (by omega) (by omega), if_pos (by omega), sp_last_e, l1]
        simp only [Option.bind_some]
        rw [ek, ex]
        by_cases r0 : r < 0
        · have rm : r = -1 := by
            rcases x5 with y | y
            · exact y.1
            · omega
          rw [if_pos r0, rm, plc_m sh1 l.toNat l (Nat.le_refl _) l3.2]
        · rw [if_neg r0, sp_place_e, sp_place_s sh1 l.toNat l (Nat.le_refl _) l3.2 l3.1]
          rfl
      have e147 : md_puts τ (τ 212 (σ 87 21) + m + 1) n = md_puts_b147 τ1 n (τ 119 125 - q) := by
        rw [eM, md_puts_b96_e, if_pos bb, g221, if_pos ob1, if_pos n2, g171]
        rcases z1 with y | y
        · rw [if_pos y]
        · by_cases y2 : τ 171 n = -1
          · rw [if_pos y2]
          · rw [if_neg y2, w32_e (by omega) (by omega), if_pos (by omega), g221, if_pos y]
      have eH : md_puts τ (τ 212 (σ 87 21) + m + 1) n = (if plc S1 l r < 0 then (if 0 ≤ l ∧ l < 200 then (if τ1 191 l = 12 then ((md_error τ1 9 n).bind fun p11 => gthr p11.1 p11.2) else (if t = 2 then (md_puts_b257 τ1 n (τ 119 125 - q) o t y w l (τ1 191 l) 1) else (md_puts_b257 τ1 n (τ 119 125 - q) o t y w l (τ1 191 l) 3))) else none) else ((md_withLast τ1 l (plc S1 l r)).bind fun p4 => if 0 ≤ p4.2 ∧ p4.2 < 200 then (if p4.1 189 p4.2 = 3 then (md_puts_b373 p4.1 n (τ 119 125 - q) o t y l (plc S1 l r)) else (if t = 2 then (md_puts_b373 p4.1 n (τ 119 125 - q) o t y l (plc S1 l r)) else ((md_lacking p4.1 l (plc S1 l r)).bind fun p5 => if 200 < w32 ((p4.1 119 94) + p5.2) then ((md_error p5.1 9 n).bind fun p10 => gthr p10.1 p10.2) else ((md_moves p5.1 o).bind fun p6 => (md_heirComes p6.1 l (plc S1 l r)).bind fun p7 => if 0 ≤ l ∧ l < 200 then ((md_endCodesOfShape (gW p7.1 190 l p7.2) l).bind fun p8 => (md_moves p8.1 o).bind fun p9 => md_puts_b458 p9.1 (τ 119 125 - q) o t y (plc S1 l r)) else none)))) else none)) := by
        rw [e147, md_puts_b147_e, if_pos bb, g119, wb, if_pos (by omega), if_pos (by omega), g222, ← ob2, w32_e (x := o) (by omega) (by omega), w32_e (x := τ 119 125 - q + 1) (by omega) (by omega), z8]
        simp only [Option.bind_some]
        rw [if_pos (by omega), oo.1, ← c100, md_heirOf_e, l2]
        simp only [Option.bind_some]
        rw [eP, g221, g222, et, ey]
        rfl
      have hn1 : S1 26 (S1 90 (S1 87 21)) ≤ n ∧ n < S1 26 (S1 90 (S1 87 21)) + S1 27 (S1 90 (S1 87 21)) := by
        rw [x4 26 (by decide) (by decide), x4 27 (by decide) (by decide), x4 90 (by decide) (by decide), x4 87 (by decide) (by decide)]
        exact ⟨hn.2.1, hn.2.2⟩
      have k91 : S1 9 n = 22 := by rw [x4 9 (by decide) (by decide)]; exact k9
      have ho1 : 0 ≤ o ∧ o < S1 87 31 := by rw [x4 87 (by decide) (by decide)]; exact ob3
      have vv := x3.2.2.2.2.2 _ _ _ _ v1'
      have hv1 : vS S1 s := by unfold vS at z2 ⊢; rw [x4 0 (by decide) (by decide)]; exact z2
      have he1 : cS S1 s = mS τ1 w := by rw [cS_congr (x4 1 (by decide) (by decide)) (x4 2 (by decide) (by decide)) (x4 3 (by decide) (by decide))]; exact z4
      have kz1 : kz σ τ1 S1 τ1 (τ 212 (σ 87 21) + m) := kz.nd x3 (x4 8 (by decide) (by decide))
      have out : pOut S1 τ1 pT hT n (σ 87 8 - q) (τ 119 125 - q) o k x t y (τ 212 (σ 87 21) + m) (mc_put σ n) (md_puts τ (τ 212 (σ 87 21) + m + 1) n) := by
        obtain ⟨kt, k0, k6'⟩ := v1'.kt
        have tk : t = 2 ↔ k = 0 := by
          rw [kt]
          unfold kT
          split
          · omega
          · split
            · omega
            · split <;> omega
        by_cases pn : plc S1 l r < 0
        · rw [eG, eH, if_pos pn, mc_put_b148_e, if_pos pn, mc_put_b183_e]
          exact put_new x2 hn1 k91 ho1 vv l3 l5 hv1 z3 he1 (by rw [x4 3 (by decide) (by decide)]; exact z5) pn
        · have r0 : (0 ≤ r ∧ r < S1 42 10) ∧ sN S1 r = mS τ1 w := by
            rcases x5' with y | y
            · exfalso
              apply pn
              rw [y.1, plc_m sh1 l.toNat l (Nat.le_refl _) l3.2]
              decide
            · exact y
          have pp : 0 ≤ plc S1 l r ∧ plc S1 l r < S1 47 l := by rcases pr.1 with y | y <;> omega
          have l1' := many_1 sh1 l3.1 l3.2 (by omega)
          obtain ⟨u, u1, u2, u3, u4⟩ := sp_sortAt_s sh1 pp.1 l.toNat l (Nat.le_refl _) l3.2 l1' pp.2
          have u2' := md_withLast_s sh1 (p := plc S1 l r) (by have := pr.2; omega) l.toNat l (Nat.le_refl _) l3.1 l3.2
          rw [u2] at u2'
          have ea : u = anc S1 l (plc S1 l r) := congrArg Prod.snd (Option.some.inj u2')
          have tr := sh1.2.2.2.2.1 u u3.1 u3.2
          have u200 : 0 ≤ u ∧ u < 200 := by have := sh1.1; omega
          rw [eG, eH, if_neg pn, mc_put_b148_e, if_neg pn, md_withLast_e, u2]
          simp only [Option.bind_some]
          rw [if_pos u200, tr.2.2.2.2.1]
          have there : pOut S1 τ1 pT hT n (σ 87 8 - q) (τ 119 125 - q) o k x t y (τ 212 (σ 87 21) + m) (mc_put_b183 S1 n (σ 87 8 - q) s o k x l (plc S1 l r) l) (md_puts_b373 τ1 n (τ 119 125 - q) o t y l (plc S1 l r)) := by
            rw [mc_put_b183_e, mc_put_b184_e, if_neg pn, mc_put_b231_e, if_neg pn, if_pos rfl]
            exact put_there x2 hn1 k91 ho1 vv l3 l4 l1 hv1 z3 he1 r0 rfl pp.1
          by_cases k0 : k = 0
          · rw [if_pos k0, if_pos (tk.mpr k0), ite_self]
            exact there
          · rw [if_neg k0, if_neg (fun y => k0 (tk.mp y)), sp_sortAt_e, u1]
            simp only [Option.bind_some]
            by_cases u45 : S1 45 u = 1
            · rw [if_pos u45, if_neg (by omega), mc_put_b184_e, if_neg pn]
              exact put_wide x2 ho1 vv l3 pp (by rw [← ea]; exact u45)
            · rw [if_neg u45, if_pos (by have := tr.2.2.2.1; omega)]
              exact there
      rcases out with ⟨S, a1, a2, a3, a4⟩ | ⟨S, T, p, a0, a1, a2, a3, a4⟩
      · exact Or.inr (fail S τ1 9 a1 (kz1.tr a2) a3 a4)
      · left
        have K2 := kz1.tr a2
        obtain ⟨f1, f2, f3, f4, f5, f6⟩ := val_fin (k := k) (x := x) (t := t) (y := y) (b0 := σ 87 8 - q) (b1 := τ 119 125 - q) (θ' := θ - 1) R st a1 (K0.tr rfl K2.1) (by omega) (by omega) (by omega) (by omega) hE ⟨by rw [i.1]; decide, by rw [i.1]; decide⟩ (a2.1.2.2.2.2.2.2.2.2 _ _ _ _ vv) (by omega) (by omega) (by rw [K2.2.2]; omega)
        have wo : w32 (w32 (12 * o) + p) = 12 * o + p := by rw [w32_e (x := 12 * o) (by omega) (by omega), w32_e (by omega) (by omega)]
        have X25 : ∀ j, j = 119 ∨ j = 120 → wrM T o p t y 119 j = τ 119 j := fun j w => by rw [K2.1.2.2.2.2.2.2.1 j (by omega), g119]
        refine ⟨_, _, _, _, m, br', co', θ - 1, cG_of t6.1 o1 o4 o3 (by decide) ?_, mG_of t6.2.1 t6.2.2 (work_n (v := 0) t1 t2 en n2 ?_), f6, Or.inl (by omega), ?_, ?_⟩
        · rw [mc_work_8, a3, mc_put_b371_e, wo, if_pos (by omega), if_pos (by omega)]
          show ((((mc_push (gW (wrC S o p k x) 87 8 (σ 87 8 - q)) k x).bind fun p1 => some (p1.1, 1)).bind fun p => if p.2 = 0 then (some (p.1, 0)) else (some (gW p.1 87 22 (w32 ((p.1 87 22) + 1)), 0)))) = _
          rw [f1]
          simp only [Option.bind_some]
          rw [if_neg (show ¬ (1 : Int) = 0 by decide), puC_o (Or.inr (Or.inr ⟨rfl, by decide⟩)), gW_i (show (22 : Int) ≠ 8 by decide), w32_e (by omega) (by omega)]
        · rw [md_works_22 kd, a4, md_puts_b458_e, wo, if_pos (by omega), if_pos (by omega)]
          show ((((md_push (gW (wrM T o p t y) 119 125 (τ 119 125 - q)) t y).bind fun p1 => some (gW p1.1 119 124 (w32 ((p1.1 119 124) - 1)), some 0)).bind fun p => gtry p.2 (fun _ => some (p.1, some 0)) (some (p.1, none)))) = _
          rw [f2]
          simp only [Option.bind_some, gtry]
          rw [puM_o (Or.inr (Or.inr ⟨rfl, by decide⟩)), gW_i (show (124 : Int) ≠ 125 by decide), f4, w32_e (by omega) (by omega)]
        · rw [gW_i (by decide), puM_o (Or.inr (Or.inr ⟨rfl, by decide⟩)), gW_i (by decide), X25 119 (by decide)]
        · rw [gW_i (by decide), puM_o (Or.inr (Or.inr ⟨rfl, by decide⟩)), gW_i (by decide), X25 120 (by decide)]
  · have t6' : ¬ τ 221 (τ 119 125 - q) = 6 := by
      rw [kt0]
      unfold kT
      split
      · omega
      · split
        · omega
        · split <;> omega
    refine Or.inr (fail σ τ1 4 Q0 kz.rf ?_ ?_)
    · rw [eC, mc_put_b28_e, if_pos ba, if_neg k6]
    · rw [eM, md_puts_b96_e, if_pos bb, g221, if_neg t6']
end OPU
