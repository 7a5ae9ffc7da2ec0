/-! a property is written: wider shapes, new properties -/
section PU3
variable {σ τ S T Z X : gM} {pT hT : Int → Int} {n o f : Int}
/-- a property that held longs holds anything from now on -/
theorem put_wide {a b s k x t y l p : Int} (R : RQ σ τ pT hT) (ho : 0 ≤ o ∧ o < σ 87 31) (v : rVal σ τ k x t y) (hl : 0 ≤ l ∧ l < σ 42 6) (hp : 0 ≤ p ∧ p < σ 47 l) (h45 : σ 45 (anc σ l p) = 1) :
    pOut σ τ pT hT n a b o k x t y f (mc_put_b231 σ n a s o k x l p l 1) ((md_lacking τ l p).bind fun p5 => if 200 < w32 ((τ 119 94) + p5.2) then ((md_error p5.1 9 n).bind fun p10 => gthr p10.1 p10.2) else ((md_moves p5.1 o).bind fun p6 => (md_heirComes p6.1 l p).bind fun p7 => if 0 ≤ l ∧ l < 200 then ((md_endCodesOfShape (gW p7.1 190 l p7.2) l).bind fun p8 => (md_moves p8.1 o).bind fun p9 => md_puts_b458 p9.1 b o t y p) else none)) := by
  have sh := R.1.1.1.2.2.2.2.2.1
  have hca := R.1.1.1.2.2.2.2.2.2.1
  obtain ⟨hi, hm, h8⟩ := R.1.1.1.1
  have oo := R.2.2.1.2.2 o ho.1 ho.2
  have o400 : 0 ≤ o ∧ o < 400 := by have := R.2.2.1.2.1; omega
  have l200 : 0 ≤ l ∧ l < 200 := by have := sh.1; omega
  have e94 : τ 119 94 = σ 42 6 := sh.1.2.2
  have ml := many_r sh hl.1 hl.2
  obtain ⟨m, m0, m1, m2, m3⟩ := sp_wider_s sh hm h8 hl.1 hl.2 hp h45
  have wm : w32 (τ 119 94 + m) = σ 42 6 + m := by rw [e94, w32_e (by have := sh.1; omega) (by have := sh.1; omega)]
  have eC : mc_put_b231 σ n a s o k x l p l 1 = ((sp_wider σ l p).bind fun p1 => mc_put_b260 p1.1 n a s o k x l p p1.2 1) := by
    rw [mc_put_b231_e, if_neg (by omega), if_neg (by decide)]
  by_cases big : 200 < σ 42 6 + m
  · left
    obtain ⟨S1, s1, s2⟩ := m2 big
    have c : ∀ a, a ≠ 51 → S1 a = σ a := fun a q => funext fun i => s2 a i q
    have cs : ∀ q, cS S1 q = cS σ q := cS_congr (c 1 (by decide)) (c 2 (by decide)) (c 3 (by decide))
    have sn : ∀ q, sN S1 q = sN σ q := sN_congr (c 48 (by decide)) (c 49 (by decide)) (c 50 (by decide))
    have F : shF σ τ S1 τ := by
      refine ⟨⟨hI_same hi fun a q => c a (by omega), hm, h8⟩, ⟨sh.mv (fun a q1 q2 => c a (by omega)) (fun _ _ _ => rfl) rfl (fun r hr => ⟨hr, rfl, rfl, rfl⟩) hm.1.2, fun q hq => ?_⟩, ⟨fun a q1 _ _ => c a (by omega), by rw [c 42 (by decide)]; exact ⟨Int.le_refl _, Int.le_refl _⟩, fun q _ _ => ⟨by rw [c 47 (by decide)], fun j => plc_congr (c 43 (by decide)) (c 44 (by decide)) (c 47 (by decide)) q j⟩⟩, fun _ _ _ _ => rfl, fun _ _ _ _ => rfl, fun r hr => ⟨hr, rfl, rfl, rfl⟩, ⟨Int.le_refl _, by rw [c 42 (by decide)]; exact Int.le_refl _⟩, by rw [c 42 (by decide)]; exact Int.le_refl _⟩
      have hq' : vS σ q := by unfold vS at hq ⊢; rw [c 0 (by decide)] at hq; exact hq
      simp only [cs, sn]
      rw [c 4 (by decide), c 5 (by decide), c 42 (by decide)]
      exact hca q hq'
    obtain ⟨Q1, K1⟩ := R.sh (f := f) F
    refine ⟨S1, Q1, kz.sh K1 F, ?_, ?_⟩
    · rw [eC, s1]
      simp only [Option.bind_some]
      rw [mc_put_b260_e, if_pos (by decide)]
    · rw [m1]
      simp only [Option.bind_some]
      rw [wm, if_pos big]
  · right
    obtain ⟨S2', T2, a1, a2, a3, a4, a5, a6, a7, a8, a9, a10, a11, a12⟩ := moves_b (o := o) (cn1 σ (σ 100 o)) σ τ R ho.1 ho.2 (Nat.le_refl _)
    have mm : md_moves τ o = some (T2, 0) := by rw [md_moves_e, ← md_moves_b0_e]; exact a2
    have ms2 : ∀ r, mS T2 r = mS τ r := fun r => mS_mv fun a q1 q2 => a8 a (by omega) (by omega)
    have t119 : T2 119 = τ 119 := a8 119 (by decide) (by decide)
    have sh2 : rSh σ T2 := sh.mv (fun _ _ _ => rfl) (fun a q1 q2 => a8 a (by omega) (by omega)) (by rw [t119]) (fun r hr => ⟨by unfold vM at hr ⊢; rw [t119]; exact hr, ms2 r, by rw [a8 122 (by decide) (by decide)], by rw [a8 123 (by decide) (by decide)]⟩) hm.1.2
    have hm2 : mI T2 := mI_mv hm (by rw [t119]) (by rw [t119]) (by rw [t119]) (by rw [t119]) fun a q1 q2 => a8 a (by omega) (by omega)
    obtain ⟨m', m0', -, m2', m3'⟩ := sp_wider_s sh2 hm2 (by rw [a8 121 (by decide) (by decide)]; exact h8) hl.1 hl.2 hp h45
    obtain ⟨S0, T0, t0, g1, -, g3, -⟩ := m3 (by omega)
    by_cases big' : 200 < σ 42 6 + m'
    · exfalso
      obtain ⟨S1, s1, -⟩ := m2' big'
      rw [s1] at g1
      have e : (-1 : Int) = t0 := congrArg Prod.snd (Option.some.inj g1)
      have := g3.2.2.2.2.2.2.2.2.2.2.2.2.2.2.2.2.1
      omega
    · obtain ⟨S1, T', nw, n1, n2, W, -⟩ := m3' (by omega)
      obtain ⟨W1, W2, W3, W4, W5, W6, W7, W8, W9, -, W11, W12, W13, W14, W15, W16, W17, W18, W19, W20, W21, W22⟩ := W
      have c : ∀ a, (a < 42 ∨ 47 < a) → a ≠ 51 → S1 a = σ a := fun a q1 q2 => funext fun i => W9 a i q1 q2
      have cs : ∀ q, cS S1 q = cS σ q := cS_congr (c 1 (by decide) (by decide)) (c 2 (by decide) (by decide)) (c 3 (by decide) (by decide))
      have sn : ∀ q, sN S1 q = sN σ q := sN_congr (c 48 (by decide) (by decide)) (c 49 (by decide) (by decide)) (c 50 (by decide) (by decide))
      have dT : ∀ a, a ≠ 119 → (a < 121 ∨ 126 < a) → (a < 188 ∨ 192 < a) → T' a = T2 a := fun a q1 q2 q3 => by
        by_cases z : a = 120
        · rw [z, W14]
        · exact funext fun i => W13 a i (by omega) q3
      have F : shF σ T2 S1 T' := by
        refine ⟨⟨hI_same hi fun a q => c a (by omega) (by omega), W2, W4⟩, ⟨W1, fun q hq => ?_⟩, ⟨fun a q1 _ _ => c a (by omega) (by omega), ⟨W8, by omega⟩, fun q q0 q1 => ⟨(W5 q q1).2.2.2.2.1, fun j => W21 q j q1⟩⟩, dT, W15, W3, ⟨by omega, by omega⟩, by omega⟩
        have hq' : vS σ q := by unfold vS at hq ⊢; rw [c 0 (by decide) (by decide)] at hq; exact hq
        simp only [cs, sn]
        rw [c 4 (by decide) (by decide), c 5 (by decide) (by decide), W6]
        exact hca q hq'
      obtain ⟨S3, v1, v2, v3, v4, v5, v6, v7⟩ := mv_late (f := f) R ho a2 a8 F (fun q q0 q1 => (W5 q q1).2.2.2.1) (dT 193 (by decide) (by decide) (by decide)) (dT 224 (by decide) (by decide) (by decide))
      have mv1 : mc_moves S1 o = some (S3, 0) := by rw [mc_moves_e, ← mc_moves_b0_e]; exact v1
      -- the heir is noted
      have sh3 := v2.1.1.1.2.2.2.2.2.1
      have pl3 : ∀ q j, plc S3 q j = plc S1 q j := plc_congr (v4 43 (by decide) (by decide)) (v4 44 (by decide) (by decide)) (v4 47 (by decide) (by decide))
      have cn3 : ∀ q, cn1 S3 q = cn1 S1 q := cn1_congr (v4 43 (by decide) (by decide)) (v4 45 (by decide) (by decide))
      have pa := pre_all sh hl.1 hl.2
      rw [pa] at W19 W20
      rw [if_pos hp.2] at W20
      have e426 : S3 42 6 = S1 42 6 := by rw [v4 42 (by decide) (by decide)]
      have hR := rSh_heir sh3 (sh := l) (t := nw) (by rw [e426]; omega) (by rw [e426]; exact W17) (by rw [v4 47 (by decide) (by decide), W18, (W5 l hl.2).2.2.2.2.1]) (by rw [cn3, cn3, W22 l hl.2]; omega) (fun q => by rw [pl3, pl3, W19, W21 l q hl.2])
      have F2 : shF S3 T' (gW S3 46 l nw) (gW T' 190 l nw) := by
        have P3 := v2.1.1.1
        have g : ∀ a, a ≠ 46 → gW S3 46 l nw a = S3 a := fun a q => gW_cell q
        have gt : ∀ a, a ≠ 190 → gW T' 190 l nw a = T' a := fun a q => gW_cell q
        have cs' : ∀ q, cS (gW S3 46 l nw) q = cS S3 q := cS_congr (g 1 (by decide)) (g 2 (by decide)) (g 3 (by decide))
        have sn' : ∀ q, sN (gW S3 46 l nw) q = sN S3 q := sN_congr (g 48 (by decide)) (g 49 (by decide)) (g 50 (by decide))
        refine ⟨⟨hI_same P3.1.1 fun a q => g a (by omega), mI_mv P3.1.2.1 (by rw [gt 119 (by decide)]) (by rw [gt 119 (by decide)]) (by rw [gt 119 (by decide)]) (by rw [gt 119 (by decide)]) fun a q1 q2 => gt a (by omega), by rw [gt 121 (by decide)]; exact P3.1.2.2⟩, ⟨hR, fun q hq => ?_⟩, ⟨fun a q1 _ _ => g a (by omega), by rw [g 42 (by decide)]; exact ⟨Int.le_refl _, Int.le_refl _⟩, fun q _ _ => ⟨by rw [g 47 (by decide)], fun j => plc_congr (g 43 (by decide)) (g 44 (by decide)) (g 47 (by decide)) q j⟩⟩, fun a _ _ q3 => gt a (by omega), fun i _ _ _ => by rw [gt 119 (by decide)], fun r hr => ⟨by unfold vM at hr ⊢; rw [gt 119 (by decide)]; exact hr, mS_mv fun a q1 q2 => gt a (by omega), by rw [gt 122 (by decide)], by rw [gt 123 (by decide)]⟩, ⟨by rw [gt 119 (by decide)]; exact Int.le_refl _, by rw [gt 119 (by decide), g 42 (by decide)]; exact Int.le_refl _⟩, by rw [gt 119 (by decide), g 42 (by decide)]; exact Int.le_refl _⟩
        have hq' : vS S3 q := by unfold vS at hq ⊢; rw [g 0 (by decide)] at hq; exact hq
        simp only [cs', sn']
        rw [g 4 (by decide), g 5 (by decide), g 42 (by decide)]
        exact P3.2.2.2.2.2.2.1 q hq'
      obtain ⟨Q4, K4⟩ := v2.sh (f := f) F2
      have kz4 := kz.sh K4 F2
      have c4 : ∀ a, a ≠ 46 → gW S3 46 l nw a = S3 a := fun a q => gW_cell q
      generalize eS4 : gW S3 46 l nw = S4 at Q4 kz4 c4
      generalize eT4 : gW T' 190 l nw = T4 at Q4 kz4
      -- codes end
      have hb4 := Q4.1.1.1.2.2.2.2.2.2.2.1
      have hN4 := Q4.1.1.1.2.2.2.2.2.2.2.2.1
      have c52 := hb4.2.1
      obtain ⟨S5, T5, d1, d2, d3, d4, d5, d6⟩ := cd_obsolete_s (s := l) hl.1 (S4 52 10).toNat S4 T4 0 hb4 hN4 (Int.le_refl _) (by omega)
      obtain ⟨Q5, nd5⟩ := Q4.ef d3 d4 d5 d6
      have c5 : ∀ a, a ≠ 32 → a ≠ 34 → a ≠ 61 → S5 a = S4 a := fun a q1 q2 q3 => funext fun i => d4 a i q1 q2 q3
      have o31 : S5 87 31 = σ 87 31 := by rw [c5 87 (by decide) (by decide) (by decide), c4 87 (by decide), v5 31 (by decide), c 87 (by decide) (by decide)]
      obtain ⟨S6, T6, f1, f2, f3, f4, f5, f6, -⟩ := moves_b (o := o) (cn1 S5 (S5 100 o)) S5 T5 Q5 ho.1 (by rw [o31]; exact ho.2) (Nat.le_refl _)
      have kA : kz σ τ S6 T6 f := ((v3.tr kz4).tr (kz.nd nd5 (c5 8 (by decide) (by decide) (by decide)))).tr (kz.nd f4 (f5 8 (by decide) (by decide)))
      obtain ⟨z1, z2⟩ := put_at (f := f) (p := p) f3 (by rw [f6 31 (by decide), o31]; exact ho) (by omega) (kA.1.2.2.2.2.2.2.2.2 _ _ _ _ v)
      refine ⟨S6, T6, p, by omega, z1, kA.tr z2, ?_, ?_⟩
      · rw [eC, n1]
        simp only [Option.bind_some]
        rw [mc_put_b260_e, if_neg (by omega), mv1]
        simp only [Option.bind_some]
        rw [if_neg (by decide), if_pos l200, eS4, cd_obsolete_e, d1]
        simp only [Option.bind_some]
        rw [mc_moves_e, ← mc_moves_b0_e, f1]
        simp only [Option.bind_some]
        rw [mc_put_b352_e, if_neg (by omega)]
      · rw [m1]
        simp only [Option.bind_some]
        rw [wm, if_neg big, mm]
        simp only [Option.bind_some]
        rw [n2]
        simp only [Option.bind_some]
        rw [if_pos l200, eT4, md_endCodesOfShape_e, d2]
        simp only [Option.bind_some]
        rw [md_moves_e, ← md_moves_b0_e, f2]
        rfl
/-- a property comes -/
theorem put_new {a b s w k x t y l p : Int} (R : RQ σ τ pT hT) (hn : σ 26 (σ 90 (σ 87 21)) ≤ n ∧ n < σ 26 (σ 90 (σ 87 21)) + σ 27 (σ 90 (σ 87 21))) (k9 : σ 9 n = 22) (ho : 0 ≤ o ∧ o < σ 87 31) (v : rVal σ τ k x t y) (hl : 0 ≤ l ∧ l < σ 42 6) (l47 : σ 47 l = σ 47 (σ 100 o)) (hv : vS σ s) (hw : vM τ w) (he : cS σ s = mS τ w) (hsz : σ 3 s ≤ 200) (hp : p < 0) :
    pOut σ τ pT hT n a b o k x t y f (mc_put_b184 σ n a s o k x l p l 0) (if 0 ≤ l ∧ l < 200 then (if τ 191 l = 12 then ((md_error τ 9 n).bind fun p11 => gthr p11.1 p11.2) else (if t = 2 then (md_puts_b257 τ n b o t y w l (τ 191 l) 1) else (md_puts_b257 τ n b o t y w l (τ 191 l) 3))) else none) := by
  have sh := R.1.1.1.2.2.2.2.2.1
  have hca := R.1.1.1.2.2.2.2.2.2.1
  obtain ⟨hi, hm, h8⟩ := R.1.1.1.1
  have oo := R.2.2.1.2.2 o ho.1 ho.2
  have o400 : 0 ≤ o ∧ o < 400 := by have := R.2.2.1.2.1; omega
  have l200 : 0 ≤ l ∧ l < 200 := by have := sh.1; omega
  have e94 : τ 119 94 = σ 42 6 := sh.1.2.2
  have ml := many_r sh hl.1 hl.2
  have i191 : τ 191 l = σ 47 l := by
    by_cases z : l = 0
    · rw [z, sh.2.2.2.1.1, sh.2.2.2.1.2.1]
    · exact (sh.2.2.2.2.1 l (by omega) hl.2).2.2.2.2.2.2.1
  obtain ⟨kt, k0, k6⟩ := v.kt
  have tk : t = 2 ↔ k = 0 := by
    rw [kt]
    unfold kT
    split
    · omega
    · split
      · omega
      · split <;> omega
  rw [if_pos l200, i191]
  by_cases m12 : σ 47 l = 12
  · left
    refine ⟨σ, R, kz.rf, ?_, ?_⟩
    · rw [mc_put_b184_e, if_pos hp, if_pos l200, if_neg (by omega), mc_put_b231_e, if_pos hp, mc_put_b260_e, if_pos (by decide)]
    · rw [if_pos m12]
  · rw [if_neg m12]
    obtain ⟨q, hq, eC, eM⟩ : ∃ q, (q = 1 ∨ q = 3) ∧ mc_put_b184 σ n a s o k x l p l 0 = mc_put_b223 σ n a s o k x l p 0 q s l ∧ (if t = 2 then (md_puts_b257 τ n b o t y w l (σ 47 l) 1) else (md_puts_b257 τ n b o t y w l (σ 47 l) 3)) = md_puts_b257 τ n b o t y w l (σ 47 l) q := by
      by_cases z : k = 0
      · exact ⟨1, Or.inl rfl, by rw [mc_put_b184_e, if_pos hp, if_pos l200, if_pos (by omega), if_pos z], by rw [if_pos (tk.mpr z)]⟩
      · exact ⟨3, Or.inr rfl, by rw [mc_put_b184_e, if_pos hp, if_pos l200, if_pos (by omega), if_neg z], by rw [if_neg (fun y => z (tk.mp y))]⟩
    rw [eC, eM, mc_put_b223_e, md_puts_b257_e]
    have M := R.1.2.2.1
    have mv := hm.v hw
    have e123 : τ 123 w = σ 3 s := lt_sz he (hi.v hv).2.2.2.1 mv.2.2.2.1
    have r60 := R.cu.2.2.2.1
    have M3 := M.2.2.1
    have s6 := sh.1
    have m47 : σ 47 l < 12 := by omega
    have r1 : τ 119 10 < 9000 := by omega
    have r2 : τ 119 9 + τ 123 w ≤ 60000 := by omega
    obtain ⟨σ', tt, c, b1, b2, b3, b4⟩ := sp_childFor_sW (sh := l) (s := s) (w := w) (k := q) sh hi hm h8 hca hl hv hw he hsz hq (by omega) (fun _ => r1) (fun _ => r2)
    rw [b1, b2]
    simp only [Option.bind_some]
    have b3' := b3
    obtain ⟨g1, g2, g3, g4, g5, g6, g7, g8, g9⟩ := b3'
    have gc : ∀ a, (a < 42 ∨ 50 < a) → a ≠ 4 → a ≠ 5 → σ' a = σ a := fun a z1 z2 z3 => funext fun i => g1 a i z1 z2 z3
    have F1 : rSh σ' τ → shF σ τ σ' τ := fun h => ⟨⟨hI_same hi fun a z => gc a (by omega) (by omega) (by omega), hm, h8⟩, ⟨h, g2⟩, ⟨fun a z1 z2 z3 => gc a (by omega) z2 z3, ⟨g3.1, g7⟩, fun z z0 z1 => ⟨(g4 z z1).2.2.2.2, fun j => g5 z j z1⟩⟩, fun _ _ _ _ => rfl, fun _ _ _ _ => rfl, fun r hr => ⟨hr, rfl, rfl, rfl⟩, ⟨Int.le_refl _, by omega⟩, by omega⟩
    have fin : ∀ (S3 T3 : gM) (j : Int), mc_moves_b0 σ' o = some (S3, 0) → RQ S3 T3 pT hT → kz σ τ S3 T3 f → (∀ a, a ≠ 87 → a ≠ 100 → S3 a = σ' a) → (∀ i, i ≠ 40 → S3 87 i = σ' 87 i) → σ' 47 (S3 100 o) = σ' 47 (σ' 100 o) → (0 ≤ tt ∧ tt < σ' 42 6) → σ' 47 tt = σ 47 l + 1 → (0 ≤ j ∧ j < σ' 42 10) → sN σ' j = cS σ s → plc σ' tt j = σ 47 l → ∃ S T z, (0 ≤ z ∧ z < 12) ∧ RQ (wrC S o z k x) (wrM T o z t y) pT hT ∧ kz σ τ (wrC S o z k x) (wrM T o z t y) f ∧ mc_put_b260 σ' n a s o k x l p tt 0 = mc_put_b371 S a o k x z ∧ md_puts_b317 T3 n b o t y l (σ 47 l) tt = md_puts_b458 T b o t y z := by
      intro S3 T3 j h1 h2 h3 h4 h5 h6 h7 h8' h9 h10 h11
      have hc : ∀ a, (a < 42 ∨ 50 < a) → a ≠ 4 → a ≠ 5 → a ≠ 87 → a ≠ 100 → S3 a = σ a := fun a z1 z2 z3 z4 z5 => by rw [h4 a z4 z5, gc a z1 z2 z3]
      have e87 : ∀ i, i ≠ 40 → S3 87 i = σ 87 i := fun i z => by rw [h5 i z, gc 87 (by decide) (by decide) (by decide)]
      have l3 : S3 47 l = σ 47 l := by rw [h4 47 (by decide) (by decide), (g4 l hl.2).2.2.2.2]
      obtain ⟨S, T, z, z1, z2, z3, z4, z5⟩ := put_nw (f := f) (a := a) (b := b) (s := s) (l := l) (j := j) (tt := tt) (pl := p) h2 (by rw [e87 21 (by decide), hc 26 (by decide) (by decide) (by decide) (by decide) (by decide), hc 27 (by decide) (by decide) (by decide) (by decide) (by decide), hc 90 (by decide) (by decide) (by decide) (by decide) (by decide)]; exact hn) (by rw [hc 9 (by decide) (by decide) (by decide) (by decide) (by decide)]; exact k9) (by rw [e87 31 (by decide)]; exact ho) (h3.1.2.2.2.2.2.2.2.2 _ _ _ _ v) (by rw [h4 42 (by decide) (by decide)]; omega) (by unfold vS at hv ⊢; rw [hc 0 (by decide) (by decide) (by decide) (by decide) (by decide)]; exact hv) (by rw [h4 42 (by decide) (by decide)]; exact h7) (by rw [l3, h4 47 (by decide) (by decide)]; exact h8') (by rw [l3, h4 47 (by decide) (by decide), h6, gc 100 (by decide) (by decide) (by decide), (g4 _ oo.2.1.2).2.2.2.2, ← l47]) (by rw [l3]; exact m47) ⟨by rw [h4 42 (by decide) (by decide)]; exact h9, by rw [sN_congr (h4 48 (by decide) (by decide)) (h4 49 (by decide) (by decide)) (h4 50 (by decide) (by decide)), cS_congr (hc 1 (by decide) (by decide) (by decide) (by decide) (by decide)) (hc 2 (by decide) (by decide) (by decide) (by decide) (by decide)) (hc 3 (by decide) (by decide) (by decide) (by decide) (by decide))]; exact h10, by rw [l3, plc_congr (h4 43 (by decide) (by decide)) (h4 44 (by decide) (by decide)) (h4 47 (by decide) (by decide))]; exact h11⟩ hp
      rw [l3] at z5
      refine ⟨S, T, z, z1, z2, h3.tr z3, ?_, z5⟩
      rw [mc_put_b260_e, if_neg (by omega), mc_moves_e, ← mc_moves_b0_e, h1]
      simp only [Option.bind_some, if_true]
      exact z4
    rcases b4 with ⟨y1, y2, y3, ⟨j, j1, j2, j3⟩, y4, y5⟩ | ⟨y1, y2, y3, y4⟩ | ⟨y1, y2, y3, y4, y5, y6, ⟨j, j1, j2, j3⟩, -⟩
    · right
      obtain ⟨Q1, K1⟩ := R.sh (f := f) (F1 y3)
      obtain ⟨S3, T3, a1, a2, a3, a4, a5, a6, a7, a8, a9, a10, a11, a12⟩ := moves_b (o := o) (cn1 σ' (σ' 100 o)) σ' τ Q1 ho.1 (by rw [gc 87 (by decide) (by decide) (by decide)]; exact ho.2) (Nat.le_refl _)
      obtain ⟨S, T, z, z1, z2, z3, z4, z5⟩ := fin S3 T3 j a1 a3 ((kz.sh K1 (F1 y3)).tr (kz.nd a4 (a5 8 (by decide) (by decide)))) a5 a6 a11 (by omega) y4 j1 j2 j3
      refine ⟨S, T, z, z1, z2, z3, z4, ?_⟩
      rw [if_neg (by omega), md_puts_b294_e, md_moves_e, ← md_moves_b0_e, a2]
      simp only [Option.bind_some]
      rw [if_neg (by omega), ← y1]
      exact z5
    · left
      obtain ⟨Q1, K1⟩ := R.sh (f := f) (F1 y4)
      refine ⟨σ', Q1, kz.sh K1 (F1 y4), ?_, ?_⟩
      · rw [mc_put_b260_e, if_pos (by omega)]
      · rw [if_pos (by omega), e94, if_pos y3]
    · right
      obtain ⟨S2', T2, a1, a2, a3, a4, a5, a6, a7, a8, a9, a10, a11, a12⟩ := moves_b (o := o) (cn1 σ (σ 100 o)) σ τ R ho.1 ho.2 (Nat.le_refl _)
      have ms2 : ∀ r, mS T2 r = mS τ r := fun r => mS_mv fun a q1 q2 => a8 a (by omega) (by omega)
      have t119 : T2 119 = τ 119 := a8 119 (by decide) (by decide)
      have sh2 : rSh σ T2 := sh.mv (fun _ _ _ => rfl) (fun a q1 q2 => a8 a (by omega) (by omega)) (by rw [t119]) (fun r hr => ⟨by unfold vM at hr ⊢; rw [t119]; exact hr, ms2 r, by rw [a8 122 (by decide) (by decide)], by rw [a8 123 (by decide) (by decide)]⟩) hm.1.2
      have hm2 : mI T2 := mI_mv hm (by rw [t119]) (by rw [t119]) (by rw [t119]) (by rw [t119]) fun a q1 q2 => a8 a (by omega) (by omega)
      have t123 : T2 123 w = τ 123 w := by rw [a8 123 (by decide) (by decide)]
      obtain ⟨σ2, tt2, c2, e1, e2, e3, e4⟩ := sp_childFor_sW (sh := l) (s := s) (w := w) (k := q) sh2 hi hm2 (by rw [a8 121 (by decide) (by decide)]; exact h8) hca hl hv (by unfold vM at hw ⊢; rw [t119]; exact hw) (by rw [ms2]; exact he) hsz hq (by omega) (fun _ => by rw [t119]; exact r1) (fun _ => by rw [t119, t123]; exact r2)
      rw [b1] at e1
      have f1 : σ' = σ2 := congrArg Prod.fst (Option.some.inj e1)
      have f2 : tt = tt2 := congrArg Prod.snd (Option.some.inj e1)
      rw [← f1, ← f2] at e4
      rcases e4 with ⟨-, w2, -⟩ | ⟨w1, -⟩ | ⟨-, -, -, -, -, -, -, τ2, k1, k2, k3, k4, k5, k6, k7, k8, k9', k10, -⟩
      · omega
      · omega
      · have dT : ∀ a, a ≠ 119 → (a < 121 ∨ 126 < a) → (a < 188 ∨ 192 < a) → τ2 a = T2 a := fun a q1 q2 q3 => by
          by_cases z : a = 120
          · rw [z, k9']
          · exact funext fun i => k8 a i (by omega) q3
        have F : shF σ T2 σ' τ2 := ⟨⟨hI_same hi fun a z => gc a (by omega) (by omega) (by omega), k3, k5⟩, ⟨k2, g2⟩, ⟨fun a z1 z2 z3 => gc a (by omega) z2 z3, ⟨g3.1, g7⟩, fun z z0 z1 => ⟨(g4 z z1).2.2.2.2, fun j => g5 z j z1⟩⟩, dT, k10, k4, ⟨by omega, by omega⟩, by rw [t123] at k7; omega⟩
        obtain ⟨S3, v1, v2, v3, v4, v5, v6, v7⟩ := mv_late (f := f) R ho a2 a8 F (fun z q0 q1 => (g4 z q1).2.2.2.1) (dT 193 (by decide) (by decide) (by decide)) (dT 224 (by decide) (by decide) (by decide))
        obtain ⟨S, T, z, z1, z2, z3, z4, z5⟩ := fin S3 τ2 j v1 v2 v3 v4 v5 v7 (by omega) y5 j1 j2 j3
        refine ⟨S, T, z, z1, z2, z3, z4, ?_⟩
        rw [if_pos (by omega), e94, if_neg (by omega), md_puts_b294_e, md_moves_e, ← md_moves_b0_e, a2]
        simp only [Option.bind_some]
        rw [if_pos (by omega), k1]
        simp only [Option.bind_some]
        rw [← y1]
        exact z5
end PU3
