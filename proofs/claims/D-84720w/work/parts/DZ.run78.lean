/-! a property is written: moves that come late, places that are there, new shapes -/
section PU2
variable {σ τ S T Z X : gM} {pT hT : Int → Int} {n o f : Int}
/-- the component moves after a shape came, the model before -/
theorem mv_late {σ' T2 T' : gM} (R : RQ σ τ pT hT) (ho : 0 ≤ o ∧ o < σ 87 31) (md : md_moves_b0 τ o = some (T2, 0)) (t2 : ∀ a, a ≠ 193 → a ≠ 224 → T2 a = τ a) (F : shF σ T2 σ' T') (e46 : ∀ s, 0 ≤ s → s < σ 42 6 → σ' 46 s = σ 46 s) (e193 : T' 193 = T2 193) (e224 : T' 224 = T2 224) :
    ∃ S3, mc_moves_b0 σ' o = some (S3, 0) ∧ RQ S3 T' pT hT ∧ kz σ τ S3 T' f ∧ (∀ a, a ≠ 87 → a ≠ 100 → S3 a = σ' a) ∧ (∀ i, i ≠ 40 → S3 87 i = σ' 87 i) ∧ (0 ≤ S3 100 o ∧ S3 100 o < σ' 42 6) ∧ σ' 47 (S3 100 o) = σ' 47 (σ' 100 o) := by
  have sh := R.1.1.1.2.2.2.2.2.1
  have V3 := R.2.2.1.2
  have oo := V3.2 o ho.1 ho.2
  have o400 : 0 ≤ o ∧ o < 400 := by have := V3.1; omega
  obtain ⟨T0, w1, w2, w3⟩ : ∃ T0 : gM, (∀ a, a ≠ 193 → a ≠ 224 → T0 a = T' a) ∧ T0 193 = τ 193 ∧ T0 224 = τ 224 :=
    ⟨fun a => if a = 193 ∨ a = 224 then τ a else T' a, fun a q1 q2 => if_neg (by omega), if_pos (by decide), if_pos (by decide)⟩
  have F0 : shF σ τ σ' T0 := by
    obtain ⟨⟨i1, i2, i3⟩, ⟨i4, i5⟩, i6, d, d119, mk, ⟨r1, r2⟩, r3⟩ := F
    have k119 : T0 119 = T' 119 := w1 119 (by decide) (by decide)
    have k119' : T2 119 = τ 119 := t2 119 (by decide) (by decide)
    have ms : ∀ r, mS T0 r = mS T' r := fun r => mS_mv fun a q1 q2 => w1 a (by omega) (by omega)
    have ms' : ∀ r, mS T2 r = mS τ r := fun r => mS_mv fun a q1 q2 => t2 a (by omega) (by omega)
    refine ⟨⟨i1, mI_mv i2 (by rw [k119]) (by rw [k119]) (by rw [k119]) (by rw [k119]) fun a q1 q2 => w1 a (by omega) (by omega), by rw [w1 121 (by decide) (by decide)]; exact i3⟩, ⟨i4.mv (fun _ _ _ => rfl) (fun a q1 q2 => w1 a (by omega) (by omega)) (by rw [k119]) (fun r hr => ⟨by unfold vM at hr ⊢; rw [k119]; exact hr, ms r, by rw [w1 122 (by decide) (by decide)], by rw [w1 123 (by decide) (by decide)]⟩) i2.1.2, i5⟩, i6, fun a q1 q2 q3 => ?_, fun i q1 q2 q3 => by rw [k119, d119 i q1 q2 q3, k119'], fun r hr => ?_, ⟨by rw [k119, ← k119']; exact r1, by rw [k119, ← k119']; exact r2⟩, by rw [k119, ← k119']; exact r3⟩
    · by_cases y1 : a = 193
      · rw [y1, w2]
      · by_cases y2 : a = 224
        · rw [y2, w3]
        · rw [w1 a y1 y2, d a q1 q2 q3, t2 a y1 y2]
    · have hr' : vM T2 r := by unfold vM at hr ⊢; rw [k119']; exact hr
      obtain ⟨m1, m2, m3, m4⟩ := mk r hr'
      refine ⟨by unfold vM at m1 ⊢; rw [k119]; exact m1, by rw [ms, m2, ms'], by rw [w1 122 (by decide) (by decide), m3, t2 122 (by decide) (by decide)], by rw [w1 123 (by decide) (by decide), m4, t2 123 (by decide) (by decide)]⟩
  obtain ⟨Q1, K1⟩ := R.sh (f := f) F0
  have c := F.2.2.1.1
  obtain ⟨S3, T3, a1, a2, a3, a4, a5, a6, a7, a8, a9, a10, a11, a12⟩ := moves_b (o := o) (cn1 σ' (σ' 100 o)) σ' T0 Q1 ho.1 (by rw [c 87 (by decide) (by decide) (by decide)]; exact ho.2) (Nat.le_refl _)
  have sh' := F.2.1.1
  obtain ⟨Y, y1, y2, y3⟩ := mv_two sh o400 (cn1 σ (τ 193 o)) τ T0 T2 (fun s q1 q2 => ⟨rfl, by
    rw [w1 190 (by decide) (by decide), (sh'.2.2.2.2.2.1 s q1 (by have := F.2.2.1.2.1.1; omega)).1, e46 s q1 q2, (sh.2.2.2.2.2.1 s q1 q2).1]⟩) w2 w3 (by rw [oo.1]; exact oo.2.1.1) (by rw [oo.1]; exact oo.2.1.2) (Nat.le_refl _) md
  have eT : T3 = T' := by
    rw [a2] at y1
    have e : T3 = Y := congrArg Prod.fst (Option.some.inj y1)
    funext a
    by_cases z1 : a = 193
    · rw [z1, e, y2, e193]
    · by_cases z2 : a = 224
      · rw [z2, e, y3, e224]
      · rw [a8 a z1 z2, w1 a z1 z2]
  rw [eT] at a3 a4
  exact ⟨S3, a1, a3, (kz.sh K1 F0).tr (kz.nd a4 (a5 8 (by decide) (by decide))), a5, a6, a9, a11⟩
/-- both sides: the value's way, or the same fault -/
def pOut (σ τ : gM) (pT hT : Int → Int) (n a b o k x t y f : Int) (C : Option (gM × Int)) (M : Option (gM × Option Int)) : Prop :=
  (∃ S, RQ S τ pT hT ∧ kz σ τ S τ f ∧ C = ((mc_fails S 9 n).bind fun p => g01 p.2 (some (p.1, p.2))) ∧ M = ((md_error τ 9 n).bind fun p => gthr p.1 p.2)) ∨
  (∃ S T p, (0 ≤ p ∧ p < 12) ∧ RQ (wrC S o p k x) (wrM T o p t y) pT hT ∧ kz σ τ (wrC S o p k x) (wrM T o p t y) f ∧ C = mc_put_b371 S a o k x p ∧ M = md_puts_b458 T b o t y p)
/-- a value is written where its place is -/
theorem put_at {p k x t y : Int} (R : RQ σ τ pT hT) (ho : 0 ≤ o ∧ o < σ 87 31) (hp : 0 ≤ p ∧ p < 12) (v : rVal σ τ k x t y) : RQ (wrC σ o p k x) (wrM τ o p t y) pT hT ∧ kz σ τ (wrC σ o p k x) (wrM τ o p t y) f := by
  have oo := R.2.2.1.2.2 o ho.1 ho.2
  have w := put_obj (s' := σ 100 o) (p := p) R ho oo.2.1 hp (fun j _ q => Or.inr q) v
  rw [gW_id, gW_nop oo.1] at w
  exact ⟨w.1, kz.nd w.2 (wrC_c (by decide) (by decide))⟩
theorem put_there {a b s w k x t y l r p : Int} (R : RQ σ τ pT hT) (hn : σ 26 (σ 90 (σ 87 21)) ≤ n ∧ n < σ 26 (σ 90 (σ 87 21)) + σ 27 (σ 90 (σ 87 21))) (k9 : σ 9 n = 22) (ho : 0 ≤ o ∧ o < σ 87 31) (v : rVal σ τ k x t y) (hl : 0 ≤ l ∧ l < σ 42 6) (l46 : σ 46 l = -1) (hl2 : sp_last_b2 σ (σ 100 o) = some (σ, l)) (hv : vS σ s) (hw : vM τ w) (he : cS σ s = mS τ w) (hr : (0 ≤ r ∧ r < σ 42 10) ∧ sN σ r = mS τ w) (hp : plc σ l r = p) (p0 : 0 ≤ p) :
    pOut σ τ pT hT n a b o k x t y f (mc_put_b260 σ n a s o k x l p l 0) (md_puts_b373 τ n b o t y l p) := by
  have sh := R.1.1.1.2.2.2.2.2.1
  have oo := R.2.2.1.2.2 o ho.1 ho.2
  have o400 : 0 ≤ o ∧ o < 400 := by have := R.2.2.1.2.1; omega
  have l200 : 0 ≤ l ∧ l < 200 := by have := sh.1; omega
  obtain ⟨S2, T2, a1, a2, a3, a4, a5, a6, a7, a8, a9, a10, a11, a12⟩ := moves_b (o := o) (cn1 σ (σ 100 o)) σ τ R ho.1 ho.2 (Nat.le_refl _)
  have m1 : mc_moves σ o = some (S2, 0) := by rw [mc_moves_e, ← mc_moves_b0_e]; exact a1
  have m2 : md_moves τ o = some (T2, 0) := by rw [md_moves_e, ← md_moves_b0_e]; exact a2
  have eO : S2 100 o = l := mv_end sh o400 _ σ S2 rfl oo.2.1.1 oo.2.1.2 (Nat.le_refl _) hl2 a1
  have sn : ∀ j, sN S2 j = sN σ j := sN_congr (a5 48 (by decide) (by decide)) (a5 49 (by decide) (by decide)) (a5 50 (by decide) (by decide))
  have ms : ∀ j, mS T2 j = mS τ j := fun j => mS_mv fun a q1 q2 => a8 a (by omega) (by omega)
  have cs : ∀ j, cS S2 j = cS σ j := cS_congr (a5 1 (by decide) (by decide)) (a5 2 (by decide) (by decide)) (a5 3 (by decide) (by decide))
  obtain ⟨S3, r', x1, x2, x3, x4, x5⟩ := a3.nam (s := s) (w := w) (by unfold vS at hv ⊢; rw [a5 0 (by decide) (by decide)]; exact hv) (by unfold vM at hw ⊢; rw [a8 119 (by decide) (by decide)]; exact hw) (by rw [cs, ms]; exact he)
  have er : r' = r := by
    simp only [sn, ms] at x5
    rw [a5 42 (by decide) (by decide)] at x5
    rcases x5 with ⟨-, y⟩ | ⟨y1, y2⟩
    · exact absurd hr.2 (y r hr.1.1 hr.1.2)
    · exact sh.2.2.2.2.2.2.2 r' r y1.1 y1.2 hr.1.1 hr.1.2 (by rw [y2, hr.2])
  rw [er] at x1
  have c3 : ∀ a, a ≠ 4 → a ≠ 5 → a ≠ 87 → a ≠ 100 → S3 a = σ a := fun a q1 q2 q3 q4 => by rw [x4 a q1 q2, a5 a q3 q4]
  have e21 : S3 87 21 = σ 87 21 := by rw [x4 87 (by decide) (by decide), a6 21 (by decide)]
  have hn3 : S3 26 (S3 90 (S3 87 21)) ≤ n ∧ n < S3 26 (S3 90 (S3 87 21)) + S3 27 (S3 90 (S3 87 21)) := by
    rw [e21, c3 26 (by decide) (by decide) (by decide) (by decide), c3 27 (by decide) (by decide) (by decide) (by decide), c3 90 (by decide) (by decide) (by decide) (by decide)]
    exact hn
  have pl3 : plc S3 l r = p := by rw [plc_congr (c3 43 (by decide) (by decide) (by decide) (by decide)) (c3 44 (by decide) (by decide) (by decide) (by decide)) (c3 47 (by decide) (by decide) (by decide) (by decide)), hp]
  have n18 : S3 18 n ≤ 3 := by
    obtain ⟨c1, c2, c3', c4, c5, c6⟩ := x2.cu
    have nn := x2.1.1.1.2.2.2.2.2.2.2.2.1
    have n8 := nn.2.1 _ c2.1 c2.2
    exact (nn.2.2 n (by omega) (by omega)).2.2.2.2.2.1.2.2
  obtain ⟨S4, T4, u1, u2, u3, u4, u5, u6, -⟩ := x2.en (n := n) (x2 := 3) (x3 := l) (x4 := r) (x5 := l) (y2 := l) (y3 := p) (y4 := l) hn3 ⟨rfl, Or.inr (Or.inr ⟨by rw [c3 9 (by decide) (by decide) (by decide) (by decide)]; exact k9, by rw [c3 42 (by decide) (by decide) (by decide) (by decide)]; exact hl, by rw [c3 42 (by decide) (by decide) (by decide) (by decide)]; exact hr.1, by rw [c3 42 (by decide) (by decide) (by decide) (by decide)]; exact hl, pl3.symm, rfl, p0⟩)⟩ (by decide) (fun z => by rw [c3 9 (by decide) (by decide) (by decide) (by decide)] at z; omega) n18
  have pr := plc_r (n := r) sh l.toNat l (Nat.le_refl _) hl.2 hl.1
  rw [hp] at pr
  have o4 : S4 87 31 = σ 87 31 := by rw [u5.2.2.2.1 31 (by decide) (by decide) (by decide), x4 87 (by decide) (by decide), a6 31 (by decide)]
  have c48 : S4 8 = S3 8 := funext fun j => u5.1 8 j (by decide) (by decide) (by decide) (by decide) (by decide) (by decide) (by decide) (by decide) (by decide) (by decide) (by decide)
  obtain ⟨z1, z2⟩ := put_at (f := f) (p := p) u3 (by rw [o4]; exact ho) (by omega) (u4.2.2.2.2.2 _ _ _ _ (x3.2.2.2.2.2 _ _ _ _ (a4.2.2.2.2.2 _ _ _ _ v)))
  refine Or.inr ⟨S4, T4, p, by omega, z1, (((kz.nd a4 (a5 8 (by decide) (by decide))).tr (kz.nd x3 (x4 8 (by decide) (by decide)))).tr (kz.nd u4 c48)).tr z2, ?_, ?_⟩
  · rw [mc_put_b260_e, if_neg (by omega), m1]
    simp only [Option.bind_some, if_true]
    rw [sp_last_e, sp_last_b2_e, if_pos l200, a5 46 (by decide) (by decide), l46, if_pos (by decide)]
    simp only [Option.bind_some]
    rw [if_pos o400, gW_nop eO, x1]
    simp only [Option.bind_some]
    rw [u1]
    simp only [Option.bind_some]
    rw [mc_put_b352_e, if_neg (by omega)]
  · rw [md_puts_b373_e, m2]
    simp only [Option.bind_some]
    rw [u2]
    rfl
theorem wrC_v {p k x : Int} (h1 : S 101 = σ 101) (h2 : S 102 = σ 102) : ∀ a, a = 101 ∨ a = 102 → wrC S o p k x a = wrC σ o p k x a := fun a q => by
  funext j
  unfold wrC
  rcases q with q | q
  · rw [q, gW_c (by decide), gW_c (show (101 : Int) ≠ 102 by decide), gW_if, gW_if, h1]
  · rw [q, gW_if, gW_if, gW_c (by decide), gW_c (show (102 : Int) ≠ 101 by decide), h2]
theorem wrM_v {p t y : Int} (h1 : T 194 = τ 194) (h2 : T 195 = τ 195) : ∀ a, a = 194 ∨ a = 195 → wrM T o p t y a = wrM τ o p t y a := fun a q => by
  funext j
  unfold wrM
  rcases q with q | q
  · rw [q, gW_c (by decide), gW_c (show (194 : Int) ≠ 195 by decide), gW_if, gW_if, h1]
  · rw [q, gW_if, gW_if, gW_c (by decide), gW_c (show (195 : Int) ≠ 194 by decide), h2]
/-- the object takes on a shape that has one property more -/
theorem put_nw {a b s k x t y l j tt pl : Int} (R : RQ σ τ pT hT) (hn : σ 26 (σ 90 (σ 87 21)) ≤ n ∧ n < σ 26 (σ 90 (σ 87 21)) + σ 27 (σ 90 (σ 87 21))) (k9 : σ 9 n = 22) (ho : 0 ≤ o ∧ o < σ 87 31) (v : rVal σ τ k x t y) (hl : 0 ≤ l ∧ l < σ 42 6) (hv : vS σ s) (ht : 0 ≤ tt ∧ tt < σ 42 6) (m1 : σ 47 tt = σ 47 l + 1) (m2 : σ 47 (σ 100 o) = σ 47 l) (m3 : σ 47 l < 12) (hj : (0 ≤ j ∧ j < σ 42 10) ∧ sN σ j = cS σ s ∧ plc σ tt j = σ 47 l) (hpl : pl < 0) :
    ∃ S T p, (0 ≤ p ∧ p < 12) ∧ RQ (wrC S o p k x) (wrM T o p t y) pT hT ∧ kz σ τ (wrC S o p k x) (wrM T o p t y) f ∧ ((sp_last σ tt).bind fun p2 => if 0 ≤ o ∧ o < 400 then ((sp_nameOf (gW p2.1 100 o p2.2) s).bind fun p3 => (mc_settles p3.1 n 3 l p3.2 p2.2).bind fun p4 => mc_put_b352 p4.1 a o k x pl p2.2) else none) = mc_put_b371 S a o k x p ∧ md_puts_b317 τ n b o t y l (σ 47 l) tt = md_puts_b458 T b o t y p := by
  have sh := R.1.1.1.2.2.2.2.2.1
  have hca := R.1.1.1.2.2.2.2.2.2.1
  have hi := R.1.1.1.1.1
  have o400 : 0 ≤ o ∧ o < 400 := by have := R.2.2.1.2.1; omega
  have ml := many_r sh hl.1 hl.2
  obtain ⟨hh, h1, h2, h3, h4, h5, h6⟩ := sp_last_s sh (cn1 σ tt) tt (Nat.le_refl _) ht.2 ht.1
  have hh200 : 0 ≤ hh ∧ hh < 200 := by have := sh.1; omega
  obtain ⟨QZ, ndZ⟩ := put_obj (o := o) (s' := hh) (p := σ 47 l) R ho h3 (by omega) (fun q q0 q1 => by omega) v
  have zc : ∀ a, a ≠ 101 → a ≠ 102 → wrC (gW σ 100 o hh) o (σ 47 l) k x a = gW σ 100 o hh a := fun a q1 q2 => wrC_c q1 q2
  have xc : ∀ a, a ≠ 194 → a ≠ 195 → wrM (gW τ 193 o hh) o (σ 47 l) t y a = gW τ 193 o hh a := fun a q1 q2 => wrM_c q1 q2
  have zv : ∀ S6 : gM, S6 101 = σ 101 → S6 102 = σ 102 → ∀ a, a = 101 ∨ a = 102 → wrC S6 o (σ 47 l) k x a = wrC (gW σ 100 o hh) o (σ 47 l) k x a := fun S6 q1 q2 => wrC_v (by rw [q1, gW_cell (by decide)]) (by rw [q2, gW_cell (by decide)])
  have xv : ∀ T6 : gM, T6 194 = τ 194 → T6 195 = τ 195 → ∀ a, a = 194 ∨ a = 195 → wrM T6 o (σ 47 l) t y a = wrM (gW τ 193 o hh) o (σ 47 l) t y a := fun T6 q1 q2 => wrM_v (by rw [q1, gW_cell (by decide)]) (by rw [q2, gW_cell (by decide)])
  generalize wrC (gW σ 100 o hh) o (σ 47 l) k x = Z at QZ ndZ zc zv
  generalize wrM (gW τ 193 o hh) o (σ 47 l) t y = X at QZ ndZ xc xv
  have g4 : ∀ a, a ≠ 100 → gW σ 100 o hh a = σ a := fun a q => gW_cell q
  have cs4 : ∀ q, cS (gW σ 100 o hh) q = cS σ q := cS_congr (g4 1 (by decide)) (g4 2 (by decide)) (g4 3 (by decide))
  have sn4 : ∀ q, sN (gW σ 100 o hh) q = sN σ q := sN_congr (g4 48 (by decide)) (g4 49 (by decide)) (g4 50 (by decide))
  have ca4 : sCa (gW σ 100 o hh) := by
    intro q hq
    have hq' : vS σ q := by unfold vS at hq ⊢; rw [g4 0 (by decide)] at hq; exact hq
    simp only [cs4, sn4]
    rw [g4 4 (by decide), g4 5 (by decide), g4 42 (by decide)]
    exact hca q hq'
  obtain ⟨S5, r', b1, b2, b3, b4, b5, b6⟩ := sp_nameOf_s (σ := gW σ 100 o hh) (s := s) (hI_same hi fun a q => g4 a (by omega)) (by unfold vS at hv ⊢; rw [g4 0 (by decide)]; exact hv) (by rw [g4 42 (by decide)]; have := sh.2.1; have := sh.1; omega) (by unfold sNm; rw [g4 42 (by decide), g4 49 (by decide), g4 50 (by decide)]; exact sh.2.2.2.2.2.2.1) (by rw [g4 42 (by decide)]; have := sh.2.2.1; have := sh.2.1; have := sh.1; omega) ca4
  have ca5 : sCa S5 := ca4.name b2 b3 b4 b5 (by rw [g4 42 (by decide)]; exact sh.2.1.1) b6
  have er : r' = j := by
    simp only [sn4, cs4] at b6
    rw [g4 42 (by decide)] at b6
    rcases b6 with ⟨-, y⟩ | ⟨y1, y2⟩
    · exact absurd hj.2.1 (y j hj.1.1 hj.1.2)
    · exact sh.2.2.2.2.2.2.2 r' j y1.1 y1.2 hj.1.1 hj.1.2 (by rw [y2, hj.2.1])
  rw [er] at b1
  have c5 : ∀ a, a ≠ 4 → a ≠ 5 → S5 a = gW σ 100 o hh a := fun a q1 q2 => sOnly_c b2 q1 q2
  have c5' : ∀ a, a ≠ 4 → a ≠ 5 → a ≠ 100 → S5 a = σ a := fun a q1 q2 q3 => by rw [c5 a q1 q2, g4 a q3]
  obtain ⟨Z5, w1, w2⟩ : ∃ Z5 : gM, (∀ a, a ≠ 101 → a ≠ 102 → Z5 a = S5 a) ∧ ∀ a, a = 101 ∨ a = 102 → Z5 a = Z a :=
    ⟨fun a => if a = 101 ∨ a = 102 then Z a else S5 a, fun a q1 q2 => if_neg (by omega), fun a q => if_pos q⟩
  have z5c : ∀ a, a ≠ 4 → a ≠ 5 → Z5 a = Z a := fun a q1 q2 => by
    by_cases q : a = 101 ∨ a = 102
    · exact w2 a q
    · rw [w1 a (by omega) (by omega), c5 a q1 q2, zc a (by omega) (by omega)]
  have caZ : sCa Z5 := by
    have cs5 : ∀ q, cS Z5 q = cS S5 q := cS_congr (w1 1 (by decide) (by decide)) (w1 2 (by decide) (by decide)) (w1 3 (by decide) (by decide))
    have sn5 : ∀ q, sN Z5 q = sN S5 q := sN_congr (w1 48 (by decide) (by decide)) (w1 49 (by decide) (by decide)) (w1 50 (by decide) (by decide))
    intro q hq
    have hq' : vS S5 q := by unfold vS at hq ⊢; rw [w1 0 (by decide) (by decide)] at hq; exact hq
    simp only [cs5, sn5]
    rw [w1 4 (by decide) (by decide), w1 5 (by decide) (by decide), w1 42 (by decide) (by decide)]
    exact ca5 q hq'
  obtain ⟨Q5, nd5⟩ := QZ.ca z5c caZ
  have hn5 : S5 26 (S5 90 (S5 87 21)) ≤ n ∧ n < S5 26 (S5 90 (S5 87 21)) + S5 27 (S5 90 (S5 87 21)) := by
    rw [c5' 26 (by decide) (by decide) (by decide), c5' 27 (by decide) (by decide) (by decide), c5' 90 (by decide) (by decide) (by decide), c5' 87 (by decide) (by decide) (by decide)]
    exact hn
  have n18 : S5 18 n ≤ 3 := by
    obtain ⟨c1, c2, c3', c4, c5, c6⟩ := R.cu
    have nn := R.1.1.1.2.2.2.2.2.2.2.2.1
    have n8 := nn.2.1 _ c2.1 c2.2
    rw [c5' 18 (by decide) (by decide) (by decide)]
    exact (nn.2.2 n (by omega) (by omega)).2.2.2.2.2.1.2.2
  have pl5 : plc S5 hh j = σ 47 l := by rw [plc_congr (c5' 43 (by decide) (by decide) (by decide)) (c5' 44 (by decide) (by decide) (by decide)) (c5' 47 (by decide) (by decide) (by decide)), h6, hj.2.2]
  obtain ⟨S6, T6, u1, u2, u3, u4, u5⟩ := RQ.en2 (n := n) (σ := S5) (τ := gW τ 193 o hh) (x2 := 3) (x3 := l) (x4 := j) (x5 := hh) (y2 := l) (y3 := σ 47 l) (y4 := hh) Q5 (fun a q1 q2 => (w1 a q1 q2).symm) (fun a q1 q2 => (xc a q1 q2).symm) hn5 ⟨rfl, Or.inr (Or.inr ⟨by rw [c5' 9 (by decide) (by decide) (by decide)]; exact k9, by rw [c5' 42 (by decide) (by decide) (by decide)]; exact hl, by rw [c5' 42 (by decide) (by decide) (by decide)]; exact hj.1, by rw [c5' 42 (by decide) (by decide) (by decide)]; exact h3, pl5.symm, rfl, ml.1⟩)⟩ (by decide) (fun z => by rw [c5' 9 (by decide) (by decide) (by decide)] at z; omega) n18
  have k6 : ∀ a, a = 8 ∨ a = 47 ∨ a = 101 ∨ a = 102 → S6 a = σ a := fun a q => by
    have e : S6 a = S5 a := funext fun i => u3.1 a i (by omega) (by omega) (by omega) (by omega) (by omega) (by omega) (by omega) (by omega) (by omega) (by omega) (by omega)
    rw [e, c5' a (by omega) (by omega) (by omega)]
  have k6t : ∀ a, a = 194 ∨ a = 195 → T6 a = τ a := fun a q => by
    have e : T6 a = gW τ 193 o hh a := funext fun i => u4.1 a i (by omega) (by omega) (by omega) (by omega) (by omega) (by omega) (by omega) (by omega) (by omega) (by omega)
    rw [e, gW_cell (by omega)]
  obtain ⟨Q6, nd6⟩ := u5 (wrC S6 o (σ 47 l) k x) (wrM T6 o (σ 47 l) t y) (fun a q1 q2 => wrC_c q1 q2) (fun a q => by rw [zv S6 (k6 101 (by decide)) (k6 102 (by decide)) a q, w2 a q]) (fun a q1 q2 => wrM_c q1 q2) (fun a q => xv T6 (k6t 194 (by decide)) (k6t 195 (by decide)) a q)
  have e8 : Z 8 = σ 8 := by rw [zc 8 (by decide) (by decide), g4 8 (by decide)]
  have e8' : Z5 8 = Z 8 := z5c 8 (by decide) (by decide)
  refine ⟨S6, T6, σ 47 l, by omega, Q6, ((kz.nd ndZ e8).tr (kz.nd nd5 e8')).tr (kz.nd nd6 (by rw [wrC_c (by decide) (by decide), k6 8 (by decide), e8', e8])), ?_, ?_⟩
  · rw [sp_last_e, h1]
    simp only [Option.bind_some]
    rw [if_pos o400, b1]
    simp only [Option.bind_some]
    rw [u1]
    simp only [Option.bind_some]
    rw [mc_put_b352_e, if_pos hpl, if_pos hh200, k6 47 (by decide), h5, m1, show σ 47 l + 1 - 1 = σ 47 l by omega, w32_e (by omega) (by omega)]
  · rw [md_puts_b317_e, md_heirOf_e, h2]
    simp only [Option.bind_some]
    rw [if_pos o400, if_pos o400, gW_at, u2]
    rfl
end PU2
