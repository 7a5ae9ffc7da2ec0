/-! things are compared: both sides -/
section OA
variable {σ τ S T Z X : gM} {pT hT : Int → Int} {m : Nat} {br co θ n : Int}
/-- which things are alike is seen alike -/
theorem alk_v {k1 x1 t1 y1 k2 x2 t2 y2 : Int} (Q : RQ σ τ pT hT) (v1 : rVal σ τ k1 x1 t1 y1) (v2 : rVal σ τ k2 x2 t2 y2) (h8 : 2 ≤ σ 87 8 ∧ σ 87 8 ≤ 18240) (ek1 : σ 88 (σ 87 8 - 2) = k1) (ex1 : σ 89 (σ 87 8 - 2) = x1) (ek2 : σ 88 (σ 87 8 - 1) = k2) (ex2 : σ 89 (σ 87 8 - 1) = x2) (h25 : 2 ≤ τ 119 125 ∧ τ 119 125 ≤ 24000) (et1 : τ 221 (τ 119 125 - 2) = t1) (ey1 : τ 222 (τ 119 125 - 2) = y1) (et2 : τ 221 (τ 119 125 - 1) = t2) (ey2 : τ 222 (τ 119 125 - 1) = y2) :
    ∃ S0 v, (v = 0 ∨ v = 1) ∧ (∀ a j, (a < 105 ∨ 110 < a) → S0 a j = σ a j) ∧ (∀ kd y0, mc_alike_b79 σ n kd k1 k2 y0 = mc_alike_b205 S0 n kd y0 v) ∧ ∀ T2 : gM, (∀ a, (120 ≤ a ∧ a ≤ 162) ∨ (221 ≤ a ∧ a ≤ 222) → T2 a = τ a) → (∀ i, i ≠ 123 → T2 119 i = τ 119 i) → ∃ T3, (∀ a j, a ≠ 129 → a ≠ 130 → T3 a j = T2 a j) ∧ ∀ kd, md_compares_b139 T2 kd t1 t2 y1 y2 = md_compares_b218 T3 kd v := by
  have P1 := Q.1.1.1
  obtain ⟨kt1, k10, k16⟩ := v1.kt
  obtain ⟨kt2, k20, k26⟩ := v2.kt
  by_cases nn : (k1 = 0 ∨ k1 = 1) ∧ (k2 = 0 ∨ k2 = 1)
  · -- numbers
    obtain ⟨z1, m1⟩ := v1.num P1.1.1 P1.2.2.2.2.1 nn.1
    obtain ⟨z2, m2⟩ := v2.num P1.1.1 P1.2.2.2.2.1 nn.2
    obtain ⟨S0, a1, a2⟩ := order_c (σ := σ) (τ := τ) h8 ek1 ex1 ek2 ex2 m1 m2
    refine ⟨S0, if cM z1 z2 = 0 then 1 else 0, by split <;> omega, a2, fun kd y0 => ?_, fun T2 d d119 => ?_⟩
    · rw [mc_alike_b79_e, w32_e (x := σ 87 8 - 2) (by omega) (by omega), isN_1 (by omega) (by rw [ek1]; exact nn.1)]
      simp only [Option.bind_some]
      rw [if_neg (show ¬ (1 : Int) = 0 by decide), w32_e (x := σ 87 8 - 1) (by omega) (by omega), isN_1 (by omega) (by rw [ek2]; exact nn.2)]
      simp only [Option.bind_some]
      rw [if_neg (show ¬ (1 : Int) = 0 by decide), a1]
      simp only [Option.bind_some]
      by_cases q : cM z1 z2 = 0
      · rw [if_pos q, if_pos q, mc_alike_b119_e]
      · rw [if_neg q, if_neg q, mc_alike_b119_e]
    · have c125 := d119 125 (by decide)
      have m1' : nuV σ T2 k1 x1 t1 y1 z1 := m1.mv rfl rfl (d 128 (by decide))
      have m2' : nuV σ T2 k2 x2 t2 y2 z2 := m2.mv rfl rfl (d 128 (by decide))
      obtain ⟨T3, b1, b2⟩ := order_m (σ := σ) (τ := T2) (by rw [c125]; exact h25) (by rw [c125, d 221 (by decide)]; exact et1) (by rw [c125, d 222 (by decide)]; exact ey1) (by rw [c125, d 221 (by decide)]; exact et2) (by rw [c125, d 222 (by decide)]; exact ey2) m1' m2'
      refine ⟨T3, b2, fun kd => ?_⟩
      rw [md_compares_b139_e, (m1.nu (W := T2)).1]
      simp only [Option.bind_some]
      rw [if_neg (show ¬ (1 : Int) = 0 by decide), (m2.nu (W := T2)).1]
      simp only [Option.bind_some]
      rw [if_neg (show ¬ (1 : Int) = 0 by decide), b1]
      simp only [Option.bind_some]
      by_cases q : cM z1 z2 = 0
      · rw [if_pos q, if_pos q, md_compares_b166_e]
      · rw [if_neg q, if_neg q, md_compares_b166_e]
  · have eC : ∀ kd y0, mc_alike_b79 σ n kd k1 k2 y0 = mc_alike_b124 σ n kd k1 k2 y0 := fun kd y0 => by
      rw [mc_alike_b79_e, w32_e (x := σ 87 8 - 2) (by omega) (by omega)]
      by_cases q1 : k1 = 0 ∨ k1 = 1
      · rw [isN_1 (by omega) (by rw [ek1]; exact q1)]
        simp only [Option.bind_some]
        rw [if_neg (show ¬ (1 : Int) = 0 by decide), w32_e (x := σ 87 8 - 1) (by omega) (by omega), isN_0 (by omega) (by rw [ek2]; exact fun h => nn ⟨q1, h⟩)]
        simp only [Option.bind_some, if_true]
      · rw [isN_0 (by omega) (by rw [ek1]; exact q1)]
        simp only [Option.bind_some, if_true]
    have tn : ∀ k t, t = kT k → 0 ≤ k → k ≤ 6 → (k = 0 ∨ k = 1 → t = 2 ∨ t = 3) ∧ (¬ (k = 0 ∨ k = 1) → ¬ (t = 2 ∨ t = 3)) := fun k t e k0 k6 => by
      rw [e]
      unfold kT
      split
      · omega
      · split
        · omega
        · split <;> omega
    have isM1 : ∀ (W : gM) t, t = 2 ∨ t = 3 → md_isNumber W t = some (W, 1) := fun W t h => by
      rw [md_isNumber_e]
      by_cases q : t = 2
      · rw [if_pos q, md_isNumber_b10_e]
      · rw [if_neg q, if_pos (by omega), md_isNumber_b10_e]
    have isM0 : ∀ (W : gM) t, ¬ (t = 2 ∨ t = 3) → md_isNumber W t = some (W, 0) := fun W t h => by
      rw [md_isNumber_e, if_neg (by omega), if_neg (by omega)]
    have eM : ∀ (T2 : gM) kd, md_compares_b139 T2 kd t1 t2 y1 y2 = md_compares_b171 T2 kd t1 t2 y1 y2 := fun T2 kd => by
      rw [md_compares_b139_e]
      by_cases q1 : k1 = 0 ∨ k1 = 1
      · rw [isM1 T2 t1 ((tn k1 t1 kt1 k10 k16).1 q1)]
        simp only [Option.bind_some]
        rw [if_neg (show ¬ (1 : Int) = 0 by decide), isM0 T2 t2 ((tn k2 t2 kt2 k20 k26).2 (fun h => nn ⟨q1, h⟩))]
        simp only [Option.bind_some, if_true]
      · rw [isM0 T2 t1 ((tn k1 t1 kt1 k10 k16).2 q1)]
        simp only [Option.bind_some, if_true]
    have inj : t1 = t2 ↔ k1 = k2 := by
      rw [kt1, kt2]
      constructor
      · unfold kT
        intro h
        have : ∀ a b : Fin 7, (if (a.val : Int) ≤ 2 then (a.val : Int) + 2 else if (a.val : Int) = 3 then 1 else if (a.val : Int) = 4 then 0 else (a.val : Int)) = (if (b.val : Int) ≤ 2 then (b.val : Int) + 2 else if (b.val : Int) = 3 then 1 else if (b.val : Int) = 4 then 0 else (b.val : Int)) → a = b := by decide +kernel
        have e1 : ((k1.toNat : Nat) : Int) = k1 := by omega
        have e2 : ((k2.toNat : Nat) : Int) = k2 := by omega
        have w := this ⟨k1.toNat, by omega⟩ ⟨k2.toNat, by omega⟩
        simp only [e1, e2] at w
        have w2 := congrArg Fin.val (w h)
        simp only at w2
        omega
      · intro h; rw [h]
    by_cases ke : k1 = k2
    · by_cases k2s : k1 = 2
      · -- strings
        have sv1 : vS σ x1 ∧ vM τ y1 ∧ cS σ x1 = mS τ y1 := by
          rcases v1 with q | q | q | q | q | q | q
          all_goals first | exact absurd q.1 (by omega) | exact ⟨q.2.2.1, q.2.2.2.1, q.2.2.2.2.1⟩
        have sv2 : vS σ x2 ∧ vM τ y2 ∧ cS σ x2 = mS τ y2 := by
          rcases v2 with q | q | q | q | q | q | q
          all_goals first | exact absurd q.1 (by omega) | exact ⟨q.2.2.1, q.2.2.2.1, q.2.2.2.2.1⟩
        have hx1 := P1.1.1.v sv1.1
        have hx2 := P1.1.1.v sv2.1
        have e1 := hp_isSame_s P1.1.1 sv1.1 sv2.1
        refine ⟨σ, if cS σ x1 = cS σ x2 then 1 else 0, by split <;> omega, fun _ _ _ => rfl, fun kd y0 => ?_, fun T2 d d119 => ⟨T2, fun _ _ _ _ => rfl, fun kd => ?_⟩⟩
        · rw [eC, mc_alike_b124_e, if_pos ke, if_pos k2s, w32_e (x := σ 87 8 - 2) (by omega) (by omega), w32_e (x := σ 87 8 - 1) (by omega) (by omega), if_pos (by omega), if_pos (by omega), ex1, ex2, w32_e (x := x1) (by omega) (by omega), w32_e (x := x2) (by omega) (by omega), e1]
          simp only [Option.bind_some]
          by_cases q : cS σ x1 = cS σ x2
          · rw [if_pos q, if_neg (by decide), mc_alike_b198_e, mc_alike_b203_e]
          · rw [if_neg q, if_pos rfl, mc_alike_b202_e, mc_alike_b203_e]
        · have t4 : t1 = 4 := by rw [kt1, k2s]; rfl
          have mi : mI T2 := mI_mv P1.1.2.1 (d119 9 (by decide)) (d119 10 (by decide)) (d119 12 (by decide)) (d119 13 (by decide)) (fun a q1 q2 => d a (by omega))
          have ms : ∀ r, mS T2 r = mS τ r := fun r => mS_mv fun a q1 q2 => d a (by omega)
          have vm : ∀ r, vM τ r → vM T2 r := fun r h => by unfold vM at h ⊢; rw [d119 10 (by decide), d119 13 (by decide)]; exact h
          have e2 := md_isSame_s mi (vm _ sv1.2.1) (vm _ sv2.2.1)
          rw [ms, ms, ← sv1.2.2, ← sv2.2.2] at e2
          rw [eM, md_compares_b171_e, if_pos (inj.mpr ke), if_pos t4, e2]
          simp only [Option.bind_some]
          rw [md_compares_b216_e]
      · -- truths, null, functions, objects
        have vv : (t1 = 0 ∧ x1 = x2) ∨ (t1 ≠ 0 ∧ t1 ≠ 4 ∧ (x1 = x2 ↔ y1 = y2)) := by
          rcases v1 with q | q | q | q | q | q | q
          · exact absurd ⟨Or.inl q.1, Or.inl (by omega)⟩ nn
          · exact absurd ⟨Or.inr q.1, Or.inr (by omega)⟩ nn
          · exact absurd q.1 k2s
          · rcases v2 with p | p | p | p | p | p | p
            all_goals first | exact absurd p.1 (by omega) | skip
            right
            have a1 := q.2.2.1
            have a2 := p.2.2.1
            refine ⟨by omega, by omega, by omega⟩
          · rcases v2 with p | p | p | p | p | p | p
            all_goals first | exact absurd p.1 (by omega) | skip
            left
            exact ⟨q.2.1, by have := q.2.2.1; have := p.2.2.1; omega⟩
          · rcases v2 with p | p | p | p | p | p | p
            all_goals first | exact absurd p.1 (by omega) | skip
            right
            exact ⟨by have := q.2.1; omega, by have := q.2.1; omega, rFn_inj P1.1.1 P1.2.1.1 P1.1.2.1 P1.2.1.2.1 q.2.2 p.2.2⟩
          · rcases v2 with p | p | p | p | p | p | p
            all_goals first | exact absurd p.1 (by omega) | skip
            right
            have a1 := q.2.2.1
            have a2 := p.2.2.1
            refine ⟨by have := q.2.1; omega, by have := q.2.1; omega, by omega⟩
        refine ⟨σ, if x1 = x2 then 1 else 0, by split <;> omega, fun _ _ _ => rfl, fun kd y0 => ?_, fun T2 d d119 => ⟨T2, fun _ _ _ _ => rfl, fun kd => ?_⟩⟩
        · rw [eC, mc_alike_b124_e, if_pos ke, if_neg k2s, w32_e (x := σ 87 8 - 2) (by omega) (by omega), w32_e (x := σ 87 8 - 1) (by omega) (by omega), if_pos (by omega), if_pos (by omega), ex1, ex2]
          by_cases q : x1 = x2
          · rw [if_pos (l_cmp_0.mpr q), if_pos q, mc_alike_b198_e, mc_alike_b203_e]
          · rw [if_neg (fun h => q (l_cmp_0.mp h)), if_neg q, mc_alike_b202_e, mc_alike_b203_e]
        · rw [eM, md_compares_b171_e, if_pos (inj.mpr ke)]
          rcases vv with ⟨a1, a2⟩ | ⟨a1, a2, a3⟩
          · rw [if_neg (by omega), if_pos a1, if_pos a2, md_compares_b211_e, md_compares_b216_e]
          · rw [if_neg a2, if_neg a1]
            by_cases q : x1 = x2
            · rw [if_pos (l_cmp_0.mpr (a3.mp q)), if_pos q, md_compares_b211_e, md_compares_b216_e]
            · rw [if_neg (fun h => q (a3.mpr (l_cmp_0.mp h))), if_neg q, md_compares_b216_e]
    · refine ⟨σ, 0, Or.inl rfl, fun _ _ _ => rfl, fun kd y0 => ?_, fun T2 d d119 => ⟨T2, fun _ _ _ _ => rfl, fun kd => ?_⟩⟩
      · rw [eC, mc_alike_b124_e, if_neg ke, mc_alike_b202_e, mc_alike_b203_e]
      · rw [eM, md_compares_b171_e, if_neg (fun h => ke (inj.mp h))]
/-- two things are found alike or not -/
theorem op_alk {E h' br' co' : Int} (R : RR σ τ pT hT (m + 1) br co θ) (en : τ 218 (τ 212 (σ 87 21) + m + 1) = n) (es : τ 219 (τ 212 (σ 87 21) + m + 1) = 2) (hn : 0 ≤ n ∧ σ 26 (σ 90 (σ 87 21)) ≤ n ∧ n < σ 26 (σ 90 (σ 87 21)) + σ 27 (σ 90 (σ 87 21))) (st : St σ τ (σ 26 (σ 90 (σ 87 21))) (σ 26 (σ 90 (σ 87 21)) + σ 27 (σ 90 (σ 87 21))) (σ 28 (σ 90 (σ 87 21))) (σ 28 (σ 90 (σ 87 21)) + σ 29 (σ 90 (σ 87 21)) - 2) (τ 212 (σ 87 21)) m E h' br' co') (hh : hT (σ 87 21) = h' - 1 + 2) (h1 : 1 ≤ h') (hb : h' ≤ 400) (hE : E = pT (σ 87 21) + 1) (kd : 16 ≤ τ 168 n ∧ τ 168 n ≤ 17) (i : cI σ (pT (σ 87 21)) 3 0 n) : goX σ τ θ := by
  obtain ⟨-, -, -, -, ⟨t1, t2⟩, t3, -, -, -, t6⟩ := R.top
  obtain ⟨c1, -, c2, pc, c5, c6, c7, c8, c9⟩ := R.cur
  obtain ⟨o, p1, p2, p3, p4, p5, p6⟩ := R.pl
  have Q := R.1
  have c8' := c9 n hn.2.1 hn.2.2
  have k9 : σ 9 n = τ 168 n := c8'.1.1.symm
  have n2 : 0 ≤ n ∧ n < 20000 := by omega
  have nb : 0 ≤ n ∧ n < 16000 := by omega
  obtain ⟨oo, w1, w2, w3, w4, w5⟩ := work2 R (n := n) (by omega) (by omega) (by omega) (by omega) i
  generalize eτ : gW τ 219 (τ 212 (σ 87 21) + m + 1) 3 = τ1
  have gs : ∀ a j, a ≠ 219 ∨ j ≠ τ 212 (σ 87 21) + m + 1 → τ1 a j = τ a j := fun a j q => by
    rw [← eτ]
    rcases q with q | q
    · exact gW_c q
    · exact gW_j q
  have dd : smM τ τ1 (τ 212 (σ 87 21)) := by rw [← eτ]; exact smM.g219 (by omega)
  have cc : smC σ σ := ⟨fun _ _ _ _ _ _ => rfl, fun _ _ _ _ => rfl⟩
  have v1 := p2 (σ 87 8 - 2) (by omega) (by omega)
  rw [show σ 87 8 - 2 + o = τ 119 125 - 2 by omega] at v1
  have v2 := p2 (σ 87 8 - 1) (by omega) (by omega)
  rw [show σ 87 8 - 1 + o = τ 119 125 - 1 by omega] at v2
  have v1' := (smC.rv cc dd).mpr v1
  have v2' := (smC.rv cc dd).mpr v2
  obtain ⟨kt1, k10, k16⟩ := v1.kt
  obtain ⟨kt2, k20, k26⟩ := v2.kt
  have Q0 : RQ σ τ1 pT hT := by
    have := Q.sm (S := σ) (T := τ1) (P' := pT (σ 87 21)) (h' := hT (σ 87 21)) cc dd pc
    rw [updF_same, updF_same] at this
    exact this
  have g119 : ∀ j, τ1 119 j = τ 119 j := fun j => gs 119 j (by omega)
  have g221 : ∀ j, τ1 221 j = τ 221 j := fun j => gs 221 j (by omega)
  have g222 : ∀ j, τ1 222 j = τ 222 j := fun j => gs 222 j (by omega)
  have ewM : md_works τ (τ 212 (σ 87 21) + m + 1) n (τ 168 n) = ((md_compares τ1 n (τ 168 n)).bind fun p1 => md_works_b98 p1.1) := by
    rw [md_works_e, if_neg (by omega), if_neg (by omega), if_pos t2, if_pos t2, if_pos t2, es, if_neg (by decide), if_pos (by omega), if_pos (by omega), w32_e (x := 2 + 1) (by decide) (by decide), ← eτ]
    rfl
  have eT : ∀ W : gM, gW W 119 11 (W 119 11) = W := fun W => gW_eq rfl
  -- which sort of things is seen
  generalize ey : (if σ 88 (σ 87 8 - 2) = σ 88 (σ 87 8 - 1) then (if σ 88 (σ 87 8 - 2) = 0 then (1 : Int) else if σ 88 (σ 87 8 - 2) = 3 then 2 else if σ 88 (σ 87 8 - 2) = 2 then 4 else 8) else 8) = y0
  have y0r : y0 = 1 ∨ y0 = 2 ∨ y0 = 4 ∨ y0 = 8 := by
    rw [← ey]
    split
    · split
      · omega
      · split
        · omega
        · split <;> omega
    · omega
  generalize ec : (if i_and (σ 11 n) 8 = 0 then y0 else 8) = yc
  have ycr : yc = 1 ∨ yc = 2 ∨ yc = 4 ∨ yc = 8 := by
    rw [← ec]
    split <;> omega
  have eA : mc_alike σ n (τ 168 n) = mc_alike_b79 σ n (τ 168 n) (σ 88 (σ 87 8 - 2)) (σ 88 (σ 87 8 - 1)) yc := by
    rw [mc_alike_e, w32_e (x := σ 87 8 - 2) (by omega) (by omega), w32_e (x := σ 87 8 - 1) (by omega) (by omega), if_pos (by omega), if_pos (by omega), if_pos nb]
    by_cases q8 : i_and (σ 11 n) 8 = 0
    · rw [if_pos q8] at ec ⊢
      rw [← ec, ← ey]
      by_cases q : σ 88 (σ 87 8 - 2) = σ 88 (σ 87 8 - 1)
      · rw [if_pos q, if_pos q]
        by_cases q0 : σ 88 (σ 87 8 - 2) = 0
        · rw [if_pos q0, if_pos q0]
        · rw [if_neg q0, if_neg q0]
          by_cases q3 : σ 88 (σ 87 8 - 2) = 3
          · rw [if_pos q3, if_pos q3]
          · rw [if_neg q3, if_neg q3]
            by_cases q2 : σ 88 (σ 87 8 - 2) = 2
            · rw [if_pos q2, if_pos q2]
            · rw [if_neg q2, if_neg q2]
      · rw [if_neg q, if_neg q, mc_alike_b46_e]
    · rw [if_neg q8] at ec ⊢
      rw [← ec, mc_alike_b46_e]
  have tv : ∀ k t, t = kT k → 0 ≤ k → k ≤ 6 → (t = 2 ↔ k = 0) ∧ (t = 1 ↔ k = 3) ∧ (t = 4 ↔ k = 2) := fun k t e k0 k6 => by
    rw [e]
    unfold kT
    split
    · omega
    · split
      · omega
      · split <;> omega
  have tv1 := tv _ _ kt1 k10 k16
  have tv2 := tv _ _ kt2 k20 k26
  have eB : md_compares τ1 n (τ 168 n) = md_compares_b98 τ1 n (τ 168 n) (τ 221 (τ 119 125 - 2)) (τ 221 (τ 119 125 - 1)) (τ 222 (τ 119 125 - 2)) (τ 222 (τ 119 125 - 1)) y0 := by
    rw [md_compares_e, g119, w32_e (x := τ 119 125 - 2) (by omega) (by omega), w32_e (x := τ 119 125 - 1) (by omega) (by omega), if_pos (by omega), if_pos (by omega), if_pos (by omega), if_pos (by omega), g221, g221, g222, g222]
    by_cases q : σ 88 (σ 87 8 - 2) = 0 ∧ σ 88 (σ 87 8 - 1) = 0
    · rw [if_pos (tv1.1.mpr q.1), if_pos (tv2.1.mpr q.2), ← ey, if_pos (by omega), if_pos q.1]
    · have e66 : ∀ W : Option (gM × Int), (if τ 221 (τ 119 125 - 2) = 2 then (if τ 221 (τ 119 125 - 1) = 2 then W else md_compares_b66 τ1 n (τ 168 n) (τ 221 (τ 119 125 - 2)) (τ 221 (τ 119 125 - 1)) (τ 222 (τ 119 125 - 2)) (τ 222 (τ 119 125 - 1))) else md_compares_b66 τ1 n (τ 168 n) (τ 221 (τ 119 125 - 2)) (τ 221 (τ 119 125 - 1)) (τ 222 (τ 119 125 - 2)) (τ 222 (τ 119 125 - 1))) = md_compares_b66 τ1 n (τ 168 n) (τ 221 (τ 119 125 - 2)) (τ 221 (τ 119 125 - 1)) (τ 222 (τ 119 125 - 2)) (τ 222 (τ 119 125 - 1)) := fun W => by
        by_cases a : τ 221 (τ 119 125 - 2) = 2
        · rw [if_pos a, if_neg (fun b => q ⟨tv1.1.mp a, tv2.1.mp b⟩)]
        · rw [if_neg a]
      rw [e66, md_compares_b66_e]
      by_cases q3 : σ 88 (σ 87 8 - 2) = 3 ∧ σ 88 (σ 87 8 - 1) = 3
      · rw [if_pos (tv1.2.1.mpr q3.1), if_pos (tv2.2.1.mpr q3.2), ← ey, if_pos (by omega), if_neg (by omega), if_pos q3.1]
      · have e81 : ∀ W : Option (gM × Int), (if τ 221 (τ 119 125 - 2) = 1 then (if τ 221 (τ 119 125 - 1) = 1 then W else md_compares_b81 τ1 n (τ 168 n) (τ 221 (τ 119 125 - 2)) (τ 221 (τ 119 125 - 1)) (τ 222 (τ 119 125 - 2)) (τ 222 (τ 119 125 - 1))) else md_compares_b81 τ1 n (τ 168 n) (τ 221 (τ 119 125 - 2)) (τ 221 (τ 119 125 - 1)) (τ 222 (τ 119 125 - 2)) (τ 222 (τ 119 125 - 1))) = md_compares_b81 τ1 n (τ 168 n) (τ 221 (τ 119 125 - 2)) (τ 221 (τ 119 125 - 1)) (τ 222 (τ 119 125 - 2)) (τ 222 (τ 119 125 - 1)) := fun W => by
          by_cases a : τ 221 (τ 119 125 - 2) = 1
          · rw [if_pos a, if_neg (fun b => q3 ⟨tv1.2.1.mp a, tv2.2.1.mp b⟩)]
          · rw [if_neg a]
        rw [e81, md_compares_b81_e]
        by_cases q2 : σ 88 (σ 87 8 - 2) = 2 ∧ σ 88 (σ 87 8 - 1) = 2
        · rw [if_pos (tv1.2.2.mpr q2.1), if_pos (tv2.2.2.mpr q2.2), ← ey, if_pos (by omega), if_neg (by omega), if_neg (by omega), if_pos q2.1]
        · have y8 : y0 = 8 := by
            rw [← ey]
            by_cases a : σ 88 (σ 87 8 - 2) = σ 88 (σ 87 8 - 1)
            · rw [if_pos a, if_neg (by omega), if_neg (by omega), if_neg (by omega)]
            · rw [if_neg a]
          by_cases a : τ 221 (τ 119 125 - 2) = 4
          · rw [if_pos a, if_neg (fun b => q2 ⟨tv1.2.2.mp a, tv2.2.2.mp b⟩), md_compares_b96_e, y8]
          · rw [if_neg a, md_compares_b96_e, y8]
  have has0 := has_s (b := y0) Q0 ⟨hn.2.1, hn.2.2⟩
  have has8 := has_s (b := 8) Q0 ⟨hn.2.1, hn.2.2⟩
  -- the component compares first
  obtain ⟨S0, v, vr, sS, sC, sM⟩ := alk_v (n := n) Q0 v1' v2' (by omega) rfl rfl rfl rfl (by rw [g119]; omega) (by rw [g119, g221]) (by rw [g119, g222]) (by rw [g119, g221]) (by rw [g119, g222])
  have c0 : smC σ S0 := ⟨fun a j q1 q2 q3 q4 => sS a j (by omega), fun j _ _ _ => sS 87 j (by decide)⟩
  have Q1 : RQ S0 τ1 pT hT := by
    have := Q.sm (S := S0) (T := τ1) (P' := pT (σ 87 21)) (h' := hT (σ 87 21)) c0 dd (by rw [sS 87 22 (by decide)]; exact pc)
    rw [updF_same, updF_same] at this
    exact this
  have kS : ∀ a, (a < 105 ∨ 110 < a) → S0 a = σ a := fun a q => funext fun j => sS a j q
  have hnS : S0 26 (S0 90 (S0 87 21)) ≤ n ∧ n < S0 26 (S0 90 (S0 87 21)) + S0 27 (S0 90 (S0 87 21)) := by
    rw [kS 87 (by decide), kS 90 (by decide), kS 26 (by decide), kS 27 (by decide)]
    exact ⟨hn.2.1, hn.2.2⟩
  have S9 : S0 9 n = τ 168 n := by rw [kS 9 (by decide), k9]
  have S11 : S0 11 n = σ 11 n := by rw [kS 11 (by decide)]
  obtain ⟨S2, T2, x1, x2, x3, x4, -, -, x7, x8⟩ := needs_pair (σ := S0) (τ := τ1) (w := τ1 119 11) (n := n) (b := yc) (rep := if yc = 8 then 1 else 0) (by rw [eT]; exact Q1) hnS (by omega) (by
    rcases ycr with z | z | z | z
    · exact Or.inl ⟨z, if_neg (by omega)⟩
    · exact Or.inr (Or.inr (Or.inl ⟨z, if_neg (by omega)⟩))
    · exact Or.inr (Or.inr (Or.inr (Or.inl ⟨z, if_neg (by omega)⟩)))
    · exact Or.inr (Or.inr (Or.inr (Or.inr ⟨z, if_pos z⟩)))) (fun h => by omega)
  have e2 : gW T2 119 11 (τ1 119 11) = T2 := gW_eq (x8 11 (by decide))
  rw [e2] at x3 x4
  rw [eT] at x4
  rw [S11] at x2
  -- the model compares then
  obtain ⟨T3, u1, u2⟩ := sM T2 (fun a q => by
    by_cases z : a ≤ 162
    · exact x7 a (by omega)
    · exact x4.2.2.2.1 a (by omega) (by omega)) (fun i q => x8 i q)
  have d3 : smM T2 T3 (T2 212 (S2 87 21)) := ⟨fun a j q1 q2 q3 q4 => u1 a j (by omega) (by omega), fun j q1 q2 q3 => u1 119 j (by decide) (by decide), fun a j q1 q2 q3 => u1 a j (by omega) (by omega)⟩
  have c3 : smC S2 S2 := ⟨fun _ _ _ _ _ _ => rfl, fun _ _ _ _ => rfl⟩
  have Q3 : RQ S2 T3 pT hT := by
    have := x3.sm (S := S2) (T := T3) (P' := pT (S2 87 21)) (h' := hT (S2 87 21)) c3 d3 x3.pcq
    rw [updF_same, updF_same] at this
    exact this
  have nd3 : ndX S0 τ1 S2 T3 := x4.sm c3 d3 (fun _ _ _ => rfl) rfl (fun a j q1 q2 => u1 a j (by omega) (by omega)) (fun j => u1 119 j (by decide) (by decide))
  have m98 : md_compares τ1 n (τ 168 n) = md_compares_b139 T2 (τ 168 n) (τ 221 (τ 119 125 - 2)) (τ 221 (τ 119 125 - 1)) (τ 222 (τ 119 125 - 2)) (τ 222 (τ 119 125 - 1)) := by
    rw [eB, md_compares_b98_e, has0]
    simp only [Option.bind_some]
    by_cases q8 : i_and (σ 11 n) 8 = 0
    · rw [if_pos q8] at ec
      rw [ec] at has0 ⊢
      rcases x2 with ⟨y1, y2⟩ | ⟨y1, y2⟩
      · rw [if_pos y1, if_pos rfl, has8]
        simp only [Option.bind_some]
        rw [if_pos q8, if_pos rfl]
        by_cases z : yc = 8
        · rw [if_pos z] at y2 ⊢
          rw [md_compares_b136_e, y2]
          rfl
        · rw [if_neg z] at y2 ⊢
          rw [md_compares_b136_e, y2]
          rfl
      · rw [if_neg y1, if_neg (show ¬ (1 : Int) = 0 by decide), y2]
    · rw [if_neg q8] at ec
      have e2' : T2 = τ1 := by
        rcases x2 with ⟨y1, -⟩ | ⟨-, y2⟩
        · rw [← ec] at y1
          exact absurd y1 q8
        · exact y2
      rw [e2']
      by_cases z : i_and (σ 11 n) y0 = 0
      · rw [if_pos z, if_pos rfl, has8]
        simp only [Option.bind_some]
        rw [if_neg q8, if_neg (show ¬ (1 : Int) = 0 by decide)]
      · rw [if_neg z, if_neg (show ¬ (1 : Int) = 0 by decide)]
  refine R.tru (S0 := S0) (T0 := τ1) (b := if v = (if τ 168 n = 16 then 1 else 0) then 1 else 0) en n2 st hh h1 hb hE ⟨by rw [i.1]; decide, by rw [i.1]; decide⟩ c0 dd (fun a j q => sS a j (by omega)) (fun a j q => gs a j (by omega)) (fun a j q1 q2 q3 => gs a j (by omega)) g119 (sS 87 8 (by decide)) Q3 nd3 (by split <;> omega) oo w1 w2 w3 w4 w5 ?_ ?_
  · have e22 : mc_two σ n = mc_two_b22 σ n (τ 168 n) := by
      rw [mc_two_e, if_pos nb, k9]
      by_cases z : τ 168 n = 16
      · rw [if_pos z]
      · rw [if_neg z, if_pos (by omega)]
    have e205 : mc_alike_b205 S0 n (τ 168 n) yc v = mc_alike_b221 S0 (τ 168 n) v (if yc = 8 then 1 else 0) yc n := by
      rw [mc_alike_b205_e]
      by_cases z : yc = 8
      · rw [if_pos z, if_pos z]
      · rw [if_neg z, if_neg z]
    have e239 : mc_alike σ n (τ 168 n) = mc_alike_b239 S2 (if τ 168 n = 16 then 1 else 0) v 3 := by
      rw [eA, sC, e205, mc_alike_b221_e, x1]
      simp only [Option.bind_some]
      by_cases z : τ 168 n = 16
      · rw [if_pos z, if_pos z]
      · rw [if_neg z, if_neg z]
    rw [e22, mc_two_b22_e, e239, mc_alike_b239_e]
    by_cases z : v = (if τ 168 n = 16 then 1 else 0)
    · rw [if_pos z, if_pos z, mc_alike_b247_e]
      cases mc_settle S2 3 1 with
      | none => rfl
      | some u => rfl
    · rw [if_neg z, if_neg z, mc_alike_b247_e]
      cases mc_settle S2 3 0 with
      | none => rfl
      | some u => rfl
  · have e233 : md_compares_b218 T3 (τ 168 n) v = md_compares_b233 T3 (if τ 168 n = 16 then 1 else 0) v 1 := by
      rw [md_compares_b218_e]
      by_cases z : τ 168 n = 16
      · rw [if_pos z, if_pos z]
      · rw [if_neg z, if_neg z]
    rw [ewM, m98, u2, e233, md_compares_b233_e]
    by_cases z : v = (if τ 168 n = 16 then 1 else 0)
    · rw [if_pos z, if_pos z, md_compares_b241_e]
      cases md_pairBecomes T3 1 1 with
      | none => rfl
      | some u => rfl
    · rw [if_neg z, if_neg z, md_compares_b241_e]
      cases md_pairBecomes T3 1 0 with
      | none => rfl
      | some u => rfl
end OA
