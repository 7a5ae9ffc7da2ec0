/-! numbers in a run: both sides -/
section NU
variable {σ τ S T : gM} {pT hT : Int → Int} {m : Nat} {br co θ n : Int}
/-- a value that is a number -/
def nuV (σ τ : gM) (k x t y z : Int) : Prop := (k = 0 ∧ t = 2 ∧ x = z ∧ y = z ∧ i64 z) ∨ (k = 1 ∧ t = 3 ∧ (0 ≤ x ∧ x < 33000) ∧ (0 ≤ y ∧ y < 27004) ∧ cB σ x z ∧ mB τ y z)
theorem rVal.num {k x t y : Int} (v : rVal σ τ k x t y) (hi : hI σ) (gr : rGr σ τ) (hk : k = 0 ∨ k = 1) : ∃ z, nuV σ τ k x t y z := by
  have h5 := hi.2.2.2.2.1
  obtain ⟨g1, g2, g3, g4, g5, g6⟩ := gr
  rcases v with q | q | q | q | q | q | q
  · exact ⟨x, Or.inl ⟨q.1, q.2.1, rfl, q.2.2.1.symm, q.2.2.2⟩⟩
  · obtain ⟨q1, q2, q3, q4, z, q5, q6⟩ := q
    exact ⟨z, Or.inr ⟨q1, q2, by omega, by omega, q5, q6⟩⟩
  all_goals exact absurd q.1 (by omega)
theorem nuV.mv {k x t y z : Int} (h : nuV σ τ k x t y z) (c6 : S 6 = σ 6) (c7 : S 7 = σ 7) (d : T 128 = τ 128) : nuV S T k x t y z := by
  unfold nuV cB mB at h ⊢
  rw [c6, c7, d]
  exact h
theorem wIs.mv {w x : Int} (h : wIs σ w x) (c0 : S w = σ w) (c1 : S (w + 1) = σ (w + 1)) : wIs S w x := by
  unfold wIs wOk wm at h ⊢
  rw [c0, c1]
  exact h
theorem wIs.rng {w x : Int} (h : wIs σ w x) : -1000000000000000000000000000000000000 < x ∧ x < 1000000000000000000000000000000000000 := by
  have r := wm_rng h.1
  rw [show (10 : Int) ^ 36 = 1000000000000000000000000000000000000 by decide +kernel] at r
  have := h.2
  omega
theorem wIs.sg {w x : Int} (h : wIs σ w x) : σ w 0 = 0 ↔ x = 0 := by
  have := h.2
  omega
/-- a number is laid out -/
theorem mc_whole_s {p w k x t y z : Int} (hp : 0 ≤ p ∧ p < 18240) (hw : w = 105 ∨ w = 108) (ek : σ 88 p = k) (ex : σ 89 p = x) (h : nuV σ τ k x t y z) : ∃ S, mc_whole σ p w = some (S, 0) ∧ wIs S w z ∧ wFr σ S w := by
  have gw : gWc w := by unfold gWc; omega
  rw [mc_whole_e, if_pos hp, ek, ex]
  rcases h with ⟨h1, -, h3, -, h5⟩ | ⟨h1, -, h3, -, h5, -⟩
  · obtain ⟨S, s1, s2, s3⟩ := wl_of_s (σ := σ) gw (v := z) h5
    rw [if_pos h1, if_pos hp, gWc_is _ gw, h3, s1]
    exact ⟨S, rfl, s2, s3⟩
  · obtain ⟨S, s1, s2, s3⟩ := hp_get_s (σ := σ) hw h3 h5
    rw [if_neg (by omega), if_pos hp, w32_e (by omega) (by omega), s1]
    exact ⟨S, rfl, s2, s3⟩
theorem sprd_s {c k x t y z : Int} (hc : gMc c) (h : nuV σ τ k x t y z) : ∃ T, md_spread τ t y c = some (T, 0) ∧ mIs T c z ∧ (∀ b j, b ≠ c → T b j = τ b j) := by
  rcases h with ⟨-, h2, -, h4, h5⟩ | ⟨-, h2, -, h4, -, h6⟩
  · obtain ⟨T, s1, s2, -, s4⟩ := md_spread_l1 (σ := τ) hc (v := z) (t := t) (by omega) h5
    rw [h4]
    exact ⟨T, s1, s2, s4⟩
  · obtain ⟨T, s1, s2, -, -, s4⟩ := md_spread_s (τ := τ) hc h4 h6
    rw [h2]
    exact ⟨T, s1, s2, s4⟩
def zR (kd x y : Int) : Int := if kd = 8 then x + y else if kd = 9 then x - y else if kd = 10 then x * y else Int.tdiv x y
/-- reckoned with great numbers: the component -/
theorem two_big {k1 x1 t1 y1 z1 k2 x2 t2 y2 z2 kd : Int} (h8 : 2 ≤ σ 87 8 ∧ σ 87 8 ≤ 18240) (ek1 : σ 88 (σ 87 8 - 2) = k1) (ex1 : σ 89 (σ 87 8 - 2) = x1) (ek2 : σ 88 (σ 87 8 - 1) = k2) (ex2 : σ 89 (σ 87 8 - 1) = x2) (h1 : nuV σ τ k1 x1 t1 y1 z1) (h2 : nuV σ τ k2 x2 t2 y2 z2) (hk : 8 ≤ kd ∧ kd ≤ 11) : ∃ S, (∀ a j, (a < 105 ∨ 116 < a) → S a j = σ a j) ∧ ((kd = 11 ∧ z2 = 0 ∧ mc_two_b242 σ n kd = ((mc_fails S 2 n).bind fun p3 => g01 p3.2 (some (p3.1, p3.2)))) ∨ (¬ (kd = 11 ∧ z2 = 0) ∧ ∃ r, mc_two_b242 σ n kd = mc_two_b384 S n r ∧ ((r = 1 ∧ wIs S 111 (zR kd z1 z2)) ∨ (r = 0 ∧ (zR kd z1 z2 ≤ -1000000000000000000000000000000000000 ∨ 1000000000000000000000000000000000000 ≤ zR kd z1 z2))))) := by
  obtain ⟨S1, e1, w1, f1⟩ := mc_whole_s (σ := σ) (p := σ 87 8 - 2) (w := 105) (by omega) (Or.inl rfl) ek1 ex1 h1
  have k1' : ∀ a j, (a < 105 ∨ 107 < a) → S1 a j = σ a j := fun a j q => f1 a j (by omega) (by omega) (by omega)
  have c1 : ∀ a, (a < 105 ∨ 107 < a) → S1 a = σ a := fun a q => funext fun j => k1' a j q
  obtain ⟨S2, e2, w2, f2⟩ := mc_whole_s (σ := S1) (τ := τ) (p := σ 87 8 - 1) (w := 108) (by omega) (Or.inr rfl) (by rw [k1' 88 _ (by decide)]; exact ek2) (by rw [k1' 89 _ (by decide)]; exact ex2) (h2.mv (c1 6 (by decide)) (c1 7 (by decide)) rfl)
  have k2' : ∀ a j, (a < 108 ∨ 110 < a) → S2 a j = S1 a j := fun a j q => f2 a j (by omega) (by omega) (by omega)
  have c2 : ∀ a, (a < 108 ∨ 110 < a) → S2 a = S1 a := fun a q => funext fun j => k2' a j q
  have v1 : wIs S2 105 z1 := w1.mv (c2 105 (by decide)) (c2 106 (by decide))
  have kS : ∀ a j, (a < 105 ∨ 110 < a) → S2 a j = σ a j := fun a j q => by rw [k2' a j (by omega), k1' a j (by omega)]
  have eq : mc_two_b242 σ n kd = (if kd = 11 then (if S2 108 0 = 0 then ((mc_fails S2 2 n).bind fun p3 => g01 p3.2 (some (p3.1, p3.2))) else mc_two_b293 S2 n kd) else mc_two_b293 S2 n kd) := by
    rw [mc_two_b242_e, w32_e (x := σ 87 8 - 2) (by omega) (by omega), e1]
    simp only [Option.bind_some]
    rw [k1' 87 8 (by decide), w32_e (x := σ 87 8 - 1) (by omega) (by omega), e2]
    simp only [Option.bind_some]
  have g105 : gWc 105 := by unfold gWc; omega
  have g108 : gWc 108 := by unfold gWc; omega
  have g111 : gWc 111 := by unfold gWc; omega
  have g114 : gWc 114 := by unfold gWc; omega
  by_cases q11 : kd = 11
  · by_cases qz : z2 = 0
    · refine ⟨S2, fun a j q => kS a j (by omega), Or.inl ⟨q11, qz, ?_⟩⟩
      rw [eq, if_pos q11, if_pos (w2.sg.mpr qz)]
    · obtain ⟨S3, e3, w3, f3⟩ := wl_quotient_s (σ := S2) g111 g105 g108 g114 (by decide) (by decide) (by decide) (by decide) (by decide) v1 w2 qz
      refine ⟨S3, fun a j q => by rw [f3 a j (by omega) (by omega) (by omega) (by omega) (by omega) (by omega), kS a j (by omega)], Or.inr ⟨fun q => qz q.2, 1, ?_, Or.inl ⟨rfl, ?_⟩⟩⟩
      · rw [eq, if_pos q11, if_neg (fun q => qz (w2.sg.mp q)), mc_two_b293_e, if_neg (by omega), if_neg (by omega), if_neg (by omega), e3]
        rfl
      · unfold zR
        rw [if_neg (by omega), if_neg (by omega), if_neg (by omega)]
        exact w3
  · by_cases q10 : kd = 10
    · obtain ⟨S3, r, e3, f3, a1, a2⟩ := wl_product_s (σ := S2) g111 g105 g108 (by decide) (by decide) v1 w2
      have ez : zR kd z1 z2 = z1 * z2 := by unfold zR; rw [if_neg (by omega), if_neg (by omega), if_pos q10]
      refine ⟨S3, fun a j q => by rw [f3 a j (by omega) (by omega) (by omega), kS a j (by omega)], Or.inr ⟨fun q => q11 q.1, r, ?_, ?_⟩⟩
      · rw [eq, if_neg q11, mc_two_b293_e, if_neg (by omega), if_neg (by omega), if_pos q10, e3]
        rfl
      · rw [ez]
        by_cases y : -1000000000000000000000000000000000000 < z1 * z2 ∧ z1 * z2 < 1000000000000000000000000000000000000
        · exact Or.inl (a1 y.1 y.2)
        · have y' : z1 * z2 ≤ -1000000000000000000000000000000000000 ∨ 1000000000000000000000000000000000000 ≤ z1 * z2 := by
            generalize z1 * z2 = p at y ⊢
            omega
          exact Or.inr ⟨a2 y', y'⟩
    · have hm : (if kd = 9 then (1 : Int) else 0) = 0 ∨ (if kd = 9 then (1 : Int) else 0) = 1 := by split <;> omega
      obtain ⟨S3, r, e3, f3, a1, a2⟩ := wl_sum_s (σ := S2) (m := if kd = 9 then 1 else 0) g111 g105 g108 (by decide) (by decide) v1 w2 hm
      have ez : (if (if kd = 9 then (1 : Int) else 0) = 0 then z1 + z2 else z1 - z2) = zR kd z1 z2 := by
        unfold zR
        by_cases y : kd = 9
        · rw [if_pos y, if_neg (by decide), if_neg (by omega), if_pos y]
        · rw [if_neg y, if_pos rfl, if_pos (by omega)]
      rw [ez] at a1 a2
      refine ⟨S3, fun a j q => by rw [f3 a j (by omega) (by omega) (by omega), kS a j (by omega)], Or.inr ⟨fun q => q11 q.1, r, ?_, ?_⟩⟩
      · have e308 : mc_two_b293 S2 n kd = mc_two_b331 S2 n (if kd = 9 then 1 else 0) := by
          rw [mc_two_b293_e]
          by_cases y : kd = 9
          · rw [if_neg (by omega), if_pos y, mc_two_b308_e, if_pos y, if_pos y]
          · rw [if_pos (by omega), mc_two_b308_e, if_neg y, if_neg y]
        rw [eq, if_neg q11, e308, mc_two_b331_e, e3]
        rfl
      · generalize zR kd z1 z2 = p at a1 a2 ⊢
        by_cases y : -1000000000000000000000000000000000000 < p ∧ p < 1000000000000000000000000000000000000
        · exact Or.inl (a1 y.1 y.2)
        · have y' : p ≤ -1000000000000000000000000000000000000 ∨ 1000000000000000000000000000000000000 ≤ p := by omega
          exact Or.inr ⟨a2 y', y'⟩
theorem tdiv_i {x y : Int} (hx : i64 x) (hy : y ≠ 0) (h : ¬ (x = -9223372036854775808 ∧ y = -1)) : i64 (Int.tdiv x y) := by
  have e : (x.tdiv y).natAbs = x.natAbs / y.natAbs := Int.natAbs_tdiv x y
  have l := Nat.div_le_self x.natAbs y.natAbs
  unfold i64 at hx ⊢
  by_cases q : x = -9223372036854775808
  · have ny : y ≠ -1 := fun w => h ⟨q, w⟩
    by_cases q1 : y = 1
    · rw [q1, Int.tdiv_one]
      exact hx
    · have y2 : 2 ≤ y.natAbs := by omega
      have l2 : x.natAbs / y.natAbs ≤ x.natAbs / 2 := Nat.div_le_div_left y2 (by decide)
      have : x.natAbs = 9223372036854775808 := by rw [q]; rfl
      rw [this] at l2 e
      rw [show 9223372036854775808 / 2 = 4611686018427387904 from rfl] at l2
      generalize 9223372036854775808 / y.natAbs = d at l2 e
      generalize x.tdiv y = v at e ⊢
      omega
  · generalize x.natAbs / y.natAbs = d at l e
    generalize x.tdiv y = v at e ⊢
    omega
/-- the component's ways to see whether a long holds the result -/
theorem mc_fits_s {kd x y : Int} (hx : i64 x) (hy : i64 y) (hk : 8 ≤ kd ∧ kd ≤ 11) (h0 : kd = 11 → y ≠ 0) : ∃ S r, mc_fits σ kd x y = some (S, r) ∧ (∀ a j, a ≠ 87 ∨ j ≠ 47 → S a j = σ a j) ∧ ((i64 (zR kd x y) ∧ r = 1 ∧ S 87 47 = zR kd x y) ∨ (¬ i64 (zR kd x y) ∧ r = 0)) ∧ ∀ v, mc_fits (gW σ 87 47 v) kd x y = some (if kd = 11 ∧ x = -9223372036854775808 ∧ y = -1 then gW σ 87 47 v else S, r) := by
  have fr : ∀ v a j, (a ≠ 87 ∨ j ≠ 47) → gW σ 87 47 v a j = σ a j := fun v a j q => by
    rcases q with q | q
    · exact gW_c q
    · by_cases z : a = 87
      · rw [z, gW_i q]
      · exact gW_c z
  have tw : ∀ u v, gW (gW σ 87 47 u) 87 47 v = gW σ 87 47 v := fun u v => by
    funext a j
    unfold gW
    split
    · rfl
    · rfl
  have r64 : ∀ z, i64 (w64 z) := fun z => w64_rng z
  by_cases q8 : kd = 8
  · have e : ∀ W : gM, mc_fits W kd x y = if l_cmp (l_and (l_xor x (w64 (x + y))) (l_xor y (w64 (x + y)))) 0 < 0 then some (gW W 87 47 (w64 (x + y)), 0) else some (gW W 87 47 (w64 (x + y)), 1) := fun W => by rw [mc_fits_e, if_pos q8]
    have ez : zR kd x y = x + y := by unfold zR; rw [if_pos q8]
    have c : l_cmp (l_and (l_xor x (w64 (x + y))) (l_xor y (w64 (x + y)))) 0 < 0 ↔ ¬ i64 (x + y) := by
      rw [l_cmp_lt, (l_neg (l_xor_i _ _) (l_xor_i _ _)).1, (l_neg hx (r64 _)).2, (l_neg hy (r64 _)).2]
      obtain ⟨q, hq⟩ := w64_ex (x + y)
      have hr := w64_rng (x + y)
      unfold i64 at hx hy ⊢
      rw [hq] at hr ⊢
      omega
    by_cases z : i64 (x + y)
    · refine ⟨gW σ 87 47 (w64 (x + y)), 1, by rw [e, if_neg (fun w => c.mp w z)], fun a j q => fr _ a j q, Or.inl ⟨by rw [ez]; exact z, rfl, by rw [gW_at, ez, w64_e z.1 z.2]⟩, fun v => by rw [e, if_neg (fun w => c.mp w z), tw, if_neg (by omega)]⟩
    · refine ⟨gW σ 87 47 (w64 (x + y)), 0, by rw [e, if_pos (c.mpr z)], fun a j q => fr _ a j q, Or.inr ⟨by rw [ez]; exact z, rfl⟩, fun v => by rw [e, if_pos (c.mpr z), tw, if_neg (by omega)]⟩
  · by_cases q9 : kd = 9
    · have e : ∀ W : gM, mc_fits W kd x y = if l_cmp (l_and (l_xor x y) (l_xor x (w64 (x - y)))) 0 < 0 then some (gW W 87 47 (w64 (x - y)), 0) else some (gW W 87 47 (w64 (x - y)), 1) := fun W => by rw [mc_fits_e, if_neg q8, if_pos q9]
      have ez : zR kd x y = x - y := by unfold zR; rw [if_neg q8, if_pos q9]
      have c : l_cmp (l_and (l_xor x y) (l_xor x (w64 (x - y)))) 0 < 0 ↔ ¬ i64 (x - y) := by
        rw [l_cmp_lt, (l_neg (l_xor_i _ _) (l_xor_i _ _)).1, (l_neg hx hy).2, (l_neg hx (r64 _)).2]
        obtain ⟨q, hq⟩ := w64_ex (x - y)
        have hr := w64_rng (x - y)
        unfold i64 at hx hy ⊢
        rw [hq] at hr ⊢
        omega
      by_cases z : i64 (x - y)
      · refine ⟨gW σ 87 47 (w64 (x - y)), 1, by rw [e, if_neg (fun w => c.mp w z)], fun a j q => fr _ a j q, Or.inl ⟨by rw [ez]; exact z, rfl, by rw [gW_at, ez, w64_e z.1 z.2]⟩, fun v => by rw [e, if_neg (fun w => c.mp w z), tw, if_neg (by omega)]⟩
      · refine ⟨gW σ 87 47 (w64 (x - y)), 0, by rw [e, if_pos (c.mpr z)], fun a j q => fr _ a j q, Or.inr ⟨by rw [ez]; exact z, rfl⟩, fun v => by rw [e, if_pos (c.mpr z), tw, if_neg (by omega)]⟩
    · by_cases q10 : kd = 10
      · have e : ∀ W : gM, mc_fits W kd x y = if l_cmp (x * y / 18446744073709551616) (l_shr (w64 (x * y)) 63) = 0 then some (gW W 87 47 (w64 (x * y)), 1) else some (gW W 87 47 (w64 (x * y)), 0) := fun W => by
          rw [mc_fits_e, if_neg q8, if_neg q9, if_pos q10, jm_multiplyHigh_s hx hy]
          simp only [Option.bind_some]
          rw [gW_at]
        have ez : zR kd x y = x * y := by unfold zR; rw [if_neg q8, if_neg q9, if_pos q10]
        have c : l_cmp (x * y / 18446744073709551616) (l_shr (w64 (x * y)) 63) = 0 ↔ i64 (x * y) := by
          rw [l_cmp_0, l_shr_63 (r64 _)]
          obtain ⟨q, hq⟩ := w64_ex (x * y)
          have hr := w64_rng (x * y)
          generalize x * y = p at hq hr ⊢
          unfold i64
          rw [hq] at hr ⊢
          split <;> omega
        by_cases z : i64 (x * y)
        · refine ⟨gW σ 87 47 (w64 (x * y)), 1, by rw [e, if_pos (c.mpr z)], fun a j q => fr _ a j q, Or.inl ⟨by rw [ez]; exact z, rfl, by rw [gW_at, ez, w64_e z.1 z.2]⟩, fun v => by rw [e, if_pos (c.mpr z), tw, if_neg (by omega)]⟩
        · refine ⟨gW σ 87 47 (w64 (x * y)), 0, by rw [e, if_neg (fun w => z (c.mp w))], fun a j q => fr _ a j q, Or.inr ⟨by rw [ez]; exact z, rfl⟩, fun v => by rw [e, if_neg (fun w => z (c.mp w)), tw, if_neg (by omega)]⟩
      · have y0 := h0 (by omega)
        have ez : zR kd x y = Int.tdiv x y := by unfold zR; rw [if_neg q8, if_neg q9, if_neg q10]
        have e : ∀ W : gM, mc_fits W kd x y = if x = -9223372036854775808 ∧ y = -1 then some (W, 0) else some (gW W 87 47 (w64 (Int.tdiv x y)), 1) := fun W => by
          rw [mc_fits_e, if_neg q8, if_neg q9, if_neg q10]
          simp only [l_cmp_0, mc_fits_b141_e]
          by_cases a : x = -9223372036854775808
          · by_cases b : y = -1
            · rw [if_pos a, if_pos b, if_pos ⟨a, b⟩]
            · rw [if_pos a, if_neg b, if_neg y0, if_neg (fun w => b w.2)]
          · rw [if_neg a, if_neg y0, if_neg (fun w => a w.1)]
        by_cases z : x = -9223372036854775808 ∧ y = -1
        · refine ⟨σ, 0, by rw [e, if_pos z], fun _ _ _ => rfl, Or.inr ⟨?_, rfl⟩, fun v => by rw [e, if_pos z, if_pos ⟨by omega, z⟩]⟩
          rw [ez, z.1, z.2]
          unfold i64
          decide
        · have ti := tdiv_i hx y0 z
          refine ⟨gW σ 87 47 (w64 (Int.tdiv x y)), 1, by rw [e, if_neg z], fun a j q => fr _ a j q, Or.inl ⟨by rw [ez]; exact ti, rfl, by rw [gW_at, ez, w64_e ti.1 ti.2]⟩, fun v => by rw [e, if_neg z, tw, if_neg (fun w => z w.2)]⟩
end NU
