/-! an operator's instruction: the component -/
section W2
variable {σ τ S T Z X : gM} {pT hT : Int → Int} {m : Nat} {br co θ n : Int}
theorem areL_1 {W : gM} (h8 : 2 ≤ W 87 8 ∧ W 87 8 ≤ 18240) (q1 : W 88 (W 87 8 - 2) = 0) (q2 : W 88 (W 87 8 - 1) = 0) : mc_areLongs W = some (W, 1) := by
  rw [mc_areLongs_e, w32_e (x := W 87 8 - 2) (by omega) (by omega), w32_e (x := W 87 8 - 1) (by omega) (by omega), if_pos (by omega), if_pos q1, if_pos (by omega), if_pos q2]
theorem areL_0 {W : gM} (h8 : 2 ≤ W 87 8 ∧ W 87 8 ≤ 18240) (q : ¬ (W 88 (W 87 8 - 2) = 0 ∧ W 88 (W 87 8 - 1) = 0)) : mc_areLongs W = some (W, 0) := by
  rw [mc_areLongs_e, w32_e (x := W 87 8 - 2) (by omega) (by omega), w32_e (x := W 87 8 - 1) (by omega) (by omega), if_pos (by omega)]
  by_cases q1 : W 88 (W 87 8 - 2) = 0
  · rw [if_pos q1, if_pos (by omega), if_neg (fun q2 => q ⟨q1, q2⟩)]
  · rw [if_neg q1]
theorem isN_1 {W : gM} {p : Int} (hp : 0 ≤ p ∧ p < 18240) (q : W 88 p = 0 ∨ W 88 p = 1) : mc_isNumber W p = some (W, 1) := by
  rw [mc_isNumber_e, if_pos hp]
  by_cases z : W 88 p = 0
  · rw [if_pos z, mc_isNumber_b19_e]
  · rw [if_neg z, if_pos hp, if_pos (by omega), mc_isNumber_b19_e]
theorem isN_0 {W : gM} {p : Int} (hp : 0 ≤ p ∧ p < 18240) (q : ¬ (W 88 p = 0 ∨ W 88 p = 1)) : mc_isNumber W p = some (W, 0) := by
  rw [mc_isNumber_e, if_pos hp, if_neg (by omega), if_pos hp, if_neg (by omega)]
/-- two numbers -/
theorem two_num {W : gM} (nb : 0 ≤ n ∧ n < 16000) (h9 : 8 ≤ W 9 n ∧ W 9 n ≤ 15) (h8 : 2 ≤ W 87 8 ∧ W 87 8 ≤ 18240) (q1 : W 88 (W 87 8 - 2) = 0 ∨ W 88 (W 87 8 - 2) = 1) (q2 : W 88 (W 87 8 - 1) = 0 ∨ W 88 (W 87 8 - 1) = 1) : mc_two W n = mc_two_b132 W n (W 9 n) (if (W 88 (W 87 8 - 2) = 0 ∧ W 88 (W 87 8 - 1) = 0) ∧ i_and (W 11 n) 2 = 0 then 1 else 0) := by
  rw [mc_two_e, if_pos nb, if_neg (by omega), if_neg (by omega), w32_e (x := W 87 8 - 2) (by omega) (by omega), isN_1 (by omega) q1]
  simp only [Option.bind_some]
  rw [if_neg (show ¬ (1 : Int) = 0 by decide), w32_e (x := W 87 8 - 1) (by omega) (by omega), isN_1 (by omega) q2]
  simp only [Option.bind_some]
  rw [if_neg (show ¬ (1 : Int) = 0 by decide)]
  by_cases z : W 88 (W 87 8 - 2) = 0 ∧ W 88 (W 87 8 - 1) = 0
  · rw [areL_1 h8 z.1 z.2]
    simp only [Option.bind_some]
    rw [if_neg (show ¬ (1 : Int) = 0 by decide), if_pos nb]
    by_cases y : i_and (W 11 n) 2 = 0
    · rw [if_pos y, if_pos ⟨z, y⟩]
    · rw [if_neg y, if_neg (fun k => y k.2), mc_two_b131_e]
  · rw [areL_0 h8 z]
    simp only [Option.bind_some, if_true]
    rw [if_neg (fun k => z k.1), mc_two_b131_e]
/-- the instruction for longs does what the other one does -/
theorem work18 (nb : 0 ≤ n ∧ n < 16000) (h9 : 8 ≤ σ 9 n ∧ σ 9 n ≤ 15) (h11 : σ 11 n = 1) (h8 : 2 ≤ σ 87 8 ∧ σ 87 8 ≤ 18240) (l1 : σ 88 (σ 87 8 - 2) = 0 → i64 (σ 89 (σ 87 8 - 2))) (l2 : σ 88 (σ 87 8 - 1) = 0 → i64 (σ 89 (σ 87 8 - 1))) : mc_work σ 18 n = mc_work_b203 σ n := by
  have e18 : mc_work σ 18 n = ((mc_longs σ n).bind fun p14 => if p14.2 = 0 then (mc_work_b203 p14.1 n) else (mc_work_b211 p14.1)) := by rw [mc_work_e]; rfl
  rw [e18]
  by_cases q : σ 88 (σ 87 8 - 2) = 0 ∧ σ 88 (σ 87 8 - 1) = 0
  · have x1 := l1 q.1
    have x2 := l2 q.2
    have b1 : i_and 1 2 = 0 := by decide +kernel
    have b2 : ¬ i_and 1 1 = 0 := by decide +kernel
    have two : ∀ v, mc_two (gW σ 87 47 v) n = mc_two_b132 (gW σ 87 47 v) n (σ 9 n) 1 := fun v => by
      have c : ∀ a, a ≠ 87 → gW σ 87 47 v a = σ a := fun a h => gW_cell h
      have c8 : gW σ 87 47 v 87 8 = σ 87 8 := gW_i (by decide)
      rw [two_num nb (by rw [c 9 (by decide)]; exact h9) (by rw [c8]; exact h8) (by rw [c8, c 88 (by decide)]; exact Or.inl q.1) (by rw [c8, c 88 (by decide)]; exact Or.inl q.2), c8, c 88 (by decide), c 9 (by decide), c 11 (by decide), h11, if_pos ⟨q, b1⟩]
    have two0 : mc_two σ n = mc_two_b132 σ n (σ 9 n) 1 := by
      have := two (σ 87 47)
      rw [gW_eq rfl] at this
      exact this
    have el : mc_longs σ n = (if σ 9 n < 12 then (if σ 9 n = 11 then (if l_cmp (σ 89 (σ 87 8 - 1)) 0 = 0 then (some (σ, 0)) else (mc_longs_b92 σ (σ 89 (σ 87 8 - 2)) (σ 89 (σ 87 8 - 1)) (σ 9 n))) else (mc_longs_b92 σ (σ 89 (σ 87 8 - 2)) (σ 89 (σ 87 8 - 1)) (σ 9 n))) else ((jl_compare σ (σ 89 (σ 87 8 - 2)) (σ 89 (σ 87 8 - 1))).bind fun p2 => (mc_holds p2.1 (σ 9 n) p2.2).bind fun p3 => if p3.2 = 0 then (mc_longs_b73 p3.1 0 3) else (mc_longs_b73 p3.1 1 3))) := by
      rw [mc_longs_e, areL_1 h8 q.1 q.2]
      simp only [Option.bind_some]
      rw [if_neg (show ¬ (1 : Int) = 0 by decide), w32_e (x := σ 87 8 - 2) (by omega) (by omega), w32_e (x := σ 87 8 - 1) (by omega) (by omega), if_pos (by omega), if_pos (by omega), if_pos nb]
    have nd : ∀ W : gM, W 11 n = 1 → mc_needs W n 1 0 = some (W, 0) := fun W e => by rw [mc_needs_e, if_pos nb, e, if_neg b2]
    by_cases k : σ 9 n < 12
    · rw [if_pos k] at el
      by_cases dz : σ 9 n = 11 ∧ σ 89 (σ 87 8 - 1) = 0
      · rw [if_pos dz.1, if_pos (by rw [l_cmp_0]; exact dz.2)] at el
        rw [el]
        simp only [Option.bind_some, if_true]
      · have el2 : mc_longs σ n = mc_longs_b92 σ (σ 89 (σ 87 8 - 2)) (σ 89 (σ 87 8 - 1)) (σ 9 n) := by
          rw [el]
          by_cases y : σ 9 n = 11
          · rw [if_pos y, if_neg (fun h => dz ⟨y, l_cmp_0.mp h⟩)]
          · rw [if_neg y]
        obtain ⟨S, r, f1, f2, f3, f4⟩ := mc_fits_s (σ := σ) (kd := σ 9 n) x1 x2 (by omega) (fun h0 h1 => dz ⟨h0, h1⟩)
        have tb : ∀ v, mc_two_b132 (gW σ 87 47 v) n (σ 9 n) 1 = mc_two_b190 (gW σ 87 47 v) n (σ 9 n) 1 := fun v => by
          have c : ∀ a, a ≠ 87 → gW σ 87 47 v a = σ a := fun a h => gW_cell h
          have c8 : gW σ 87 47 v 87 8 = σ 87 8 := gW_i (by decide)
          rw [mc_two_b132_e, if_pos k]
          by_cases y : σ 9 n = 11
          · rw [if_pos y, c8, w32_e (x := σ 87 8 - 1) (by omega) (by omega), if_pos (by omega), c 88 (by decide), c 89 (by decide), if_pos q.2, if_pos (by omega), if_neg (fun h => dz ⟨y, l_cmp_0.mp h⟩)]
          · rw [if_neg y]
        have tc : ∀ v, mc_two_b190 (gW σ 87 47 v) n (σ 9 n) 1 = ((mc_fits (gW σ 87 47 v) (σ 9 n) (σ 89 (σ 87 8 - 2)) (σ 89 (σ 87 8 - 1))).bind fun p1 => if p1.2 = 0 then (mc_two_b242 p1.1 n (σ 9 n)) else ((mc_needs p1.1 n 1 0).bind fun p2 => (mc_settle p2.1 0 (p2.1 87 47)).bind fun p3 => some (p3.1, 1))) := fun v => by
          have c : ∀ a, a ≠ 87 → gW σ 87 47 v a = σ a := fun a h => gW_cell h
          have c8 : gW σ 87 47 v 87 8 = σ 87 8 := gW_i (by decide)
          rw [mc_two_b190_e, if_neg (show ¬ (1 : Int) = 0 by decide), c8, w32_e (x := σ 87 8 - 2) (by omega) (by omega), w32_e (x := σ 87 8 - 1) (by omega) (by omega), if_pos (by omega), if_pos (by omega), c 89 (by decide)]
        have t0 : mc_two σ n = ((mc_fits σ (σ 9 n) (σ 89 (σ 87 8 - 2)) (σ 89 (σ 87 8 - 1))).bind fun p1 => if p1.2 = 0 then (mc_two_b242 p1.1 n (σ 9 n)) else ((mc_needs p1.1 n 1 0).bind fun p2 => (mc_settle p2.1 0 (p2.1 87 47)).bind fun p3 => some (p3.1, 1))) := by
          have a1 := tb (σ 87 47)
          have a2 := tc (σ 87 47)
          rw [gW_eq rfl] at a1 a2
          rw [two0, a1, a2]
        rw [el2, mc_longs_b92_e, f1]
        simp only [Option.bind_some]
        rcases f3 with ⟨-, r1, -⟩ | ⟨-, r0⟩
        · rw [r1, if_neg (show ¬ (1 : Int) = 0 by decide), mc_work_b203_e, t0, f1, r1]
          simp only [Option.bind_some]
          rw [if_neg (show ¬ (1 : Int) = 0 by decide), nd S (by rw [f2 11 n (Or.inl (by decide))]; exact h11)]
          simp only [Option.bind_some]
          cases mc_settle S 0 (S 87 47) with
          | none => rfl
          | some p => rfl
        · rw [r0, if_pos rfl]
          simp only [Option.bind_some, if_true]
          have eS : S = gW σ 87 47 (S 87 47) := by
            funext a j
            by_cases y : a = 87 ∧ j = 47
            · rw [y.1, y.2, gW_at]
            · rw [f2 a j (by omega)]
              unfold gW
              rw [if_neg y]
          have g4 := f4 (S 87 47)
          rw [← eS] at g4
          have g5 : mc_fits S (σ 9 n) (σ 89 (σ 87 8 - 2)) (σ 89 (σ 87 8 - 1)) = some (S, 0) := by
            rw [g4, r0]
            split <;> rfl
          have tS : mc_two S n = mc_two_b242 S n (σ 9 n) := by
            rw [eS, two, tb, tc, ← eS, g5]
            simp only [Option.bind_some, if_true]
          have tσ : mc_two σ n = mc_two_b242 S n (σ 9 n) := by
            rw [t0, f1, r0]
            simp only [Option.bind_some, if_true]
          rw [mc_work_b203_e, mc_work_b203_e, tS, tσ]
    · rw [if_neg k] at el
      rw [el, mc_work_b203_e, two0, mc_two_b132_e, if_neg k, mc_compares_e, if_neg (show ¬ (1 : Int) = 0 by decide), mc_compares_b11_e, if_neg (show ¬ (1 : Int) = 0 by decide), mc_compares_b20_e, nd σ h11]
      simp only [Option.bind_some]
      rw [mc_order_e, areL_1 h8 q.1 q.2]
      simp only [Option.bind_some]
      rw [if_neg (show ¬ (1 : Int) = 0 by decide), w32_e (x := σ 87 8 - 2) (by omega) (by omega), w32_e (x := σ 87 8 - 1) (by omega) (by omega), if_pos (by omega), if_pos (by omega)]
      cases jl_compare σ (σ 89 (σ 87 8 - 2)) (σ 89 (σ 87 8 - 1)) with
      | none => rfl
      | some p =>
        simp only [Option.bind_some]
        cases mc_holds p.1 (σ 9 n) p.2 with
        | none => rfl
        | some u =>
          simp only [Option.bind_some]
          by_cases y : u.2 = 0
          · rw [if_pos y, if_pos y, mc_longs_b73_e, mc_compares_b41_e]
            cases mc_settle u.1 3 0 with
            | none => rfl
            | some v => rfl
          · rw [if_neg y, if_neg y, mc_longs_b73_e, mc_compares_b41_e]
            cases mc_settle u.1 3 1 with
            | none => rfl
            | some v => rfl
  · rw [mc_longs_e, areL_0 h8 q]
    simp only [Option.bind_some, if_true]
/-- the instruction that is there -/
theorem work2 (R : RR σ τ pT hT m br co θ) (hn : 0 ≤ n ∧ n < 16000) (h9 : 8 ≤ σ 9 n) (hh : 2 ≤ hT (σ 87 21)) (hb : hT (σ 87 21) ≤ 500) (i : cI σ (pT (σ 87 21)) 3 0 n) : ∃ o, σ 20 (σ 87 22) = o ∧ (o ≠ 10 ∧ o ≠ 13) ∧ (0 ≤ σ 87 22 ∧ σ 87 22 < 164000) ∧ σ 22 (σ 87 22) = n ∧ mc_work σ o n = mc_work_b203 σ n := by
  obtain ⟨c1, -, c2, pc, c5, c6, c7, c8, c9⟩ := R.cur
  obtain ⟨o, p1, p2, p3, p4, p5, p6⟩ := R.pl
  have A := R.1.2.1
  have hIn := R.1.1.1.1.2.2.2.2.2.2.2.2.2.2.1
  obtain ⟨o1, o2, o3, o4, -⟩ := A.op rfl i hIn hIn.1.2
  have lg : ∀ j, σ 92 (σ 87 21) ≤ j → j < σ 87 8 → σ 88 j = 0 → i64 (σ 89 j) := fun j j0 j1 e => by
    rcases p2 j j0 j1 with q | q | q | q | q | q | q
    · exact q.2.2.2
    all_goals exact absurd q.1 (by omega)
  rcases o4 with z | ⟨-, z1, z2, z3⟩ | ⟨z, -⟩
  · exact ⟨3, z, by decide, o1, o3, by rw [mc_work_e]; rfl⟩
  · refine ⟨18, z1, by decide, o1, o3, work18 hn ⟨h9, z3⟩ ?_ (by omega) (lg _ (by omega) (by omega)) (lg _ (by omega) (by omega))⟩
    have hm := A.2.2.2.2.2.1
    have m59 := A.2.1.1
    obtain ⟨-, -, ac, -⟩ := A.2.1.2.2 (σ 87 21) (by omega) (by omega)
    have F := R.1.2.2.2.2.2 z2
    unfold acC at ac
    rcases ac with y | ⟨y1, y2, y3, -⟩
    · omega
    · have e := pc.2.2 z2
      have q := (F (σ 94 (σ 87 21)) y2.1 y2.2).1 (pT (σ 87 21) - σ 28 (σ 90 (σ 87 21))) (by have := pc.1; omega) (by rw [y3]; have := pc.1; omega)
      rw [show σ 65 (σ 54 (σ 93 (σ 87 21)) + σ 94 (σ 87 21)) + (pT (σ 87 21) - σ 28 (σ 90 (σ 87 21))) = σ 87 22 by omega, o3] at q
      exact q z1
  · omega
/-- simple changes keep what calls keep -/
theorem kq.sm {f g : Int} (c : smC σ S) (d : smM τ T g) (p88 : ∀ a j, a = 88 ∨ a = 89 → S a j = σ a j) (p221 : ∀ a j, a = 221 ∨ a = 222 → T a j = τ a j) (dt : ∀ a j, 218 ≤ a → a ≤ 220 → j ≤ f → T a j = τ a j) (e124 : T 119 124 = τ 119 124) (e125 : T 119 125 = τ 119 125) : kq σ τ S T f := by
  have kS : ∀ a, a ≠ 87 → a ≠ 88 → a ≠ 89 → (a < 105 ∨ 116 < a) → S a = σ a := fun a q1 q2 q3 q4 => funext fun j => c.1 a j q1 q2 q3 q4
  refine ⟨⟨fun j _ => by rw [kS 14 (by decide) (by decide) (by decide) (by decide)], fun a p q1 q2 _ => by rw [kS a (by omega) (by omega) (by omega) (by omega)], fun a r q1 q2 _ => by rw [kS a (by omega) (by omega) (by omega) (by omega)]⟩, fun a q => ?_, fun i q => c.2 i (by omega) (by omega) (by omega), fun a j q _ => d.1 a j (by omega) (by omega) (by omega) (by omega), fun a q => funext fun j => ?_, dt, fun i q => ?_, ?_, fun k x t y q => (smC.rv c d).mpr q⟩
  · by_cases z : a = 88 ∨ a = 89
    · exact funext fun j => p88 a j z
    · exact kS a (by omega) (by omega) (by omega) (by omega)
  · by_cases z : a = 221 ∨ a = 222
    · exact p221 a j z
    · exact d.1 a j (by omega) (by omega) (by omega) (by omega)
  · by_cases z : i = 124
    · rw [z]; exact e124
    · by_cases y : i = 125
      · rw [y]; exact e125
      · exact d.2.1 i z y (by omega)
  · rw [d.2.1 123 (by decide) (by decide) (by decide), ccN_eq (S := S) (σ := σ) _ fun j _ _ => by rw [kS 93 (by decide) (by decide) (by decide) (by decide)]]
end W2
