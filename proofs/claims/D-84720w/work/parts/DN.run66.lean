/-! numbers are compared: both sides -/
section OO
variable {σ τ S T Z X : gM} {pT hT : Int → Int} {m : Nat} {br co θ n : Int}
def cM (x y : Int) : Int := if x < y then -1 else if x = y then 0 else 1
def hB (kd c : Int) : Int := if kd = 12 then (if c < 0 then 1 else 0) else if kd = 13 then (if 0 < c then 0 else 1) else if kd = 14 then (if 0 < c then 1 else 0) else (if c < 0 then 0 else 1)
theorem hB_r {kd c : Int} : hB kd c = 0 ∨ hB kd c = 1 := by
  unfold hB
  split
  · split <;> omega
  · split
    · split <;> omega
    · split
      · split <;> omega
      · split <;> omega
theorem holds_s {kd c : Int} : mc_holds σ kd c = some (σ, hB kd c) := by
  rw [mc_holds_e]
  unfold hB
  split
  · split <;> rfl
  · split
    · split <;> rfl
    · split
      · split <;> rfl
      · split <;> rfl
theorem jl_cmp_s {x y : Int} : jl_compare σ x y = some (σ, cM x y) := by
  rw [jl_compare_e]
  unfold cM
  simp only [l_cmp_lt, l_cmp_0]
  by_cases h : x < y
  · rw [if_pos h, if_pos h]
  · rw [if_neg h, if_neg h]
    by_cases h2 : x = y
    · rw [if_pos h2, if_pos h2]
    · rw [if_neg h2, if_neg h2]
/-- which of two numbers is greater: the component -/
theorem order_c {k1 x1 t1 y1 z1 k2 x2 t2 y2 z2 : Int} (h8 : 2 ≤ σ 87 8 ∧ σ 87 8 ≤ 18240) (ek1 : σ 88 (σ 87 8 - 2) = k1) (ex1 : σ 89 (σ 87 8 - 2) = x1) (ek2 : σ 88 (σ 87 8 - 1) = k2) (ex2 : σ 89 (σ 87 8 - 1) = x2) (h1 : nuV σ τ k1 x1 t1 y1 z1) (h2 : nuV σ τ k2 x2 t2 y2 z2) : ∃ S, mc_order σ = some (S, cM z1 z2) ∧ ∀ a j, (a < 105 ∨ 110 < a) → S a j = σ a j := by
  by_cases q : k1 = 0 ∧ k2 = 0
  · have e1 : x1 = z1 := by rcases h1 with h | h <;> omega
    have e2 : x2 = z2 := by rcases h2 with h | h <;> omega
    refine ⟨σ, ?_, fun _ _ _ => rfl⟩
    rw [mc_order_e, areL_1 h8 (by rw [ek1]; exact q.1) (by rw [ek2]; exact q.2)]
    simp only [Option.bind_some]
    rw [if_neg (show ¬ (1 : Int) = 0 by decide), w32_e (x := σ 87 8 - 2) (by omega) (by omega), w32_e (x := σ 87 8 - 1) (by omega) (by omega), if_pos (by omega), if_pos (by omega), ex1, ex2, e1, e2, jl_cmp_s]
    rfl
  · obtain ⟨S1, e1, w1, f1⟩ := mc_whole_s (σ := σ) (p := σ 87 8 - 2) (w := 105) (by omega) (Or.inl rfl) ek1 ex1 h1
    have k1' : ∀ a j, (a < 105 ∨ 107 < a) → S1 a j = σ a j := fun a j q => f1 a j (by omega) (by omega) (by omega)
    have c1 : ∀ a, (a < 105 ∨ 107 < a) → S1 a = σ a := fun a q => funext fun j => k1' a j q
    obtain ⟨S2, e2, w2, f2⟩ := mc_whole_s (σ := S1) (τ := τ) (p := σ 87 8 - 1) (w := 108) (by omega) (Or.inr rfl) (by rw [k1' 88 _ (by decide)]; exact ek2) (by rw [k1' 89 _ (by decide)]; exact ex2) (h2.mv (c1 6 (by decide)) (c1 7 (by decide)) rfl)
    have k2' : ∀ a j, (a < 108 ∨ 110 < a) → S2 a j = S1 a j := fun a j q => f2 a j (by omega) (by omega) (by omega)
    have c2 : ∀ a, (a < 108 ∨ 110 < a) → S2 a = S1 a := fun a q => funext fun j => k2' a j q
    have v1 : wIs S2 105 z1 := w1.mv (c2 105 (by decide)) (c2 106 (by decide))
    refine ⟨S2, ?_, fun a j q => by rw [k2' a j (by omega), k1' a j (by omega)]⟩
    rw [mc_order_e, areL_0 h8 (by rw [ek1, ek2]; exact q)]
    simp only [Option.bind_some, if_true]
    rw [w32_e (x := σ 87 8 - 2) (by omega) (by omega), e1]
    simp only [Option.bind_some]
    rw [k1' 87 8 (by decide), w32_e (x := σ 87 8 - 1) (by omega) (by omega), e2]
    simp only [Option.bind_some]
    rw [wl_compare_s (by unfold gWc; omega) (by unfold gWc; omega) v1 w2]
    rfl
/-- the model -/
theorem order_m {k1 x1 t1 y1 z1 k2 x2 t2 y2 z2 : Int} (h25 : 2 ≤ τ 119 125 ∧ τ 119 125 ≤ 24000) (et1 : τ 221 (τ 119 125 - 2) = t1) (ey1 : τ 222 (τ 119 125 - 2) = y1) (et2 : τ 221 (τ 119 125 - 1) = t2) (ey2 : τ 222 (τ 119 125 - 1) = y2) (h1 : nuV σ τ k1 x1 t1 y1 z1) (h2 : nuV σ τ k2 x2 t2 y2 z2) : ∃ T, md_comparePair τ = some (T, cM z1 z2) ∧ ∀ a j, a ≠ 129 → a ≠ 130 → T a j = τ a j := by
  obtain ⟨T1, e1, w1, f1⟩ := sprd_s (σ := σ) (τ := τ) (Or.inl rfl) h1
  have c1 : ∀ a, a ≠ 129 → T1 a = τ a := fun a q => funext fun j => f1 a j q
  obtain ⟨T2, e2, w2, f2⟩ := sprd_s (σ := σ) (τ := T1) (Or.inr rfl) (h2.mv rfl rfl (c1 128 (by decide)))
  have v1 : mIs T2 129 z1 := w1.mv (funext fun j => f2 129 j (by decide))
  refine ⟨T2, ?_, fun a j q1 q2 => by rw [f2 a j q2, f1 a j q1]⟩
  rw [md_comparePair_e, w32_e (x := τ 119 125 - 2) (by omega) (by omega), if_pos (by omega), if_pos (by omega), et1, ey1, e1]
  simp only [Option.bind_some]
  rw [c1 119 (by decide), c1 221 (by decide), c1 222 (by decide), w32_e (x := τ 119 125 - 1) (by omega) (by omega), if_pos (by omega), if_pos (by omega), et2, ey2, e2]
  simp only [Option.bind_some]
  rw [md_compare_s ⟨rfl, by decide +kernel⟩ ⟨rfl, by decide +kernel⟩ v1 w2]
  rfl
theorem ndX.sm {S' T' : gM} {f : Int} (nd : ndX σ τ S T) (c : smC S S') (d : smM T T' f) (p88 : ∀ a j, a = 88 ∨ a = 89 → S' a j = S a j) (e8 : S' 87 8 = S 87 8) (p218 : ∀ a j, 218 ≤ a → a ≤ 222 → T' a j = T a j) (d119 : ∀ i, T' 119 i = T 119 i) : ndX σ τ S' T' := by
  obtain ⟨⟨x1, x2, x3, x4⟩, x5, x6, x7, x8, x9⟩ := nd
  have kS : ∀ a, a ≠ 87 → a ≠ 88 → a ≠ 89 → (a < 105 ∨ 116 < a) → S' a = S a := fun a q1 q2 q3 q4 => funext fun j => c.1 a j q1 q2 q3 q4
  refine ⟨⟨fun a q => by rw [kS a (by omega) (by omega) (by omega) (by omega), x1 a q], fun i q => by rw [c.2 i (by omega) (by omega) (by omega), x2 i q], fun a q => by rw [show T' a = T a from funext fun j => d.1 a j (by omega) (by omega) (by omega) (by omega), x3 a q], ?_⟩, fun a q => by rw [show S' a = S a from funext fun j => p88 a j q, x5 a q], by rw [e8, x6], fun a q1 q2 => by rw [show T' a = T a from funext fun j => p218 a j q1 q2, x7 a q1 q2], fun i q => by rw [d119 i, x8 i q], fun k x t y q => (smC.rv c d).mpr (x9 _ _ _ _ q)⟩
  rw [d119 123, ccN_eq (S := S') (σ := S) _ fun j _ _ => by rw [kS 93 (by decide) (by decide) (by decide) (by decide)]]
  exact x4
/-- two things come to a truth, the node's state being seen to already -/
theorem RR.tru {E h' br' co' b : Int} {S0 T0 : gM} (R : RR σ τ pT hT (m + 1) br co θ) (en : τ 218 (τ 212 (σ 87 21) + m + 1) = n) (n2 : 0 ≤ n ∧ n < 20000) (st : St σ τ (σ 26 (σ 90 (σ 87 21))) (σ 26 (σ 90 (σ 87 21)) + σ 27 (σ 90 (σ 87 21))) (σ 28 (σ 90 (σ 87 21))) (σ 28 (σ 90 (σ 87 21)) + σ 29 (σ 90 (σ 87 21)) - 2) (τ 212 (σ 87 21)) m E h' br' co') (hh : hT (σ 87 21) = h' - 1 + 2) (h1 : 1 ≤ h') (hb : h' ≤ 400) (hE : E = pT (σ 87 21) + 1) (opn : σ 20 (pT (σ 87 21)) ≠ 10 ∧ σ 20 (pT (σ 87 21)) ≠ 13) (cc : smC σ S0) (dd : smM τ T0 (τ 212 (σ 87 21))) (p88 : ∀ a j, a = 88 ∨ a = 89 → S0 a j = σ a j) (p221 : ∀ a j, a = 221 ∨ a = 222 → T0 a j = τ a j) (dt : ∀ a j, 218 ≤ a → a ≤ 220 → j ≤ τ 212 (σ 87 21) + m → T0 a j = τ a j) (e124 : ∀ i, T0 119 i = τ 119 i) (e8 : S0 87 8 = σ 87 8) (Q : RQ S T pT hT) (nd : ndX S0 T0 S T) (hb2 : b = 0 ∨ b = 1)
    (oo : Int) (w1 : σ 20 (σ 87 22) = oo) (w2 : oo ≠ 10 ∧ oo ≠ 13) (w3 : 0 ≤ σ 87 22 ∧ σ 87 22 < 164000) (w4 : σ 22 (σ 87 22) = n) (w5 : mc_work σ oo n = mc_work_b203 σ n) (eC : mc_two σ n = ((mc_settle S 3 b).bind fun p => some (p.1, 1))) (eM : md_works τ (τ 212 (σ 87 21) + m + 1) n (τ 168 n) = ((md_pairBecomes T 1 b).bind fun p => md_works_b98 p.1)) : goX σ τ θ := by
  obtain ⟨-, -, -, -, ⟨t1, t2⟩, t3, -, -, -, t6⟩ := R.top
  obtain ⟨c1, -, c2, pc, c5, c6, c7, c8, c9⟩ := R.cur
  obtain ⟨o, p1, p2, p3, p4, p5, p6⟩ := R.pl
  obtain ⟨f1, f2, f3, f4, f5⟩ := R.fval (σ1 := S0) (τ1 := T0) (k := 3) (x := b) (t := 1) (y := b) (b0 := σ 87 8 - 2) (b1 := τ 119 125 - 2) st Q nd cc dd p88 p221 dt (e124 124) (by omega) (by omega) (by omega) (by omega) hE opn (Or.inr (Or.inr (Or.inr (Or.inl ⟨rfl, rfl, rfl, hb2⟩))))
  have S8 : S 87 8 = σ 87 8 := by rw [nd.2.2.1, e8]
  have T25 : ∀ i, i ≠ 123 → T 119 i = τ 119 i := fun i q => by rw [nd.2.2.2.2.1 i q, e124]
  refine ⟨_, _, _, _, m, br', co', θ - 1, cG_of t6.1 w3 w1 w4 w2 ?_, mG_of t6.2.1 t6.2.2 (work_n (v := 0) t1 t2 en n2 ?_), f5, Or.inl (by omega), ?_, ?_⟩
  · rw [w5, mc_work_b203_e, eC, mc_settle_e, S8, w32_e (x := σ 87 8 - 2) (by omega) (by omega), f1]
    simp only [Option.bind_some]
    rw [if_neg (show ¬ (1 : Int) = 0 by decide), mc_work_b211_e, puC_o (Or.inr (Or.inr ⟨rfl, by decide⟩)), gW_i (show (22 : Int) ≠ 8 by decide), w32_e (by omega) (by omega)]
  · rw [eM, md_pairBecomes_e, T25 125 (by decide), w32_e (x := τ 119 125 - 2) (by omega) (by omega), f2]
    simp only [Option.bind_some]
    rw [md_works_b98_e, puM_o (Or.inr (Or.inr ⟨rfl, by decide⟩)), gW_i (show (124 : Int) ≠ 125 by decide), f4, w32_e (by omega) (by omega)]
  · rw [gW_i (by decide), puM_o (Or.inr (Or.inr ⟨rfl, by decide⟩)), gW_i (by decide), T25 119 (by decide)]
  · rw [gW_i (by decide), puM_o (Or.inr (Or.inr ⟨rfl, by decide⟩)), gW_i (by decide), T25 120 (by decide)]
/-- two numbers are put in order -/
theorem op_ord {E h' br' co' : Int} (R : RR σ τ pT hT (m + 1) br co θ) (en : τ 218 (τ 212 (σ 87 21) + m + 1) = n) (es : τ 219 (τ 212 (σ 87 21) + m + 1) = 2) (hn : 0 ≤ n ∧ σ 26 (σ 90 (σ 87 21)) ≤ n ∧ n < σ 26 (σ 90 (σ 87 21)) + σ 27 (σ 90 (σ 87 21))) (st : St σ τ (σ 26 (σ 90 (σ 87 21))) (σ 26 (σ 90 (σ 87 21)) + σ 27 (σ 90 (σ 87 21))) (σ 28 (σ 90 (σ 87 21))) (σ 28 (σ 90 (σ 87 21)) + σ 29 (σ 90 (σ 87 21)) - 2) (τ 212 (σ 87 21)) m E h' br' co') (hh : hT (σ 87 21) = h' - 1 + 2) (h1 : 1 ≤ h') (hb : h' ≤ 400) (hE : E = pT (σ 87 21) + 1) (kd : 12 ≤ τ 168 n ∧ τ 168 n ≤ 15) (i : cI σ (pT (σ 87 21)) 3 0 n) (hk1 : σ 88 (σ 87 8 - 2) = 0 ∨ σ 88 (σ 87 8 - 2) = 1) (hk2 : σ 88 (σ 87 8 - 1) = 0 ∨ σ 88 (σ 87 8 - 1) = 1) : goX σ τ θ := by
  obtain ⟨-, -, -, -, ⟨t1, t2⟩, t3, -, -, -, t6⟩ := R.top
  obtain ⟨c1, -, c2, pc, c5, c6, c7, c8, c9⟩ := R.cur
  obtain ⟨o, p1, p2, p3, p4, p5, p6⟩ := R.pl
  have Q := R.1
  have P1 := Q.1.1.1
  have c8' := c9 n hn.2.1 hn.2.2
  have k9 : σ 9 n = τ 168 n := c8'.1.1.symm
  have n2 : 0 ≤ n ∧ n < 20000 := by omega
  obtain ⟨oo, w1, w2, w3, w4, w5⟩ := work2 R (n := n) (by omega) (by omega) (by omega) (by omega) i
  generalize eτ : gW τ 219 (τ 212 (σ 87 21) + m + 1) 3 = τ1
  have gs : ∀ a j, a ≠ 219 ∨ j ≠ τ 212 (σ 87 21) + m + 1 → τ1 a j = τ a j := fun a j q => by
    rw [← eτ]
    rcases q with q | q
    · exact gW_c q
    · exact gW_j q
  have dd : smM τ τ1 (τ 212 (σ 87 21)) := by rw [← eτ]; exact smM.g219 (by omega)
  have cc : smC σ σ := ⟨fun _ _ _ _ _ _ => rfl, fun _ _ _ _ => rfl⟩
  have v1 := p2 (σ 87 8 - 2) (by omega) (by omega)
  rw [show σ 87 8 - 2 + o = τ 119 125 - 2 by omega] at v1
  have v2 := p2 (σ 87 8 - 1) (by omega) (by omega)
  rw [show σ 87 8 - 1 + o = τ 119 125 - 1 by omega] at v2
  obtain ⟨z1, m1⟩ := v1.num P1.1.1 P1.2.2.2.2.1 hk1
  obtain ⟨z2, m2⟩ := v2.num P1.1.1 P1.2.2.2.2.1 hk2
  have Q0 : RQ σ τ1 pT hT := by
    have := Q.sm (S := σ) (T := τ1) (P' := pT (σ 87 21)) (h' := hT (σ 87 21)) cc dd pc
    rw [updF_same, updF_same] at this
    exact this
  have g119 : ∀ j, τ1 119 j = τ 119 j := fun j => gs 119 j (by omega)
  have ewM : md_works τ (τ 212 (σ 87 21) + m + 1) n (τ 168 n) = ((md_orders τ1 n (τ 168 n)).bind fun p2 => gtry p2.2 (fun _ => md_works_b98 p2.1) (some (p2.1, none))) := by
    rw [md_works_e, if_neg (by omega), if_neg (by omega), if_pos t2, if_pos t2, if_pos t2, es, if_neg (by decide), if_pos (by omega), if_neg (by omega), w32_e (x := 2 + 1) (by decide) (by decide), ← eτ]
    rfl
  have e0 := two_num (W := σ) (n := n) (by omega) ⟨by omega, by omega⟩ (by omega) hk1 hk2
  rw [k9, mc_two_b132_e, if_neg (by omega)] at e0
  have has1 := has_s (b := 1) Q0 ⟨hn.2.1, hn.2.2⟩
  have has2 := has_s (b := 2) Q0 ⟨hn.2.1, hn.2.2⟩
  have eT : ∀ W : gM, gW W 119 11 (W 119 11) = W := fun W => gW_eq rfl
  have nu1 := m1.nu (W := τ1)
  have nu2 := m2.nu (W := τ1)
  have eo : md_orders τ1 n (τ 168 n) = md_orders_b63 τ1 n (τ 168 n) (if σ 88 (σ 87 8 - 2) = 0 ∧ σ 88 (σ 87 8 - 1) = 0 then 1 else 0) := by
    rw [md_orders_e, g119, w32_e (x := τ 119 125 - 2) (by omega) (by omega), w32_e (x := τ 119 125 - 1) (by omega) (by omega), if_pos (by omega), if_pos (by omega), gs 221 _ (by omega), gs 221 _ (by omega), nu1.1]
    simp only [Option.bind_some]
    rw [if_neg (show ¬ (1 : Int) = 0 by decide), nu2.1]
    simp only [Option.bind_some]
    rw [if_neg (show ¬ (1 : Int) = 0 by decide)]
    by_cases q1 : τ 221 (τ 119 125 - 2) = 2
    · by_cases q2 : τ 221 (τ 119 125 - 1) = 2
      · rw [if_pos q1, if_pos q2, if_pos ⟨nu1.2.2.mpr q1, nu2.2.2.mpr q2⟩]
      · rw [if_pos q1, if_neg q2, md_orders_b62_e, if_neg (fun h => q2 (nu2.2.2.mp h.2))]
    · rw [if_neg q1, md_orders_b62_e, if_neg (fun h => q1 (nu1.2.2.mp h.1))]
  -- the node's state
  have stt : ∃ S T b rep, (b = 1 ∨ b = 2) ∧ mc_needs σ n b rep = some (S, 0) ∧ mc_two σ n = ((mc_compares_b20 σ (τ 168 n) rep b n).bind fun p2 => g01 p2.2 (some (p2.1, p2.2))) ∧ md_orders τ1 n (τ 168 n) = md_orders_b113 T (τ 168 n) ∧ RQ S T pT hT ∧ ndX σ τ1 S T := by
    by_cases al : (σ 88 (σ 87 8 - 2) = 0 ∧ σ 88 (σ 87 8 - 1) = 0) ∧ i_and (σ 11 n) 2 = 0
    · obtain ⟨S, T, x1, x2, x3, x4, -, -, -, x8⟩ := needs_pair (σ := σ) (τ := τ1) (w := τ1 119 11) (n := n) (b := 1) (rep := 0) (by rw [eT]; exact Q0) ⟨hn.2.1, hn.2.2⟩ (by omega) (Or.inl ⟨rfl, rfl⟩) (fun h => by omega)
      have e2 : gW T 119 11 (τ1 119 11) = T := gW_eq (x8 11 (by decide))
      rw [e2] at x3 x4
      rw [eT] at x4
      refine ⟨S, T, 1, 0, Or.inl rfl, x1, ?_, ?_, x3, x4⟩
      · rw [e0, if_pos al, mc_compares_e, if_neg (by decide), mc_compares_b11_e, if_neg (by decide)]
      · rw [eo, if_pos al.1, md_orders_b63_e, if_neg (by decide), has1]
        simp only [Option.bind_some]
        rcases x2 with ⟨y1, y2⟩ | ⟨y1, y2⟩
        · rw [if_pos y1, if_pos rfl, md_orders_b79_e, has2]
          simp only [Option.bind_some]
          rw [if_pos al.2, if_pos rfl, if_neg (by decide), md_orders_b100_e, if_neg (by decide), md_orders_b110_e, y2]
          rfl
        · rw [if_neg y1, if_neg (show ¬ (1 : Int) = 0 by decide), y2]
    · obtain ⟨S, T, x1, x2, x3, x4, -, -, -, x8⟩ := needs_pair (σ := σ) (τ := τ1) (w := τ1 119 11) (n := n) (b := 2) (rep := 1) (by rw [eT]; exact Q0) ⟨hn.2.1, hn.2.2⟩ (by omega) (Or.inr (Or.inl ⟨rfl, rfl⟩)) (fun h => by omega)
      have e2 : gW T 119 11 (τ1 119 11) = T := gW_eq (x8 11 (by decide))
      rw [e2] at x3 x4
      rw [eT] at x4
      refine ⟨S, T, 2, 1, Or.inr rfl, x1, ?_, ?_, x3, x4⟩
      · rw [e0, if_neg al, mc_compares_e, if_pos rfl, mc_compares_b11_e, if_pos rfl]
      · have e79 : ∀ y, (i_and (σ 11 n) 2 = 0 → y = 0) → md_orders_b79 τ1 n (τ 168 n) y = md_orders_b113 T (τ 168 n) := fun y hy => by
          rw [md_orders_b79_e, has2]
          simp only [Option.bind_some]
          rcases x2 with ⟨y1, y2⟩ | ⟨y1, y2⟩
          · rw [if_pos y1, if_pos rfl, hy y1, if_pos rfl, md_orders_b100_e, if_pos rfl, md_orders_b110_e, y2]
            rfl
          · rw [if_neg y1, if_neg (show ¬ (1 : Int) = 0 by decide), y2]
        rw [eo, md_orders_b63_e]
        by_cases al2 : σ 88 (σ 87 8 - 2) = 0 ∧ σ 88 (σ 87 8 - 1) = 0
        · have b2s : ¬ i_and (σ 11 n) 2 = 0 := fun h => al ⟨al2, h⟩
          rw [if_pos al2, if_neg (by decide), has1]
          simp only [Option.bind_some]
          by_cases y : i_and (σ 11 n) 1 = 0
          · rw [if_pos y, if_pos rfl, e79 1 (fun h => absurd h b2s)]
          · rw [if_neg y, if_neg (show ¬ (1 : Int) = 0 by decide)]
            rcases x2 with ⟨y1, -⟩ | ⟨-, y2⟩
            · exact absurd y1 b2s
            · rw [y2]
        · rw [if_neg al2, if_pos rfl, e79 0 (fun _ => rfl)]
  obtain ⟨S, T, b, rep, -, x1, x2, x3, Q2, nd⟩ := stt
  have nd' := nd
  obtain ⟨⟨y1, y2, y3, y4⟩, y5, y6, y7, y8, y9⟩ := nd'
  have cS : S 6 = σ 6 ∧ S 7 = σ 7 := by
    have w := fr_inl fm_mc_needs (mc_needs_l σ n b rep) x1
    exact ⟨w.r 6 1 (by decide +kernel) (by decide) (by decide), w.r 7 1 (by decide +kernel) (by decide) (by decide)⟩
  -- the numbers, once more
  have v1' := y9 _ _ _ _ ((smC.rv cc dd).mpr v1)
  have v2' := y9 _ _ _ _ ((smC.rv cc dd).mpr v2)
  obtain ⟨u1, n1⟩ := v1'.num Q2.1.1.1.1.1 Q2.1.1.1.2.2.2.2.1 hk1
  obtain ⟨u2, n2'⟩ := v2'.num Q2.1.1.1.1.1 Q2.1.1.1.2.2.2.2.1 hk2
  obtain ⟨S3, a1, a2⟩ := order_c (σ := S) (τ := T) (by rw [y6]; omega) (by rw [y6, y5 88 (by decide)]) (by rw [y6, y5 89 (by decide)]) (by rw [y6, y5 88 (by decide)]) (by rw [y6, y5 89 (by decide)]) n1 n2'
  have T25 : T 119 125 = τ 119 125 := by rw [y8 125 (by decide), g119]
  obtain ⟨T3, b1, b2⟩ := order_m (σ := S) (τ := T) (by rw [T25]; omega) (by rw [T25, y7 221 (by decide) (by decide), gs 221 _ (by omega)]) (by rw [T25, y7 222 (by decide) (by decide), gs 222 _ (by omega)]) (by rw [T25, y7 221 (by decide) (by decide), gs 221 _ (by omega)]) (by rw [T25, y7 222 (by decide) (by decide), gs 222 _ (by omega)]) n1 n2'
  have c3 : smC S S3 := ⟨fun a j q1 q2 q3 q4 => a2 a j (by omega), fun j q1 q2 q3 => a2 87 j (by decide)⟩
  have d3 : smM T T3 (T 212 (S 87 21)) := ⟨fun a j q1 q2 q3 q4 => b2 a j (by omega) (by omega), fun j q1 q2 q3 => b2 119 j (by decide) (by decide), fun a j q1 q2 q3 => b2 a j (by omega) (by omega)⟩
  have Q3 : RQ S3 T3 pT hT := by
    have := Q2.sm (S := S3) (T := T3) (P' := pT (S 87 21)) (h' := hT (S 87 21)) c3 d3 (by rw [a2 87 22 (by decide)]; exact Q2.pcq)
    rw [updF_same, updF_same] at this
    exact this
  have nd3 : ndX σ τ1 S3 T3 := nd.sm c3 d3 (fun a j q => a2 a j (by omega)) (a2 87 8 (by decide)) (fun a j q1 q2 => b2 a j (by omega) (by omega)) (fun j => b2 119 j (by decide) (by decide))
  refine R.tru (S0 := σ) (T0 := τ1) (b := hB (τ 168 n) (cM u1 u2)) en n2 st hh h1 hb hE ⟨by rw [i.1]; decide, by rw [i.1]; decide⟩ cc dd (fun _ _ _ => rfl) (fun a j q => gs a j (by omega)) (fun a j q1 q2 q3 => gs a j (by omega)) g119 rfl Q3 nd3 hB_r oo w1 w2 w3 w4 w5 ?_ ?_
  · rw [x2, mc_compares_b20_e, x1]
    simp only [Option.bind_some]
    rw [a1]
    simp only [Option.bind_some]
    rw [holds_s]
    simp only [Option.bind_some]
    have e41 : ∀ c, mc_compares_b41 S3 c 3 = ((mc_settle S3 3 c).bind fun p => some (p.1, 1)) := fun c => mc_compares_b41_e S3 c 3
    rcases hB_r (kd := τ 168 n) (c := cM u1 u2) with z | z
    · rw [z, if_pos rfl, e41]
      cases mc_settle S3 3 0 with
      | none => rfl
      | some v => rfl
    · rw [z, if_neg (by decide), e41]
      cases mc_settle S3 3 1 with
      | none => rfl
      | some v => rfl
  · have e186 : md_orders_b113 T (τ 168 n) = md_orders_b186 T3 (hB (τ 168 n) (cM u1 u2)) := by
      rw [md_orders_b113_e, b1]
      simp only [Option.bind_some]
      unfold hB
      split
      · split <;> rfl
      · split
        · split <;> rfl
        · split
          · split <;> rfl
          · split <;> rfl
    rw [ewM, x3, e186, md_orders_b186_e]
    rcases hB_r (kd := τ 168 n) (c := cM u1 u2) with z | z
    · rw [z, if_pos rfl, md_orders_b200_e]
      cases md_pairBecomes T3 1 0 with
      | none => rfl
      | some v => rfl
    · rw [z, if_neg (by decide), md_orders_b200_e]
      cases md_pairBecomes T3 1 1 with
      | none => rfl
      | some v => rfl
end OO
