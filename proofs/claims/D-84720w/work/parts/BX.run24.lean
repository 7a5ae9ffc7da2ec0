/-! both and either; nots: both sides -/
section LE
variable {σ τ S T : gM} {pT hT : Int → Int} {m : Nat} {br co θ n : Int}
theorem mc_work_4 (e : mc_left σ n = some (S, 0)) : mc_work σ 4 n = some (S, 0) := by
  have : mc_work σ 4 n = ((mc_left σ n).bind fun p => some (p.1, 0)) := by rw [mc_work_e]; rfl
  rw [this, e]; rfl
/-- the left side decides -/
theorem mc_left_s {x gg : Int} (h8 : 0 < σ 87 8 ∧ σ 87 8 ≤ 18240) (nb : 0 ≤ n ∧ n < 16000) (k3 : σ 88 (σ 87 8 - 1) = 3) (ex : σ 89 (σ 87 8 - 1) = x) (x01 : x = 0 ∨ x = 1) (kd : σ 9 n = 18 ∨ σ 9 n = 19) (hg : gg = if (σ 9 n = 18 ∧ x = 1) ∨ (σ 9 n = 19 ∧ x = 0) then 1 else 0) (tk : mc_took σ n (if gg = 1 then 1 else 2) = some (S, 0)) (e8 : S 87 8 = σ 87 8) (hp : 0 ≤ S 87 22 ∧ S 87 22 < 164000) : mc_left σ n = some (if gg = 1 then gW (gW S 87 8 (σ 87 8 - 1)) 87 22 (S 87 22 + 1) else gW S 87 22 (S 21 (S 87 22)), 0) := by
  have fin1 : gg = 1 → mc_left_b57 σ n 1 = some (gW (gW S 87 8 (σ 87 8 - 1)) 87 22 (S 87 22 + 1), 0) := fun q => by
    rw [if_pos q] at tk
    rw [mc_left_b57_e, if_neg (by decide), mc_left_b69_e, tk]
    simp only [Option.bind_some]
    rw [if_neg (show ¬ (1 : Int) = 0 by decide), mc_left_b86_e, if_neg (show ¬ (1 : Int) = 0 by decide), mc_left_b112_e, e8, w32_e (x := σ 87 8 - 1) (by omega) (by omega), gW_i (by decide), w32_e (by omega) (by omega)]
  have fin0 : gg = 0 → mc_left_b57 σ n 0 = some (gW S 87 22 (S 21 (S 87 22)), 0) := fun q => by
    rw [if_neg (by omega)] at tk
    rw [mc_left_b57_e, if_pos rfl, mc_left_b69_e, tk]
    simp only [Option.bind_some, if_true]
    rw [mc_left_b86_e, if_pos rfl, if_pos hp, mc_left_b112_e]
  rw [mc_left_e, mc_isTruth_y h8 k3]
  simp only [Option.bind_some]
  rw [if_neg (show ¬ (1 : Int) = 0 by decide), w32_e (x := σ 87 8 - 1) (by omega) (by omega), if_pos (by omega), ex, mc_left_b30_e, mc_left_b30_e, if_pos nb, if_pos nb]
  rcases kd with e | e
  · rw [if_pos e, if_pos e, mc_left_b49_e, mc_left_b49_e]
    rcases x01 with y | y
    · have g0 : gg = 0 := by rw [hg, if_neg (by omega)]
      rw [if_neg (fun q => by have := l_cmp_0.mp q; omega), if_neg (by decide), fin0 g0, if_neg (by omega)]
    · have g1 : gg = 1 := by rw [hg, if_pos (Or.inl ⟨e, y⟩)]
      rw [if_pos (l_cmp_0.mpr y), if_pos rfl, fin1 g1, if_pos g1]
  · rw [if_neg (show ¬ σ 9 n = 18 by omega), if_neg (show ¬ σ 9 n = 18 by omega), mc_left_b49_e, mc_left_b49_e]
    rcases x01 with y | y
    · have g1 : gg = 1 := by rw [hg, if_pos (Or.inr ⟨e, y⟩)]
      rw [if_neg (fun q => by have := l_cmp_0.mp q; omega), if_pos rfl, fin1 g1, if_pos g1]
    · have g0 : gg = 0 := by rw [hg, if_neg (by omega)]
      rw [if_pos (l_cmp_0.mpr y), if_neg (by decide), fin0 g0, if_neg (by omega)]
theorem md_left_s {τ0 : gM} {x gg i : Int} (hi : 0 ≤ i ∧ i < 42000) (n2 : 0 ≤ n ∧ n < 20000) (es : τ 219 i = 1) (e0 : τ0 = gW τ 219 i 2) (hp : 0 < τ0 119 125 ∧ τ0 119 125 ≤ 24000) (t1 : τ0 221 (τ0 119 125 - 1) = 1) (ey : τ0 222 (τ0 119 125 - 1) = x) (x01 : x = 0 ∨ x = 1) (kd : τ 168 n = 18 ∨ τ 168 n = 19) (hg : gg = if (τ 168 n = 18 ∧ x = 1) ∨ (τ 168 n = 19 ∧ x = 0) then 1 else 0) (sx : ∀ X : gM → Option (gM × Option Int), ((md_has (gW τ0 119 125 (τ0 119 125 - 1)) n (if gg = 1 then 1 else 2)).bind fun p1 => if p1.2 = 0 then (md_settle p1.1 n (if gg = 1 then 1 else 2) 0).bind fun p2 => X p2.1 else X p1.1) = X T) : md_eitherOrBoth τ i n (τ 168 n) = md_eitherOrBoth_b103 T n x gg := by
  have tr : md_truth τ0 n = some (gW τ0 119 125 (τ0 119 125 - 1), some x) := by
    rw [md_truth_e, w32_e (x := τ0 119 125 - 1) (by omega) (by omega), if_pos (by omega), if_pos t1, if_pos (by omega), ey]
    rcases x01 with y | y
    · rw [if_neg (fun q => by have := l_cmp_0.mp q; omega), y]
    · rw [if_pos (l_cmp_0.mpr y), y]
  have fin : ∀ g', gg = g' → (g' = 0 ∨ g' = 1) → md_eitherOrBoth_b71 (gW τ0 119 125 (τ0 119 125 - 1)) n x g' = md_eitherOrBoth_b103 T n x gg := fun g' q q' => by
    rw [md_eitherOrBoth_b71_e]
    rcases q' with y | y
    · rw [if_pos y, md_eitherOrBoth_b83_e]
      rw [if_neg (show ¬ gg = 1 by omega)] at sx
      rw [sx fun T => md_eitherOrBoth_b103 T n x g', q]
    · rw [if_neg (show ¬ g' = 0 by omega), md_eitherOrBoth_b83_e]
      rw [if_pos (show gg = 1 by omega)] at sx
      rw [sx fun T => md_eitherOrBoth_b103 T n x g', q]
  rw [md_eitherOrBoth_e, if_pos hi, if_pos hi, if_pos hi, es, if_neg (by decide), if_pos rfl, w32_e (by decide) (by decide), show (1 : Int) + 1 = 2 by decide, ← e0, tr]
  simp only [Option.bind_some, gtry]
  rw [md_eitherOrBoth_b63_e, md_eitherOrBoth_b63_e]
  rcases kd with e | e
  · rw [if_pos e]
    rcases x01 with y | y
    · rw [if_neg (show ¬ x = 1 by omega)]
      exact fin 0 (by rw [hg, if_neg (by omega)]) (Or.inl rfl)
    · rw [if_pos y]
      exact fin 1 (by rw [hg, if_pos (Or.inl ⟨e, y⟩)]) (Or.inr rfl)
  · rw [if_neg (show ¬ τ 168 n = 18 by omega)]
    rcases x01 with y | y
    · rw [if_pos y]
      exact fin 1 (by rw [hg, if_pos (Or.inr ⟨e, y⟩)]) (Or.inr rfl)
    · rw [if_neg (show ¬ x = 0 by omega)]
      exact fin 0 (by rw [hg, if_neg (by omega)]) (Or.inl rfl)
/-- both, either: the left side is there -/
theorem op_left {E h' : Int} (R : RR σ τ pT hT (m + 1) br co θ) (en : τ 218 (τ 212 (σ 87 21) + m + 1) = n) (es : τ 219 (τ 212 (σ 87 21) + m + 1) = 1) (hn : 0 ≤ n ∧ σ 26 (σ 90 (σ 87 21)) ≤ n ∧ n < σ 26 (σ 90 (σ 87 21)) + σ 27 (σ 90 (σ 87 21)) ∧ ((m : Int) + 1) ≤ 2 * (n - σ 26 (σ 90 (σ 87 21))) + 2) (hh : hT (σ 87 21) = h') (h1 : 1 ≤ h' ∧ h' - 1 ≤ n - σ 26 (σ 90 (σ 87 21))) (kd : τ 168 n = 18 ∨ τ 168 n = 19) (i1 : cI σ (pT (σ 87 21)) 4 E n) (i2 : cI σ (E - 1) 5 0 n) (o171 : n + 1 < τ 171 n) (rx : RX σ τ (σ 26 (σ 90 (σ 87 21))) (σ 26 (σ 90 (σ 87 21)) + σ 27 (σ 90 (σ 87 21))) br co 0 (τ 171 n) 0 (pT (σ 87 21) + 1) (E - 1)) (st : St σ τ (σ 26 (σ 90 (σ 87 21))) (σ 26 (σ 90 (σ 87 21)) + σ 27 (σ 90 (σ 87 21))) (σ 28 (σ 90 (σ 87 21))) (σ 28 (σ 90 (σ 87 21)) + σ 29 (σ 90 (σ 87 21)) - 2) (τ 212 (σ 87 21)) m E h' br co) : goX σ τ θ ∨ endX σ τ := by
  obtain ⟨-, -, -, -, ⟨t1, t2⟩, t3, -, -, hw, t6⟩ := R.top
  obtain ⟨c1, -, -, pc, c5, c6, c7, c8, c9⟩ := R.cur
  obtain ⟨o, p1, p2, p3, p4, p5, p6⟩ := R.pl
  have R' := R
  obtain ⟨Q, -, ⟨⟨k1, -⟩, -⟩, -⟩ := R'
  have Q' := Q
  obtain ⟨⟨⟨P1, -⟩, -⟩, A, -⟩ := Q'
  have hIn := P1.2.2.2.2.2.2.2.2.2.2.1
  have hl := St.le _ _ _ _ _ st
  have px := rx.pos
  have pk := rx.k0
  obtain ⟨nn, -, n8⟩ := c9 n hn.2.1 hn.2.2.1
  obtain ⟨o1, o2, o3, o4, -⟩ := A.op rfl i1 hIn hIn.1.2
  have o4 : σ 20 (σ 87 22) = 4 := by
    rcases o4 with z | z | z
    · exact z
    · omega
    · omega
  have nb : 0 ≤ n ∧ n < 16000 := by omega
  have n2 : 0 ≤ n ∧ n < 20000 := by omega
  have v := p2 (σ 87 8 - 1) (by omega) (by omega)
  rw [show σ 87 8 - 1 + o = τ 119 125 - 1 by omega] at v
  have vk := v.kt
  have gs : ∀ a j, a ≠ 219 ∨ j ≠ τ 212 (σ 87 21) + m + 1 → gW τ 219 (τ 212 (σ 87 21) + m + 1) 2 a j = τ a j := fun a j q => by
    rcases q with q | q
    · exact gW_c q
    · exact gW_j q
  have wk : ∀ X, md_eitherOrBoth τ (τ 212 (σ 87 21) + m + 1) n (τ 168 n) = X → md_works τ (τ 212 (σ 87 21) + m + 1) n (τ 168 n) = (X.bind fun p => gtry p.2 (fun _ => some (p.1, some 0)) (some (p.1, none))) := fun X q => by
    rw [md_works_e, if_neg (by omega), if_pos (by omega), md_works_b109_e]
    rcases kd with e | e
    · rw [e] at q ⊢
      rw [if_neg (by decide), if_neg (by decide), if_pos rfl, q]
    · rw [e] at q ⊢
      rw [if_neg (by decide), if_neg (by decide), if_neg (by decide), if_pos rfl, q]
  have g125 : gW τ 219 (τ 212 (σ 87 21) + m + 1) 2 119 125 = τ 119 125 := gs 119 125 (by omega)
  by_cases z : σ 88 (σ 87 8 - 1) = 3
  · left
    obtain ⟨y1, y2, y3⟩ := v.tru z
    have gm : ∀ a j, (a ≠ 119 ∧ a ≠ 219) ∨ (a = 119 ∧ j ≠ 125) ∨ (a = 219 ∧ j ≠ τ 212 (σ 87 21) + m + 1) → gW (gW τ 219 (τ 212 (σ 87 21) + m + 1) 2) 119 125 (τ 119 125 - 1) a j = τ a j := fun a j q => by
      rcases q with q | q | q
      · rw [gW_c q.1, gW_c q.2]
      · rw [q.1, gW_i q.2, gW_c (by decide)]
      · rw [q.1, gW_c (by decide), gW_i q.2]
    have cc1 : smC σ σ := ⟨fun _ _ _ _ _ _ => rfl, fun _ _ _ _ => rfl⟩
    have dd1 : smM τ (gW (gW τ 219 (τ 212 (σ 87 21) + m + 1) 2) 119 125 (τ 119 125 - 1)) (τ 212 (σ 87 21)) := ⟨fun a j q1 q2 _ _ => gm a j (by omega), fun j q1 q2 _ => gm 119 j (by omega), fun a j q1 q2 q3 => gm a j (by omega)⟩
    have Q1 := Q.sm (P' := pT (σ 87 21)) (h' := hT (σ 87 21)) cc1 dd1 pc
    rw [updF_same, updF_same] at Q1
    obtain ⟨S, T, s1, s2, s3, nd⟩ := took_pair (n := n) (w := if (if (τ 168 n = 18 ∧ σ 89 (σ 87 8 - 1) = 1) ∨ (τ 168 n = 19 ∧ σ 89 (σ 87 8 - 1) = 0) then (1 : Int) else 0) = 1 then 1 else 2) Q1 ⟨hn.2.1, hn.2.2.1⟩ (by rw [gm 168 n (by omega)]; omega) (by split <;> omega)
    have nd' := nd
    obtain ⟨⟨x1, x2, x3, x4⟩, x5, x6, x7, x8, x9⟩ := nd'
    have s21 : S 87 21 = σ 87 21 := x2 21 (by decide)
    have kT : ∀ a, (a = 168 ∨ (170 ≤ a ∧ a ≤ 173) ∨ (212 ≤ a ∧ a ≤ 213)) → T a = τ a := fun a q => by
      rw [x3 a q]
      funext j
      exact gm a j (by omega)
    have gt : ∀ a j, 218 ≤ a → a ≤ 222 → (a ≠ 219 ∨ j ≠ τ 212 (σ 87 21) + m + 1) → T a j = τ a j := fun a j q1 q2 q3 => by rw [x7 a q1 q2]; exact gm a j (by omega)
    have f119 : ∀ j, j ≠ 123 → j ≠ 125 → T 119 j = τ 119 j := fun j q1 q2 => by rw [x8 j q1]; exact gm 119 j (by omega)
    have f125 : T 119 125 = τ 119 125 - 1 := by rw [x8 125 (by decide), gW_at]
    have f124 : T 119 124 = τ 212 (σ 87 21) + m + 1 + 1 := by rw [f119 124 (by decide) (by decide)]; exact t1
    have A2 := s3.2.1
    have hIn2 := s3.1.1.1.2.2.2.2.2.2.2.2.2.2.1
    obtain ⟨w1, w2, w3, w4, w5⟩ := A2.op (P := pT (σ 87 21)) (by rw [s21]) (show cI S (pT (σ 87 21)) 4 E n by unfold cI; rw [x1 20 (by decide), x1 21 (by decide), x1 22 (by decide)]; exact i1) hIn2 hIn2.1.2
    rw [s21] at w2 w5
    have s28 : S 28 = σ 28 := x1 28 (by decide)
    have s29 : S 29 = σ 29 := x1 29 (by decide)
    have s90 : S 90 = σ 90 := x1 90 (by decide)
    have eC := mc_left_s (S := S) (x := σ 89 (σ 87 8 - 1)) (gg := if (τ 168 n = 18 ∧ σ 89 (σ 87 8 - 1) = 1) ∨ (τ 168 n = 19 ∧ σ 89 (σ 87 8 - 1) = 0) then (1 : Int) else 0) (by omega) nb z rfl y3 (by rw [← nn.1]; exact kd) (by rw [nn.1]) s1 x6 w1
    have eM := md_left_s (T := T) (τ0 := gW τ 219 (τ 212 (σ 87 21) + m + 1) 2) (x := σ 89 (σ 87 8 - 1)) (gg := if (τ 168 n = 18 ∧ σ 89 (σ 87 8 - 1) = 1) ∨ (τ 168 n = 19 ∧ σ 89 (σ 87 8 - 1) = 0) then (1 : Int) else 0) t2 n2 es rfl (by rw [g125]; omega) (by rw [g125, gs 221 _ (by omega)]; exact y1) (by rw [g125, gs 222 _ (by omega)]; exact y2.symm) y3 kd rfl (by rw [g125]; exact s2)
    by_cases gg : (τ 168 n = 18 ∧ σ 89 (σ 87 8 - 1) = 1) ∨ (τ 168 n = 19 ∧ σ 89 (σ 87 8 - 1) = 0)
    · -- the right side is worked out
      rw [if_pos gg] at eC eM
      rw [if_pos rfl] at eC
      obtain ⟨u1, u2, u3, u4⟩ := tkW_n (τ := T) (n := τ 171 n) (x := -1) f124
      have uo : ∀ a j, (a < 218 ∧ a ≠ 119) ∨ 220 < a ∨ (a ≠ 119 ∧ j ≠ τ 212 (σ 87 21) + m + 1 + 1) ∨ (a = 119 ∧ j ≠ 124) → tkW T (τ 171 n) (-1) a j = T a j := fun a j q => tkW_o (by rw [f124]; omega)
      have sC : ∀ a j, a ≠ 87 ∨ (j ≠ 8 ∧ j ≠ 22) → gW (gW S 87 8 (σ 87 8 - 1)) 87 22 (S 87 22 + 1) a j = S a j := fun a j q => by
        by_cases e : a = 87
        · rw [e, gW_i (by omega), gW_i (by omega)]
        · rw [gW_c e, gW_c e]
      have cc2 : smC S (gW (gW S 87 8 (σ 87 8 - 1)) 87 22 (S 87 22 + 1)) := ⟨fun a j q1 _ _ _ => sC a j (Or.inl q1), fun j q1 q2 _ => sC 87 j (Or.inr ⟨q1, q2⟩)⟩
      have dd2 : smM T (tkW T (τ 171 n) (-1)) (τ 212 (σ 87 21)) := ⟨fun a j q1 q2 _ _ => uo a j (by omega), fun j q1 _ _ => uo 119 j (by omega), fun a j q1 q2 q3 => uo a j (by omega)⟩
      obtain ⟨kx, rv⟩ := chn cc1 dd1 nd cc2 dd2
      have Q3 := s3.sm (h' := h' - 1) cc2 (by rw [s21, kT 212 (by decide)]; exact dd2) (P' := pT (σ 87 21) + 1) (by rw [gW_at, s21]; exact w2.next (by rw [s28, s29, s90]; omega))
      rw [s21] at Q3
      have e8 : gW (gW S 87 8 (σ 87 8 - 1)) 87 22 (S 87 22 + 1) 87 8 = σ 87 8 - 1 := by rw [gW_i (by decide), gW_at]
      refine ⟨_, tkW T (τ 171 n) (-1), _, _, m + 2, br, co, θ - 1, cG_of t6.1 o1 o4 o3 (by decide) (mc_work_4 eC), mG_of t6.2.1 t6.2.2 (work_n (v := 0) t1 t2 en n2 ?_), R.asm Q3 (updF_at ..) kx (R.pk2 p1 kx rv (fun a j q _ => by rw [sC a j (by omega), x5 a q]) (fun a j q _ => by rw [uo a j (by omega), gt a j (by omega) (by omega) (by omega)]) (by rw [e8, uo 119 125 (by omega), f125]; omega) fun j j0 j1 => ?_) ?_ (by rw [u4]; omega) (by rw [e8]; omega) (by omega) ⟨by rw [i1.1]; decide, by rw [i1.1]; decide⟩ (by omega) (by rw [e8]; omega), Or.inl (by omega), ?_, ?_⟩
      · rw [wk _ eM, md_eitherOrBoth_b103_e, if_neg (by decide), if_pos n2, kT 171 (by decide), md_task_s (by rw [f124]; have := k1.1.2; omega)]
        simp only [Option.bind_some, md_eitherOrBoth_b147_e]
        rfl
      · rw [e8] at j1
        have q := rv _ _ _ _ (p2 j j0 (by omega))
        rw [sC 88 j (by omega), sC 89 j (by omega), x5 88 (by decide), x5 89 (by decide), uo 221 _ (by omega), uo 222 _ (by omega), gt 221 _ (by decide) (by decide) (by omega), gt 222 _ (by decide) (by decide) (by omega)]
        exact q
      · have lo0 := k1.1
        refine ⟨⟨by omega, by omega⟩, ?_, E - 1, h', br, co, ?_, ⟨by omega, k1.1.2⟩, ?_, E, h', br, co, ?_, kx.st (fun a j q1 q2 q3 => by rw [uo a j (by omega), gt a j q1 (by omega) (by omega)]) st⟩
        · unfold rwO
          rw [show τ 212 (σ 87 21) + ((m + 1 : Nat) : Int) + 1 = τ 212 (σ 87 21) + m + 1 + 1 by omega, u1]
          refine ⟨fun q => by omega, fun _ q => ?_⟩
          rw [uo 168 _ (by omega), kT 168 (by decide)] at q
          omega
        · rw [show τ 212 (σ 87 21) + ((m + 1 : Nat) : Int) + 1 = τ 212 (σ 87 21) + m + 1 + 1 by omega, u1, u2, u3]
          exact Or.inr (Or.inr ⟨⟨by omega, px.2.1, px.2.2, by omega⟩, Or.inl ⟨⟨⟨by rw [uo 168 _ (by omega), kT 168 (by decide)]; exact pk.2, by omega, by omega, by omega⟩, Or.inl ⟨rfl, rfl, kx.rx rx⟩⟩, rfl, rfl⟩⟩)
        · have hw' := hw
          unfold rwO at hw' ⊢
          rw [uo 218 _ (by omega), gt 218 _ (by decide) (by decide) (by omega), uo 218 _ (by omega), gt 218 _ (by decide) (by decide) (by omega), uo 219 (τ 212 (σ 87 21) + m) (by omega), gt 219 (τ 212 (σ 87 21) + m) (by decide) (by decide) (by omega)]
          have e168 : ∀ j, tkW T (τ 171 n) (-1) 168 j = τ 168 j := fun j => by rw [uo 168 j (by omega), kT 168 (by decide)]
          simp only [e168]
          exact hw'
        · rw [uo 218 _ (by omega), gt 218 _ (by decide) (by decide) (by omega), en, uo 219 _ (by omega), x7 219 (by decide) (by decide), gW_c (show (219 : Int) ≠ 119 by decide), gW_at]
          exact Or.inr (Or.inr ⟨hn, Or.inl ⟨⟨⟨by rw [uo 168 _ (by omega), kT 168 (by decide)]; omega, by omega, by omega, by omega⟩, Or.inr (Or.inr (Or.inr (Or.inl ⟨by rw [uo 168 _ (by omega), kT 168 (by decide)]; exact kd, kx.ci i2, Or.inr ⟨rfl, by omega, rfl⟩⟩)))⟩, rfl, rfl⟩⟩)
      · rw [uo 119 119 (by omega), f119 119 (by decide) (by decide)]
      · rw [uo 119 120 (by omega), f119 120 (by decide) (by decide)]
    · -- the left side is what it comes to
      rw [if_neg gg] at eC eM
      rw [if_neg (show ¬ (0 : Int) = 1 by decide)] at eC
      have uo : ∀ a j, (a ≠ 119 ∧ a ≠ 221 ∧ a ≠ 222) ∨ (a ≠ 119 ∧ j ≠ τ 119 125 - 1) ∨ (a = 119 ∧ j ≠ 124 ∧ j ≠ 125) → gW (puM T 1 (σ 89 (σ 87 8 - 1))) 119 124 (τ 212 (σ 87 21) + m + 1) a j = T a j := fun a j q => by
        rcases q with q | q | q
        · rw [gW_c q.1, puM_o (Or.inl q)]
        · rw [gW_c q.1, puM_o (Or.inr (Or.inl ⟨q.1, by rw [f125]; exact q.2⟩))]
        · rw [q.1, gW_i q.2.1, puM_o (Or.inr (Or.inr ⟨rfl, q.2.2⟩))]
      have pn := puM_n (τ := T) (t := 1) (y := σ 89 (σ 87 8 - 1))
      rw [f125] at pn
      have cc2 : smC S (gW S 87 22 (S 21 (S 87 22))) := ⟨fun a j q1 _ _ _ => gW_c q1, fun j _ q _ => gW_i q⟩
      have dd2 : smM T (gW (puM T 1 (σ 89 (σ 87 8 - 1))) 119 124 (τ 212 (σ 87 21) + m + 1)) (τ 212 (σ 87 21)) := ⟨fun a j q1 q2 _ _ => uo a j (by omega), fun j q1 q2 _ => uo 119 j (by omega), fun a j q1 q2 q3 => uo a j (by omega)⟩
      obtain ⟨kx, rv⟩ := chn cc1 dd1 nd cc2 dd2
      have Q3 := s3.sm (h' := h') cc2 (by rw [s21, kT 212 (by decide)]; exact dd2) (P' := E) (by rw [gW_at, s21]; exact w5 (by unfold isJ; omega) (by rw [s28, s90]; omega) (by rw [s28, s29, s90]; omega))
      rw [s21] at Q3
      have e8 : gW S 87 22 (S 21 (S 87 22)) 87 8 = σ 87 8 := by rw [gW_i (by decide), x6]
      have e125 : gW (puM T 1 (σ 89 (σ 87 8 - 1))) 119 124 (τ 212 (σ 87 21) + m + 1) 119 125 = τ 119 125 := by rw [gW_i (by decide), pn.2.2]; omega
      refine ⟨_, gW (puM T 1 (σ 89 (σ 87 8 - 1))) 119 124 (τ 212 (σ 87 21) + m + 1), _, _, m, br, co, θ - 1, cG_of t6.1 o1 o4 o3 (by decide) (mc_work_4 eC), mG_of t6.2.1 t6.2.2 (work_n (v := 0) t1 t2 en n2 ?_), R.asm Q3 (updF_at ..) kx (R.pk2 p1 kx rv (fun a j q _ => by rw [gW_c (show a ≠ 87 by omega), x5 a q]) (fun a j q _ => by rw [uo a j (by omega), gt a j (by omega) (by omega) (by omega)]) (by rw [e8, e125]; omega) fun j j0 j1 => ?_) (kx.st (fun a j q1 q2 q3 => by rw [uo a j (by omega), gt a j q1 (by omega) (by omega)]) st) (gW_at ..) (by rw [e8]; omega) (by omega) ⟨by rw [i1.1]; decide, by rw [i1.1]; decide⟩ (by omega) (by rw [e8]; omega), Or.inl (by omega), ?_, ?_⟩
      · have e103 : md_eitherOrBoth_b103 T n (σ 89 (σ 87 8 - 1)) 0 = some (gW (puM T 1 (σ 89 (σ 87 8 - 1))) 119 124 (τ 212 (σ 87 21) + m + 1), some 0) := by
          have e134 : ∀ y, md_eitherOrBoth_b134 T y 1 = some (gW (puM T 1 y) 119 124 (τ 212 (σ 87 21) + m + 1), some 0) := fun y => by
            rw [md_eitherOrBoth_b134_e, md_push_s (by rw [f125]; omega)]
            simp only [Option.bind_some]
            rw [md_eitherOrBoth_b147_e, puM_o (Or.inr (Or.inr ⟨rfl, by decide⟩)), f124, show τ 212 (σ 87 21) + m + 1 + 1 - 1 = τ 212 (σ 87 21) + m + 1 by omega, w32_e (by omega) (by omega)]
          rw [md_eitherOrBoth_b103_e, if_pos rfl, e134, e134]
          rcases y3 with y | y
          · rw [if_pos y, y]
          · rw [if_neg (by omega), y]
        rw [wk _ eM, e103]
        rfl
      · rw [e8] at j1
        have q := rv _ _ _ _ (p2 j j0 j1)
        rw [gW_c (show (88 : Int) ≠ 87 by decide), gW_c (show (89 : Int) ≠ 87 by decide), x5 88 (by decide), x5 89 (by decide)]
        by_cases jj : j = σ 87 8 - 1
        · rw [jj, show σ 87 8 - 1 + o = τ 119 125 - 1 by omega, gW_c (show (221 : Int) ≠ 119 by decide), gW_c (show (222 : Int) ≠ 119 by decide), pn.1, pn.2.1, z]
          exact rVal.tr0 y3
        · rw [uo 221 _ (by omega), uo 222 _ (by omega), gt 221 _ (by decide) (by decide) (by omega), gt 222 _ (by decide) (by decide) (by omega)]
          exact q
      · rw [uo 119 119 (by omega), f119 119 (by decide) (by decide)]
      · rw [uo 119 120 (by omega), f119 120 (by decide) (by decide)]
  · right
    have tz : τ 221 (τ 119 125 - 1) ≠ 1 := fun q => z ((kT_1 vk.2).mp (by rw [← vk.1]; exact q))
    have Q0 : RQ σ (gW τ 219 (τ 212 (σ 87 21) + m + 1) 2) pT hT := by
      have := Q.sm (S := σ) (P' := pT (σ 87 21)) (h' := hT (σ 87 21)) ⟨fun _ _ _ _ _ _ => rfl, fun _ _ _ _ => rfl⟩ (smM.g219 (τ := τ) (v := 2) (i := τ 212 (σ 87 21) + m + 1) (f := τ 212 (σ 87 21)) (by omega)) pc
      rw [updF_same, updF_same] at this
      exact this
    have cf := choice_fail (n := n) (σ := σ) (τ0 := gW τ 219 (τ 212 (σ 87 21) + m + 1) 2) (S := flS σ 1 n) (T := erM (gW τ 219 (τ 212 (σ 87 21) + m + 1) 2) 1 n) (by omega) g125 (by omega) z (by rw [gs 221 _ (by omega)]; exact tz) (Q0.fail (e := 1) ⟨hn.2.1, hn.2.2.1⟩).1 (Q0.fail (e := 1) ⟨hn.2.1, hn.2.2.1⟩).2.1
    refine Q0.failX (e := 1) ⟨hn.2.1, hn.2.2.1⟩ t6.1 o1 o4 o3 (by decide) (fun f => mc_work_4 cf.2.1) t6.2.1 t6.2.2 t1 t2 en (fun f => ?_) (gs 119 119 (by omega))
    have : md_eitherOrBoth τ (τ 212 (σ 87 21) + m + 1) n (τ 168 n) = some (erM (gW τ 219 (τ 212 (σ 87 21) + m + 1) 2) 1 n, none) := by
      rw [md_eitherOrBoth_e, if_pos t2, if_pos t2, if_pos t2, es, if_neg (by decide), if_pos rfl, w32_e (by decide) (by decide), show (1 : Int) + 1 = 2 by decide, cf.2.2.1]
      rfl
    rw [wk _ this]
    rfl
end LE
