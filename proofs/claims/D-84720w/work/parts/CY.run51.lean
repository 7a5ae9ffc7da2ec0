/-! calls of functions: both sides -/
section CC
variable {σ τ S T : gM} {pT hT : Int → Int} {m : Nat} {br co θ n : Int}
/-- the unit that is called, found by both -/
theorem unit_all {Y : gM} {c u r : Int} (hb : rBk σ τ) (hU : rUn σ) (c0 : 0 ≤ c ∧ c < σ 52 10) (u0 : 0 ≤ u ∧ u < σ 55 c) (hf : cFa σ c) (hn : σ 11 n = 1 → σ 18 n = 0) (he : σ 11 n = 1 ∨ (σ 11 n = 0 ∧ (σ 18 n = 1 → σ 19 (9 * n) = r))) (kY : ∀ a, a ≠ 87 → Y a = σ a) : ∃ x, cd_unit Y c u n r = some (Y, x) ∧ (∀ T, rBk σ T → md_unitAt T c u n = some (T, x)) ∧ (x = -1 ∨ ((1 ≤ x ∧ x < σ 55 c) ∧ σ 62 (σ 54 c + x) = r)) := by
  have hB : ∀ T, rBk σ T → rBk Y T := fun T h => h.up (fun a q => kY a (by omega)) (by rw [kY 8 (by decide)]) (by rw [kY 52 (by decide)]) (by rw [kY 52 (by decide)]) (fun _ _ => rfl) rfl rfl fun i i0 i1 => by
    have gi := h.2.2.2 i i0 i1
    rw [kY 58 (by decide), kY 59 (by decide), kY 60 (by decide)]
    exact ⟨gi.2.2.2.2.1, gi.2.2.2.2.2.1, gi.2.2.2.2.2.2.1⟩
  have hU' : rUn Y := by
    unfold rUn at hU ⊢
    rw [kY 26 (by decide), kY 27 (by decide), kY 52 (by decide), kY 53 (by decide), kY 54 (by decide), kY 55 (by decide), kY 62 (by decide), kY 63 (by decide), kY 64 (by decide)]
    exact hU
  have hf' : cFa Y c := by
    unfold cFa at hf ⊢
    rw [kY 9 (by decide), kY 11 (by decide), kY 18 (by decide), kY 19 (by decide), kY 20 (by decide), kY 22 (by decide), kY 29 (by decide), kY 54 (by decide), kY 55 (by decide), kY 62 (by decide), kY 64 (by decide), kY 65 (by decide)]
    exact hf
  have U : ∀ T, rBk σ T → ∃ x, cd_unit Y c u n r = some (Y, x) ∧ md_unitAt T c u n = some (T, x) ∧ (x = -1 ∨ ((1 ≤ x ∧ x < σ 55 c) ∧ σ 62 (σ 54 c + x) = r)) := fun T h => by
    have := unit_pair (σ := Y) (τ := T) (n := n) (c := c) (u := u) (r := r) (hB T h) hU' (by rw [kY 52 (by decide)]; exact c0) (by rw [kY 55 (by decide)]; exact u0) hf' (by rw [kY 11 (by decide), kY 18 (by decide)]; exact hn) (by rw [kY 11 (by decide), kY 18 (by decide), kY 19 (by decide)]; exact he)
    rw [kY 54 (by decide), kY 55 (by decide), kY 62 (by decide)] at this
    exact this
  obtain ⟨x, x1, x2, x3⟩ := U τ hb
  refine ⟨x, x1, fun T h => ?_, x3⟩
  obtain ⟨y, y1, y2, -⟩ := U T h
  rw [x1] at y1
  have e : x = y := congrArg Prod.snd (Option.some.inj y1)
  rw [e]
  exact y2
theorem RQ.pcq (R : RQ σ τ pT hT) : pcT σ (σ 87 21) (σ 87 22) (pT (σ 87 21)) := by
  obtain ⟨-, ⟨-, ha, -, hap, -, ⟨hm, hc⟩, -⟩, -⟩ := R
  have m59 := ha.1
  have q := hap (σ 87 21) (by omega) (by omega)
  unfold pcA at q
  rw [if_pos rfl] at q
  exact q
/-- a function is called that has a body -/
theorem op_callA {E h' br' co' s : Int} (R : RR σ τ pT hT (m + 1) br co θ) (en : τ 218 (τ 212 (σ 87 21) + m + 1) = n) (es : τ 219 (τ 212 (σ 87 21) + m + 1) = s) (ex : τ 220 (τ 212 (σ 87 21) + m + 1) = -1) (s1 : 1 ≤ s) (hn : 0 ≤ n ∧ σ 26 (σ 90 (σ 87 21)) ≤ n ∧ n < σ 26 (σ 90 (σ 87 21)) + σ 27 (σ 90 (σ 87 21)) ∧ ((m : Int) + 1) ≤ 2 * (n - σ 26 (σ 90 (σ 87 21))) + 2) (st : St σ τ (σ 26 (σ 90 (σ 87 21))) (σ 26 (σ 90 (σ 87 21)) + σ 27 (σ 90 (σ 87 21))) (σ 28 (σ 90 (σ 87 21))) (σ 28 (σ 90 (σ 87 21)) + σ 29 (σ 90 (σ 87 21)) - 2) (τ 212 (σ 87 21)) m E h' br' co') (hh : hT (σ 87 21) = h' - 1 + s) (h1 : 1 ≤ h') (hs : h' - 1 + s ≤ 300) (e14 : σ 14 n = s - 1) (hE : E = pT (σ 87 21) + 1) (kd : τ 168 n = 23) (i : cI σ (pT (σ 87 21)) 9 0 n) (z : σ 88 (σ 87 8 - s) = 5) (r4 : 4 ≤ σ 24 (σ 89 (σ 87 8 - s))) (m9 : σ 87 19 ≠ 59) : goX σ τ θ := by
  obtain ⟨q1, q2, q3⟩ := call_eq R en es ex s1 ⟨hn.1, hn.2.1, hn.2.2.1⟩ st hh h1 (by omega) e14 (by omega) hE kd i
  obtain ⟨-, -, -, -, ⟨t1, t2⟩, t3, -, -, -, t6⟩ := R.top
  obtain ⟨c1, -, c2, pc, c5, c6, c7, c8, c9⟩ := R.cur
  obtain ⟨o, p1, p2, p3, p4, p5, p6⟩ := R.pl
  have th := R.th0
  have k92 := R.2.2.1.1.2.2.1
  have k212 := R.2.2.1.1.2.1
  have pi := R.2.1
  have H := R.2.2.2
  have R' := R
  obtain ⟨Q, -⟩ := R'
  have Q' := Q
  obtain ⟨⟨⟨P1, -⟩, -⟩, A, -⟩ := Q'
  have hIn := P1.2.2.2.2.2.2.2.2.2.2.1
  have hFv := P1.2.1
  obtain ⟨o1, o2, o3, o4, -⟩ := A.op rfl i hIn hIn.1.2
  have o4 : σ 20 (σ 87 22) = 9 := by
    rcases o4 with z | z | z
    · exact z
    · omega
    · omega
  have hm := A.2.2.2.2.2.1
  have m59 := A.2.1.1
  have n2 : 0 ≤ n ∧ n < 20000 := by omega
  have hl := St.le _ _ _ _ _ st
  have v := p2 (σ 87 8 - s) (by omega) (by omega)
  rw [show σ 87 8 - s + o = τ 119 125 - s by omega] at v
  have vk := v.kt
  have gs : ∀ a j, a ≠ 219 ∨ j ≠ τ 212 (σ 87 21) + m + 1 → gW τ 219 (τ 212 (σ 87 21) + m + 1) (s + 1) a j = τ a j := fun a j q => by
    rcases q with q | q
    · exact gW_c q
    · exact gW_j q
  have dd := smM.g219 (τ := τ) (v := s + 1) (i := τ 212 (σ 87 21) + m + 1) (f := τ 212 (σ 87 21)) (by omega)
  have cc : smC σ σ := ⟨fun _ _ _ _ _ _ => rfl, fun _ _ _ _ => rfl⟩
  have Q0 : RQ σ (gW τ 219 (τ 212 (σ 87 21) + m + 1) (s + 1)) pT hT := by
    have := Q.sm (S := σ) (P' := pT (σ 87 21)) (h' := hT (σ 87 21)) cc dd pc
    rw [updF_same, updF_same] at this
    exact this
  have rv0 : ∀ k x t y, rVal σ τ k x t y → rVal σ (gW τ 219 (τ 212 (σ 87 21) + m + 1) (s + 1)) k x t y := fun k x t y q => (smC.rv cc dd).mpr q
  have rf : rFn σ τ (σ 89 (σ 87 8 - s)) (τ 222 (τ 119 125 - s)) := by
    rcases v with y | y | y | y | y | y | y
    all_goals first | exact absurd y.1 (by omega) | exact y.2.2
  have e156 := hFv.2.2.1 _ _ rf
  have fb := hFv.1
  have z5 : τ 221 (τ 119 125 - s) = 5 := by rw [vk.1, z]; rfl
  have m121 := A.2.1.1.2.2
  have fr : ((0 ≤ σ 89 (σ 87 8 - s) ∧ σ 89 (σ 87 8 - s) < 9000) ∧ 0 ≤ τ 222 (τ 119 125 - s) ∧ τ 222 (τ 119 125 - s) < 9000) ∧ σ 24 (σ 89 (σ 87 8 - s)) < σ 8 31 := by
    obtain ⟨r1, r2, -⟩ := rf
    have := hFv.2.1.1
    have := fb.1
    have := (fb.2.1 _ r1.1 r1.2).2.2
    omega
  rw [if_pos z, w32_e (by omega) (by omega), if_pos fr.1.1] at q1
  rw [if_pos z5, w32_e (by omega) (by omega), if_pos fr.1.2, e156, m121] at q2
  generalize er : σ 24 (σ 89 (σ 87 8 - s)) = r at q1 q2 r4 fr e156
  generalize eτ : gW τ 219 (τ 212 (σ 87 21) + m + 1) (s + 1) = τ1 at q2 Q0 rv0 gs
  have c8' := (c9 n hn.2.1 hn.2.2.1)
  have k9 : σ 9 n = 23 := by have := c8'.1.1; omega
  have b18 := (Q.1.2.1.1 n hn.1 c8'.2.2).2.2 (Or.inr (Or.inr k9))
  obtain ⟨S1, T1, f1, f2, Q1, nd, ec, -, en7⟩ := Q0.en (n := n) (x2 := 2) (x3 := r) (x4 := -1) (x5 := -1) (y2 := r) (y3 := 0) (y4 := 0) ⟨hn.2.1, hn.2.2.1⟩ ⟨rfl, Or.inl ⟨k9, ⟨by omega, fr.2⟩, rfl, rfl, rfl, rfl⟩⟩ (by decide) (fun _ => rfl) (b18.2 k9)
  have e831 : S1 8 31 = σ 8 31 := ec.1 8 31 (by decide) (by decide) (by decide) (by decide) (by decide) (by decide) (by decide) (by decide) (by decide) (by decide) (by decide)
  have nd' := nd
  obtain ⟨⟨x1, x2, x3, x4⟩, x5, x6, x7, x8, x9⟩ := nd'
  have s21 := x2 21 (by decide)
  have s19 := x2 19 (by decide)
  have u119 : ∀ j, τ1 119 j = τ 119 j := fun j => gs 119 j (by omega)
  have T124 : T1 119 124 = τ 119 124 := by rw [x8 124 (by decide), u119]
  have T125 : T1 119 125 = τ 119 125 := by rw [x8 125 (by decide), u119]
  -- the units
  have A1 := Q1.2.1
  have hc1 := A1.2.2.2.2.2.1
  obtain ⟨-, -, acr, -⟩ := A1.2.1.2.2 (S1 87 21) (by omega) (by omega)
  have mo := more_b A1.2.2.2.2.1.2.2.2.2.2.2.2.2.1
  generalize ey : (if S1 87 41 < 1000000000 then S1 87 41 + 1 else S1 87 41) = y at mo
  have mc := more_c (s := S1) A1.2.2.2.2.1.2.2.2.2.2.2.2.2.1
  rw [ey] at mc
  have kY : ∀ a, a ≠ 87 → gW S1 87 41 y a = S1 a := fun a q => gW_cell q
  have un : ∃ u, ((S1 93 (S1 87 21) < 0 ∧ u = -1) ∨ (0 ≤ S1 93 (S1 87 21) ∧ cd_unit (gW S1 87 41 y) (S1 93 (S1 87 21)) (S1 94 (S1 87 21)) n r = some (gW S1 87 41 y, u))) ∧ ((S1 93 (S1 87 21) < 0 ∧ u = -1) ∨ (0 ≤ S1 93 (S1 87 21) ∧ (∀ T, rBk S1 T → md_unitAt T (S1 93 (S1 87 21)) (S1 94 (S1 87 21)) n = some (T, u)) ∧ (u = -1 ∨ ((1 ≤ u ∧ u < S1 55 (S1 93 (S1 87 21))) ∧ S1 62 (S1 54 (S1 93 (S1 87 21)) + u) = r)))) := by
    by_cases y0 : S1 93 (S1 87 21) < 0
    · exact ⟨-1, Or.inl ⟨y0, rfl⟩, Or.inl ⟨y0, rfl⟩⟩
    · rcases en7 with ⟨e1, e2, e3⟩ | e
      · rw [e1] at acr Q1 y0 ⊢
        have y1 : (0 ≤ σ 93 (σ 87 21) ∧ σ 93 (σ 87 21) < σ 52 10) ∧ 0 ≤ σ 94 (σ 87 21) ∧ σ 94 (σ 87 21) < σ 55 (σ 93 (σ 87 21)) := by
          rcases acr with w | w
          · omega
          · exact ⟨w.1, w.2.1⟩
        rw [e1] at kY
        obtain ⟨u, w1, w2, w3⟩ := unit_all (Y := gW σ 87 41 y) (n := n) (r := r) A.1 P1.2.2.2.2.2.2.2.2.2.2.2.1.1 y1.1 y1.2 (Q.2.2.2.2.2 (by omega)) (fun w => by have := b18.1; omega) e3 kY
        exact ⟨u, Or.inr ⟨by omega, w1⟩, Or.inr ⟨by omega, w2, w3⟩⟩
      · rw [s21, e] at y0
        omega
  obtain ⟨u, un1, un2⟩ := un
  have fsI : ∀ P Q, sI σ S1 P Q := fun P Q p _ _ => ⟨by rw [x1 20 (by decide)], by rw [x1 21 (by decide)], by rw [x1 22 (by decide)]⟩
  have pcc : pcT S1 (S1 87 21) (S1 87 22 + 1) E := by
    have w := Q1.pcq
    rw [hE, ← s21]
    refine w.next ?_
    rw [x1 28 (by decide), x1 29 (by decide), x1 90 (by decide), s21]
    omega
  have st1 : St S1 T1 (σ 26 (σ 90 (σ 87 21))) (σ 26 (σ 90 (σ 87 21)) + σ 27 (σ 90 (σ 87 21))) (σ 28 (σ 90 (σ 87 21))) (σ 28 (σ 90 (σ 87 21)) + σ 29 (σ 90 (σ 87 21)) - 2) (τ 212 (σ 87 21)) m E h' br' co' := St.fr (fun a j q _ _ => by rw [x3 a (by omega), gs a j (by omega)]) (fun j _ _ => by rw [x1 14 (by decide)]) (fsI _ _) m _ _ _ _ (fun a j q1 q2 _ q4 => by rw [x7 a q1 (by omega), gs a j (by omega)]) st
  have e212 : ∀ j, T1 212 j = τ 212 j := fun j => by rw [x3 212 (by decide), gs 212 j (by omega)]
  obtain ⟨S2, T2, g1, g2, Q2, rv2, n1, n2', n3, n4, n5, n6, n7⟩ := act_all (n := n) (a0 := σ 87 8 - s) (a1 := τ 119 125 - s) (ar := s - 1) (r := r) (u := u) (P1 := E) (h1 := h') ⟨by omega, by omega⟩ Q1 (by omega) ⟨r4, by rw [e831]; exact fr.2⟩ (by have := ccN_rg (σ := S1) (σ 87 19).toNat; have := u119 123; omega) un2 pcc ⟨m, br', co', ⟨by rw [x1 26 (by decide), x1 27 (by decide), x1 28 (by decide), x1 29 (by decide), x1 90 (by decide), s21, e212]; exact st1, by rw [s21, e212]; exact k212, by rw [s21, x1 92 (by decide)]; exact k92, by omega⟩, by rw [s21, e212, T124]; omega, by rw [s21, x1 92 (by decide)]; omega⟩ ⟨by omega, by omega⟩ (by omega) (by omega) (fun j j0 j1 => by
    have w := rv0 _ _ _ _ (p2 (σ 87 8 - s + 1 + j) (by omega) (by omega))
    rw [show σ 87 8 - s + 1 + j + o = τ 119 125 - s + 1 + j by omega] at w
    rw [x5 88 (by decide), x5 89 (by decide), x7 221 (by decide) (by decide), x7 222 (by decide) (by decide), gs 221 _ (by omega), gs 222 _ (by omega)]
    exact x9 _ _ _ _ w)
  have pb : 0 ≤ S1 87 22 ∧ S1 87 22 < 164000 := by
    have hI1 := Q1.1.1.1.2.2.2.2.2.2.2.2.2.2.1
    exact (A1.op (P := pT (σ 87 21)) (by rw [s21]) (show cI S1 (pT (σ 87 21)) 9 0 n by unfold cI; rw [x1 20 (by decide), x1 21 (by decide), x1 22 (by decide)]; exact i) hI1 hI1.1.2).1
  -- the component
  have eC : mc_call σ n = some (gW S2 87 8 (σ 87 8 - s), 0) := by
    rw [q1, if_neg (by omega), if_neg m9, f1]
    simp only [Option.bind_some]
    rw [mc]
    simp only [Option.bind_some]
    have b60 : 0 ≤ S1 87 21 ∧ S1 87 21 < 60 := by omega
    have e91 : gW (gW S1 87 41 y) 91 (gW S1 87 41 y 87 21) (w32 (gW S1 87 41 y 87 22 + 1)) = gW (gW S1 87 41 (if S1 87 41 < 1000000000 then S1 87 41 + 1 else S1 87 41)) 91 (S1 87 21) (S1 87 22 + 1) := by
      have w := pb
      rw [gW_i (show (21 : Int) ≠ 41 by decide), gW_i (show (22 : Int) ≠ 41 by decide), w32_e (by omega) (by omega), ey]
    have fin : mc_call_b168 (gW S1 87 41 y) (s - 1) (σ 87 8 - s) r u = some (gW S2 87 8 (σ 87 8 - s), 0) := by
      rw [mc_call_b168_e, e91, gW_i (show (21 : Int) ≠ 41 by decide), if_pos b60, g1]
      rfl
    rw [if_neg (by omega), if_pos b60]
    rcases un1 with ⟨w1, w2⟩ | ⟨w1, w2⟩
    · rw [if_pos w1, ← w2]
      exact fin
    · rw [if_neg (by omega), if_pos b60, if_pos b60, w2]
      exact fin
  have eM : md_calls τ (τ 212 (σ 87 21) + m + 1) n = some (gW (tkW T2 (-2) (T2 162 r)) 219 (T1 119 124) 1, some 0) := by
    rw [q2, if_neg (by omega), if_neg m9, f2]
    simp only [Option.bind_some]
    rw [if_pos (by omega), g2]
    rfl
  -- what is related then
  have t124 : T2 119 124 = τ 119 124 := by rw [n6 124 (by decide) (by decide) (by decide) (by decide), T124]
  rw [T124] at eM
  obtain ⟨w1, w2, w3, w4⟩ := tkW_n (τ := T2) (n := -2) (x := T2 162 r) t124
  generalize eS3 : gW S2 87 8 (σ 87 8 - s) = S3 at eC
  generalize eT3 : gW (tkW T2 (-2) (T2 162 r)) 219 (τ 119 124) 1 = T3 at eM
  have y1 : ∀ a j, a ≠ 87 ∨ j ≠ 8 → S3 a j = S2 a j := fun a j q => by
    rw [← eS3]
    rcases q with q | q
    · exact gW_c q
    · by_cases w : a = 87
      · rw [w, gW_i q]
      · exact gW_c w
  have y2 : S3 87 8 = σ 87 8 - s := by rw [← eS3, gW_at]
  have y3 : ∀ a j, (a < 218 ∧ a ≠ 119) ∨ 220 < a ∨ (a ≠ 119 ∧ j ≠ τ 119 124) ∨ (a = 119 ∧ j ≠ 124) → T3 a j = T2 a j := fun a j q => by
    rw [← eT3]
    have w : a ≠ 219 ∨ j ≠ τ 119 124 := by omega
    have w' : gW (tkW T2 (-2) (T2 162 r)) 219 (τ 119 124) 1 a j = tkW T2 (-2) (T2 162 r) a j := by
      rcases w with w | w
      · exact gW_c w
      · exact gW_j w
    rw [w']
    exact tkW_o (by rw [t124]; exact q)
  have y4 : T3 218 (τ 119 124) = -2 ∧ T3 219 (τ 119 124) = 1 ∧ T3 220 (τ 119 124) = T2 162 r ∧ T3 119 124 = τ 119 124 + 1 := by
    rw [← eT3]
    exact ⟨by rw [gW_c (by decide)]; exact w1, gW_at .., by rw [gW_c (by decide)]; exact w3, by rw [gW_c (by decide)]; exact w4⟩
  clear eS3 eT3 w1 w2 w3 w4
  rw [s19] at n2' n3 n4 n7 Q2
  rw [s21] at Q2
  have e21 : S2 87 21 = σ 87 19 := n2'.2.1
  have e90 : S2 90 (σ 87 19) = r := n3.1
  have sc : smC S2 S3 := ⟨fun a j q _ _ _ => y1 a j (Or.inl q), fun j q _ _ => y1 87 j (Or.inr q)⟩
  have sm : smM T2 T3 (T2 212 (S2 87 21)) := ⟨fun a j q1 q2 _ _ => y3 a j (by omega), fun j q1 _ _ => y3 119 j (by omega), fun a j q1 q2 q3 => y3 a j (by rw [e21, n3.2.2.1, T124] at q3; omega)⟩
  have pc2 := Q2.pcq
  have Q3 := Q2.sm (S := S3) (T := T3) (P' := updF (updF pT (σ 87 21) E) (σ 87 19) (S1 28 r) (S2 87 21)) (h' := 0) sc sm (by rw [y1 87 22 (Or.inr (by decide))]; exact pc2)
  have rv3 : ∀ k x t y, rVal σ τ k x t y → rVal S3 T3 k x t y := fun k x t y q => (smC.rv sc sm).mpr (rv2 _ _ _ _ (x9 _ _ _ _ (rv0 _ _ _ _ q)))
  rw [updF_same] at Q3
  rw [e21] at Q3
  have r31 : r < S3 8 31 := by
    have w := Q3.cu.2.1.2
    rw [y1 87 21 (Or.inr (by decide)), e21, y1 90 _ (Or.inl (by decide)), e90] at w
    exact w
  have ro := Q3.1.1.1.2.2.2.2.2.2.2.2.2.2.2.2.2.1 r r4 r31
  have hI3 := Q3.1.1.1.2.2.2.2.2.2.2.2.2.2.1.2 r r4 r31
  have z21 : S3 87 21 = σ 87 19 := by rw [y1 87 21 (Or.inr (by decide)), e21]
  have z19 : S3 87 19 = σ 87 19 + 1 := by rw [y1 87 19 (Or.inr (by decide))]; exact n2'.1
  have z90 : S3 90 (σ 87 19) = r := by rw [y1 90 _ (Or.inl (by decide)), e90]
  have z92 : S3 92 (σ 87 19) = σ 87 8 - s := by rw [y1 92 _ (Or.inl (by decide))]; exact n3.2.1
  have z212 : T3 212 (σ 87 19) = τ 119 124 := by rw [y3 212 _ (by omega), n3.2.2.1, T124]
  have kA : ∀ a j, a = 14 ∨ (20 ≤ a ∧ a ≤ 22) ∨ (26 ≤ a ∧ a ≤ 29) → S3 a j = σ a j := fun a j q => by rw [y1 a j (Or.inl (by omega)), n1 a (by omega), x1 a (by omega)]
  have w162 : T3 162 r = T2 162 r := y3 162 r (by omega)
  refine ⟨S3, T3, _, _, 0, -1, -1, θ - 2, cG_of t6.1 o1 o4 o3 (by decide) (by rw [mc_work_9, eC]; rfl), mG_of t6.2.1 t6.2.2 (work_n (v := 0) t1 t2 en n2 (by rw [md_works_23 kd n2, eM]; rfl)), ⟨Q3, ?_, ⟨⟨⟨⟨?_, ?_, ?_, ?_, rfl, rfl⟩, ?_⟩, ?_, ?_, ?_⟩, ?_, ?_⟩, ?_, ?_, ?_⟩, Or.inl (by omega), ?_, ?_⟩
  · refine pi.call (a0 := σ 87 8 - s) p1 (by omega) (by omega) (fun j q => ?_) (by rw [show σ 87 21 + 1 = σ 87 19 by omega]; exact z92) (fun j q => ?_) ?_ (fun a q => funext fun j => ?_) (fun a q => funext fun j => ?_) rv3 y2 ?_ ⟨by omega, by omega⟩ (by omega)
    · rw [y1 92 j (Or.inl (by decide)), (n4 j (by omega)).2.1, x1 92 (by decide)]
    · rw [y3 213 j (by omega), (n4 j (by omega)).2.2.2, x3 213 (by decide), gs 213 j (by omega)]
    · rw [y3 213 _ (by omega), show σ 87 21 + 1 = σ 87 19 by omega, n3.2.2.2]
      omega
    · rw [y1 a j (Or.inl (by omega)), n1 a (by omega), x5 a q]
    · rw [y3 a j (by omega), n5 a (by omega), x7 a (by omega) (by omega), gs a j (by omega)]
    · rw [y3 119 125 (by omega), n6 125 (by decide) (by decide) (by decide) (by decide), T125]
  · rw [z21, z90, updF_at, kA 28 r (by omega), x1 28 (by decide)]
    omega
  · rw [z21, z212]; exact y4.1
  · rw [z21, z212]; exact y4.2.1
  · rw [z21, updF_at]
  · rw [z21, z212, z90, y4.2.2.1, updF_at, ← w162, x1 28 (by decide), ← kA 28 r (by omega)]
    exact ro.2.2.1
  · rw [z21, z212]; omega
  · rw [z21, z92]; omega
  · rw [z21, updF_at]
    omega
  · rw [z21, z212, y4.2.2.2]
    omega
  · rw [z21, z92, y2, updF_at]
    omega
  · have h1' := H.1
    rw [z21, z19, y2, y1 87 24 (Or.inr (by decide)), n2'.2.2.1, x2 24 (by decide), updF_at]
    have wo := wT_eq (k := σ 87 21) (σ := σ) (P := pT (σ 87 21)) ⟨by rw [i.1]; decide, by rw [i.1]; decide⟩
    have wn : wT S3 (σ 87 19) (S1 28 r) ≤ 8 := by
      unfold wT
      rw [z90, x1 28 (by decide), ← kA 28 r (by omega)]
      rcases ro.2.2.1.x2 with ⟨a1, a2⟩ | ⟨a1, a2, M, a3, -⟩
      · split <;> omega
      · rw [if_pos (Or.inl (a3.x3 (be := 0)).2.1.1)]
        decide
    have ws : wSs S3 (updF (updF pT (σ 87 21) E) (σ 87 19) (S1 28 r)) (σ 87 19).toNat = wSs σ pT (σ 87 21).toNat + 8 * (σ 28 (σ 90 (σ 87 21)) + σ 29 (σ 90 (σ 87 21)) - 1 - E) := by
      rw [show (σ 87 19).toNat = (σ 87 21).toNat + 1 by omega]
      show wSs S3 _ (σ 87 21).toNat + _ = _
      rw [show (((σ 87 21).toNat : Nat) : Int) = σ 87 21 by omega, updF_ne (show σ 87 21 ≠ σ 87 19 by omega), updF_at, kA 28 _ (by omega), kA 29 _ (by omega), y1 90 _ (Or.inl (by decide)), (n4 (σ 87 21) (by omega)).1, x1 90 (by decide)]
      rw [wSs_eq (S := S3) (σ := σ) (pT := pT) (σ 87 21).toNat fun k k0 k1 => ⟨by rw [updF_ne (by omega), updF_ne (by omega)], by rw [kA 28 _ (by omega), kA 29 _ (by omega), y1 90 _ (Or.inl (by decide)), (n4 k (by omega)).1, x1 90 (by decide)]⟩]
    rw [ws]
    omega
  · have := H.2.1
    rw [y1 87 34 (Or.inr (by decide)), n2'.2.2.2, x2 34 (by decide)]
    omega
  · have := H.2.2
    rw [z19, y3 119 123 (by omega), ccN_eq (S := S3) (σ := S2) _ fun j _ _ => y1 93 j (Or.inl (by decide))]
    have := u119 123
    omega
  · rw [y3 119 119 (by omega), n6 119 (by decide) (by decide) (by decide) (by decide), x8 119 (by decide), u119]
  · rw [y3 119 120 (by omega), n6 120 (by decide) (by decide) (by decide) (by decide), x8 120 (by decide), u119]
end CC
