/-! calls of given functions: how they begin; both sides -/
section HQ
variable {σ τ S T Z X : gM} {pT hT : Int → Int} {m : Nat} {br co θ n : Int}
/-- all but nodes, roots and values of the run may change, and more of them may come -/
theorem RQm.hq (R : RQm σ τ pT hT) (P : rPr Z X) (N : rNo Z X) (M : rRm Z X) (B : rBy Z X) (O : rOb Z X) (C : rCt Z X) (HT : rTo Z X) (rv : ∀ k x t y, rVal σ τ k x t y → rVal Z X k x t y) (c : ∀ a, a = 54 ∨ a = 55 ∨ a = 62 ∨ a = 65 ∨ (90 ≤ a ∧ a ≤ 99) → Z a = σ a) (c52 : Z 52 10 = σ 52 10) (c831 : σ 8 31 ≤ Z 8 31) (c26 : ∀ a r, 26 ≤ a → a ≤ 31 → r < σ 8 31 → Z a r = σ a r) (c20 : ∀ a p, 20 ≤ a → a ≤ 22 → p < σ 8 16 → Z a p = σ a p) (c14 : ∀ n, n < σ 8 12 → Z 14 n = σ 14 n) (c87 : ∀ i, i = 19 ∨ i = 21 ∨ i = 22 → Z 87 i = σ 87 i) (d : ∀ a, 208 ≤ a → a ≤ 220 → X a = τ a) (d168 : ∀ a n, a = 168 ∨ (170 ≤ a ∧ a ≤ 173) → n < σ 8 12 → X a n = τ a n) (d119 : ∀ i, i = 121 ∨ i = 123 → X 119 i = τ 119 i) : RQm Z X pT hT := by
  obtain ⟨⟨⟨P1, P2⟩, -, -, -⟩, ⟨hb, ha, hcp, hap, ht, ⟨hm, hc⟩, hf⟩, ⟨V2, V3⟩, K1, C0⟩ := R
  have m59 := ha.1
  have e19 := c87 19 (by decide)
  have e21 := c87 21 (by decide)
  have e22 := c87 22 (by decide)
  have r4 : ∀ k, 0 ≤ k → k < σ 87 19 → 4 ≤ σ 90 k ∧ σ 90 k < σ 8 31 := fun k q1 q2 => (ha.2.2 k q1 q2).2.1
  have hN := P1.2.2.2.2.2.2.2.2.1
  have hin := P1.2.2.2.2.2.2.2.2.2.2.1
  refine ⟨⟨P, N, M, B⟩, ⟨P.1.2.2.2.2.2.2.2.1, ⟨by rw [e19, d119 121 (by decide)]; exact m59, by rw [d119 123 (by decide)]; exact ha.2.1, fun k k0 k1 => ?_⟩, P.1.2.2.2.2.2.2.2.2.2.2.2.1.2.1, fun k k0 k1 => ?_, HT, ⟨by omega, by omega⟩, ?_⟩, ⟨fun k l k0 k1 l0 l1 => ?_, O⟩, ?_, C⟩
  · rw [e19] at k1
    have q := ha.2.2 k k0 k1
    unfold aR1 acC at q ⊢
    rw [c 54 (by decide), c 55 (by decide), c 62 (by decide), c 90 (by decide), c 92 (by decide), c 93 (by decide), c 94 (by decide), c 95 (by decide), c 96 (by decide), c52, d 208 (by decide) (by decide), d 209 (by decide) (by decide), d 210 (by decide) (by decide), d 211 (by decide) (by decide), d 213 (by decide) (by decide), d 214 (by decide) (by decide), d119 123 (by decide)]
    exact ⟨q.1, ⟨q.2.1.1, by omega⟩, q.2.2⟩
  · rw [e19] at k1
    have a := hap k k0 k1
    have w := r4 k k0 k1
    unfold pcT pcA at a ⊢
    rw [e21, e22, c 90 (by decide), c 91 (by decide), c 93 (by decide), c 94 (by decide), c 54 (by decide), c 65 (by decide), c26 28 _ (by decide) (by decide) w.2, c26 29 _ (by decide) (by decide) w.2]
    exact a
  · rw [e19, d119 123 (by decide), ccN_eq (S := Z) (σ := σ) _ fun j _ _ => by rw [c 93 (by decide)]]
    exact hf
  · rw [e19] at k1
    have w := r4 k k0 k1
    rw [c 90 (by decide), c26 31 _ (by decide) (by decide) w.2] at l1
    have q := V2 k l k0 k1 l0 l1
    rw [c 97 (by decide), c 98 (by decide), c 99 (by decide), d 215 (by decide) (by decide), d 216 (by decide) (by decide), d 217 (by decide) (by decide)]
    exact ⟨q.1, q.2.1, rv _ _ _ _ q.2.2⟩
  · rw [e21]
    exact K1.fr (fun k q1 q2 => r4 k q1 (by omega)) (fun k _ _ => ⟨rfl, rfl⟩) (fun k _ _ => by rw [c 90 (by decide)]) (fun k _ _ => by rw [c 92 (by decide)]) (fun k _ _ => by rw [d 212 (by decide) (by decide)]) (fun a r q1 q2 _ q4 => c26 a r q1 (by omega) q4) (fun r q1 q2 => ⟨fun a n q _ q3 => d168 a n q (by have := hN.2.1 r q1 q2; omega), fun n _ q3 => c14 n (by have := hN.2.1 r q1 q2; omega), fun p _ q3 => by
      have w := hin.2 r q1 q2
      exact ⟨c20 20 p (by decide) (by decide) (by omega), c20 21 p (by decide) (by decide) (by omega), c20 22 p (by decide) (by decide) (by omega)⟩⟩) (fun a i q1 q2 _ => by rw [d a (by omega) q2]) K1.mon
/-- one call more is counted -/
theorem RQ.more {y : Int} (R : RQ σ τ pT hT) (ey : (if σ 87 41 < 1000000000 then σ 87 41 + 1 else σ 87 41) = y) (cS : ∀ a, a ≠ 87 → S a = σ a) (c87 : ∀ i, i ≠ 41 → S 87 i = σ 87 i) (s41 : S 87 41 = y) (cT : ∀ a, a ≠ 224 → T a = τ a) (c224 : ∀ i, i ≠ 14 → T 224 i = τ 224 i) (t14 : T 224 14 = y) : RQ S T pT hT ∧ ∀ k x t u, rVal σ τ k x t u → rVal S T k x t u := by
  have R' := R
  obtain ⟨⟨⟨P1, P2⟩, N, M, B⟩, A, ⟨V2, V3⟩, K1, C, F⟩ := R'
  have ht := A.2.2.2.2.1
  have y9 : 0 ≤ y ∧ y ≤ 1000000000 := by rw [← ey]; exact more_b ht.2.2.2.2.2.2.2.2.1
  have s1 : sameC σ S := by
    refine ⟨fun a q => cS a (by omega), ?_⟩
    rw [cS 0 (by decide), cS 8 (by decide), cS 42 (by decide), cS 52 (by decide)]
    exact ⟨rfl, rfl, rfl, rfl, rfl, rfl, rfl, rfl, rfl, rfl, rfl, rfl, rfl, rfl, rfl, rfl, rfl, rfl, c87 31 (by decide)⟩
  have s2 : sameT τ T := by
    refine ⟨fun a q => cT a (by omega), ?_⟩
    rw [cT 119 (by decide)]
    exact ⟨rfl, rfl, rfl, rfl, rfl, rfl, rfl, rfl, rfl, rfl, rfl, rfl, rfl, rfl⟩
  have rv : ∀ k x t u, rVal S T k x t u ↔ rVal σ τ k x t u := (rVal_mv s1 s2).1
  refine ⟨RQm.toQ (R.toM.hq ⟨P1.mv s1 s2, ?_⟩ (N.mv (fun a q => cS a (by omega)) (cT 179 (by decide))) ?_ ?_ ?_ ?_ ?_ (fun k x t u q => (rv k x t u).mpr q) (fun a q => cS a (by omega)) (by rw [cS 52 (by decide)]) (by rw [cS 8 (by decide)]; exact Int.le_refl _) (fun a r q1 q2 _ => by rw [cS a (by omega)]) (fun a p q1 q2 _ => by rw [cS a (by omega)]) (fun j _ => by rw [cS 14 (by decide)]) (fun i q => c87 i (by omega)) (fun a q1 q2 => cT a (by omega)) (fun a j q _ => by rw [cT a (by omega)]) (fun i q => by rw [cT 119 (by decide)])) ?_, fun k x t u q => (rv k x t u).mpr q⟩
  · unfold rRp at P2 ⊢
    rw [cS 8 (by decide), cS 24 (by decide), cS 25 (by decide)]
    exact P2
  · unfold rRm cRm mRm at M ⊢
    rw [cS 0 (by decide), cS 8 (by decide), cS 42 (by decide), cT 119 (by decide)]
    exact M
  · exact ⟨by rw [cS 1 (by decide)]; exact B.1, by rw [cT 134 (by decide)]; exact B.2.1, B.2.2.mv (fun a q => cT a (by omega)) (by rw [cT 119 (by decide)])⟩
  · unfold rOb at V3 ⊢
    rw [c87 31 (by decide), cT 119 (by decide), cS 100 (by decide), cS 101 (by decide), cS 102 (by decide), cS 42 (by decide), cS 47 (by decide), cT 193 (by decide), cT 194 (by decide), cT 195 (by decide)]
    simp only [rv]
    exact V3
  · unfold rCt at C ⊢
    rw [c87 23 (by decide), c87 24 (by decide), c87 20 (by decide), c87 34 (by decide), c87 5 (by decide), cS 103 (by decide), cS 0 (by decide), cT 223 (by decide), cT 119 (by decide)]
    exact C
  · unfold rTo at ht ⊢
    rw [c224 9 (by decide), c224 10 (by decide), c224 11 (by decide), c224 12 (by decide), c224 13 (by decide), t14, c224 15 (by decide), s41, c87 36 (by decide), c87 37 (by decide), c87 38 (by decide), c87 39 (by decide), c87 40 (by decide), c87 42 (by decide)]
    exact ⟨ht.1, ht.2.1, ht.2.2.1, ht.2.2.2.1, ht.2.2.2.2.1, rfl, ht.2.2.2.2.2.2.1, ht.2.2.2.2.2.2.2.1, y9, ht.2.2.2.2.2.2.2.2.2⟩
  · unfold rFa cFa at F ⊢
    rw [c87 21 (by decide), cS 93 (by decide), cS 9 (by decide), cS 11 (by decide), cS 18 (by decide), cS 19 (by decide), cS 20 (by decide), cS 22 (by decide), cS 29 (by decide), cS 54 (by decide), cS 55 (by decide), cS 62 (by decide), cS 64 (by decide), cS 65 (by decide)]
    exact F
/-- a call of a given function begins -/
theorem call_beg {E h' br' co' s : Int} (R : RR σ τ pT hT (m + 1) br co θ) (en : τ 218 (τ 212 (σ 87 21) + m + 1) = n) (es : τ 219 (τ 212 (σ 87 21) + m + 1) = s) (ex : τ 220 (τ 212 (σ 87 21) + m + 1) = -1) (s1 : 1 ≤ s) (hn : 0 ≤ n ∧ σ 26 (σ 90 (σ 87 21)) ≤ n ∧ n < σ 26 (σ 90 (σ 87 21)) + σ 27 (σ 90 (σ 87 21))) (st : St σ τ (σ 26 (σ 90 (σ 87 21))) (σ 26 (σ 90 (σ 87 21)) + σ 27 (σ 90 (σ 87 21))) (σ 28 (σ 90 (σ 87 21))) (σ 28 (σ 90 (σ 87 21)) + σ 29 (σ 90 (σ 87 21)) - 2) (τ 212 (σ 87 21)) m E h' br' co') (hh : hT (σ 87 21) = h' - 1 + s) (h1 : 1 ≤ h') (hs : h' - 1 + s ≤ 300) (e14 : σ 14 n = s - 1) (hE : E = pT (σ 87 21) + 1) (kd : τ 168 n = 23) (i : cI σ (pT (σ 87 21)) 9 0 n) (z : σ 88 (σ 87 8 - s) = 5) (r0 : 0 ≤ σ 24 (σ 89 (σ 87 8 - s))) (r4 : σ 24 (σ 89 (σ 87 8 - s)) < 4) (m9 : σ 87 19 ≠ 59) :
    ∃ S1 T1, RQ S1 T1 pT hT ∧ kq σ τ S1 T1 (τ 212 (σ 87 21) + m) ∧ (S1 8 = σ 8 ∧ (gb8 119 σ → gb8 119 S1)) ∧ S1 87 34 = σ 87 34 ∧ mc_call σ n = ((mc_there S1 n (σ 24 (σ 89 (σ 87 8 - s))) (σ 87 8 - s) (s - 1)).bind fun p4 => some (p4.1, 0)) ∧ md_calls τ (τ 212 (σ 87 21) + m + 1) n = (if 0 < s - 1 then md_calls_b229 T1 n (s - 1) (τ 119 125 - s) (σ 24 (σ 89 (σ 87 8 - s))) (T1 221 (τ 119 125 - s + 1)) else md_calls_b229 T1 n (s - 1) (τ 119 125 - s) (σ 24 (σ 89 (σ 87 8 - s))) 0) := by
  obtain ⟨q1, q2, q3⟩ := call_eq R en es ex s1 hn st hh h1 (by omega) e14 (by omega) hE kd i
  obtain ⟨-, -, -, -, ⟨t1, t2⟩, t3, -, -, -, t6⟩ := R.top
  obtain ⟨c1, -, c2, pc, c5, c6, c7, c8, c9⟩ := R.cur
  obtain ⟨o, p1, p2, p3, p4, p5, p6⟩ := R.pl
  have R' := R
  obtain ⟨Q, -⟩ := R'
  have Q' := Q
  obtain ⟨⟨⟨P1, -⟩, -⟩, A, -⟩ := Q'
  have hFv := P1.2.1
  have v := p2 (σ 87 8 - s) (by omega) (by omega)
  rw [show σ 87 8 - s + o = τ 119 125 - s by omega] at v
  have vk := v.kt
  have gs : ∀ a j, a ≠ 219 ∨ j ≠ τ 212 (σ 87 21) + m + 1 → gW τ 219 (τ 212 (σ 87 21) + m + 1) (s + 1) a j = τ a j := fun a j q => by
    rcases q with q | q
    · exact gW_c q
    · exact gW_j q
  have dd := smM.g219 (τ := τ) (v := s + 1) (i := τ 212 (σ 87 21) + m + 1) (f := τ 212 (σ 87 21)) (by omega)
  have cc : smC σ σ := ⟨fun _ _ _ _ _ _ => rfl, fun _ _ _ _ => rfl⟩
  have Q0 : RQ σ (gW τ 219 (τ 212 (σ 87 21) + m + 1) (s + 1)) pT hT := by
    have := Q.sm (S := σ) (P' := pT (σ 87 21)) (h' := hT (σ 87 21)) cc dd pc
    rw [updF_same, updF_same] at this
    exact this
  have rv0 : ∀ k x t y, rVal σ τ k x t y → rVal σ (gW τ 219 (τ 212 (σ 87 21) + m + 1) (s + 1)) k x t y := fun k x t y q => (smC.rv cc dd).mpr q
  have rf : rFn σ τ (σ 89 (σ 87 8 - s)) (τ 222 (τ 119 125 - s)) := by
    rcases v with y | y | y | y | y | y | y
    all_goals first | exact absurd y.1 (by omega) | exact y.2.2
  have e156 := hFv.2.2.1 _ _ rf
  have fb := hFv.1
  have z5 : τ 221 (τ 119 125 - s) = 5 := by rw [vk.1, z]; rfl
  have m121 := A.2.1.1.2.2
  have fr : ((0 ≤ σ 89 (σ 87 8 - s) ∧ σ 89 (σ 87 8 - s) < 9000) ∧ 0 ≤ τ 222 (τ 119 125 - s) ∧ τ 222 (τ 119 125 - s) < 9000) ∧ σ 24 (σ 89 (σ 87 8 - s)) < σ 8 31 := by
    obtain ⟨r1, r2, -⟩ := rf
    have := hFv.2.1.1
    have := fb.1
    have := (fb.2.1 _ r1.1 r1.2).2.2
    omega
  rw [if_pos z, w32_e (by omega) (by omega), if_pos fr.1.1] at q1
  rw [if_pos z5, w32_e (by omega) (by omega), if_pos fr.1.2, e156, m121] at q2
  generalize er : σ 24 (σ 89 (σ 87 8 - s)) = r at q1 q2 r0 r4 fr e156 ⊢
  generalize eτ : gW τ 219 (τ 212 (σ 87 21) + m + 1) (s + 1) = τ1 at q2 Q0 rv0 gs
  have c8' := (c9 n hn.2.1 hn.2.2)
  have k9 : σ 9 n = 23 := by have := c8'.1.1; omega
  have b18 := (Q.1.2.1.1 n hn.1 c8'.2.2).2.2 (Or.inr (Or.inr k9))
  obtain ⟨S1, T1, f1, f2, Q1, nd, ec, -, -⟩ := Q0.en (n := n) (x2 := 2) (x3 := r) (x4 := -1) (x5 := -1) (y2 := r) (y3 := 0) (y4 := 0) ⟨hn.2.1, hn.2.2⟩ ⟨rfl, Or.inl ⟨k9, ⟨by omega, fr.2⟩, rfl, rfl, rfl, rfl⟩⟩ (by decide) (fun _ => rfl) (b18.2 k9)
  obtain ⟨⟨x1, x2, x3, x4⟩, x5, x6, x7, x8, x9⟩ := nd
  have u119 : ∀ j, τ1 119 j = τ 119 j := fun j => gs 119 j (by omega)
  have ht1 := Q1.2.1.2.2.2.2.1
  generalize ey : (if S1 87 41 < 1000000000 then S1 87 41 + 1 else S1 87 41) = y
  have mc := more_c (s := S1) ht1.2.2.2.2.2.2.2.2.1
  have mm := more_m (s := T1) (x := T1 224 14) (by rw [ht1.2.2.2.2.2.1]; exact ht1.2.2.2.2.2.2.2.2.1)
  rw [ey] at mc
  rw [ht1.2.2.2.2.2.1, ey] at mm
  have f87 : ∀ i, i ≠ 41 → gW S1 87 41 y 87 i = S1 87 i := fun i q => gW_i q
  have fS : ∀ a, a ≠ 87 → gW S1 87 41 y a = S1 a := fun a q => gW_cell q
  have fT : ∀ a, a ≠ 224 → gW T1 224 14 y a = T1 a := fun a q => gW_cell q
  obtain ⟨Q2, rv2⟩ := Q1.more ey fS f87 (gW_at ..) fT (fun i q => gW_i q) (gW_at ..)
  have e8 : S1 8 = σ 8 := funext fun j => ec.1 8 j (by decide) (by decide) (by decide) (by decide) (by decide) (by decide) (by decide) (by decide) (by decide) (by decide) (by decide)
  refine ⟨gW S1 87 41 y, gW T1 224 14 y, Q2, ⟨⟨fun j _ => ?_, fun a p q1 q2 _ => ?_, fun a r q1 q2 _ => ?_⟩, fun a q => ?_, fun i q => ?_, fun a j q _ => ?_, fun a q => ?_, fun a j q1 q2 q3 => ?_, fun i q => ?_, ?_, fun k x t y q => rv2 _ _ _ _ (x9 _ _ _ _ (rv0 _ _ _ _ q))⟩, ⟨by rw [fS 8 (by decide), e8], fun q => (b8_inl bm_mc_settles (mc_settles_l _ _ _ _ _ _) f1 q).w (by decide +kernel)⟩, by rw [f87 34 (by decide), x2 34 (by decide)], ?_, ?_⟩
  · rw [fS 14 (by decide), x1 14 (by decide)]
  · rw [fS a (by omega), x1 a (by omega)]
  · rw [fS a (by omega), x1 a (by omega)]
  · rw [fS a (by omega)]
    by_cases w : a = 88 ∨ a = 89
    · exact x5 a w
    · exact x1 a (by omega)
  · rw [f87 i (by omega), x2 i (by omega)]
  · rw [fT a (by omega), x3 a (by omega), gs a j (by omega)]
  · rw [fT a (by omega)]
    funext j
    by_cases w : a = 221 ∨ a = 222
    · rw [x7 a (by omega) (by omega), gs a j (by omega)]
    · rw [x3 a (by omega), gs a j (by omega)]
  · rw [fT a (by omega), x7 a q1 (by omega), gs a j (by omega)]
  · rw [fT 119 (by decide), x8 i (by omega), u119]
  · rw [fT 119 (by decide), ccN_eq (S := gW S1 87 41 y) (σ := S1) _ fun j _ _ => by rw [fS 93 (by decide)], x4, u119]
  · rw [q1, if_neg (by omega), if_neg m9, f1]
    simp only [Option.bind_some]
    rw [mc]
    simp only [Option.bind_some]
    rw [if_pos r4]
  · rw [q2, if_neg (by omega), if_neg m9, f2]
    simp only [Option.bind_some]
    rw [if_neg (by omega), if_pos (by decide), ht1.2.2.2.2.2.1, mm]
    simp only [Option.bind_some]
    rw [if_pos (by decide), w32_e (x := τ 119 125 - s + 1) (by omega) (by omega), fT 221 (by decide)]
    by_cases w : 0 < s - 1
    · rw [if_pos w, if_pos w, if_pos (by omega)]
    · rw [if_neg w, if_neg w]
end HQ
