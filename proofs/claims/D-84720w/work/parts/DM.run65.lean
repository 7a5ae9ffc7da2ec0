/-! numbers are reckoned with: both sides -/
section OR
variable {σ τ S T Z X : gM} {pT hT : Int → Int} {m : Nat} {br co θ n : Int}
/-- the component: which way is taken -/
theorem two_c {k1 x1 t1 y1 z1 k2 x2 t2 y2 z2 : Int} (nb : 0 ≤ n ∧ n < 16000) (h9 : 8 ≤ σ 9 n ∧ σ 9 n ≤ 11) (h8 : 2 ≤ σ 87 8 ∧ σ 87 8 ≤ 18240) (ek1 : σ 88 (σ 87 8 - 2) = k1) (ex1 : σ 89 (σ 87 8 - 2) = x1) (ek2 : σ 88 (σ 87 8 - 1) = k2) (ex2 : σ 89 (σ 87 8 - 1) = x2) (h1 : nuV σ τ k1 x1 t1 y1 z1) (h2 : nuV σ τ k2 x2 t2 y2 z2) :
    ∃ S, (∀ a j, (a < 105 ∨ 116 < a) → (a ≠ 87 ∨ j ≠ 47) → S a j = σ a j) ∧
      ((σ 9 n = 11 ∧ z2 = 0 ∧ mc_two σ n = ((mc_fails S 2 n).bind fun p3 => g01 p3.2 (some (p3.1, p3.2)))) ∨
       (¬ (σ 9 n = 11 ∧ z2 = 0) ∧ ((k1 = 0 ∧ k2 = 0) ∧ i_and (σ 11 n) 2 = 0) ∧ i64 (zR (σ 9 n) z1 z2) ∧ S 87 47 = zR (σ 9 n) z1 z2 ∧ mc_two σ n = ((mc_needs S n 1 0).bind fun p2 => (mc_settle p2.1 0 (p2.1 87 47)).bind fun p3 => some (p3.1, 1))) ∨
       (¬ (σ 9 n = 11 ∧ z2 = 0) ∧ ¬ (((k1 = 0 ∧ k2 = 0) ∧ i_and (σ 11 n) 2 = 0) ∧ i64 (zR (σ 9 n) z1 z2)) ∧ ∃ r, mc_two σ n = mc_two_b384 S n r ∧ ((r = 1 ∧ wIs S 111 (zR (σ 9 n) z1 z2)) ∨ (r = 0 ∧ (zR (σ 9 n) z1 z2 ≤ -1000000000000000000000000000000000000 ∨ 1000000000000000000000000000000000000 ≤ zR (σ 9 n) z1 z2))))) := by
  have q1 : k1 = 0 ∨ k1 = 1 := by rcases h1 with h | h <;> omega
  have q2 : k2 = 0 ∨ k2 = 1 := by rcases h2 with h | h <;> omega
  have e0 := two_num (W := σ) nb ⟨h9.1, by omega⟩ h8 (by rw [ek1]; exact q1) (by rw [ek2]; exact q2)
  rw [ek1, ek2] at e0
  have zx2 : k2 = 0 → x2 = z2 := fun h => by rcases h2 with h | h <;> omega
  have zx1 : k1 = 0 → x1 = z1 ∧ i64 z1 := fun h => by
    rcases h1 with h | h
    · exact ⟨h.2.2.1, h.2.2.2.2⟩
    · omega
  have zi2 : k2 = 0 → i64 z2 := fun h => by
    rcases h2 with h | h
    · exact h.2.2.2.2
    · omega
  -- a long that is nothing divides
  have e132 : ∀ y, mc_two_b132 σ n (σ 9 n) y = (if σ 9 n = 11 ∧ k2 = 0 ∧ x2 = 0 then ((mc_fails σ 2 n).bind fun p1 => g01 p1.2 (some (p1.1, p1.2))) else mc_two_b190 σ n (σ 9 n) y) := fun y => by
    rw [mc_two_b132_e, if_pos (by omega)]
    by_cases w : σ 9 n = 11
    · rw [if_pos w, w32_e (x := σ 87 8 - 1) (by omega) (by omega), if_pos (by omega), ek2, ex2]
      by_cases w2 : k2 = 0
      · rw [if_pos w2, if_pos (by omega)]
        by_cases w3 : x2 = 0
        · rw [if_pos (l_cmp_0.mpr w3), if_pos ⟨w, w2, w3⟩]
        · rw [if_neg (fun h => w3 (l_cmp_0.mp h)), if_neg (fun h => w3 h.2.2)]
      · rw [if_neg w2, if_neg (fun h => w2 h.2.1)]
    · rw [if_neg w, if_neg (fun h => w h.1)]
  rw [e132] at e0
  by_cases dz : σ 9 n = 11 ∧ k2 = 0 ∧ x2 = 0
  · rw [if_pos dz] at e0
    exact ⟨σ, fun _ _ _ _ => rfl, Or.inl ⟨dz.1, by have := zx2 dz.2.1; omega, e0⟩⟩
  · rw [if_neg dz] at e0
    -- great numbers, after the question has or has not been asked
    have big : ∀ W : gM, (∀ a j, (a ≠ 87 ∨ j ≠ 47) → W a j = σ a j) → mc_two σ n = mc_two_b242 W n (σ 9 n) → ¬ (((k1 = 0 ∧ k2 = 0) ∧ i_and (σ 11 n) 2 = 0) ∧ i64 (zR (σ 9 n) z1 z2)) → ∃ S, (∀ a j, (a < 105 ∨ 116 < a) → (a ≠ 87 ∨ j ≠ 47) → S a j = σ a j) ∧
      ((σ 9 n = 11 ∧ z2 = 0 ∧ mc_two σ n = ((mc_fails S 2 n).bind fun p3 => g01 p3.2 (some (p3.1, p3.2)))) ∨
       (¬ (σ 9 n = 11 ∧ z2 = 0) ∧ ((k1 = 0 ∧ k2 = 0) ∧ i_and (σ 11 n) 2 = 0) ∧ i64 (zR (σ 9 n) z1 z2) ∧ S 87 47 = zR (σ 9 n) z1 z2 ∧ mc_two σ n = ((mc_needs S n 1 0).bind fun p2 => (mc_settle p2.1 0 (p2.1 87 47)).bind fun p3 => some (p3.1, 1))) ∨
       (¬ (σ 9 n = 11 ∧ z2 = 0) ∧ ¬ (((k1 = 0 ∧ k2 = 0) ∧ i_and (σ 11 n) 2 = 0) ∧ i64 (zR (σ 9 n) z1 z2)) ∧ ∃ r, mc_two σ n = mc_two_b384 S n r ∧ ((r = 1 ∧ wIs S 111 (zR (σ 9 n) z1 z2)) ∨ (r = 0 ∧ (zR (σ 9 n) z1 z2 ≤ -1000000000000000000000000000000000000 ∨ 1000000000000000000000000000000000000 ≤ zR (σ 9 n) z1 z2))))) := fun W cW eW nl => by
      have c8 : W 87 8 = σ 87 8 := cW 87 8 (Or.inr (by decide))
      have cc : ∀ a, a ≠ 87 → W a = σ a := fun a h => funext fun j => cW a j (Or.inl h)
      obtain ⟨S, s1, s2⟩ := two_big (σ := W) (τ := τ) (n := n) (kd := σ 9 n) (by rw [c8]; exact h8) (by rw [c8, cc 88 (by decide)]; exact ek1) (by rw [c8, cc 89 (by decide)]; exact ex1) (by rw [c8, cc 88 (by decide)]; exact ek2) (by rw [c8, cc 89 (by decide)]; exact ex2) (h1.mv (cc 6 (by decide)) (cc 7 (by decide)) rfl) (h2.mv (cc 6 (by decide)) (cc 7 (by decide)) rfl) (by omega)
      refine ⟨S, fun a j w1 w2 => by rw [s1 a j w1, cW a j w2], ?_⟩
      rw [eW]
      rcases s2 with ⟨a1, a2, a3⟩ | ⟨a1, r, a2, a3⟩
      · exact Or.inl ⟨a1, a2, a3⟩
      · exact Or.inr (Or.inr ⟨a1, nl, r, a2, a3⟩)
    by_cases al : (k1 = 0 ∧ k2 = 0) ∧ i_and (σ 11 n) 2 = 0
    · rw [if_pos al] at e0
      obtain ⟨a1, a2⟩ := zx1 al.1.1
      have a3 := zx2 al.1.2
      have a4 := zi2 al.1.2
      obtain ⟨W, r, f1, f2, f3, -⟩ := mc_fits_s (σ := σ) (kd := σ 9 n) a2 a4 (by omega) (fun w1 w2 => dz ⟨w1, al.1.2, by omega⟩)
      have e1 : mc_two σ n = (if r = 0 then (mc_two_b242 W n (σ 9 n)) else ((mc_needs W n 1 0).bind fun p2 => (mc_settle p2.1 0 (p2.1 87 47)).bind fun p3 => some (p3.1, 1))) := by
        rw [e0, mc_two_b190_e, if_neg (show ¬ (1 : Int) = 0 by decide), w32_e (x := σ 87 8 - 2) (by omega) (by omega), w32_e (x := σ 87 8 - 1) (by omega) (by omega), if_pos (by omega), if_pos (by omega), ex1, ex2, a1, a3, f1]
        rfl
      rcases f3 with ⟨b1, b2, b3⟩ | ⟨b1, b2⟩
      · rw [b2, if_neg (by decide)] at e1
        refine ⟨W, fun a j _ w => f2 a j w, Or.inr (Or.inl ⟨fun w => dz ⟨w.1, al.1.2, by omega⟩, al, b1, b3, e1⟩)⟩
      · rw [b2, if_pos rfl] at e1
        exact big W f2 e1 (fun w => b1 w.2)
    · rw [if_neg al, mc_two_b190_e, if_pos rfl] at e0
      exact big σ (fun _ _ _ => rfl) e0 (fun w => al w.1)
theorem pu_sw {Y : gM} {b1 t y g c : Int} : gW (gW (puM (gW Y 119 125 b1) t y) 119 16 g) 119 124 c = gW (puM (gW (gW Y 119 16 g) 119 125 b1) t y) 119 124 c := by
  have e1 : gW Y 119 125 b1 119 125 = b1 := gW_at ..
  have e2 : gW (gW Y 119 16 g) 119 125 b1 119 125 = b1 := gW_at ..
  funext a j
  unfold puM
  rw [e1, e2]
  unfold gW
  by_cases h1 : a = 119 ∧ j = 124
  · rw [if_pos h1, if_pos h1]
  · rw [if_neg h1, if_neg h1]
    by_cases h2 : a = 119 ∧ j = 16
    · rw [if_pos h2, if_neg (by omega), if_neg (by omega), if_neg (by omega), if_neg (by omega), if_pos h2]
    · simp only [h2, if_false]
/-- two numbers come to a third -/
theorem op_reck {E h' br' co' : Int} (R : RR σ τ pT hT (m + 1) br co θ) (en : τ 218 (τ 212 (σ 87 21) + m + 1) = n) (es : τ 219 (τ 212 (σ 87 21) + m + 1) = 2) (hn : 0 ≤ n ∧ σ 26 (σ 90 (σ 87 21)) ≤ n ∧ n < σ 26 (σ 90 (σ 87 21)) + σ 27 (σ 90 (σ 87 21))) (st : St σ τ (σ 26 (σ 90 (σ 87 21))) (σ 26 (σ 90 (σ 87 21)) + σ 27 (σ 90 (σ 87 21))) (σ 28 (σ 90 (σ 87 21))) (σ 28 (σ 90 (σ 87 21)) + σ 29 (σ 90 (σ 87 21)) - 2) (τ 212 (σ 87 21)) m E h' br' co') (hh : hT (σ 87 21) = h' - 1 + 2) (h1 : 1 ≤ h') (hb : h' ≤ 400) (hE : E = pT (σ 87 21) + 1) (kd : 8 ≤ τ 168 n ∧ τ 168 n ≤ 11) (i : cI σ (pT (σ 87 21)) 3 0 n) (hk1 : σ 88 (σ 87 8 - 2) = 0 ∨ σ 88 (σ 87 8 - 2) = 1) (hk2 : σ 88 (σ 87 8 - 1) = 0 ∨ σ 88 (σ 87 8 - 1) = 1) : goX σ τ θ ∨ endX σ τ := by
  obtain ⟨-, -, -, -, ⟨t1, t2⟩, t3, -, -, -, t6⟩ := R.top
  obtain ⟨c1, -, c2, pc, c5, c6, c7, c8, c9⟩ := R.cur
  obtain ⟨o, p1, p2, p3, p4, p5, p6⟩ := R.pl
  have Q := R.1
  have P1 := Q.1.1.1
  have c8' := c9 n hn.2.1 hn.2.2
  have k9 : σ 9 n = τ 168 n := c8'.1.1.symm
  have n2 : 0 ≤ n ∧ n < 20000 := by omega
  obtain ⟨oo, w1, w2, w3, w4, w5⟩ := work2 R (n := n) (by omega) (by omega) (by omega) (by omega) i
  have gs : ∀ a j, a ≠ 219 ∨ j ≠ τ 212 (σ 87 21) + m + 1 → gW τ 219 (τ 212 (σ 87 21) + m + 1) 3 a j = τ a j := fun a j q => by
    rcases q with q | q
    · exact gW_c q
    · exact gW_j q
  -- the two values
  have v1 := p2 (σ 87 8 - 2) (by omega) (by omega)
  rw [show σ 87 8 - 2 + o = τ 119 125 - 2 by omega] at v1
  have v2 := p2 (σ 87 8 - 1) (by omega) (by omega)
  rw [show σ 87 8 - 1 + o = τ 119 125 - 1 by omega] at v2
  obtain ⟨z1, m1⟩ := v1.num P1.1.1 P1.2.2.2.2.1 hk1
  obtain ⟨z2, m2⟩ := v2.num P1.1.1 P1.2.2.2.2.1 hk2
  obtain ⟨S, s1, s2⟩ := two_c (σ := σ) (τ := τ) (n := n) (by omega) (by omega) (by omega) rfl rfl rfl rfl m1 m2
  rw [k9] at s2
  have g128 : gW τ 219 (τ 212 (σ 87 21) + m + 1) 3 128 = τ 128 := gW_cell (by decide)
  have g119 : ∀ j, gW τ 219 (τ 212 (σ 87 21) + m + 1) 3 119 j = τ 119 j := fun j => gs 119 j (by omega)
  have g221 : ∀ j, gW τ 219 (τ 212 (σ 87 21) + m + 1) 3 221 j = τ 221 j := fun j => gs 221 j (by omega)
  have g222 : ∀ j, gW τ 219 (τ 212 (σ 87 21) + m + 1) 3 222 j = τ 222 j := fun j => gs 222 j (by omega)
  obtain ⟨T, u1, u2⟩ := reck_m (σ := σ) (τ := gW τ 219 (τ 212 (σ 87 21) + m + 1) 3) (n := n) (kd := τ 168 n) (by rw [g119]; omega) (by rw [g119, g221]) (by rw [g119, g222]) (by rw [g119, g221]) (by rw [g119, g222]) (m1.mv rfl rfl g128) (m2.mv rfl rfl g128) kd
  have ewM : md_works τ (τ 212 (σ 87 21) + m + 1) n (τ 168 n) = ((md_reckons (gW τ 219 (τ 212 (σ 87 21) + m + 1) 3) n (τ 168 n)).bind fun p4 => gtry p4.2 (fun _ => md_works_b98 p4.1) (some (p4.1, none))) := by
    rw [md_works_e, if_neg (by omega), if_neg (by omega), if_pos t2, if_pos t2, if_pos t2, es, if_neg (by decide), if_neg (by omega), w32_e (x := 2 + 1) (by decide) (by decide)]
    rfl
  have cc : smC σ S := ⟨fun a j q1 q2 q3 q4 => s1 a j q4 (Or.inl q1), fun j q1 q2 q3 => s1 87 j (by decide) (Or.inr q3)⟩
  have dd : smM τ T (τ 212 (σ 87 21)) := ⟨fun a j q1 q2 q3 q4 => by rw [u1 a j (by omega), gs a j (by omega)], fun j q1 q2 q3 => by rw [u1 119 j (by decide), g119], fun a j q1 q2 q3 => by rw [u1 a j (by omega), gs a j (by omega)]⟩
  have s22 : S 87 22 = σ 87 22 := s1 87 22 (by decide) (Or.inr (by decide))
  have s8 : S 87 8 = σ 87 8 := s1 87 8 (by decide) (Or.inr (by decide))
  have Q1 : RQ S T pT hT := by
    have := Q.sm (S := S) (T := T) (P' := pT (σ 87 21)) (h' := hT (σ 87 21)) cc dd (by rw [s22]; exact pc)
    rw [updF_same, updF_same] at this
    exact this
  have S21 : S 87 21 = σ 87 21 := s1 87 21 (by decide) (Or.inr (by decide))
  have kS : ∀ a, a ≠ 87 → (a < 105 ∨ 116 < a) → S a = σ a := fun a q1 q2 => funext fun j => s1 a j q2 (Or.inl q1)
  have hnS : S 26 (S 90 (S 87 21)) ≤ n ∧ n < S 26 (S 90 (S 87 21)) + S 27 (S 90 (S 87 21)) := by
    rw [S21, kS 90 (by decide) (by decide), kS 26 (by decide) (by decide), kS 27 (by decide) (by decide)]
    exact ⟨hn.2.1, hn.2.2⟩
  have S9 : S 9 n = τ 168 n := by rw [kS 9 (by decide) (by decide), k9]
  have S11 : S 11 n = σ 11 n := by rw [kS 11 (by decide) (by decide)]
  have T119 : ∀ j, T 119 j = τ 119 j := fun j => by rw [u1 119 j (by decide), g119]
  have fail : ∀ e, mc_two σ n = ((mc_fails S e n).bind fun p3 => g01 p3.2 (some (p3.1, p3.2))) → md_reckons (gW τ 219 (τ 212 (σ 87 21) + m + 1) 3) n (τ 168 n) = ((md_error T e n).bind fun p => gthr p.1 p.2) → endX σ τ := fun e f1 f2 => by
    refine Q1.failX (e := e) hnS t6.1 w3 w1 w4 w2 (fun f => ?_) t6.2.1 t6.2.2 t1 t2 en (fun f => ?_) (T119 119)
    · rw [w5, mc_work_b203_e, f1, f]; rfl
    · rw [ewM, f2, f]; rfl
  have n178 := (Q1.1.1.1.2.2.2.2.2.2.2.2.1.2.2 n hn.1 (by rw [kS 8 (by decide) (by decide)]; exact c8'.2.2))
  have sb := i_and_bit n178.2.2.1.2.1 n178.2.2.1.2.2
  have niv := (Q1.1.2.1.1 n hn.1 (by rw [kS 8 (by decide) (by decide)]; exact c8'.2.2)).2.1 (by omega) (by omega)
  have opn : σ 20 (pT (σ 87 21)) ≠ 10 ∧ σ 20 (pT (σ 87 21)) ≠ 13 := ⟨by rw [i.1]; decide, by rw [i.1]; decide⟩
  have kqs : kq σ τ S T (τ 212 (σ 87 21) + m) := kq.sm cc dd (fun a j q => s1 a j (by omega) (Or.inl (by omega))) (fun a j q => by rw [u1 a j (by omega), gs a j (by omega)]) (fun a j q1 q2 q3 => by rw [u1 a j (by omega), gs a j (by omega)]) (T119 124) (T119 125)
  rcases s2 with ⟨a1, a2, a3⟩ | ⟨a0, a1, a2, a3, a4⟩ | ⟨a0, a1, r, a2, a3⟩
  · rcases u2 with ⟨-, -, b3⟩ | ⟨b0, -⟩ | ⟨b0, -⟩
    · exact Or.inr (fail 2 a3 b3)
    · exact absurd ⟨a1, a2⟩ b0
    · exact absurd ⟨a1, a2⟩ b0
  · -- a long
    rcases u2 with ⟨b1, b2, -⟩ | ⟨-, b1, -⟩ | ⟨-, b1, b2, b3⟩
    · exact absurd ⟨b1, b2⟩ a0
    · have := a2
      unfold i64 at this
      omega
    · left
      have tt1 := (m1.nu (W := τ)).2.2.mp a1.1.1
      have tt2 := (m2.nu (W := τ)).2.2.mp a1.1.2
      have eT : gW T 119 11 (T 119 11) = T := gW_eq rfl
      obtain ⟨S2, T2, x1, x2, x3, x4, x5, x6, x7, x8⟩ := needs_pair (σ := S) (τ := T) (w := T 119 11) (n := n) (b := 1) (rep := 0) (by rw [eT]; exact Q1) hnS (by omega) (Or.inl ⟨rfl, rfl⟩) (fun _ => Or.inl ⟨rfl, by rw [S11] at sb ⊢; have := sb.2.1; omega⟩)
      have eT2 : gW T2 119 11 (T 119 11) = T2 := gW_eq (x8 11 (by decide))
      rw [eT2] at x3 x4
      rw [eT] at x4
      obtain ⟨f1, f2, f3, f4, f5⟩ := R.fval (σ1 := S) (τ1 := T) (k := 0) (x := zR (τ 168 n) z1 z2) (t := 2) (y := zR (τ 168 n) z1 z2) (b0 := σ 87 8 - 2) (b1 := τ 119 125 - 2) st x3 x4 cc dd (fun a j q => s1 a j (by omega) (Or.inl (by omega))) (fun a j q => by rw [u1 a j (by omega), gs a j (by omega)]) (fun a j q1 q2 q3 => by rw [u1 a j (by omega), gs a j (by omega)]) (T119 124) (by omega) (by omega) (by omega) (by omega) hE opn (Or.inl ⟨rfl, rfl, rfl, a2⟩)
      have S8 : S2 87 8 = σ 87 8 := by rw [x6 8 (by decide) (by decide) (by decide), s8]
      have S47 : S2 87 47 = zR (τ 168 n) z1 z2 := by rw [x6 47 (by decide) (by decide) (by decide), a3]
      have T25 : T2 119 125 = τ 119 125 := by rw [x8 125 (by decide), T119]
      have has1 := has_s (b := 1) Q1 hnS
      have has2 := has_s (b := 2) Q1 hnS
      rw [S11] at has1 has2 x2
      have eM : md_reckons (gW τ 219 (τ 212 (σ 87 21) + m + 1) 3) n (τ 168 n) = ((md_pairBecomes T2 2 (zR (τ 168 n) z1 z2)).bind fun p2 => some (p2.1, some 0)) := by
        obtain ⟨r', g1, g2, -⟩ := md_fitsLong_s b1
        have e344 : md_reckons_b344 T2 1 = ((md_pairBecomes T2 2 (zR (τ 168 n) z1 z2)).bind fun p2 => some (p2.1, some 0)) := by
          rw [md_reckons_b344_e, if_neg (by decide), md_asLong_s (b1.mv (x7 131 (by decide))) a2]
          rfl
        have e314 : md_reckons_b314 T n 1 1 = md_reckons_b344 T2 1 := by
          rw [md_reckons_b314_e, has1]
          simp only [Option.bind_some]
          rcases x2 with ⟨y1, y2⟩ | ⟨y1, y2⟩
          · rw [if_pos y1, if_pos rfl, if_neg (show ¬ (1 : Int) = 2 by decide), md_reckons_b341_e, y2]
            rfl
          · rw [if_neg y1, if_neg (show ¬ (1 : Int) = 0 by decide), y2]
        have e272 : md_reckons_b272 T n = md_reckons_b344 T2 1 := by
          rw [md_reckons_b272_e, md_reckons_b277_e, if_neg (by decide), md_reckons_b304_e, if_neg (by decide), e314]
        rw [b3, md_reckons_b215_e, if_pos tt1, if_pos tt2, g1, g2 a2]
        simp only [Option.bind_some]
        rw [if_neg (show ¬ (1 : Int) = 0 by decide), md_reckons_b238_e, if_neg (by decide), has1]
        simp only [Option.bind_some]
        by_cases y : i_and (σ 11 n) 1 = 0
        · rw [if_pos y, if_pos rfl, has2]
          simp only [Option.bind_some]
          rw [if_pos a1.2, if_pos rfl, md_may_e, if_pos n2]
          have e179 : T 179 n = 0 := niv.2 (by have := sb.2.1; rw [S11] at this ⊢; omega)
          rw [e179, if_pos (by decide +kernel)]
          simp only [Option.bind_some]
          rw [if_neg (show ¬ (1 : Int) = 0 by decide), e272, e344]
        · rw [if_neg y, if_neg (show ¬ (1 : Int) = 0 by decide), e272, e344]
      refine ⟨_, _, _, _, m, br', co', θ - 1, cG_of t6.1 w3 w1 w4 w2 ?_, mG_of t6.2.1 t6.2.2 (work_n (v := 0) t1 t2 en n2 ?_), f5, Or.inl (by omega), ?_, ?_⟩
      · rw [w5, mc_work_b203_e, a4, x1]
        simp only [Option.bind_some]
        rw [S47, mc_settle_e, S8, w32_e (x := σ 87 8 - 2) (by omega) (by omega), f1]
        simp only [Option.bind_some]
        rw [if_neg (show ¬ (1 : Int) = 0 by decide), mc_work_b211_e, puC_o (Or.inr (Or.inr ⟨rfl, by decide⟩)), gW_i (show (22 : Int) ≠ 8 by decide), w32_e (by omega) (by omega)]
      · rw [ewM, eM, md_pairBecomes_e, T25, w32_e (x := τ 119 125 - 2) (by omega) (by omega), f2]
        simp only [Option.bind_some, gtry]
        rw [md_works_b98_e, puM_o (Or.inr (Or.inr ⟨rfl, by decide⟩)), gW_i (show (124 : Int) ≠ 125 by decide), f4, w32_e (by omega) (by omega)]
      · rw [gW_i (by decide), puM_o (Or.inr (Or.inr ⟨rfl, by decide⟩)), gW_i (by decide), x8 119 (by decide), T119]
      · rw [gW_i (by decide), puM_o (Or.inr (Or.inr ⟨rfl, by decide⟩)), gW_i (by decide), x8 120 (by decide), T119]
  · rcases a3 with ⟨r1, wS⟩ | ⟨r0, bg⟩
    · -- a great number
      have rg := wS.rng
      rcases u2 with ⟨b1, b2, -⟩ | ⟨-, b1, -⟩ | ⟨-, b1, b2, b3⟩
      · exact absurd ⟨b1, b2⟩ a0
      · omega
      · have has1 := has_s (b := 1) Q1 hnS
        have has2 := has_s (b := 2) Q1 hnS
        rw [S11] at has1 has2
        have e276 : md_reckons (gW τ 219 (τ 212 (σ 87 21) + m + 1) 3) n (τ 168 n) = md_reckons_b276 T n := by
          obtain ⟨r', g1, g2, g3⟩ := md_fitsLong_s b1
          have e0 : md_reckons_b237 T n = md_reckons_b276 T n := by rw [md_reckons_b237_e, md_reckons_b238_e, if_pos rfl]
          rw [b3, md_reckons_b215_e]
          by_cases q1 : τ 221 (τ 119 125 - 2) = 2
          · rw [if_pos q1]
            by_cases q2 : τ 221 (τ 119 125 - 1) = 2
            · rw [if_pos q2, g1]
              simp only [Option.bind_some]
              by_cases q3 : i64 (zR (τ 168 n) z1 z2)
              · have al : σ 88 (σ 87 8 - 2) = 0 ∧ σ 88 (σ 87 8 - 1) = 0 := ⟨(m1.nu (W := τ)).2.2.mpr q1, (m2.nu (W := τ)).2.2.mpr q2⟩
                have b2s : ¬ i_and (σ 11 n) 2 = 0 := fun w => a1 ⟨⟨al, w⟩, q3⟩
                have b1s : i_and (σ 11 n) 1 = 0 := by
                  rw [S11] at sb
                  have x1 := sb.1
                  have x2 := sb.2.1
                  have x3 := niv.1
                  rw [S11] at x3
                  omega
                rw [g2 q3, if_neg (show ¬ (1 : Int) = 0 by decide), md_reckons_b238_e, if_neg (by decide), has1]
                simp only [Option.bind_some]
                rw [if_pos b1s, if_pos rfl, has2]
                simp only [Option.bind_some]
                rw [if_neg b2s, if_neg (show ¬ (1 : Int) = 0 by decide)]
              · rw [g3 q3, if_pos rfl, e0]
            · rw [if_neg q2, e0]
          · rw [if_neg q1, e0]
        rw [r1] at a2
        rcases big_pair (f := τ 212 (σ 87 21) + m) Q1 hnS (by omega) wS b1 b2 with ⟨d1, d2⟩ | ⟨Z, X, Y, d1, d2, d3, d4, d5, d6, d7, d8⟩
        · exact Or.inr (fail 9 (by rw [a2, d1]) (by rw [e276, d2]))
        · left
          obtain ⟨f1, f2, f3, f4, f5, f6⟩ := val_fin (k := 1) (x := S 0 12) (t := 3) (y := T 119 16) (b0 := σ 87 8 - 2) (b1 := τ 119 125 - 2) (θ' := θ - 1) R st d2 (kqs.tr (kS 8 (by decide) (by decide)) d3) (by omega) (by omega) (by omega) (by omega) hE opn d1 (by omega) (by omega) (by rw [d4.1, s1 87 34 (by decide) (Or.inr (by decide))]; omega)
          have Z8 : Z 87 8 = σ 87 8 := by rw [d4.2, s8]
          have X25 : X 119 125 = τ 119 125 := by rw [d3.2.2.2.2.2.2.1 125 (by decide), T119]
          have Y25 : Y 119 125 = τ 119 125 := by rw [d7, gW_i (by decide)] at X25; exact X25
          have eY : md_push (gW Y 119 125 (τ 119 125 - 2)) 3 (T 119 16) = some (puM (gW Y 119 125 (τ 119 125 - 2)) 3 (T 119 16), 0) := md_push_s (by rw [gW_at]; omega)
          refine ⟨_, _, _, _, m, br', co', θ - 1, cG_of t6.1 w3 w1 w4 w2 ?_, mG_of t6.2.1 t6.2.2 (work_n (v := 0) t1 t2 en n2 ?_), f6, Or.inl (by omega), ?_, ?_⟩
          · rw [w5, mc_work_b203_e, a2, d5, mc_settle_e, Z8, w32_e (x := σ 87 8 - 2) (by omega) (by omega), f1]
            simp only [Option.bind_some]
            rw [if_neg (show ¬ (1 : Int) = 0 by decide), mc_work_b211_e, puC_o (Or.inr (Or.inr ⟨rfl, by decide⟩)), gW_i (show (22 : Int) ≠ 8 by decide), w32_e (by omega) (by omega)]
          · have Y24 : Y 119 124 = τ 119 124 := by rw [d7, gW_i (by decide)] at f4; exact f4
            have gT := Q1.1.1.1.2.2.2.2.1.2.2
            have h5 := Q1.1.1.1.1.1.2.2.2.2.1
            rw [ewM, e276, d6, md_pairBecomes_e, Y25, w32_e (x := τ 119 125 - 2) (by omega) (by omega), eY]
            simp only [Option.bind_some, gtry]
            rw [puM_o (Or.inr (Or.inr ⟨rfl, by decide⟩)), gW_i (show (16 : Int) ≠ 125 by decide), d8, w32_e (x := T 119 16 + 1) (by omega) (by omega), md_works_b98_e, gW_i (show (124 : Int) ≠ 16 by decide), puM_o (Or.inr (Or.inr ⟨rfl, by decide⟩)), gW_i (show (124 : Int) ≠ 125 by decide), Y24, w32_e (x := τ 119 124 - 1) (by omega) (by omega), pu_sw, ← d7]
          · rw [gW_i (by decide), puM_o (Or.inr (Or.inr ⟨rfl, by decide⟩)), gW_i (by decide), d3.2.2.2.2.2.2.1 119 (by decide), T119]
          · rw [gW_i (by decide), puM_o (Or.inr (Or.inr ⟨rfl, by decide⟩)), gW_i (by decide), d3.2.2.2.2.2.2.1 120 (by decide), T119]
    · -- too great
      rcases u2 with ⟨b1, b2, -⟩ | ⟨-, -, b3⟩ | ⟨-, b1, -, -⟩
      · exact absurd ⟨b1, b2⟩ a0
      · refine Or.inr (fail 8 ?_ b3)
        rw [a2, r0, mc_two_b384_e, if_pos rfl]
      · have := b1.rng
        omega
end OR
