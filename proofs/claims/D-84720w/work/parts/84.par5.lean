/-! what opens and closes; rows of operators -/
section OP
variable {σ τ : gM}
theorem ps_open_b (b : σ 69 8 ≠ 0) : ps_open σ = some (σ, 0) := by
  rw [ps_open_e, ps_good_b b]; rfl
theorem ps_opens_b (b : σ 69 8 ≠ 0) {c : Int} : ps_opens σ c = some (σ, 0) := by
  rw [ps_opens_e, ps_good_b b]
  simp only [Option.bind_some, if_true]
  rw [ps_opens_b34_e, ps_open_b b]; rfl
theorem ps_must_b (b : σ 69 8 ≠ 0) {c : Int} : ps_must σ c = some (σ, 0) := by
  rw [ps_must_e, ps_good_b b]; rfl
theorem ps_closes_b (b : σ 69 8 ≠ 0) {c : Int} : ps_closes σ c = some (gW σ 68 21 (w32 (σ 68 21 - 1)), 0) := by
  rw [ps_closes_e, ps_must_b (by rw [gW_c (by decide)]; exact b)]; rfl
/-- a fault of the component and the model -/
theorem bd_of {z k : Int} (G : pG z σ τ) {p : Int} (hk : k ≠ 0) : bd (σ 68 10) (gW (gW σ 69 8 k) 69 9 p) (gW (gW τ 119 30 k) 119 31 p) := by
  refine ⟨by simpa [gW] using hk, by simp [gW], by simp [gW], ?_, ?_⟩
  · rw [gW_c (by decide), gW_c (by decide)]; exact G.2.2.2.1.1
  · rw [gW_c (by decide), gW_c (by decide)]; exact Int.le_refl _
theorem fail_s {z k : Int} (G : pG z σ τ) {p q : Int} (e : p = q) : tk_fails σ k p = some (gW (gW σ 69 8 k) 69 9 p, 0) ∧ (md_fails τ k q).bind (fun p1 => gthr p1.1 p1.2) = some (gW (gW τ 119 30 k) 119 31 p, none) := by
  subst e
  refine ⟨tk_fails_g G.2.2.1, ?_⟩
  rw [md_fails_s]
  simp only [Option.bind_some, gthr_s]
theorem ps_open_g {z : Int} (G : pG z σ τ) (h4 : τ 119 25 ≠ 0) (ho : σ 68 21 < 20) :
    (∃ S T, ps_open σ = some (S, 0) ∧ md_take (gW τ 119 28 (σ 68 21 + 1)) = some (T, some 0) ∧ pG (z - 1) S T ∧ rdF (gW σ 68 21 (σ 68 21 + 1)) S (gW τ 119 28 (σ 68 21 + 1)) T ∧ σ 69 5 < S 69 5 ∧ S 68 21 = σ 68 21 + 1) ∨
    (∃ S T, ps_open σ = some (S, 0) ∧ md_take (gW τ 119 28 (σ 68 21 + 1)) = some (T, none) ∧ bd (σ 68 10) S T) := by
  have h7 := G.2.2.2.2.2.2.1
  have G1 : pG z (gW σ 68 21 (σ 68 21 + 1)) (gW τ 119 28 (σ 68 21 + 1)) := G.o (by omega)
  have e : ps_open σ = (tk_read (gW σ 68 21 (σ 68 21 + 1))).bind fun p2 => some (p2.1, 0) := by
    rw [ps_open_e, ps_good_g G.2.2.1]
    simp only [Option.bind_some]
    rw [if_neg (by decide), if_neg (by omega), ps_open_b33_e, w32_e (by omega) (by omega), ps_good_g G1.2.2.1]
    simp only [Option.bind_some]
    rw [if_neg (by decide)]
  rcases rd_p G1 (by rw [gW_i (by decide)]; exact h4) with ⟨S, T, r1, r2, r3, F, r5⟩ | ⟨S, T, r1, r2, b, F⟩
  · left
    refine ⟨S, T, by rw [e, r1]; rfl, r2, r3, F, by rw [gW_c (by decide)] at r5; exact r5, by rw [F.1 68 (by decide), gW_at]⟩
  · right
    exact ⟨S, T, by rw [e, r1]; rfl, r2, by rw [gW_i (by decide)] at b; exact b⟩
theorem ps_open_x {z : Int} (G : pG z σ τ) (ho : σ 68 21 = 20) : ∃ S T, ps_open σ = some (S, 0) ∧ md_opens τ = some (T, none) ∧ bd (σ 68 10) S T := by
  have h7 := G.2.2.2.2.2.2.1
  have b := bd_of G (k := 3) (p := σ 69 5) (by decide)
  obtain ⟨f1, f2⟩ := fail_s (k := 3) G (p := σ 69 5) (q := τ 119 26) G.2.1.1.1
  refine ⟨_, _, ?_, ?_, b.w (a := 68) (i := 21) (v := w32 (σ 68 21 + 1)) (by decide) (by omega)⟩
  · rw [ps_open_e, ps_good_g G.2.2.1]
    simp only [Option.bind_some]
    rw [if_neg (by decide), if_pos ho, f1]
    simp only [Option.bind_some]
    rw [ps_open_b33_e, show gW (gW σ 69 8 3) 69 9 (σ 69 5) 68 21 = σ 68 21 by rw [gW_c (by decide), gW_c (by decide)], ps_good_b (by rw [gW_c (by decide)]; exact b.1)]
    rfl
  · rw [md_opens_e, if_pos (by omega)]
    exact f2
theorem md_opens_g {z : Int} (G : pG z σ τ) (ho : σ 68 21 < 20) : md_opens τ = some (gW τ 119 28 (σ 68 21 + 1), some 0) := by
  have h7 := G.2.2.2.2.2.2.1
  rw [md_opens_e, if_neg (by omega), w32_e (by omega) (by omega), h7.2.2]
/-- what must come and opens something -/
theorem ps_opens_s {z c t : Int} (G : pG z σ τ) (hc : (c = 40 ∧ t = 30) ∨ (c = 123 ∧ t = 32)) :
    (∃ S T, ps_opens σ c = some (S, 0) ∧ md_pass τ t = some (T, some 0) ∧ pG (z - 1) S T ∧ rdF (gW σ 68 21 (σ 68 21 + 1)) S (gW τ 119 28 (σ 68 21 + 1)) T ∧ σ 69 5 < S 69 5 ∧ S 68 21 = σ 68 21 + 1 ∧ σ 68 21 < 20) ∨
    (∃ S T, ps_opens σ c = some (S, 0) ∧ md_pass τ t = some (T, none) ∧ bd (σ 68 10) S T) := by
  have sg : sG c t := by rcases hc with ⟨h1, h2⟩ | ⟨h1, h2⟩ <;> rw [h1, h2] <;> unfold sG <;> decide
  have i := tk_is_s G.2.1.2 G.2.2.1 sg
  have h7 := G.2.2.2.2.2.2.1
  by_cases q : τ 119 25 = t
  · have e1 : ps_opens σ c = (ps_open σ).bind fun p1 => some (p1.1, 0) := by
      rw [ps_opens_e, ps_good_g G.2.2.1]
      simp only [Option.bind_some]
      rw [if_neg (by decide), i, if_pos q]
      simp only [Option.bind_some]
      rw [if_neg (by decide), ps_opens_b34_e]
    have e2 : md_pass τ t = md_pass_b17 τ := by
      rw [md_pass_e, md_need_e, if_pos q]
      simp only [Option.bind_some, gtry]
      rcases hc with ⟨_, hc⟩ | ⟨_, hc⟩
      · rw [if_pos hc]
      · rw [if_neg (by omega), if_pos hc]
    by_cases ho : σ 68 21 < 20
    · have e3 : md_pass_b17 τ = (md_take (gW τ 119 28 (σ 68 21 + 1))).bind fun p1 => gtry p1.2 (fun _ => some (p1.1, some 0)) (some (p1.1, none)) := by
        rw [md_pass_b17_e, md_opens_g G ho]
        simp only [Option.bind_some, gtry]
        rw [md_pass_b52_e]
        rfl
      rcases ps_open_g G (by omega) ho with ⟨S, T, r1, r2, r3, F, r5, r6⟩ | ⟨S, T, r1, r2, b⟩
      · left
        exact ⟨S, T, by rw [e1, r1]; rfl, by rw [e2, e3, r2]; rfl, r3, F, r5, r6, ho⟩
      · right
        exact ⟨S, T, by rw [e1, r1]; rfl, by rw [e2, e3, r2]; rfl, b⟩
    · obtain ⟨S, T, r1, r2, b⟩ := ps_open_x G (by omega)
      right
      exact ⟨S, T, by rw [e1, r1]; rfl, by rw [e2, md_pass_b17_e, r2]; rfl, b⟩
  · have b := bd_of G (k := 2) (p := σ 69 5) (by decide)
    obtain ⟨f1, f2⟩ := fail_s (k := 2) G (p := σ 69 5) (q := τ 119 26) G.2.1.1.1
    right
    refine ⟨_, _, ?_, ?_, b⟩
    · rw [ps_opens_e, ps_good_g G.2.2.1]
      simp only [Option.bind_some]
      rw [if_neg (by decide), i, if_neg q]
      simp only [Option.bind_some]
      rw [if_pos (by trivial), f1]
      simp only [Option.bind_some]
      rw [ps_opens_b34_e, ps_open_b b.1]
      rfl
    · rw [md_pass_e, md_need_e, if_neg q, f2]
      rfl
/-- what must come -/
theorem ps_must_s {z c t : Int} (G : pG z σ τ) (hc : sG c t) (ht : t ≠ 30 ∧ t ≠ 32) (hl : t = 31 ∨ t = 33 ∨ t = 35 → False) :
    (∃ S T, ps_must σ c = some (S, 0) ∧ md_pass τ t = some (T, some 0) ∧ pG (z - 1) S T ∧ rdF σ S τ T ∧ σ 69 5 < S 69 5) ∨ (∃ S T, ps_must σ c = some (S, 0) ∧ md_pass τ t = some (T, none) ∧ bd (σ 68 10) S T) := by
  have i := tk_is_s G.2.1.2 G.2.2.1 hc
  have t30 := sG_30 hc
  by_cases q : τ 119 25 = t
  · have e1 : ps_must σ c = (tk_read σ).bind fun p2 => some (p2.1, 0) := by
      rw [ps_must_e, ps_good_g G.2.2.1]
      simp only [Option.bind_some]
      rw [if_neg (by decide), ps_takes_e, i, if_pos q]
      simp only [Option.bind_some]
      rw [if_neg (by decide)]
      cases tk_read σ with
      | none => rfl
      | some p => rfl
    have e2 : md_pass τ t = (md_take τ).bind fun p1 => gtry p1.2 (fun _ => some (p1.1, some 0)) (some (p1.1, none)) := by
      rw [md_pass_e, md_need_e, if_pos q]
      simp only [Option.bind_some, gtry]
      rw [if_neg ht.1, if_neg ht.2, if_neg (fun w => hl (Or.inl w)), if_neg (fun w => hl (Or.inr (Or.inl w))), if_neg (fun w => hl (Or.inr (Or.inr w))), md_pass_b52_e]
      rfl
    rcases rd_p G (by omega) with ⟨S, T, r1, r2, r3, F, r5⟩ | ⟨S, T, r1, r2, b, F⟩
    · exact Or.inl ⟨S, T, by rw [e1, r1]; rfl, by rw [e2, r2]; rfl, r3, F, r5⟩
    · exact Or.inr ⟨S, T, by rw [e1, r1]; rfl, by rw [e2, r2]; rfl, b⟩
  · have b := bd_of G (k := 2) (p := σ 69 5) (by decide)
    obtain ⟨f1, f2⟩ := fail_s (k := 2) G (p := σ 69 5) (q := τ 119 26) G.2.1.1.1
    right
    refine ⟨_, _, ?_, ?_, b⟩
    · rw [ps_must_e, ps_good_g G.2.2.1]
      simp only [Option.bind_some]
      rw [if_neg (by decide), ps_takes_e, i, if_neg q]
      simp only [Option.bind_some]
      rw [if_pos (by trivial)]
      simp only [Option.bind_some]
      rw [if_pos (by trivial), f1]
      rfl
    · rw [md_pass_e, md_need_e, if_neg q, f2]
      rfl
/-- what must come and closes something -/
theorem ps_closes_s {z c t : Int} (G : pG z σ τ) (hc : (c = 41 ∧ t = 31) ∨ (c = 125 ∧ t = 33) ∨ (c = 93 ∧ t = 35)) (ho : 1 ≤ σ 68 21) :
    (∃ S T, ps_closes σ c = some (S, 0) ∧ md_pass τ t = some (T, some 0) ∧ pG (z - 1) S T ∧ rdF (gW σ 68 21 (σ 68 21 - 1)) S (gW τ 119 28 (σ 68 21 - 1)) T ∧ σ 69 5 < S 69 5 ∧ S 68 21 = σ 68 21 - 1) ∨
    (∃ S T, ps_closes σ c = some (S, 0) ∧ md_pass τ t = some (T, none) ∧ bd (σ 68 10) S T) := by
  have sg : sG c t := by rcases hc with ⟨h1, h2⟩ | ⟨h1, h2⟩ | ⟨h1, h2⟩ <;> rw [h1, h2] <;> unfold sG <;> decide
  have h7 := G.2.2.2.2.2.2.1
  have G1 : pG z (gW σ 68 21 (σ 68 21 - 1)) (gW τ 119 28 (σ 68 21 - 1)) := G.o (by omega)
  have i := tk_is_s G1.2.1.2 G1.2.2.1 sg
  have t25 : gW τ 119 28 (σ 68 21 - 1) 119 25 = τ 119 25 := gW_i (by decide)
  rw [t25] at i
  have c10 : gW σ 68 21 (σ 68 21 - 1) 68 10 = σ 68 10 := gW_i (by decide)
  by_cases q : τ 119 25 = t
  · have e1 : ps_closes σ c = (tk_read (gW σ 68 21 (σ 68 21 - 1))).bind fun p2 => some (p2.1, 0) := by
      rw [ps_closes_e, w32_e (by omega) (by omega), ps_must_e, ps_good_g G1.2.2.1]
      simp only [Option.bind_some]
      rw [if_neg (by decide), ps_takes_e, i, if_pos q]
      simp only [Option.bind_some]
      rw [if_neg (by decide)]
      cases tk_read (gW σ 68 21 (σ 68 21 - 1)) with
      | none => rfl
      | some p => rfl
    have e2 : md_pass τ t = (md_take (gW τ 119 28 (σ 68 21 - 1))).bind fun p1 => gtry p1.2 (fun _ => some (p1.1, some 0)) (some (p1.1, none)) := by
      have e3 : md_pass_b42 τ = (md_take (gW τ 119 28 (σ 68 21 - 1))).bind fun p1 => gtry p1.2 (fun _ => some (p1.1, some 0)) (some (p1.1, none)) := by
        rw [md_pass_b42_e, h7.2.2, w32_e (by omega) (by omega), md_pass_b52_e]
      rw [md_pass_e, md_need_e, if_pos q]
      simp only [Option.bind_some, gtry]
      rw [if_neg (by omega), if_neg (by omega)]
      rcases hc with ⟨_, hc⟩ | ⟨_, hc⟩ | ⟨_, hc⟩
      · rw [if_pos hc]; exact e3
      · rw [if_neg (by omega), if_pos hc]; exact e3
      · rw [if_neg (by omega), if_neg (by omega), if_pos hc]; exact e3
    rcases rd_p G1 (by rw [t25]; omega) with ⟨S, T, r1, r2, r3, F, r5⟩ | ⟨S, T, r1, r2, b, F⟩
    · exact Or.inl ⟨S, T, by rw [e1, r1]; rfl, by rw [e2, r2]; rfl, r3, F, by rw [gW_c (by decide)] at r5; exact r5, by rw [F.1 68 (by decide), gW_at]⟩
    · exact Or.inr ⟨S, T, by rw [e1, r1]; rfl, by rw [e2, r2]; rfl, by rw [c10] at b; exact b⟩
  · have b := bd_of G1 (k := 2) (p := σ 69 5) (by decide)
    obtain ⟨f1, -⟩ := fail_s (k := 2) G1 (p := σ 69 5) (q := τ 119 26) G.2.1.1.1
    obtain ⟨-, f2⟩ := fail_s (k := 2) G (p := σ 69 5) (q := τ 119 26) G.2.1.1.1
    right
    refine ⟨gW (gW (gW σ 68 21 (σ 68 21 - 1)) 69 8 2) 69 9 (σ 69 5), gW (gW τ 119 30 2) 119 31 (σ 69 5), ?_, ?_, ?_⟩
    · rw [ps_closes_e, w32_e (by omega) (by omega), ps_must_e, ps_good_g G1.2.2.1]
      simp only [Option.bind_some]
      rw [if_neg (by decide), ps_takes_e, i, if_neg q]
      simp only [Option.bind_some]
      rw [if_pos (by trivial)]
      simp only [Option.bind_some]
      rw [if_pos (by trivial), gW_c (a := 68) (b := 69) (by decide), f1]
      rfl
    · rw [md_pass_e, md_need_e, if_neg q, f2]
      rfl
    · obtain ⟨b1, b2, b3, b4, b5⟩ := b
      exact ⟨b1, by simp [gW], by simp [gW], b4, by rw [c10] at b5; exact b5⟩
end OP
section LP
variable {B : gM → gM → Int → Prop} {X : gM → Option (gM × Int)} {Y : gM → Option (gM × Option Int)} {d : Nat} {Lc : gM → Int → Option (gM × Int)} {Lm : gM → Int → Option (gM × Option Int)}
/-- a row of operators of one rank -/
theorem loop_s (ih : XS B d X Y) (ihb : XB X)
    (hs : ∀ σ τ x y, pG 1 σ τ → (Lc σ x = some (σ, x) ∧ Lm τ y = some (τ, some y)) ∨ (∃ K, (8 ≤ K ∧ K ≤ 19) ∧ τ 119 25 ≠ 0 ∧ (Lc σ x = (ps_two σ K x).bind fun p3 => (X p3.1).bind fun p4 => if 0 ≤ p3.2 ∧ p3.2 < 4200 then Lc (gW p4.1 73 p3.2 p4.2) p3.2 else none) ∧ Lm τ y = (md_pair τ K y).bind fun p1 => gtry p1.2 (fun v2 => (Y p1.1).bind fun p3 => gtry p3.2 (fun v4 => if 0 ≤ v2 ∧ v2 < 4004 then Lm (gW p3.1 139 v2 v4) v2 else none) (some (p3.1, none))) (some (p1.1, none))))
    (hb : ∀ σ x, σ 69 8 ≠ 0 → Lc σ x = some (σ, x)) (M0 : Int) (m0 : 0 ≤ M0) :
    ∀ (m : Nat) (σ τ : gM) (n : Int), pG 1 σ τ → 10 * (21 - σ 68 21) + 20 ≤ d → PX σ τ 0 M0 (σ 68 10) n 0 → NB σ τ 0 (σ 68 19 - 1) M0 (σ 68 10) → bare σ τ n → σ 69 2 - σ 69 5 ≤ m → XR bare σ τ M0 (Lc σ n) (Lm τ (nd σ n)) := by
  intro m
  induction m with
  | zero =>
    intro σ τ n G ho hp hn hba hm
    rcases hs σ τ n (nd σ n) G with ⟨e1, e2⟩ | ⟨K, hK, h4, e1, e2⟩
    · exact Or.inl ⟨σ, τ, n, e1, e2, ⟨G, kE.rf, hp, hn, rfl, rfl⟩, hba⟩
    · exfalso
      have k := G.2.1.1
      have := G.2.1.2.k
      unfold tKp at k
      omega
  | succ m IH =>
    intro σ τ n G ho hp hn hba hm
    rcases hs σ τ n (nd σ n) G with ⟨e1, e2⟩ | ⟨K, hK, h4, e1, e2⟩
    · exact Or.inl ⟨σ, τ, n, e1, e2, ⟨G, kE.rf, hp, hn, rfl, rfl⟩, hba⟩
    · rcases two_s hK ih ihb G ho h4 hp hn m0 with ⟨S1, n1, S2, rr, T1, m1, T2, rm, a1, a2, a3, a4, a5, a6, a7, xg, xb, xp⟩ | ⟨S1, n1, S2, rr, T', a1, a2, a3, a4, a5⟩
      · have c2 : gW S2 73 n1 rr 69 2 = S2 69 2 := gW_c (by decide)
        have c5 : gW S2 73 n1 rr 69 5 = S2 69 5 := gW_c (by decide)
        have kx := xg.2.1
        have k2 := kx.2.2.2.1 2 (by decide)
        have ih' := IH (gW S2 73 n1 rr) (gW T2 139 m1 rm) n1 xg.1 (by rw [xg.2.2.2.2.1]; exact ho) xg.2.2.1 (by rw [kx.2.2.1 19 (by decide)]; exact xg.2.2.2.1) xb (by rw [k2, c5]; omega)
        have := ih'.of kx xg.2.2.2.2
        rw [e1, e2, a1, a3]
        simp only [Option.bind_some, gtry]
        rw [a2, a4]
        simp only [Option.bind_some]
        rw [if_pos a5, if_pos a6]
        rw [a7] at this
        exact this
      · right
        refine ⟨gW S2 73 n1 rr, T', n1, ?_, ?_, a4, a3⟩
        · rw [e1, a1]
          simp only [Option.bind_some]
          rw [a2]
          simp only [Option.bind_some]
          rw [if_pos a3, hb _ _ a4.1]
        · rw [e2]
          rcases a5 with a5 | ⟨T1, m1, a5, a6⟩
          · rw [a5]; rfl
          · rw [a5]
            simp only [Option.bind_some, gtry]
            rw [a6]; rfl
end LP
section RW
variable {σ τ : gM} {d d' D : Nat}
/-- one that is of the rank below, then the row -/
theorem row_s {B : gM → gM → Int → Prop} {X : gM → Option (gM × Int)} {Y : gM → Option (gM × Option Int)} {Lc : gM → Int → Option (gM × Int)} {Lm : gM → Int → Option (gM × Option Int)} (ih : XS bare d X Y) (ihb : XB X)
    (hs : ∀ σ τ x y, pG 1 σ τ → (Lc σ x = some (σ, x) ∧ Lm τ y = some (τ, some y)) ∨ (∃ K, (8 ≤ K ∧ K ≤ 19) ∧ τ 119 25 ≠ 0 ∧ (Lc σ x = (ps_two σ K x).bind fun p3 => (X p3.1).bind fun p4 => if 0 ≤ p3.2 ∧ p3.2 < 4200 then Lc (gW p4.1 73 p3.2 p4.2) p3.2 else none) ∧ Lm τ y = (md_pair τ K y).bind fun p1 => gtry p1.2 (fun v2 => (Y p1.1).bind fun p3 => gtry p3.2 (fun v4 => if 0 ≤ v2 ∧ v2 < 4004 then Lm (gW p3.1 139 v2 v4) v2 else none) (some (p3.1, none))) (some (p1.1, none))))
    (hb : ∀ σ x, σ 69 8 ≠ 0 → Lc σ x = some (σ, x)) : XS bare d (fun σ => (X σ).bind fun p1 => Lc p1.1 p1.2) (fun τ => (Y τ).bind fun p1 => gtry p1.2 (fun v2 => Lm p1.1 v2) (some (p1.1, none))) := by
  intro σ τ G ho
  show XR bare σ τ (σ 68 10) ((X σ).bind fun p1 => Lc p1.1 p1.2) ((Y τ).bind fun p1 => gtry p1.2 (fun v2 => Lm p1.1 v2) (some (p1.1, none)))
  rcases ih σ τ G ho with ⟨S, T, n, x1, x2, xg, xb⟩ | ⟨S, T, n, x1, x2, b, hn⟩
  · rw [x1, x2]
    simp only [Option.bind_some, gtry]
    have kx := xg.2.1
    exact (loop_s ih ihb hs hb (σ 68 10) G.2.2.2.1.1 (S 69 2 - S 69 5).toNat S T n xg.1 (by rw [xg.2.2.2.2.1]; exact ho) xg.2.2.1 (by rw [kx.2.2.1 19 (by decide)]; exact xg.2.2.2.1) xb (by omega)).of kx xg.2.2.2.2
  · right
    refine ⟨S, T, n, ?_, ?_, b, hn⟩
    · rw [x1]
      simp only [Option.bind_some]
      exact hb _ _ b.1
    · rw [x2]; rfl
theorem row_b {X : gM → Option (gM × Int)} {Lc : gM → Int → Option (gM × Int)} (ihb : XB X) (hb : ∀ σ x, σ 69 8 ≠ 0 → Lc σ x = some (σ, x)) : XB (fun σ => (X σ).bind fun p1 => Lc p1.1 p1.2) := by
  intro σ τ k b hk
  obtain ⟨S, x1, x2, x3⟩ := ihb σ τ k b hk
  refine ⟨S, ?_, x2, x3⟩
  show (X σ).bind (fun p1 => Lc p1.1 p1.2) = _
  rw [x1]
  simp only [Option.bind_some]
  exact hb _ _ x2.1
theorem or_s (ih : XS bare D (ps_and d) (md_both d')) (ihb : XB (ps_and d)) : XS bare D (ps_or (d + 1)) (md_either (d' + 1)) := by
  have h := row_s (B := bare) (Lc := ps_or_b5 d) (Lm := md_either_b5 d') ih ihb ?_ ?_
  · intro σ τ G ho
    rw [ps_or_e, md_either_e]
    exact h σ τ G ho
  · intro σ τ x y G
    by_cases q : τ 119 25 = 52
    · right
      refine ⟨19, by decide, by omega, ?_, ?_⟩
      · rw [ps_or_b5_e, ps_good_g G.2.2.1]
        simp only [Option.bind_some]
        rw [if_neg (by decide), tk_is_s G.2.1.2 G.2.2.1 (c := 31868) (t := 52) (by unfold sG; decide), if_pos q]
        simp only [Option.bind_some]
        rw [if_neg (by decide)]
      · rw [md_either_b5_e, if_pos q]
    · left
      refine ⟨?_, ?_⟩
      · rw [ps_or_b5_e, ps_good_g G.2.2.1]
        simp only [Option.bind_some]
        rw [if_neg (by decide), tk_is_s G.2.1.2 G.2.2.1 (c := 31868) (t := 52) (by unfold sG; decide), if_neg q]
        rfl
      · rw [md_either_b5_e, if_neg q]
  · intro σ x b
    rw [ps_or_b5_e, ps_good_b b]; rfl
theorem or_b (ihb : XB (ps_and d)) : XB (ps_or (d + 1)) := by
  have h := row_b (Lc := ps_or_b5 d) ihb (fun σ x b => by rw [ps_or_b5_e, ps_good_b b]; rfl)
  intro σ τ k b hk
  rw [ps_or_e]
  exact h σ τ k b hk
theorem and_s (ih : XS bare D (ps_equal d) (md_same d')) (ihb : XB (ps_equal d)) : XS bare D (ps_and (d + 1)) (md_both (d' + 1)) := by
  have h := row_s (B := bare) (Lc := ps_and_b5 d) (Lm := md_both_b5 d') ih ihb ?_ ?_
  · intro σ τ G ho
    rw [ps_and_e, md_both_e]
    exact h σ τ G ho
  · intro σ τ x y G
    by_cases q : τ 119 25 = 51
    · right
      refine ⟨18, by decide, by omega, ?_, ?_⟩
      · rw [ps_and_b5_e, ps_good_g G.2.2.1]
        simp only [Option.bind_some]
        rw [if_neg (by decide), tk_is_s G.2.1.2 G.2.2.1 (c := 9766) (t := 51) (by unfold sG; decide), if_pos q]
        simp only [Option.bind_some]
        rw [if_neg (by decide)]
      · rw [md_both_b5_e, if_pos q]
    · left
      refine ⟨?_, ?_⟩
      · rw [ps_and_b5_e, ps_good_g G.2.2.1]
        simp only [Option.bind_some]
        rw [if_neg (by decide), tk_is_s G.2.1.2 G.2.2.1 (c := 9766) (t := 51) (by unfold sG; decide), if_neg q]
        rfl
      · rw [md_both_b5_e, if_neg q]
  · intro σ x b
    rw [ps_and_b5_e, ps_good_b b]; rfl
theorem and_b (ihb : XB (ps_equal d)) : XB (ps_and (d + 1)) := by
  have h := row_b (Lc := ps_and_b5 d) ihb (fun σ x b => by rw [ps_and_b5_e, ps_good_b b]; rfl)
  intro σ τ k b hk
  rw [ps_and_e]
  exact h σ τ k b hk
theorem sum_s (ih : XS bare D (ps_product d) (md_product d')) (ihb : XB (ps_product d)) : XS bare D (ps_sum (d + 1)) (md_added (d' + 1)) := by
  have h := row_s (B := bare) (Lc := ps_sum_b5 d) (Lm := md_added_b5 d') ih ihb ?_ ?_
  · intro σ τ G ho
    rw [ps_sum_e, md_added_e]
    exact h σ τ G ho
  · intro σ τ x y G
    have i1 := tk_is_s G.2.1.2 G.2.2.1 (c := 43) (t := 47) (by unfold sG; decide)
    have i2 := tk_is_s G.2.1.2 G.2.2.1 (c := 45) (t := 48) (by unfold sG; decide)
    by_cases q : τ 119 25 = 47
    · right
      refine ⟨8, by decide, by omega, ?_, ?_⟩
      · rw [ps_sum_b5_e, ps_good_g G.2.2.1]
        simp only [Option.bind_some]
        rw [if_neg (by decide), i1, if_pos q]
        simp only [Option.bind_some]
        rw [if_neg (by decide), ps_sum_b36_e, i1, if_pos q]
        simp only [Option.bind_some]
        rw [if_neg (by decide), ps_sum_b56_e]
      · rw [md_added_b5_e, if_pos q, md_added_b23_e, q]
        rfl
    · by_cases q2 : τ 119 25 = 48
      · right
        refine ⟨9, by decide, by omega, ?_, ?_⟩
        · rw [ps_sum_b5_e, ps_good_g G.2.2.1]
          simp only [Option.bind_some]
          rw [if_neg (by decide), i1, if_neg q]
          simp only [Option.bind_some]
          rw [if_pos (by trivial), i2, if_pos q2]
          simp only [Option.bind_some]
          rw [if_neg (by decide), ps_sum_b36_e, i1, if_neg q]
          simp only [Option.bind_some]
          rw [if_pos (by trivial), ps_sum_b56_e]
        · rw [md_added_b5_e, if_neg q, if_pos q2, md_added_b23_e, q2]
          rfl
      · left
        refine ⟨?_, ?_⟩
        · rw [ps_sum_b5_e, ps_good_g G.2.2.1]
          simp only [Option.bind_some]
          rw [if_neg (by decide), i1, if_neg q]
          simp only [Option.bind_some]
          rw [if_pos (by trivial), i2, if_neg q2]
          rfl
        · rw [md_added_b5_e, if_neg q, if_neg q2]
  · intro σ x b
    rw [ps_sum_b5_e, ps_good_b b]; rfl
theorem sum_b (ihb : XB (ps_product d)) : XB (ps_sum (d + 1)) := by
  have h := row_b (Lc := ps_sum_b5 d) ihb (fun σ x b => by rw [ps_sum_b5_e, ps_good_b b]; rfl)
  intro σ τ k b hk
  rw [ps_sum_e]
  exact h σ τ k b hk
theorem product_s (ih : XS bare D (ps_unary d) (md_unary d')) (ihb : XB (ps_unary d)) : XS bare D (ps_product (d + 1)) (md_product (d' + 1)) := by
  have h := row_s (B := bare) (Lc := ps_product_b5 d) (Lm := md_product_b5 d') ih ihb ?_ ?_
  · intro σ τ G ho
    rw [ps_product_e, md_product_e]
    exact h σ τ G ho
  · intro σ τ x y G
    have i1 := tk_is_s G.2.1.2 G.2.2.1 (c := 42) (t := 49) (by unfold sG; decide)
    have i2 := tk_is_s G.2.1.2 G.2.2.1 (c := 47) (t := 50) (by unfold sG; decide)
    by_cases q : τ 119 25 = 49
    · right
      refine ⟨10, by decide, by omega, ?_, ?_⟩
      · rw [ps_product_b5_e, ps_good_g G.2.2.1]
        simp only [Option.bind_some]
        rw [if_neg (by decide), i1, if_pos q]
        simp only [Option.bind_some]
        rw [if_neg (by decide), ps_product_b36_e, i1, if_pos q]
        simp only [Option.bind_some]
        rw [if_neg (by decide), ps_product_b56_e]
      · rw [md_product_b5_e, if_pos q, md_product_b23_e, q]
        rfl
    · by_cases q2 : τ 119 25 = 50
      · right
        refine ⟨11, by decide, by omega, ?_, ?_⟩
        · rw [ps_product_b5_e, ps_good_g G.2.2.1]
          simp only [Option.bind_some]
          rw [if_neg (by decide), i1, if_neg q]
          simp only [Option.bind_some]
          rw [if_pos (by trivial), i2, if_pos q2]
          simp only [Option.bind_some]
          rw [if_neg (by decide), ps_product_b36_e, i1, if_neg q]
          simp only [Option.bind_some]
          rw [if_pos (by trivial), ps_product_b56_e]
        · rw [md_product_b5_e, if_neg q, if_pos q2, md_product_b23_e, q2]
          rfl
      · left
        refine ⟨?_, ?_⟩
        · rw [ps_product_b5_e, ps_good_g G.2.2.1]
          simp only [Option.bind_some]
          rw [if_neg (by decide), i1, if_neg q]
          simp only [Option.bind_some]
          rw [if_pos (by trivial), i2, if_neg q2]
          rfl
        · rw [md_product_b5_e, if_neg q, if_neg q2]
  · intro σ x b
    rw [ps_product_b5_e, ps_good_b b]; rfl
theorem product_b (ihb : XB (ps_unary d)) : XB (ps_product (d + 1)) := by
  have h := row_b (Lc := ps_product_b5 d) ihb (fun σ x b => by rw [ps_product_b5_e, ps_good_b b]; rfl)
  intro σ τ k b hk
  rw [ps_product_e]
  exact h σ τ k b hk
/-- at most one operator -/
theorem one_s {X : gM → Option (gM × Int)} {Y : gM → Option (gM × Option Int)} (ih : XS bare d X Y) (ihb : XB X) {Lc : gM → Int → Option (gM × Int)} {Lm : gM → Int → Option (gM × Option Int)}
    (hs : ∀ σ τ x y, pG 1 σ τ → (Lc σ x = some (σ, x) ∧ Lm τ y = some (τ, some y)) ∨ (∃ K, (8 ≤ K ∧ K ≤ 19) ∧ τ 119 25 ≠ 0 ∧ (Lc σ x = (ps_two σ K x).bind fun p3 => (X p3.1).bind fun p4 => if 0 ≤ p3.2 ∧ p3.2 < 4200 then some (gW p4.1 73 p3.2 p4.2, p3.2) else none) ∧ Lm τ y = (md_pair τ K y).bind fun p1 => gtry p1.2 (fun v2 => (Y p1.1).bind fun p3 => gtry p3.2 (fun v4 => if 0 ≤ v2 ∧ v2 < 4004 then some (gW p3.1 139 v2 v4, some v2) else none) (some (p3.1, none))) (some (p1.1, none))))
    (hb : ∀ σ x, σ 69 8 ≠ 0 → Lc σ x = some (σ, x)) : XS bare d (fun σ => (X σ).bind fun p1 => Lc p1.1 p1.2) (fun τ => (Y τ).bind fun p1 => gtry p1.2 (fun v2 => Lm p1.1 v2) (some (p1.1, none))) := by
  intro σ τ G ho
  show XR bare σ τ (σ 68 10) ((X σ).bind fun p1 => Lc p1.1 p1.2) ((Y τ).bind fun p1 => gtry p1.2 (fun v2 => Lm p1.1 v2) (some (p1.1, none)))
  rcases ih σ τ G ho with ⟨S, T, n, x1, x2, xg, xb⟩ | ⟨S, T, n, x1, x2, b, hn⟩
  · rw [x1, x2]
    simp only [Option.bind_some, gtry]
    have kx := xg.2.1
    refine XR.of kx xg.2.2.2.2 ?_
    rcases hs S T n (nd S n) xg.1 with ⟨e1, e2⟩ | ⟨K, hK, h4, e1, e2⟩
    · exact Or.inl ⟨S, T, n, e1, e2, ⟨xg.1, kE.rf, xg.2.2.1, by rw [kx.2.2.1 19 (by decide)]; exact xg.2.2.2.1, rfl, rfl⟩, xb⟩
    · rcases two_s hK ih ihb xg.1 (by rw [xg.2.2.2.2.1]; exact ho) h4 xg.2.2.1 (by rw [kx.2.2.1 19 (by decide)]; exact xg.2.2.2.1) G.2.2.2.1.1 with ⟨S1, n1, S2, rr, T1, m1, T2, rm, a1, a2, a3, a4, a5, a6, a7, xg', xb', xp⟩ | ⟨S1, n1, S2, rr, T', a1, a2, a3, a4, a5⟩
      · left
        refine ⟨_, _, n1, ?_, ?_, xg', xb'⟩
        · rw [e1, a1]
          simp only [Option.bind_some]
          rw [a2]
          simp only [Option.bind_some]
          rw [if_pos a5]
        · rw [e2, a3]
          simp only [Option.bind_some, gtry]
          rw [a4]
          simp only [Option.bind_some]
          rw [if_pos a6, a7]
      · right
        refine ⟨gW S2 73 n1 rr, T', n1, ?_, ?_, a4, a3⟩
        · rw [e1, a1]
          simp only [Option.bind_some]
          rw [a2]
          simp only [Option.bind_some]
          rw [if_pos a3]
        · rw [e2]
          rcases a5 with a5 | ⟨T1, m1, a5, a6⟩
          · rw [a5]; rfl
          · rw [a5]
            simp only [Option.bind_some, gtry]
            rw [a6]; rfl
  · right
    refine ⟨S, T, n, ?_, ?_, b, hn⟩
    · rw [x1]
      simp only [Option.bind_some]
      exact hb _ _ b.1
    · rw [x2]; rfl
end RW
section EL
variable {d d' D : Nat}
theorem equal_s (ih : XS bare D (ps_less d) (md_less d')) (ihb : XB (ps_less d)) : XS bare D (ps_equal (d + 1)) (md_same (d' + 1)) ∧ XB (ps_equal (d + 1)) := by
  have hb : ∀ (σ : gM) (x : Int), σ 69 8 ≠ 0 → ((tk_is σ 15677).bind fun p2 => (ps_good p2.1).bind fun p3 => if p3.2 = 0 then some (p3.1, x) else (if p2.2 = 0 then ((tk_is p3.1 8509).bind fun p4 => if p4.2 = 0 then some (p4.1, x) else ps_equal_b42 d p4.1 x p2.2) else ps_equal_b42 d p3.1 x p2.2)) = some (σ, x) := fun σ x b => by
    rw [tk_is_b b]
    simp only [Option.bind_some]
    rw [ps_good_b b]; rfl
  constructor
  · have h := one_s (Lc := fun s x => (tk_is s 15677).bind fun p2 => (ps_good p2.1).bind fun p3 => if p3.2 = 0 then some (p3.1, x) else (if p2.2 = 0 then ((tk_is p3.1 8509).bind fun p4 => if p4.2 = 0 then some (p4.1, x) else ps_equal_b42 d p4.1 x p2.2) else ps_equal_b42 d p3.1 x p2.2)) (Lm := fun t v => if t 119 25 = 40 then md_same_b23 d' t v else if t 119 25 = 42 then md_same_b23 d' t v else some (t, some v)) ih ihb ?_ hb
    · intro σ τ G ho
      rw [ps_equal_e, md_same_e]
      exact h σ τ G ho
    · intro σ τ x y G
      have i1 := tk_is_s G.2.1.2 G.2.2.1 (c := 15677) (t := 40) (by unfold sG; decide)
      have i2 := tk_is_s G.2.1.2 G.2.2.1 (c := 8509) (t := 42) (by unfold sG; decide)
      have g := ps_good_g G.2.2.1
      by_cases q : τ 119 25 = 40
      · right
        refine ⟨16, by decide, by omega, ?_, ?_⟩
        · rw [i1, if_pos q]
          simp only [Option.bind_some]
          rw [g]
          simp only [Option.bind_some]
          rw [if_neg (by decide), if_neg (by decide), ps_equal_b42_e, if_neg (by decide), ps_equal_b54_e]
        · rw [if_pos q, md_same_b23_e, if_pos q, md_same_b40_e]
      · by_cases q2 : τ 119 25 = 42
        · right
          refine ⟨17, by decide, by omega, ?_, ?_⟩
          · rw [i1, if_neg q]
            simp only [Option.bind_some]
            rw [g]
            simp only [Option.bind_some]
            rw [if_neg (by decide), if_pos (by trivial), i2, if_pos q2]
            simp only [Option.bind_some]
            rw [if_neg (by decide), ps_equal_b42_e, if_pos (by trivial), ps_equal_b54_e]
          · rw [if_neg q, if_pos q2, md_same_b23_e, if_neg q, md_same_b40_e]
        · left
          refine ⟨?_, ?_⟩
          · rw [i1, if_neg q]
            simp only [Option.bind_some]
            rw [g]
            simp only [Option.bind_some]
            rw [if_neg (by decide), if_pos (by trivial), i2, if_neg q2]
            rfl
          · rw [if_neg q, if_neg q2]
  · have h := row_b (Lc := fun s x => (tk_is s 15677).bind fun p2 => (ps_good p2.1).bind fun p3 => if p3.2 = 0 then some (p3.1, x) else (if p2.2 = 0 then ((tk_is p3.1 8509).bind fun p4 => if p4.2 = 0 then some (p4.1, x) else ps_equal_b42 d p4.1 x p2.2) else ps_equal_b42 d p3.1 x p2.2)) ihb hb
    intro σ τ k b hk
    rw [ps_equal_e]
    exact h σ τ k b hk
theorem less_s (ih : XS bare D (ps_sum d) (md_added d')) (ihb : XB (ps_sum d)) : XS bare D (ps_less (d + 1)) (md_less (d' + 1)) ∧ XB (ps_less (d + 1)) := by
  have hb : ∀ (σ : gM) (x : Int), σ 69 8 ≠ 0 → ((ps_good σ).bind fun p2 => if p2.2 = 0 then some (p2.1, x) else ((tk_is p2.1 60).bind fun p3 => if p3.2 = 0 then ((tk_is p3.1 15421).bind fun p4 => if p4.2 = 0 then ((tk_is p4.1 62).bind fun p5 => if p5.2 = 0 then ((tk_is p5.1 15933).bind fun p6 => if p6.2 = 0 then ps_less_b85 d p6.1 x (-1) else ps_less_b85 d p6.1 x 15) else ps_less_b85 d p5.1 x 14) else ps_less_b85 d p4.1 x 13) else ps_less_b85 d p3.1 x 12)) = some (σ, x) := fun σ x b => by
    rw [ps_good_b b]; rfl
  constructor
  · have h := one_s (Lc := fun s x => (ps_good s).bind fun p2 => if p2.2 = 0 then some (p2.1, x) else ((tk_is p2.1 60).bind fun p3 => if p3.2 = 0 then ((tk_is p3.1 15421).bind fun p4 => if p4.2 = 0 then ((tk_is p4.1 62).bind fun p5 => if p5.2 = 0 then ((tk_is p5.1 15933).bind fun p6 => if p6.2 = 0 then ps_less_b85 d p6.1 x (-1) else ps_less_b85 d p6.1 x 15) else ps_less_b85 d p5.1 x 14) else ps_less_b85 d p4.1 x 13) else ps_less_b85 d p3.1 x 12))
      (Lm := fun t v => if t 119 25 < 43 then some (t, some v) else if 46 < t 119 25 then some (t, some v) else ((md_pair t (w32 ((w32 (12 + (t 119 25))) - 43)) v).bind fun p3 => gtry p3.2 (fun v4 => (md_added d' p3.1).bind fun p5 => gtry p5.2 (fun v6 => if 0 ≤ v4 ∧ v4 < 4004 then some (gW p5.1 139 v4 v6, some v4) else none) (some (p5.1, none))) (some (p3.1, none)))) ih ihb ?_ hb
    · intro σ τ G ho
      rw [ps_less_e, md_less_e]
      exact h σ τ G ho
    · intro σ τ x y G
      have i1 := tk_is_s G.2.1.2 G.2.2.1 (c := 60) (t := 43) (by unfold sG; decide)
      have i2 := tk_is_s G.2.1.2 G.2.2.1 (c := 15421) (t := 44) (by unfold sG; decide)
      have i3 := tk_is_s G.2.1.2 G.2.2.1 (c := 62) (t := 45) (by unfold sG; decide)
      have i4 := tk_is_s G.2.1.2 G.2.2.1 (c := 15933) (t := 46) (by unfold sG; decide)
      have g := ps_good_g G.2.2.1
      by_cases q1 : τ 119 25 = 43
      · right
        refine ⟨12, by decide, by omega, ?_, ?_⟩
        · rw [g]
          simp only [Option.bind_some]
          rw [if_neg (by decide), i1, if_pos q1]
          simp only [Option.bind_some]
          rw [if_neg (by decide), ps_less_b85_e, if_neg (by decide)]
        · rw [if_neg (by omega), if_neg (by omega), q1]; rfl
      · by_cases q2 : τ 119 25 = 44
        · right
          refine ⟨13, by decide, by omega, ?_, ?_⟩
          · rw [g]
            simp only [Option.bind_some]
            rw [if_neg (by decide), i1, if_neg q1]
            simp only [Option.bind_some]
            rw [if_pos (by trivial), i2, if_pos q2]
            simp only [Option.bind_some]
            rw [if_neg (by decide), ps_less_b85_e, if_neg (by decide)]
          · rw [if_neg (by omega), if_neg (by omega), q2]; rfl
        · by_cases q3 : τ 119 25 = 45
          · right
            refine ⟨14, by decide, by omega, ?_, ?_⟩
            · rw [g]
              simp only [Option.bind_some]
              rw [if_neg (by decide), i1, if_neg q1]
              simp only [Option.bind_some]
              rw [if_pos (by trivial), i2, if_neg q2]
              simp only [Option.bind_some]
              rw [if_pos (by trivial), i3, if_pos q3]
              simp only [Option.bind_some]
              rw [if_neg (by decide), ps_less_b85_e, if_neg (by decide)]
            · rw [if_neg (by omega), if_neg (by omega), q3]; rfl
          · by_cases q4 : τ 119 25 = 46
            · right
              refine ⟨15, by decide, by omega, ?_, ?_⟩
              · rw [g]
                simp only [Option.bind_some]
                rw [if_neg (by decide), i1, if_neg q1]
                simp only [Option.bind_some]
                rw [if_pos (by trivial), i2, if_neg q2]
                simp only [Option.bind_some]
                rw [if_pos (by trivial), i3, if_neg q3]
                simp only [Option.bind_some]
                rw [if_pos (by trivial), i4, if_pos q4]
                simp only [Option.bind_some]
                rw [if_neg (by decide), ps_less_b85_e, if_neg (by decide)]
              · rw [if_neg (by omega), if_neg (by omega), q4]; rfl
            · left
              refine ⟨?_, ?_⟩
              · rw [g]
                simp only [Option.bind_some]
                rw [if_neg (by decide), i1, if_neg q1]
                simp only [Option.bind_some]
                rw [if_pos (by trivial), i2, if_neg q2]
                simp only [Option.bind_some]
                rw [if_pos (by trivial), i3, if_neg q3]
                simp only [Option.bind_some]
                rw [if_pos (by trivial), i4, if_neg q4]
                simp only [Option.bind_some]
                rw [if_pos (by trivial), ps_less_b85_e, if_pos (by decide)]
              · by_cases q5 : τ 119 25 < 43
                · rw [if_pos q5]
                · rw [if_neg q5, if_pos (by omega)]
  · have h := row_b (Lc := fun s x => (ps_good s).bind fun p2 => if p2.2 = 0 then some (p2.1, x) else ((tk_is p2.1 60).bind fun p3 => if p3.2 = 0 then ((tk_is p3.1 15421).bind fun p4 => if p4.2 = 0 then ((tk_is p4.1 62).bind fun p5 => if p5.2 = 0 then ((tk_is p5.1 15933).bind fun p6 => if p6.2 = 0 then ps_less_b85 d p6.1 x (-1) else ps_less_b85 d p6.1 x 15) else ps_less_b85 d p5.1 x 14) else ps_less_b85 d p4.1 x 13) else ps_less_b85 d p3.1 x 12)) ihb hb
    intro σ τ k b hk
    rw [ps_less_e]
    exact h σ τ k b hk
end EL
