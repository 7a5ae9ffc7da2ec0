/-! a run goes on: both sides -/
section SIM
variable {σ τ S T Z X : gM} {pT hT : Int → Int} {m : Nat} {br co θ n : Int}
/-- the activation's own row -/
theorem step_0 {x1 x2 : Int} (R : RR σ τ pT hT 0 br co θ) (m1 : τ 119 119 = x2) (m2 : τ 119 120 = x1) (xb : 0 ≤ x2 ∧ x2 ≤ 1000000000) : goX σ τ θ ∨ endX σ τ ∨ stpX σ τ θ x1 x2 := by
  obtain ⟨c1, c1', c2, pc, c5, c6, c7, c8, c9⟩ := R.cur
  have k := R.2.2.1
  obtain ⟨⟨⟨⟨s1, s2, s3, s4, s5, s6⟩, rx⟩, -⟩, e124, -⟩ := k
  have m19 := R.1.2.1.2.2.2.2.2.1
  have C := R.1.2.2.2.2.1
  have e124' : τ 119 124 = τ 212 (σ 87 21) + 1 := by omega
  by_cases hx : τ 220 (τ 212 (σ 87 21)) = -1
  · have hP : σ 28 (σ 90 (σ 87 21)) + σ 29 (σ 90 (σ 87 21)) - 2 = pT (σ 87 21) := by
      rcases rx.x2 with ⟨-, w⟩ | ⟨w, -⟩
      · exact w
      · omega
    obtain ⟨-, -, -, i1, i2, -⟩ := R.1.1.1.1.2.2.2.2.2.2.2.2.2.2.2.2.2.1 _ c2.1 c2.2
    rw [hP] at i1
    rw [show σ 28 (σ 90 (σ 87 21)) + σ 29 (σ 90 (σ 87 21)) - 1 = pT (σ 87 21) + 1 by omega] at i2
    have wk : ∀ T, md_comesBack τ 0 0 = some (T, 0) → md_work τ = some (T, some 0) := fun T q => by
      have b : 0 ≤ τ 212 (σ 87 21) ∧ τ 212 (σ 87 21) < 42000 := by omega
      rw [md_work_e, e124', show τ 212 (σ 87 21) + 1 - 1 = τ 212 (σ 87 21) by omega, w32_e (by omega) (by omega), if_pos b, s2, if_neg (by decide), if_pos rfl, md_row_e, if_pos b, if_pos hx, if_pos b, if_pos s3, q]
      rfl
    by_cases m2' : 2 ≤ σ 87 19
    · exact Or.inl (op_ret0 R s4 i1 i2 (by omega) m2' wk)
    · exact Or.inr (Or.inl (op_ret0E R s4 i1 i2 (by omega) (by omega) wk))
  · refine Or.inr (Or.inr ?_)
    have e0 : τ 212 (σ 87 21) + ((0 : Nat) : Int) = τ 212 (σ 87 21) := by omega
    have lo := rx.x2
    have xlo : σ 26 (σ 90 (σ 87 21)) ≤ τ 220 (τ 212 (σ 87 21)) := by
      rcases lo with ⟨w, -⟩ | ⟨-, -, M, w, -⟩
      · exact absurd w hx
      · exact (w.x3 (be := 0)).1.2.1
    have rx' := rx
    rw [← s5] at rx'
    rw [show RX σ τ (σ 26 (σ 90 (σ 87 21))) (σ 26 (σ 90 (σ 87 21)) + σ 27 (σ 90 (σ 87 21))) br br = RX σ τ (σ 26 (σ 90 (σ 87 21))) (σ 26 (σ 90 (σ 87 21)) + σ 27 (σ 90 (σ 87 21))) br co by rw [s5, s6]] at rx'
    refine op_step R (x := τ 220 (τ 212 (σ 87 21))) (F := σ 28 (σ 90 (σ 87 21)) + σ 29 (σ 90 (σ 87 21)) - 2) (by rw [e0]; exact s2) (by rw [e0]) hx rx' (Int.le_refl _) s4 (by omega) ?_ m1 m2 xb
    intro S T x' M kp fr ex' hx' hM rx2
    obtain ⟨y1, y2, y3, -⟩ := kp
    have hs : ∀ a, a ≠ 87 → gW σ 87 24 (σ 87 24 + 1) a = σ a := fun a q => gW_cell q
    have ht : ∀ a, a ≠ 119 → gW (gW τ 119 118 (τ 119 118 + 1)) 119 119 (τ 119 119 + 1) a = τ a := fun a q => by rw [gW_cell q, gW_cell q]
    rw [e0] at ex' fr
    unfold St
    rw [ex', fr 218 _ (by decide) (by decide) (Int.le_refl _) (Or.inl (by decide)), fr 219 _ (by decide) (by decide) (Int.le_refl _) (Or.inl (by decide))]
    refine ⟨⟨by omega, s2, s3, rfl, s5, s6⟩, ?_⟩
    rw [s5, s6] at rx2
    exact RX.st (be := σ 28 (σ 90 (σ 87 21))) (la := σ 28 (σ 90 (σ 87 21)) + σ 29 (σ 90 (σ 87 21)) - 2) (fun a j q _ _ => by rw [y3 a (by omega), ht a (by omega)]) (fun j _ _ => by rw [y1 14 (by decide), hs 14 (by decide)]) (fun p _ _ => ⟨by rw [y1 20 (by decide), hs 20 (by decide)], by rw [y1 21 (by decide), hs 21 (by decide)], by rw [y1 22 (by decide), hs 22 (by decide)]⟩) rx2 (by omega) (Int.le_refl _)
/-- a row within -/
theorem step_row {E h' br' co' x1 x2 : Int} (R : RR σ τ pT hT (m + 1) br co θ) (hm : (m : Int) < 603) (be : σ 28 (σ 90 (σ 87 21)) ≤ pT (σ 87 21)) (rw0 : rwO τ (τ 212 (σ 87 21) + m)) (en : τ 218 (τ 212 (σ 87 21) + m + 1) = -2) (es : τ 219 (τ 212 (σ 87 21) + m + 1) = 0) (hh : hT (σ 87 21) = 0) (h0 : h' = 0) (bb : br' = br ∧ co' = co)
    (hx : τ 220 (τ 212 (σ 87 21) + m + 1) = -1 ∨ ((m : Int) + 1) ≤ 2 * (τ 220 (τ 212 (σ 87 21) + m + 1) - σ 26 (σ 90 (σ 87 21)))) {F : Int} (rx : RX σ τ (σ 26 (σ 90 (σ 87 21))) (σ 26 (σ 90 (σ 87 21)) + σ 27 (σ 90 (σ 87 21))) br co 2 (τ 220 (τ 212 (σ 87 21) + m + 1)) 0 (pT (σ 87 21)) F) (hE : E = F ∨ (F < E ∧ cI σ F 14 E (-1)))
    (st : St σ τ (σ 26 (σ 90 (σ 87 21))) (σ 26 (σ 90 (σ 87 21)) + σ 27 (σ 90 (σ 87 21))) (σ 28 (σ 90 (σ 87 21))) (σ 28 (σ 90 (σ 87 21)) + σ 29 (σ 90 (σ 87 21)) - 2) (τ 212 (σ 87 21)) m E h' br' co') (m1 : τ 119 119 = x2) (m2 : τ 119 120 = x1) (xb : 0 ≤ x2 ∧ x2 ≤ 1000000000) : goX σ τ θ ∨ endX σ τ ∨ stpX σ τ θ x1 x2 := by
  have hl := St.le _ _ _ _ _ st
  rw [h0] at st
  have hFE : F ≤ E := by rcases hE with w | w <;> omega
  have hPF := rx.le
  by_cases x0 : τ 220 (τ 212 (σ 87 21) + m + 1) = -1
  · left
    have hF : F = pT (σ 87 21) := by
      rcases rx.x2 with ⟨-, w⟩ | ⟨w, -⟩
      · exact w
      · omega
    rw [hF] at hE
    exact op_rowend R en es x0 hh st bb hE
  · refine Or.inr (Or.inr ?_)
    have e0 : τ 212 (σ 87 21) + ((m + 1 : Nat) : Int) = τ 212 (σ 87 21) + m + 1 := by omega
    refine op_step R (x := τ 220 (τ 212 (σ 87 21) + m + 1)) (F := F) (by rw [e0]; exact en) (by rw [e0]) x0 rx (by omega) hh (by omega) ?_ m1 m2 xb
    intro S T x' M kp fr ex' hx' hM rx2
    obtain ⟨y1, y2, y3, -⟩ := kp
    have hs : ∀ a, a ≠ 87 → gW σ 87 24 (σ 87 24 + 1) a = σ a := fun a q => gW_cell q
    have ht : ∀ a, a ≠ 119 → gW (gW τ 119 118 (τ 119 118 + 1)) 119 119 (τ 119 119 + 1) a = τ a := fun a q => by rw [gW_cell q, gW_cell q]
    rw [e0] at ex' fr
    have cT : ∀ a j, (a = 168 ∨ (170 ≤ a ∧ a ≤ 173)) → σ 26 (σ 90 (σ 87 21)) ≤ j → j < σ 26 (σ 90 (σ 87 21)) + σ 27 (σ 90 (σ 87 21)) → T a j = τ a j := fun a j q _ _ => by rw [y3 a (by omega), ht a (by omega)]
    have c14 : ∀ j, σ 26 (σ 90 (σ 87 21)) ≤ j → j < σ 26 (σ 90 (σ 87 21)) + σ 27 (σ 90 (σ 87 21)) → S 14 j = σ 14 j := fun j _ _ => by rw [y1 14 (by decide), hs 14 (by decide)]
    have si : sI σ S (σ 28 (σ 90 (σ 87 21))) (σ 28 (σ 90 (σ 87 21)) + σ 29 (σ 90 (σ 87 21)) - 2) := fun p _ _ => ⟨by rw [y1 20 (by decide), hs 20 (by decide)], by rw [y1 21 (by decide), hs 21 (by decide)], by rw [y1 22 (by decide), hs 22 (by decide)]⟩
    have f218 : ∀ j, j ≤ τ 212 (σ 87 21) + m + 1 → T 218 j = τ 218 j := fun j q => fr 218 j (by decide) (by decide) q (Or.inl (by decide))
    have f219 : ∀ j, j ≤ τ 212 (σ 87 21) + m + 1 → T 219 j = τ 219 j := fun j q => fr 219 j (by decide) (by decide) q (Or.inl (by decide))
    have e168 : ∀ j, T 168 j = τ 168 j := fun j => by rw [y3 168 (by decide), ht 168 (by decide)]
    refine ⟨⟨by omega, hm⟩, ?_, E, 0, br, co, ?_, ?_⟩
    · unfold rwO at rw0 ⊢
      rw [f218 _ (by omega), f218 _ (by omega), f219 _ (by omega), e168, e168]
      exact rw0
    · rw [f218 _ (by omega), f219 _ (by omega), ex']
      refine Or.inr (Or.inl ⟨en, es, rfl, rfl, ⟨rfl, rfl⟩, ?_, F, RX.st cT c14 si rx2 (by omega) (by omega), ?_⟩)
      · rcases hx' with w | w
        · exact Or.inl w
        · right; omega
      · rcases hE with w | ⟨w1, w2⟩
        · exact Or.inl w
        · exact Or.inr ⟨w1, si.ci w2 (by omega) (by omega)⟩
    · rw [bb.1, bb.2] at st
      exact St.fr cT c14 si m _ _ _ _ (fun a j q1 q2 _ q4 => fr a j q1 q2 (by omega) (by omega)) st
/-- one step of a run -/
theorem step_all {x1 x2 : Int} (R : RR σ τ pT hT m br co θ) (hb8 : gb8 119 σ) (m1 : τ 119 119 = x2) (m2 : τ 119 120 = x1) (xb : 0 ≤ x2 ∧ x2 ≤ 1000000000) : goX σ τ θ ∨ endX σ τ ∨ stpX σ τ θ x1 x2 := by
  match m, R with
  | 0, R => exact step_0 R m1 m2 xb
  | m + 1, R =>
    have k := R.2.2.1.1.1
    obtain ⟨⟨h1, h2⟩, rw0, E, h', br', co', tk, st⟩ := k
    rcases tk with ⟨en, hh, h0, hE, i, b1, b2⟩ | ⟨en, es, hh, h0, bb, hx, F, rx, hE⟩ | ⟨hn, ⟨te, b1, b2⟩ | ⟨ts, h0⟩⟩
    · left
      rw [h0] at st
      exact op_drop R en st hh hE i
    · exact step_row R h2 h1 rw0 en es hh h0 bb hx rx hE st m1 m2 xb
    · rw [b1, b2] at st
      rcases step_e R hb8 rfl rfl rfl hn te st with w | w
      · exact Or.inl w
      · exact Or.inr (Or.inl w)
    · rw [h0] at st
      exact step_s R rfl rfl hn ts st m1 m2 xb
theorem RR.wm0 (R : RR σ τ pT hT m br co θ) : 0 ≤ wM τ := by
  obtain ⟨c1, c1', c2, pc, c5, c6, c7, c8, c9⟩ := R.cur
  have k := R.2.2.1
  obtain ⟨⟨st, -⟩, e124, -⟩ := k
  unfold wM
  by_cases z : τ 218 (τ 119 124 - 1) < 0
  · rw [if_pos z]; omega
  · rw [if_neg z]
    have hi : τ 218 (τ 119 124 - 1) < 20000 := by
      match m, st, e124 with
      | 0, st, e124 =>
        have := st.1.2.1
        rw [show τ 119 124 - 1 = τ 212 (σ 87 21) by omega] at z
        omega
      | m + 1, st, e124 =>
        obtain ⟨-, -, E, h', br', co', tk, -⟩ := st
        rw [show τ 119 124 - 1 = τ 212 (σ 87 21) + m + 1 by omega] at z ⊢
        rcases tk.rg with w | w | w <;> omega
    split
    · omega
    · split
      · omega
      · split <;> omega
/-- what a run leaves behind: its end, or a pause -/
def goE (S T : gM) : Prop := RE S T ∨ (T 119 127 = 1 ∧ ∃ (pT hT : Int → Int) (m : Nat) (br co θ : Int), RR S (gW T 119 127 0) pT hT m br co θ)
theorem sim : ∀ (d e : Nat) (σ τ : gM) (pT hT : Int → Int) (m : Nat) (br co θ x1 x2 : Int), θ.toNat = d → (wM τ).toNat = e → RR σ τ pT hT m br co θ → gb8 119 σ → τ 119 119 = x2 → τ 119 120 = x1 → 0 ≤ x2 → x2 + θ ≤ 1000000000 → ∃ S T, mc_go_b2 σ x1 x2 = some (S, T 119 119) ∧ md_goOn_b15 τ = some (T, 0) ∧ goE S T := by
  intro d
  induction d using Nat.strongRecOn with
  | ind d ihd =>
    intro e
    induction e using Nat.strongRecOn with
    | ind e ihe =>
      intro σ τ pT hT m br co θ x1 x2 hd he R hb8 m1 m2 x0 xb
      have t0 := R.th0.1
      rcases step_all R hb8 m1 m2 (by omega) with ⟨S, T, pT', hT', m', br', co', θ', g1, g2, g3, g4, g5, g6⟩ | ⟨S, T, g1, g2, g3, g4⟩ | ⟨g1, g2, g3⟩ | ⟨S, T, g1, g2, g3, g4⟩ | ⟨S, T, pT', hT', m', br', co', ⟨g1, g1'⟩, g2, g3, g4, g5, g6⟩
      · rw [g1.1 x1 x2, show md_goOn_b15 τ = md_goOn_b15 T from g2]
        have t1 := g3.th0.1
        rcases g4 with w | ⟨w1, w2⟩
        · exact ihd θ'.toNat (by omega) (wM T).toNat S T pT' hT' m' br' co' θ' x1 x2 rfl rfl g3 (g1.2 hb8) (by rw [g5, m1]) (by rw [g6, m2]) x0 (by omega)
        · have := g3.wm0
          exact ihe (wM T).toNat (by omega) S T pT' hT' m' br' co' θ' x1 x2 (by omega) rfl g3 (g1.2 hb8) (by rw [g5, m1]) (by rw [g6, m2]) x0 (by omega)
      · exact ⟨S, T, by rw [g1 x1 x2, g4, m1], g2, Or.inl g3⟩
      · refine ⟨σ, gW τ 119 127 1, by rw [g2, gW_i (by decide), m1], g3, Or.inr ⟨by rw [gW_at], pT, hT, m, br, co, θ, ?_⟩⟩
        have e127 : τ 119 127 = 0 := R.1.2.2.2.2.1.2.2.2.2.2.2.2
        rw [gW_2, gW_nop e127]
        exact R
      · exact ⟨S, T, by rw [g1, g4, m1], g2, Or.inl g3⟩
      · rw [g1, show md_goOn_b15 τ = md_goOn_b15 T from g2]
        have t1 := g3.th0.1
        exact ihd (θ - 1).toNat (by omega) (wM T).toNat S T pT' hT' m' br' co' (θ - 1) x1 (x2 + 1) rfl rfl g3 (g1' hb8) g4 g5 (by omega) (by omega)
end SIM
