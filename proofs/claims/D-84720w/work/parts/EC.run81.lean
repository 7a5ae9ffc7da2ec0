/-! one step of a run: both sides -/
section STP
variable {σ τ S T Z X : gM} {pT hT : Int → Int} {m : Nat} {br co θ n : Int}
theorem Te.h {lo hi s x P h E h0 : Int} (te : Te σ τ lo hi br co n s x P h E h0) : (s = 0 → h = h0) ∧ (τ 168 n = 6 → s = 1 → h = h0 + 1 ∧ cI σ (E - 1) 2 0 n) ∧ (τ 168 n = 20 → s = 1 → h = h0 + 1 ∧ cI σ (E - 1) 6 0 n) ∧ ((8 ≤ τ 168 n ∧ τ 168 n ≤ 17) → s = 2 → h = h0 + 2 ∧ cI σ (E - 1) 3 0 n) ∧ ((τ 168 n = 18 ∨ τ 168 n = 19) → s = 1 → h = h0 + 1 ∧ n + 1 < τ 171 n ∧ cI σ P 4 E n ∧ RX σ τ lo hi br co 0 (τ 171 n) 0 (P + 1) (E - 1) ∧ cI σ (E - 1) 5 0 n) ∧ ((τ 168 n = 18 ∨ τ 168 n = 19) → s = 2 → h = h0 + 1 ∧ cI σ (E - 1) 5 0 n) ∧ (τ 168 n = 21 → s = 1 → h = h0 + 1 ∧ cI σ (E - 1) 7 0 n) ∧ (τ 168 n = 21 → s = 2 → h = h0 + 2 ∧ cI σ (E - 1) 7 0 n) ∧ (τ 168 n = 22 → s = 3 → ((τ 171 n = -1 ∧ h = h0 + 2) ∨ (n + 1 < τ 171 n ∧ h = h0 + 3)) ∧ cI σ (E - 1) 8 0 n) ∧ (τ 168 n = 23 → 1 ≤ s → h = h0 + s ∧ cI σ (E - 1) 9 0 n) := by
  obtain ⟨k1, te⟩ := te
  rcases te with ⟨a1, a2, a3⟩ | ⟨a1, a2, a3, ⟨a4, a5⟩ | ⟨a4, a5⟩⟩ | ⟨a1, a2, ⟨a3, a4, a5, a6⟩ | ⟨a3, a4, a5⟩⟩ | ⟨a1, a2, ⟨a3, a4, a5, a6, a7⟩ | ⟨a3, a4, a5⟩⟩ | ⟨a1, a2, ⟨a3, a4, a5⟩ | ⟨a3, a4, a5, a6⟩⟩ | ⟨a1, a2, ⟨a3, a4, a5, a6⟩ | ⟨a3, a4, a5, a6⟩ | ⟨a3, a4, a5⟩⟩ | ⟨a1, a2, a3, a4, a5, a6⟩
  all_goals refine ⟨fun q => ?_, fun q1 q2 => ?_, fun q1 q2 => ?_, fun q1 q2 => ?_, fun q1 q2 => ?_, fun q1 q2 => ?_, fun q1 q2 => ?_, fun q1 q2 => ?_, fun q1 q2 => ?_, fun q1 q2 => ?_⟩
  all_goals first | (exfalso; omega) | omega | exact ⟨by omega, by assumption⟩ | exact ⟨by omega, by omega, by assumption, by assumption, by assumption⟩ | exact ⟨by assumption, by assumption⟩
/-- an expression's task -/
theorem step_e {s x E h' : Int} (R : RR σ τ pT hT (m + 1) br co θ) (hb8 : gb8 119 σ) (en : τ 218 (τ 212 (σ 87 21) + m + 1) = n) (es : τ 219 (τ 212 (σ 87 21) + m + 1) = s) (ex : τ 220 (τ 212 (σ 87 21) + m + 1) = x) (hn : 0 ≤ n ∧ σ 26 (σ 90 (σ 87 21)) ≤ n ∧ n < σ 26 (σ 90 (σ 87 21)) + σ 27 (σ 90 (σ 87 21)) ∧ ((m : Int) + 1) ≤ 2 * (n - σ 26 (σ 90 (σ 87 21))) + 2)
    (te : Te σ τ (σ 26 (σ 90 (σ 87 21))) (σ 26 (σ 90 (σ 87 21)) + σ 27 (σ 90 (σ 87 21))) br co n s x (pT (σ 87 21)) (hT (σ 87 21)) E (h' - 1)) (st : St σ τ (σ 26 (σ 90 (σ 87 21))) (σ 26 (σ 90 (σ 87 21)) + σ 27 (σ 90 (σ 87 21))) (σ 28 (σ 90 (σ 87 21))) (σ 28 (σ 90 (σ 87 21)) + σ 29 (σ 90 (σ 87 21)) - 2) (τ 212 (σ 87 21)) m E h' br co) : goX σ τ θ ∨ endX σ τ := by
  have c8 := R.cur.2.2.2.2.2.2.2.1
  have k1 := te.1
  have hn3 : 0 ≤ n ∧ σ 26 (σ 90 (σ 87 21)) ≤ n ∧ n < σ 26 (σ 90 (σ 87 21)) + σ 27 (σ 90 (σ 87 21)) := ⟨hn.1, hn.2.1, hn.2.2.1⟩
  have h1 : 1 ≤ h' := by omega
  have hb : h' ≤ 400 := by omega
  obtain ⟨g0, g6, g20, g8, g18, g18', g21, g21', g22, g23⟩ := te.h
  rcases sil_e R en es ex hn te st with w | ⟨s0, hE, w⟩ | ⟨s1, w⟩ | ⟨hE, w⟩
  · exact Or.inl w
  · left
    have hh := g0 s0
    rcases w with ⟨kd, i⟩ | ⟨kd, i⟩
    · exact op_push R en hn3 st hh (by omega) hE kd i
    · exact op_read R en hn3 st hh h1 hb hE kd i
  · obtain ⟨a1, a2, a3, a4, a5⟩ := g18 w s1
    exact op_left (E := E) (h' := h') R en (by rw [es, s1]) hn (by omega) (by omega) w a3 a5 a2 a4 st
  · have hE' : E = pT (σ 87 21) + 1 := by omega
    have ci : ∀ {o : Int}, cI σ (E - 1) o 0 n → cI σ (pT (σ 87 21)) o 0 n := fun q => by rw [hE]; exact q
    rcases w with ⟨s1, w⟩ | ⟨s2, w⟩ | ⟨s3, w⟩ | ⟨s1, kd, xm, e14⟩
    · have es1 : τ 219 (τ 212 (σ 87 21) + m + 1) = 1 := by rw [es, s1]
      rcases w with kd | kd | ⟨kd, k171⟩
      · obtain ⟨a1, a2⟩ := g6 kd s1
        exact Or.inl (op_write R en es1 hn3 st (by omega) h1 hb hE' kd (ci a2))
      · obtain ⟨a1, a2⟩ := g20 kd s1
        exact op_not R en es1 hn3 st (by omega) h1 hb hE' kd (ci a2)
      · obtain ⟨a1, a2⟩ := g21 kd s1
        exact op_get (q := 1) R en es1 (Or.inl ⟨rfl, k171⟩) hn3 st (by omega) h1 hb hE' kd (ci a2)
    · have es2 : τ 219 (τ 212 (σ 87 21) + m + 1) = 2 := by rw [es, s2]
      rcases w with kd | ⟨kd, k171⟩
      · by_cases k18 : τ 168 n = 18 ∨ τ 168 n = 19
        · obtain ⟨a1, a2⟩ := g18' k18 s2
          exact op_truth R en es2 hn3 st (by omega) h1 hb hE' k18 (ci a2)
        · obtain ⟨a1, a2⟩ := g8 (by omega) s2
          have i := ci a2
          have hh : hT (σ 87 21) = h' - 1 + 2 := by omega
          by_cases k16 : 16 ≤ τ 168 n
          · exact Or.inl (op_alk R en es2 hn3 st hh h1 hb hE' (by omega) i)
          · by_cases nn : (σ 88 (σ 87 8 - 2) = 0 ∨ σ 88 (σ 87 8 - 2) = 1) ∧ (σ 88 (σ 87 8 - 1) = 0 ∨ σ 88 (σ 87 8 - 1) = 1)
            · by_cases k12 : 12 ≤ τ 168 n
              · exact Or.inl (op_ord R en es2 hn3 st hh h1 hb hE' (by omega) i nn.1 nn.2)
              · exact op_reck R en es2 hn3 st hh h1 hb hE' (by omega) i nn.1 nn.2
            · by_cases kj : τ 168 n = 8 ∧ (σ 88 (σ 87 8 - 2) = 2 ∨ σ 88 (σ 87 8 - 1) = 2)
              · exact op_join R en es2 hn3 st hh h1 hb hE' kj.1 i kj.2
              · exact Or.inr (op_twoF R en es2 hn3 (by omega) (by omega) (by omega) i nn (fun q => ⟨fun y => kj ⟨q, Or.inl y⟩, fun y => kj ⟨q, Or.inr y⟩⟩))
      · obtain ⟨a1, a2⟩ := g21' kd s2
        exact op_get (q := 2) R en es2 (Or.inr ⟨rfl, k171⟩) hn3 st (by omega) h1 hb hE' kd (ci a2)
    · have es3 : τ 219 (τ 212 (σ 87 21) + m + 1) = 3 := by rw [es, s3]
      obtain ⟨a1, a2⟩ := g22 w s3
      rcases a1 with ⟨y1, y2⟩ | ⟨y1, y2⟩
      · exact op_put (q := 2) R en es3 (Or.inl ⟨rfl, y1⟩) hn3 st (by omega) h1 hb hE' w (ci a2)
      · exact op_put (q := 3) R en es3 (Or.inr ⟨rfl, by omega⟩) hn3 st (by omega) h1 hb hE' w (ci a2)
    · obtain ⟨a1, a2⟩ := g23 kd s1.1
      have exm : τ 220 (τ 212 (σ 87 21) + m + 1) = -1 := by rw [ex, xm]
      by_cases z : σ 88 (σ 87 8 - s) = 5
      · by_cases f : σ 24 (σ 89 (σ 87 8 - s)) < 0 ∨ σ 87 19 = 59
        · exact Or.inr (op_callF R en es exm s1.1 hn3 st (by omega) h1 hb e14 (by omega) hE' kd (ci a2) (fun _ => f))
        · by_cases r4 : σ 24 (σ 89 (σ 87 8 - s)) < 4
          · exact op_call4 R en es exm s1.1 hn3 st (by omega) h1 (by omega) e14 hE' kd (ci a2) z (by omega) r4 (by omega) hb8
          · exact Or.inl (op_callA R en es exm s1.1 hn st (by omega) h1 (by omega) e14 hE' kd (ci a2) z (by omega) (by omega))
      · exact Or.inr (op_callF R en es exm s1.1 hn3 st (by omega) h1 hb e14 (by omega) hE' kd (ci a2) (fun q => absurd q z))
/-- a statement's task -/
theorem step_s {s E br' co' x1 x2 : Int} (R : RR σ τ pT hT (m + 1) br co θ) (en : τ 218 (τ 212 (σ 87 21) + m + 1) = n) (es : τ 219 (τ 212 (σ 87 21) + m + 1) = s) (hn : 0 ≤ n ∧ σ 26 (σ 90 (σ 87 21)) ≤ n ∧ n < σ 26 (σ 90 (σ 87 21)) + σ 27 (σ 90 (σ 87 21)) ∧ ((m : Int) + 1) ≤ 2 * (n - σ 26 (σ 90 (σ 87 21))) + 2)
    (ts : Ts σ τ (σ 26 (σ 90 (σ 87 21))) (σ 26 (σ 90 (σ 87 21)) + σ 27 (σ 90 (σ 87 21))) (σ 28 (σ 90 (σ 87 21))) br co n s (pT (σ 87 21)) (hT (σ 87 21)) E br' co') (st : St σ τ (σ 26 (σ 90 (σ 87 21))) (σ 26 (σ 90 (σ 87 21)) + σ 27 (σ 90 (σ 87 21))) (σ 28 (σ 90 (σ 87 21))) (σ 28 (σ 90 (σ 87 21)) + σ 29 (σ 90 (σ 87 21)) - 2) (τ 212 (σ 87 21)) m E 0 br' co') (m1 : τ 119 119 = x2) (m2 : τ 119 120 = x1) (xb : 0 ≤ x2 ∧ x2 ≤ 1000000000) : goX σ τ θ ∨ endX σ τ ∨ stpX σ τ θ x1 x2 := by
  obtain ⟨-, -, -, -, ⟨t1, t2⟩, t3, -, -, -, t6⟩ := R.top
  have hn3 : 0 ≤ n ∧ σ 26 (σ 90 (σ 87 21)) ≤ n ∧ n < σ 26 (σ 90 (σ 87 21)) + σ 27 (σ 90 (σ 87 21)) := ⟨hn.1, hn.2.1, hn.2.2.1⟩
  have n2 : 0 ≤ n ∧ n < 20000 := by have := R.cur.2.2.2.2.2.2.1; omega
  have m19 := R.1.2.1.2.2.2.2.2.1
  have lift : goX σ τ θ ∨ endX σ τ → goX σ τ θ ∨ endX σ τ ∨ stpX σ τ θ x1 x2 := fun w => by
    rcases w with w | w
    · exact Or.inl w
    · exact Or.inr (Or.inl w)
  by_cases s0 : s = 0
  · rw [s0] at ts es
    have h0 : hT (σ 87 21) = 0 := by
      rcases ts with ⟨-, -, ⟨-, y, -⟩ | ⟨y, -⟩⟩ | ⟨-, ⟨-, y, -⟩ | ⟨y, -⟩ | ⟨y, -⟩⟩ | ⟨-, -, -, ⟨-, y, -⟩ | ⟨y, -⟩⟩ | ⟨-, -, y, -⟩
      all_goals first | exact y | omega
    rcases sil_s R en es hn ts rfl st with w | ⟨kd, k170, i1, i2⟩ | ⟨⟨b1, b2⟩, b3, hE, w⟩
    · exact Or.inl w
    · have hl := St.le _ _ _ _ _ st
      have wk : ∀ T, md_comesBack τ 0 0 = some (T, 0) → md_work τ = some (T, some 0) := fun T q => work_n (v := 0) t1 t2 en n2 (by
        rw [md_works_e, kd, if_neg (by decide), if_pos (by decide), md_works_b109_e, if_neg (by decide), if_neg (by decide), if_neg (by decide), if_neg (by decide), if_neg (by decide), if_neg (by decide), if_neg (by decide), if_neg (by decide), if_neg (by decide), if_neg (by decide), if_pos rfl, if_pos n2, if_pos k170, q]
        rfl)
      have hP : pT (σ 87 21) + 1 < σ 28 (σ 90 (σ 87 21)) + σ 29 (σ 90 (σ 87 21)) := by omega
      by_cases m2' : 2 ≤ σ 87 19
      · exact Or.inl (op_ret0 R h0 i1 i2 hP m2' wk)
      · exact Or.inr (Or.inl (op_ret0E R h0 i1 i2 hP (by omega) wk))
    · left
      rw [b1, b2] at st
      exact op_brk R en hn3 h0 b3 hE w st
  · rcases ts with ⟨kd, ⟨b1, b2⟩, ⟨y, -⟩ | ⟨s1, h1, ti⟩⟩ | ⟨kd, ⟨y, -⟩ | ⟨s1, h1, ⟨b1, b2⟩, A, hA, ti⟩ | ⟨s2, h1, ⟨b1, b2, b3⟩, A, M, hA, ti⟩⟩ | ⟨kd, ⟨b1, b2⟩, i, ⟨y, -⟩ | ⟨s1, h1, o170, hE⟩⟩ | ⟨-, y, -⟩
    · exact absurd y s0
    · rw [b1, b2] at st
      exact lift (op_if R en (by rw [es, s1]) hn h1 kd ti st)
    · exact absurd y s0
    · exact lift (op_while R en (by rw [es, s1]) hn h1 kd hA ti st)
    · exact Or.inr (Or.inr (op_again R en (by rw [es, s2]) hn h1 kd b3 hA ti st m1 m2 xb))
    · exact absurd y s0
    · have i' : cI σ (pT (σ 87 21)) 16 0 n := by rw [hE]; exact i
      by_cases m2' : 2 ≤ σ 87 19
      · exact Or.inl (op_ret (E := 0) R en (by rw [es, s1]) hn3 h1 kd o170 i' m2')
      · exact Or.inr (Or.inl (op_retE R en (by rw [es, s1]) hn3 h1 kd o170 i' (by omega)))
    · exact absurd y s0
end STP
