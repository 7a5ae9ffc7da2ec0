/-! calls: what is called -/
section CA
variable {σ τ S T : gM} {pT hT : Int → Int} {m : Nat} {br co θ n : Int}
theorem mc_work_9 : mc_work σ 9 n = ((mc_call σ n).bind fun p => some (p.1, 0)) := by
  rw [mc_work_e]; rfl
theorem md_works_23 {i : Int} (kd : τ 168 n = 23) (h : 0 ≤ n ∧ n < 20000) : md_works τ i n (τ 168 n) = ((md_calls τ i n).bind fun p => gtry p.2 (fun _ => some (p.1, some 0)) (some (p.1, none))) := by
  rw [md_works_e, kd, if_neg (by decide), if_pos (by decide), md_works_b109_e]
  rfl
/-- a call's beginning: both sides -/
theorem call_eq {E h' br' co' s : Int} (R : RR σ τ pT hT (m + 1) br co θ) (en : τ 218 (τ 212 (σ 87 21) + m + 1) = n) (es : τ 219 (τ 212 (σ 87 21) + m + 1) = s) (ex : τ 220 (τ 212 (σ 87 21) + m + 1) = -1) (s1 : 1 ≤ s) (hn : 0 ≤ n ∧ σ 26 (σ 90 (σ 87 21)) ≤ n ∧ n < σ 26 (σ 90 (σ 87 21)) + σ 27 (σ 90 (σ 87 21))) (st : St σ τ (σ 26 (σ 90 (σ 87 21))) (σ 26 (σ 90 (σ 87 21)) + σ 27 (σ 90 (σ 87 21))) (σ 28 (σ 90 (σ 87 21))) (σ 28 (σ 90 (σ 87 21)) + σ 29 (σ 90 (σ 87 21)) - 2) (τ 212 (σ 87 21)) m E h' br' co') (hh : hT (σ 87 21) = h' - 1 + s) (h1 : 1 ≤ h') (hb : h' ≤ 400) (e14 : σ 14 n = s - 1) (s4 : s ≤ 400) (hE : E = pT (σ 87 21) + 1) (kd : τ 168 n = 23) (i : cI σ (pT (σ 87 21)) 9 0 n) : (mc_call σ n = if σ 88 (σ 87 8 - s) = 5 then (if 0 ≤ w32 (σ 89 (σ 87 8 - s)) ∧ w32 (σ 89 (σ 87 8 - s)) < 9000 then (if σ 24 (w32 (σ 89 (σ 87 8 - s))) < 0 then mc_call_b69 σ n (σ 24 (w32 (σ 89 (σ 87 8 - s)))) else (if σ 87 19 = 59 then mc_call_b69 σ n (σ 24 (w32 (σ 89 (σ 87 8 - s)))) else ((mc_settles σ n 2 (σ 24 (w32 (σ 89 (σ 87 8 - s)))) (-1) (-1)).bind fun p1 => (cd_more p1.1 (p1.1 87 41)).bind fun p2 => if σ 24 (w32 (σ 89 (σ 87 8 - s))) < 4 then ((mc_there (gW p2.1 87 41 p2.2) n (σ 24 (w32 (σ 89 (σ 87 8 - s)))) (σ 87 8 - s) (s - 1)).bind fun p4 => some (p4.1, 0)) else (if 0 ≤ p2.1 87 21 ∧ p2.1 87 21 < 60 then (if p2.1 93 (p2.1 87 21) < 0 then (mc_call_b168 (gW p2.1 87 41 p2.2) (s - 1) (σ 87 8 - s) (σ 24 (w32 (σ 89 (σ 87 8 - s)))) (-1)) else (if 0 ≤ p2.1 87 21 ∧ p2.1 87 21 < 60 then (if 0 ≤ p2.1 87 21 ∧ p2.1 87 21 < 60 then ((cd_unit (gW p2.1 87 41 p2.2) (p2.1 93 (p2.1 87 21)) (p2.1 94 (p2.1 87 21)) n (σ 24 (w32 (σ 89 (σ 87 8 - s))))).bind fun p3 => mc_call_b168 p3.1 (s - 1) (σ 87 8 - s) (σ 24 (w32 (σ 89 (σ 87 8 - s)))) p3.2) else none) else none)) else none)))) else none) else ((mc_fails σ 6 n).bind fun p5 => some (p5.1, 0))) ∧
    (md_calls τ (τ 212 (σ 87 21) + m + 1) n = if τ 221 (τ 119 125 - s) = 5 then (if 0 ≤ w32 (τ 222 (τ 119 125 - s)) ∧ w32 (τ 222 (τ 119 125 - s)) < 9000 then (if τ 156 (w32 (τ 222 (τ 119 125 - s))) < 0 then ((md_error (gW τ 219 (τ 212 (σ 87 21) + m + 1) (s + 1)) 3 n).bind fun p5 => gthr p5.1 p5.2) else (if τ 119 121 = 59 then ((md_error (gW τ 219 (τ 212 (σ 87 21) + m + 1) (s + 1)) 7 n).bind fun p4 => gthr p4.1 p4.2) else ((md_enter (gW τ 219 (τ 212 (σ 87 21) + m + 1) (s + 1)) n (τ 156 (w32 (τ 222 (τ 119 125 - s)))) 0 0 2).bind fun p1 => if 3 < τ 156 (w32 (τ 222 (τ 119 125 - s))) then ((md_activate p1.1 (τ 156 (w32 (τ 222 (τ 119 125 - s)))) (τ 119 125 - s) (s - 1) n).bind fun p3 => some (p3.1, some 0)) else (if (0 : Int) ≤ 14 ∧ (14 : Int) < 16 then ((md_more p1.1 (p1.1 224 14)).bind fun p2 => if (0 : Int) ≤ 14 ∧ (14 : Int) < 16 then (if 0 < s - 1 then (if 0 ≤ w32 (τ 119 125 - s + 1) ∧ w32 (τ 119 125 - s + 1) < 24000 then (md_calls_b229 (gW p2.1 224 14 p2.2) n (s - 1) (τ 119 125 - s) (τ 156 (w32 (τ 222 (τ 119 125 - s)))) (p2.1 221 (w32 (τ 119 125 - s + 1)))) else none) else (md_calls_b229 (gW p2.1 224 14 p2.2) n (s - 1) (τ 119 125 - s) (τ 156 (w32 (τ 222 (τ 119 125 - s)))) 0)) else none) else none)))) else none) else ((md_error (gW τ 219 (τ 212 (σ 87 21) + m + 1) (s + 1)) 6 n).bind fun p6 => gthr p6.1 p6.2)) ∧ (0 ≤ σ 87 8 - s ∧ σ 87 8 - s = σ 92 (σ 87 21) + (h' - 1) ∧ σ 87 8 ≤ 18240 ∧ τ 119 125 ≤ 24000) := by
  obtain ⟨-, -, -, -, ⟨t1, t2⟩, t3, -, -, -, t6⟩ := R.top
  obtain ⟨c1, -, c2, pc, c5, c6, c7, c8, c9⟩ := R.cur
  obtain ⟨o, p1, p2, p3, p4, p5, p6⟩ := R.pl
  have n1 : 0 ≤ n ∧ n < 16000 := by omega
  have n2 : 0 ≤ n ∧ n < 20000 := by omega
  have b0 : 0 ≤ σ 87 8 - s ∧ σ 87 8 - s < 18240 := by omega
  have b1 : 0 ≤ τ 119 125 - s ∧ τ 119 125 - s < 24000 := by omega
  have w1 : w32 (w32 (σ 87 8 - σ 14 n) - 1) = σ 87 8 - s := by
    rw [e14, w32_e (x := σ 87 8 - (s - 1)) (by omega) (by omega), show σ 87 8 - (s - 1) - 1 = σ 87 8 - s by omega, w32_e (by omega) (by omega)]
  have w2 : w32 (w32 (τ 119 125 - 1) - w32 (s - 1)) = τ 119 125 - s := by
    rw [w32_e (x := τ 119 125 - 1) (by omega) (by omega), w32_e (x := s - 1) (by omega) (by omega), show τ 119 125 - 1 - (s - 1) = τ 119 125 - s by omega, w32_e (by omega) (by omega)]
  refine ⟨?_, ?_, ⟨b0.1, by omega, by omega, by omega⟩⟩
  · rw [mc_call_e, w1, if_pos n1, if_pos b0, if_pos b0, e14]
  · rw [md_calls_e, es, ex, w2, w32_e (x := s - 1) (by omega) (by omega), w32_e (x := s + 1) (by omega) (by omega)]
    simp only [t2, b1, and_self, if_true]
    rw [if_neg (by omega)]
/-- a call that fails -/
theorem op_callF {E h' br' co' s : Int} (R : RR σ τ pT hT (m + 1) br co θ) (en : τ 218 (τ 212 (σ 87 21) + m + 1) = n) (es : τ 219 (τ 212 (σ 87 21) + m + 1) = s) (ex : τ 220 (τ 212 (σ 87 21) + m + 1) = -1) (s1 : 1 ≤ s) (hn : 0 ≤ n ∧ σ 26 (σ 90 (σ 87 21)) ≤ n ∧ n < σ 26 (σ 90 (σ 87 21)) + σ 27 (σ 90 (σ 87 21))) (st : St σ τ (σ 26 (σ 90 (σ 87 21))) (σ 26 (σ 90 (σ 87 21)) + σ 27 (σ 90 (σ 87 21))) (σ 28 (σ 90 (σ 87 21))) (σ 28 (σ 90 (σ 87 21)) + σ 29 (σ 90 (σ 87 21)) - 2) (τ 212 (σ 87 21)) m E h' br' co') (hh : hT (σ 87 21) = h' - 1 + s) (h1 : 1 ≤ h') (hb : h' ≤ 400) (e14 : σ 14 n = s - 1) (s4 : s ≤ 400) (hE : E = pT (σ 87 21) + 1) (kd : τ 168 n = 23) (i : cI σ (pT (σ 87 21)) 9 0 n) (hf : σ 88 (σ 87 8 - s) = 5 → σ 24 (σ 89 (σ 87 8 - s)) < 0 ∨ σ 87 19 = 59) : endX σ τ := by
  obtain ⟨q1, q2, q3⟩ := call_eq R en es ex s1 hn st hh h1 hb e14 s4 hE kd i
  obtain ⟨-, -, -, -, ⟨t1, t2⟩, t3, -, -, -, t6⟩ := R.top
  obtain ⟨c1, -, c2, pc, c5, c6, c7, c8, c9⟩ := R.cur
  obtain ⟨o, p1, p2, p3, p4, p5, p6⟩ := R.pl
  have R' := R
  obtain ⟨Q, -⟩ := R'
  have Q' := Q
  obtain ⟨⟨⟨P1, -⟩, -⟩, A, -⟩ := Q'
  have hIn := P1.2.2.2.2.2.2.2.2.2.2.1
  have hFv := P1.2.1
  obtain ⟨o1, o2, o3, o4, -⟩ := A.op rfl i hIn hIn.1.2
  have o4 : σ 20 (σ 87 22) = 9 := by
    rcases o4 with z | z | z
    · exact z
    · omega
    · omega
  have n2 : 0 ≤ n ∧ n < 20000 := by omega
  have v := p2 (σ 87 8 - s) (by omega) (by omega)
  rw [show σ 87 8 - s + o = τ 119 125 - s by omega] at v
  have vk := v.kt
  have gs : ∀ a j, a ≠ 219 ∨ j ≠ τ 212 (σ 87 21) + m + 1 → gW τ 219 (τ 212 (σ 87 21) + m + 1) (s + 1) a j = τ a j := fun a j q => by
    rcases q with q | q
    · exact gW_c q
    · exact gW_j q
  have Q0 : RQ σ (gW τ 219 (τ 212 (σ 87 21) + m + 1) (s + 1)) pT hT := by
    have := Q.sm (S := σ) (P' := pT (σ 87 21)) (h' := hT (σ 87 21)) ⟨fun _ _ _ _ _ _ => rfl, fun _ _ _ _ => rfl⟩ (smM.g219 (τ := τ) (v := s + 1) (i := τ 212 (σ 87 21) + m + 1) (f := τ 212 (σ 87 21)) (by omega)) pc
    rw [updF_same, updF_same] at this
    exact this
  have fin : ∀ e, (mc_fails σ e n = some (flS σ e n, 0) → mc_call σ n = some (flS σ e n, 0)) → (((md_error (gW τ 219 (τ 212 (σ 87 21) + m + 1) (s + 1)) e n).bind fun p => gthr p.1 p.2) = some (erM (gW τ 219 (τ 212 (σ 87 21) + m + 1) (s + 1)) e n, none) → md_calls τ (τ 212 (σ 87 21) + m + 1) n = some (erM (gW τ 219 (τ 212 (σ 87 21) + m + 1) (s + 1)) e n, none)) → endX σ τ := fun e f1 f2 => by
    refine Q0.failX (e := e) ⟨hn.2.1, hn.2.2⟩ t6.1 o1 o4 o3 (by decide) (fun f => ?_) t6.2.1 t6.2.2 t1 t2 en (fun f => ?_) (gs 119 119 (by omega))
    · rw [mc_work_9, f1 f]; rfl
    · rw [md_works_23 kd n2, f2 f]; rfl
  by_cases z : σ 88 (σ 87 8 - s) = 5
  · have rf : rFn σ τ (σ 89 (σ 87 8 - s)) (τ 222 (τ 119 125 - s)) := by
      rcases v with y | y | y | y | y | y | y
      all_goals first | exact absurd y.1 (by omega) | exact y.2.2
    have e156 := hFv.2.2.1 _ _ rf
    have fb := hFv.1
    have z5 : τ 221 (τ 119 125 - s) = 5 := by rw [vk.1, z]; rfl
    have m121 := A.2.1.1.2.2
    have fr : (0 ≤ σ 89 (σ 87 8 - s) ∧ σ 89 (σ 87 8 - s) < 9000) ∧ 0 ≤ τ 222 (τ 119 125 - s) ∧ τ 222 (τ 119 125 - s) < 9000 := by
      obtain ⟨r1, r2, -⟩ := rf
      have := hFv.2.1.1
      have := fb.1
      omega
    rw [if_pos z, w32_e (by omega) (by omega), if_pos fr.1] at q1
    rw [if_pos z5, w32_e (by omega) (by omega), if_pos fr.2, e156, m121] at q2
    rcases hf z with y | y
    · refine fin 3 (fun f => ?_) (fun f => ?_)
      · rw [q1, if_pos y, mc_call_b69_e, if_pos y, mc_call_b81_e, f]; rfl
      · rw [q2, if_pos y, f]
    · by_cases x : σ 24 (σ 89 (σ 87 8 - s)) < 0
      · refine fin 3 (fun f => ?_) (fun f => ?_)
        · rw [q1, if_pos x, mc_call_b69_e, if_pos x, mc_call_b81_e, f]; rfl
        · rw [q2, if_pos x, f]
      · refine fin 7 (fun f => ?_) (fun f => ?_)
        · rw [q1, if_neg x, if_pos y, mc_call_b69_e, if_neg x, mc_call_b81_e, f]; rfl
        · rw [q2, if_neg x, if_pos y, f]
  · have z5 : ¬ τ 221 (τ 119 125 - s) = 5 := by
      rw [vk.1]
      intro y
      apply z
      rcases v with q | q | q | q | q | q | q
      all_goals first | exact q.1 | (have e := q.1; rw [e] at y; exact absurd y (by decide))
    refine fin 6 (fun f => ?_) (fun f => ?_)
    · rw [q1, if_neg z, f]; rfl
    · rw [q2, if_neg z5, f]
end CA
