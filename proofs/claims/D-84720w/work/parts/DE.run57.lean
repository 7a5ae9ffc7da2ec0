/-! calls of given functions: both sides -/
section C4
variable {σ τ S T Z X : gM} {pT hT : Int → Int} {m : Nat} {br co θ n : Int}
theorem op_call4 {E h' br' co' s : Int} (R : RR σ τ pT hT (m + 1) br co θ) (en : τ 218 (τ 212 (σ 87 21) + m + 1) = n) (es : τ 219 (τ 212 (σ 87 21) + m + 1) = s) (ex : τ 220 (τ 212 (σ 87 21) + m + 1) = -1) (s1 : 1 ≤ s) (hn : 0 ≤ n ∧ σ 26 (σ 90 (σ 87 21)) ≤ n ∧ n < σ 26 (σ 90 (σ 87 21)) + σ 27 (σ 90 (σ 87 21))) (st : St σ τ (σ 26 (σ 90 (σ 87 21))) (σ 26 (σ 90 (σ 87 21)) + σ 27 (σ 90 (σ 87 21))) (σ 28 (σ 90 (σ 87 21))) (σ 28 (σ 90 (σ 87 21)) + σ 29 (σ 90 (σ 87 21)) - 2) (τ 212 (σ 87 21)) m E h' br' co') (hh : hT (σ 87 21) = h' - 1 + s) (h1 : 1 ≤ h') (hs : h' - 1 + s ≤ 300) (e14 : σ 14 n = s - 1) (hE : E = pT (σ 87 21) + 1) (kd : τ 168 n = 23) (i : cI σ (pT (σ 87 21)) 9 0 n) (z : σ 88 (σ 87 8 - s) = 5) (r0 : 0 ≤ σ 24 (σ 89 (σ 87 8 - s))) (r4 : σ 24 (σ 89 (σ 87 8 - s)) < 4) (m9 : σ 87 19 ≠ 59) (hb8 : gb8 119 σ) : goX σ τ θ ∨ endX σ τ := by
  obtain ⟨S1, T1, Q1, K1, ⟨e8, b8⟩, e34, q1, q2⟩ := call_beg R en es ex s1 hn st hh h1 hs e14 hE kd i z r0 r4 m9
  obtain ⟨-, -, -, -, ⟨t1, t2⟩, t3, -, -, -, t6⟩ := R.top
  obtain ⟨c1, -, c2, pc, c5, c6, c7, c8, c9⟩ := R.cur
  obtain ⟨o, p1, p2, p3, p4, p5, p6⟩ := R.pl
  have th := R.th0
  have hIn := R.1.1.1.1.2.2.2.2.2.2.2.2.2.2.1
  obtain ⟨o1, o2, o3, o4, -⟩ := R.1.2.1.op rfl i hIn hIn.1.2
  have o4 : σ 20 (σ 87 22) = 9 := by
    rcases o4 with z | z | z
    · exact z
    · omega
    · omega
  have n2 : 0 ≤ n ∧ n < 20000 := by omega
  have B8 := b8 hb8
  generalize σ 24 (σ 89 (σ 87 8 - s)) = r at q1 q2 r0 r4
  have K1' := K1
  obtain ⟨⟨-, -, x26⟩, x88, x87, -, x221, -, x119, -, xrv⟩ := K1'
  -- what is given
  have val : ∃ k x t y, rVal S1 T1 k x t y ∧ mc_there S1 n r (σ 87 8 - s) (s - 1) = mc_there_b36 S1 n r (σ 87 8 - s) k x ∧ (if 0 < s - 1 then md_calls_b229 T1 n (s - 1) (τ 119 125 - s) r (T1 221 (τ 119 125 - s + 1)) else md_calls_b229 T1 n (s - 1) (τ 119 125 - s) r 0) = md_calls_b249 T1 n (τ 119 125 - s) r t y ∧ (2 ≤ s ∨ k ≠ 2) := by
    by_cases w : 0 < s - 1
    · refine ⟨S1 88 (σ 87 8 - s + 1), S1 89 (σ 87 8 - s + 1), T1 221 (τ 119 125 - s + 1), T1 222 (τ 119 125 - s + 1), ?_, ?_, ?_, Or.inl (by omega)⟩
      · have v := p2 (σ 87 8 - s + 1) (by omega) (by omega)
        rw [show σ 87 8 - s + 1 + o = τ 119 125 - s + 1 by omega] at v
        rw [x88 88 (by decide), x88 89 (by decide), x221 221 (by decide), x221 222 (by decide)]
        exact xrv _ _ _ _ v
      · rw [mc_there_e, if_pos w, w32_e (by omega) (by omega), if_pos (by omega), mc_there_b17_e, if_pos w, w32_e (by omega) (by omega), if_pos (by omega)]
      · rw [if_pos w, md_calls_b229_e, if_pos w, w32_e (by omega) (by omega), if_pos (by omega)]
    · refine ⟨4, 0, 0, 0, Or.inr (Or.inr (Or.inr (Or.inr (Or.inl ⟨rfl, rfl, rfl, rfl⟩)))), ?_, ?_, Or.inr (by decide)⟩
      · rw [mc_there_e, if_neg w, mc_there_b17_e, if_neg w]
      · rw [if_neg w, md_calls_b229_e, if_neg w]
  obtain ⟨k, x, t, y, v, v1, v2, sk⟩ := val
  rw [v1] at q1
  rw [v2] at q2
  obtain ⟨kt, k0, k6⟩ := v.kt
  have a0 : σ 87 8 - s = σ 92 (σ 87 21) + (h' - 1) := by omega
  have fin : ∀ (Z X : gM) (k' x' t' y' θ' : Int), mc_there_b36 S1 n r (σ 87 8 - s) k x = mc_there_b154 Z (σ 87 8 - s) k' x' → md_calls_b249 T1 n (τ 119 125 - s) r t y = md_calls_b416 X (τ 119 125 - s) t' y' → RQm Z X pT hT → kq S1 T1 Z X (τ 212 (σ 87 21) + m) → rVal Z X k' x' t' y' → θ' < θ → θ ≤ θ' + 8 + 7 * (s - 1) → Z 87 34 + 14 * θ' ≤ σ 87 34 + 14 * θ → goX σ τ θ := fun Z X k' x' t' y' θ' f1 f2 f3 f4 f5 f6 f7 f8 => by
    obtain ⟨S, T, g1, g2, g3, g4, g5⟩ := there_fin (k := k') (x := x') (t := t') (y := y') (b0 := σ 87 8 - s) (b1 := τ 119 125 - s) (θ' := θ') R st f3 (K1.tr e8 f4) a0 (by omega) (by omega) (by omega) hE ⟨by rw [i.1]; decide, by rw [i.1]; decide⟩ f5 f6 (by omega) f8
    refine ⟨S, T, _, _, m, br', co', θ', cG_of t6.1 o1 o4 o3 (by decide) ?_, mG_of t6.2.1 t6.2.2 (work_n (v := 0) t1 t2 en n2 ?_), g3, Or.inl f6, g4, g5⟩
    · rw [mc_work_9, q1, f1, g1]; rfl
    · rw [md_works_23 kd n2, q2, f2, g2]; rfl
  have ff : ∀ (S T : gM) (e : Int), RQ S T pT hT → S 90 = S1 90 → S 87 21 = S1 87 21 → (∀ a r, 26 ≤ a → a ≤ 27 → r < S1 8 31 → S a r = S1 a r) → T 119 119 = T1 119 119 → (mc_fails S e n = some (flS S e n, 0) → mc_there_b36 S1 n r (σ 87 8 - s) k x = some (flS S e n, 0)) → (((md_error T e n).bind fun p => gthr p.1 p.2) = some (erM T e n, none) → md_calls_b249 T1 n (τ 119 125 - s) r t y = some (erM T e n, none)) → endX σ τ := fun S T e f1 f2 f3 f4 f5 f6 f7 => by
    have e90 : S 90 (S 87 21) = σ 90 (σ 87 21) := by rw [f2, f3, x88 90 (by decide), x87 21 (by decide)]
    have l8 : σ 90 (σ 87 21) < S1 8 31 := by rw [e8]; exact c2.2
    refine f1.failX (e := e) ?_ t6.1 o1 o4 o3 (by decide) (fun f => ?_) t6.2.1 t6.2.2 t1 t2 en (fun f => ?_) (by rw [f5, x119 119 (by decide)])
    · rw [e90, f4 26 _ (by decide) (by decide) l8, f4 27 _ (by decide) (by decide) l8, x26 26 _ (by decide) (by decide) c2.2, x26 27 _ (by decide) (by decide) c2.2]
      exact ⟨hn.2.1, hn.2.2⟩
    · rw [mc_work_9, q1, f6 f]; rfl
    · rw [md_works_23 kd n2, q2, f7 f]; rfl
  have hob := Q1.2.2.1.2.1
  have rc : r = 0 ∨ r = 1 ∨ r = 2 ∨ r = 3 := by omega
  rcases rc with rz | rz | rz | rz
  · -- print
    obtain ⟨Z, X, N, y1, y2, y3, y4, y5, y6, y7⟩ := print_pair (f := τ 212 (σ 87 21) + m) (x6 := τ 119 125 - s) Q1 v (by omega)
    refine Or.inl (fin Z X 4 0 0 0 (θ - 8 - 7 * (s - 1)) ?_ ?_ y3.toM y4 (Or.inr (Or.inr (Or.inr (Or.inr (Or.inl ⟨rfl, rfl, rfl, rfl⟩))))) (by omega) (by omega) ?_)
    · rw [mc_there_b36_e, if_pos rz, y1]; rfl
    · rw [md_calls_b249_e, if_pos rz]; exact y2
    · rcases sk with w | w
      · omega
      · have := y7 w
        omega
  · -- a new object
    by_cases w : S1 87 31 = 400
    · refine Or.inr (ff S1 T1 9 Q1 rfl rfl (fun _ _ _ _ _ => rfl) rfl (fun f => ?_) (fun f => ?_))
      · rw [mc_there_b36_e, if_neg (by omega), if_pos rz, if_pos w, f]; rfl
      · rw [md_calls_b249_e, if_neg (by omega), if_pos rz, hob.2.2, if_pos w, f]
    · obtain ⟨y1, y2, y3⟩ := new_pair (f := τ 212 (σ 87 21) + m) Q1 (by omega)
      refine Or.inl (fin _ _ 6 (S1 87 31) 6 (S1 87 31) (θ - 1) ?_ ?_ y1.toM y2 y3 (by omega) (by omega) ?_)
      · rw [mc_there_b36_e, if_neg (by omega), if_pos rz, if_neg w, if_pos (by omega), w32_e (by omega) (by omega)]
      · rw [md_calls_b249_e, if_neg (by omega), if_pos rz, hob.2.2, if_neg w, if_pos (by omega), w32_e (by omega) (by omega)]
      · rw [gW_i (by decide), gW_c (by decide)]
        omega
  · -- a type's name
    refine Or.inl (fin S1 T1 2 (S1 40 k) 4 (T1 187 t) (θ - 1) ?_ ?_ Q1.toM kq.rf (by rw [kt]; exact typ_val Q1 (by omega)) (by omega) (by omega) (by omega))
    · rw [mc_there_b36_e, if_neg (by omega), if_neg (by omega), if_pos rz, if_pos (by omega)]
    · have : 0 ≤ t ∧ t < 7 := by
        rw [kt]
        unfold kT
        split
        · omega
        · split
          · omega
          · split <;> omega
      rw [md_calls_b249_e, if_neg (by omega), if_neg (by omega), if_pos rz, if_pos this]
  · -- define
    have f36 : mc_there_b36 S1 n r (σ 87 8 - s) k x = ((mc_define S1 n k x).bind fun p1 => if p1.2 = 0 then (some (p1.1, 0)) else (mc_there_b154 p1.1 (σ 87 8 - s) 4 0)) := by
      rw [mc_there_b36_e, if_neg (by omega), if_neg (by omega), if_neg (by omega)]
    have f249 : md_calls_b249 T1 n (τ 119 125 - s) r t y = ((md_defines T1 n t y).bind fun p1 => gtry p1.2 (fun v2 => md_calls_b416 p1.1 (τ 119 125 - s) 0 0) (some (p1.1, none))) := by
      rw [md_calls_b249_e, if_neg (by omega), if_neg (by omega), if_neg (by omega)]
    by_cases w : k = 2
    · have tz : t = 4 := by rw [kt, w]; rfl
      rw [w] at f36
      rw [tz] at f249
      rw [w, tz] at v
      have vv : vS S1 x ∧ vM T1 y ∧ cS S1 x = mS T1 y ∧ S1 3 x ≤ 200 := by
        rcases v with q | q | q | q | q | q | q
        all_goals first | exact absurd q.1 (by decide) | exact q.2.2
      have hi := Q1.1.1.1.1.1
      have hx := hi.v vv.1
      obtain ⟨⟨m1, m2, m3, m4, m5⟩, ⟨m6, m7, m8, m9', m10⟩, -, ⟨m13, m14⟩, m15⟩ := Q1.1.2.2.1
      have r60 := Q1.1.1.1.2.2.2.2.2.2.2.1.1.1
      rcases define_pair (p := n) Q1.1.1 vv.1 vv.2.1 vv.2.2.1 vv.2.2.2 Q1.1.2.2.2.2.1 (by unfold i32; omega) ⟨by omega, by omega, by omega, by omega, by omega⟩ ⟨by omega, by omega, by omega, by omega, by omega⟩ m15 (by omega) (by omega) with ⟨S, T, e, -, kc, kT, i8T, y1, y2⟩ | ⟨S, T, Z, X, kc, kT, i8X, y1, y2, y3, y4, y5, y6, y7, y8⟩
      · obtain ⟨QS, -⟩ := Q1.keep kc kT i8T
        rw [w, tz] at ff
        refine Or.inr (ff S T e QS (kc.1 90 (by decide)) (kc.2.2.2.2.2.1 21 (by decide) (by decide)) (fun a r q1 q2 _ => by rw [kc.1 a (by omega)]) (kT.2 119 (by decide) (by decide) (by decide) (by decide) (by decide) (by decide)) (fun f => ?_) (fun f => ?_))
        · rw [f36, y1, f]; rfl
        · rw [f249, y2, f]; rfl
      · have i8T : ∀ i, i8 (T 134 i) := by
          have e : X 134 = T 134 := y4.2.2.1 134 (by decide)
          rw [← e]; exact i8X
        obtain ⟨QS, rvS⟩ := Q1.keep kc kT i8T
        have k8 := kc.2.2.1
        have k87 := kc.2.2.2.2.2.1
        have e12 := k8 12 (by decide) (by decide)
        have e16 := k8 16 (by decide) (by decide)
        have e31 := k8 31 (by decide) (by decide)
        have bz : gb8 119 Z := b8_inl bm_mc_define (mc_define_l _ _ _ _) y1 B8
        have QZ := QS.dfd y3 y4 y8 y5 (by omega) (by omega) (bz 1 (by decide +kernel) (by decide)) i8X
        obtain ⟨⟨grv, -⟩, ⟨g1, -, g3, g4, g5, -⟩, ⟨h1', h2', -, -, -, h6', -⟩⟩ := y4
        rw [w, tz] at fin
        refine Or.inl (fin Z X 4 0 0 0 (θ - 1) ?_ ?_ QZ ⟨⟨fun j q => ?_, fun a p q1 q2 q3 => ?_, fun a r q1 q2 q3 => ?_⟩, fun a q => ?_, fun i q => ?_, fun a j q1 q2 => ?_, fun a q => ?_, fun a j q1 q2 _ => ?_, fun i q => ?_, ?_, fun k x t y q => grv _ _ _ _ (rvS _ _ _ _ q)⟩ (Or.inr (Or.inr (Or.inr (Or.inr (Or.inl ⟨rfl, rfl, rfl, rfl⟩))))) (by omega) (by omega) ?_)
        · rw [f36, y1]; rfl
        · rw [f249, y2]; rfl
        · rw [g3 14 j (by decide) (by decide) (by omega), kc.1 14 (by decide)]
        · rw [g4 a p q1 q2 (Or.inl (by omega)), kc.1 a (by omega)]
        · rw [g5 a r (by omega) (by omega) (by omega) (by omega), kc.1 a (by omega)]
        · rw [g1 a (by omega) (by omega), kc.1 a (by omega)]
        · rw [g1 87 (by decide) (by decide), k87 i (by omega) (by omega)]
        · rw [h6' a j (by omega) (by omega) (by omega), kT.1 a (by omega)]
        · rw [h1' a (by omega), kT.1 a (by omega)]
        · rw [h1' a (by omega), kT.1 a (by omega)]
        · rw [h2' i (by omega) (by omega) (by omega) (by omega) (by omega) (by omega), kT.2 i (by omega) (by omega) (by omega) (by omega) (by omega) (by omega)]
        · rw [h2' 123 (by decide) (by decide) (by decide) (by decide) (by decide) (by decide), kT.2 123 (by decide) (by decide) (by decide) (by decide) (by decide) (by decide), ccN_eq (S := Z) (σ := S1) _ fun j _ _ => by rw [g1 93 (by decide) (by decide), kc.1 93 (by decide)]]
        · rw [g1 87 (by decide) (by decide), k87 34 (by decide) (by decide)]
          omega
    · have tz : ¬ t = 4 := by
        rw [kt]
        unfold kT
        split
        · omega
        · split
          · omega
          · split <;> omega
      refine Or.inr (ff S1 T1 11 Q1 rfl rfl (fun _ _ _ _ _ => rfl) rfl (fun f => ?_) (fun f => ?_))
      · rw [f36, mc_define_e, if_neg w, f]; rfl
      · rw [f249, md_defines_e, if_neg tz, f]; rfl
end C4
