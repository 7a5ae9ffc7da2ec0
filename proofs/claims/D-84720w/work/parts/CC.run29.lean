/-! locals are written: the pair -/
section WP
variable {σ τ S T : gM} {pT hT : Int → Int} {m : Nat} {br co θ n : Int}
/-- a local gets a value and a tag -/
theorem loc_pair {k x t y l b : Int} (R : RQ σ τ pT hT) (hl : 0 ≤ l ∧ l < σ 31 (σ 90 (σ 87 21)) ∧ σ 31 (σ 90 (σ 87 21)) ≤ 12) (hb : b = 1 ∨ b = 2 ∨ b = 4) (rv : rVal σ τ k x t y) : ∃ S T, mc_write_b164 σ k x l b = some (S, 0) ∧ md_sets_b109 τ t y l b = some (T, 0) ∧ RQ S T pT hT ∧ ndX σ τ S T := by
  obtain ⟨c1, c2, c3, c4, c5, c6⟩ := R.cu
  have hm := R.2.1.2.2.2.2.2.1
  have m59 := R.2.1.2.1.1
  have kb : 0 ≤ 12 * σ 87 21 + l ∧ 12 * σ 87 21 + l < 720 := by omega
  have w1 : w32 (w32 (12 * σ 87 21) + l) = 12 * σ 87 21 + l := by rw [w32_e (x := 12 * σ 87 21) (by omega) (by omega), w32_e (by omega) (by omega)]
  have w2 : w32 (w32 (12 * w32 (τ 119 121 - 1)) + l) = 12 * σ 87 21 + l := by rw [w32_e (x := τ 119 121 - 1) (by omega) (by omega), show τ 119 121 - 1 = σ 87 21 by omega]; exact w1
  have go : ∀ w, 1 ≤ w ∧ w ≤ 3 → ∃ S T, mc_write_b194 σ k x (12 * σ 87 21 + l) w (12 * σ 87 21 + l) = some (S, 0) ∧ md_sets_b141 τ t y (12 * σ 87 21 + l) w (12 * σ 87 21 + l) = some (T, 0) ∧ RQ S T pT hT ∧ ndX σ τ S T := fun w hw => by
    have sc : ∀ a i, (a < 97 ∨ 99 < a) → gW (gW (gW σ 98 (12 * σ 87 21 + l) w) 97 (12 * σ 87 21 + l) k) 99 (12 * σ 87 21 + l) x a i = σ a i := fun a i q => by rw [gW_c (by omega), gW_c (by omega), gW_c (by omega)]
    have sd : ∀ a i, (a < 215 ∨ 217 < a) → gW (gW (gW τ 215 (12 * σ 87 21 + l) w) 216 (12 * σ 87 21 + l) t) 217 (12 * σ 87 21 + l) y a i = τ a i := fun a i q => by rw [gW_c (by omega), gW_c (by omega), gW_c (by omega)]
    refine ⟨_, _, by rw [mc_write_b194_e, if_pos kb, if_pos kb, if_pos kb], by rw [md_sets_b141_e, if_pos kb, if_pos kb, if_pos kb], R.lc sc sd fun k' l' k0 k1 l0 l1 => ?_, lc_kp sc sd⟩
    rw [sc 87 19 (by decide)] at k1
    rw [sc 31 _ (by decide), sc 90 _ (by decide)] at l1
    obtain ⟨q1, q2, q3⟩ := R.2.2.1.1 k' l' k0 k1 l0 l1
    by_cases z : 12 * k' + l' = 12 * σ 87 21 + l
    · rw [z]
      refine ⟨?_, ?_, ?_⟩
      · rw [gW_c (show (215 : Int) ≠ 217 by decide), gW_c (show (215 : Int) ≠ 216 by decide), gW_at, gW_c (show (98 : Int) ≠ 99 by decide), gW_c (show (98 : Int) ≠ 97 by decide), gW_at]
      · rw [gW_c (show (98 : Int) ≠ 99 by decide), gW_c (show (98 : Int) ≠ 97 by decide), gW_at]; exact hw
      · rw [gW_c (show (97 : Int) ≠ 99 by decide), gW_at, gW_at, gW_c (show (216 : Int) ≠ 217 by decide), gW_at, gW_at]
        exact (lc_rv sc sd).mpr rv
    · have sj : ∀ a, gW (gW (gW σ 98 (12 * σ 87 21 + l) w) 97 (12 * σ 87 21 + l) k) 99 (12 * σ 87 21 + l) x a (12 * k' + l') = σ a (12 * k' + l') := fun a => by rw [gW_j z, gW_j z, gW_j z]
      have tj : ∀ a, gW (gW (gW τ 215 (12 * σ 87 21 + l) w) 216 (12 * σ 87 21 + l) t) 217 (12 * σ 87 21 + l) y a (12 * k' + l') = τ a (12 * k' + l') := fun a => by rw [gW_j z, gW_j z, gW_j z]
      rw [sj, sj, sj, tj, tj, tj]
      exact ⟨q1, q2, (lc_rv sc sd).mpr q3⟩
  rw [mc_write_b164_e, md_sets_b109_e, w1, w2]
  by_cases z : b = 4
  · rw [if_pos z, if_pos z]
    exact go 3 (by decide)
  · rw [if_neg z, if_neg z]
    exact go b (by omega)
theorem write_pair {k x t y : Int} (R : RQ σ τ pT hT) (hn : σ 26 (σ 90 (σ 87 21)) ≤ n ∧ n < σ 26 (σ 90 (σ 87 21)) + σ 27 (σ 90 (σ 87 21))) (kd : τ 168 n = 0 ∨ τ 168 n = 6) (rv : rVal σ τ k x t y) : ∃ S T, mc_write σ n k x = some (S, 0) ∧ md_sets τ n t y = some (T, 0) ∧ RQ S T pT hT ∧ ndX σ τ S T := by
  obtain ⟨c1, c2, c3, c4, c5, c6⟩ := R.cu
  have R' := R
  obtain ⟨⟨⟨P1, -⟩, ⟨N1, N2⟩, -⟩, A, -⟩ := R'
  have hN := P1.2.2.2.2.2.2.2.2.1
  have hR := P1.2.2.2.2.2.2.2.2.2.2.2.2.2.1
  have hS := P1.2.2.2.2.2.2.2.2.2.2.2.2.2.2.2.1
  obtain ⟨-, -, -, -, n8, -⟩ := hN.2.1 _ c2.1 c2.2
  have nn := hN.2.2 n (by omega) (by omega)
  have e178 := nn.2.2.1
  have k9 := nn.1
  have e175 := nn.2.2.2.2.1
  have rr := hR _ c2.1 c2.2
  have l13 := rr.2.2.2.2.2 n hn.1 hn.2 (by omega)
  have l12 := rr.1.2.2.2.1
  have s4 := (N1 n (by omega) (by omega)).1 (by omega)
  have sz := N2 _ n c2.1 c2.2 hn.1 hn.2
  have t174 := c6 n hn.1 hn.2
  have nb : 0 ≤ n ∧ n < 16000 := by have := hN.1; omega
  have n2 : 0 ≤ n ∧ n < 20000 := by omega
  have ab : 0 ≤ 12 * σ 90 (σ 87 21) + σ 13 n ∧ 12 * σ 90 (σ 87 21) + σ 13 n < 720 := by omega
  have w1 : w32 (w32 (12 * σ 90 (σ 87 21)) + σ 13 n) = 12 * σ 90 (σ 87 21) + σ 13 n := by rw [w32_e (x := 12 * σ 90 (σ 87 21)) (by omega) (by omega), w32_e (by omega) (by omega)]
  have so := hS (σ 90 (σ 87 21)) (σ 13 n) (by omega) c2.2 l13.1 (by omega)
  obtain ⟨b, hb, q1, q2, q3⟩ := write_bit (x := x) (y := y) (l := σ 13 n) (at0 := 12 * σ 90 (σ 87 21) + σ 13 n) nb (by omega) rfl e175 w1 (by rw [t174]; exact w1) ab e178.1 ⟨e178.2.1, s4.1⟩ so.1 so.2 (sz (by omega)) s4.2 rv.kt.1 rv.kt.2
  by_cases z : i_and (σ 11 n) b = 0
  · obtain ⟨z4, q3⟩ := q3 z
    obtain ⟨⟨bb1, bb2, bb4, -⟩, ⟨oo1, oo2, -⟩, ⟨-, aa2, -⟩⟩ := bitL e178.2
    -- new sort, new state
    have main : ∀ w v rep, (1 ≤ w ∧ w ≤ 3) → (0 ≤ v ∧ v ≤ 4) → (v = if rep = 0 then i_or (σ 11 n) b else i_or (i_and (σ 11 n) (i_xor (w32 (b - 1)) (-1))) b) → (v ≠ 4 → rep = 0) → (∀ S, mc_changes (gW σ 35 (12 * σ 90 (σ 87 21) + σ 13 n) w) n v = some (S, 0) → mc_write σ n k x = mc_write_b164 S k x (σ 13 n) b) → (∀ T, md_settle τ n b rep = some (T, 0) → md_sets τ n t y = md_sets_b109 (gW T 167 (12 * σ 90 (σ 87 21) + σ 13 n) w) t y (σ 13 n) b) → ∃ S T, mc_write σ n k x = some (S, 0) ∧ md_sets τ n t y = some (T, 0) ∧ RQ S T pT hT ∧ ndX σ τ S T := fun w v rep hw hv ev hr f1 f2 => by
      obtain ⟨R1, nd1⟩ := R.so (r := σ 90 (σ 87 21)) (l := σ 13 n) (w := w) c2 ⟨l13.1, by omega⟩ hw
      have kS : ∀ a, a ≠ 35 → gW σ 35 (12 * σ 90 (σ 87 21) + σ 13 n) w a = σ a := fun a q => gW_cell q
      have A1 : aA (gW σ 35 (12 * σ 90 (σ 87 21) + σ 13 n) w) τ pT := A.mv (fun a q => kS a (by omega)) (by rw [kS 8 (by decide)]) (fun i _ _ => by rw [kS 52 (by decide)]) (fun i _ => by rw [kS 87 (by decide)]) (fun a q => rfl) (fun i _ => rfl)
      obtain ⟨S, T, s1, s2, s3, s4', s5, s6, s7, s8⟩ := settle_pair (n := n) (v := v) (g := if rep = 0 then τ 179 n else i_or (τ 179 n) (w32 (b - 1))) (b := b) (rep := rep) A1 nb (by rw [kS 90 (by decide), kS 87 (by decide)]; exact t174) (by rw [e178.1]; exact ev) rfl
      rw [kS 90 (by decide), kS 87 (by decide)] at s4' s6
      rw [kS 87 (by decide)] at s7 s8
      have k167 : ∀ a, a ≠ 167 → gW T 167 (12 * σ 90 (σ 87 21) + σ 13 n) w a = T a := fun a q => gW_cell q
      have s6' : cgM (gW τ 167 (12 * σ 90 (σ 87 21) + σ 13 n) w) (gW T 167 (12 * σ 90 (σ 87 21) + σ 13 n) w) n (σ 90 (σ 87 21)) v (if rep = 0 then τ 179 n else i_or (τ 179 n) (w32 (b - 1))) := by
        obtain ⟨d1, d2, d3, d4, d5, d6, d7⟩ := s6
        have kτ : ∀ a, a ≠ 167 → gW τ 167 (12 * σ 90 (σ 87 21) + σ 13 n) w a = τ a := fun a q => gW_cell q
        refine ⟨fun a i p1 p2 p3 p4 p5 p6 p7 p8 p9 => ?_, ?_, ?_, ?_, ?_, ?_, ?_⟩
        · by_cases e : a = 167
          · rw [e, gW_if, gW_if, d1 167 i (by decide) (by decide) (by decide) (by decide) (by decide) (by decide) (by decide) (by decide) (by decide)]
          · rw [k167 a e, kτ a e]
            exact d1 a i p1 p2 p3 p4 p5 p6 p7 p8 p9
        · rw [k167 178 (by decide), kτ 178 (by decide)]; exact d2
        · rw [k167 179 (by decide), kτ 179 (by decide)]; exact d3
        · rw [k167 180 (by decide), kτ 180 (by decide)]; exact d4
        · rw [k167 166 (by decide), kτ 166 (by decide)]; exact d5
        · rw [k167 119 (by decide), kτ 119 (by decide)]; exact d6
        · rw [k167 224 (by decide), kτ 224 (by decide)]; exact d7
      have A2 : aA S (gW T 167 (12 * σ 90 (σ 87 21) + σ 13 n) w) pT := s3.mv (fun _ _ => rfl) rfl (fun _ _ _ => rfl) (fun _ _ => rfl) (fun a q => k167 a (by omega)) (fun i _ => by rw [k167 119 (by decide)])
      have e35 : gW σ 35 (12 * σ 90 (σ 87 21) + σ 13 n) w 35 (12 * σ 90 (σ 87 21) + σ 13 n) = w := gW_at ..
      have R2 : RQ S (gW T 167 (12 * σ 90 (σ 87 21) + σ 13 n) w) pT hT := R1.st A2 s4' s5 s6' (by rw [kS 87 (by decide), kS 90 (by decide)]) (by rw [kS 26 (by decide), kS 27 (by decide)]; exact hn) (by omega) (by rw [kS 9 (by decide)]; omega) (fun _ => ⟨by omega, fun q => by rw [if_pos (hr q)]; exact s4.2 z4⟩) (by rw [kS 9 (by decide)]; omega) (fun _ _ _ => by rw [kS 13 (by decide), e35]; omega) (by rw [kS 87 (by decide)]; exact s7)
      have nd2 : ndX (gW σ 35 (12 * σ 90 (σ 87 21) + σ 13 n) w) (gW τ 167 (12 * σ 90 (σ 87 21) + σ 13 n) w) S (gW T 167 (12 * σ 90 (σ 87 21) + σ 13 n) w) := cg_nd s5 s6' (by rw [kS 87 (by decide), k167 119 (by decide), gW_c (show (119 : Int) ≠ 167 by decide)]; exact s8)
      have nd3 := nd1.tr nd2
      have c31 := s5.1 31 (σ 90 (σ 87 21)) (by decide) (by decide) (by decide) (by decide) (by decide) (by decide) (by decide) (by decide) (by decide)
      rw [kS 31 (by decide)] at c31
      obtain ⟨S3, T3, g1, g2, g3, g4⟩ := loc_pair (l := σ 13 n) (b := b) R2 (by rw [nd3.1.2.1 21 (by decide), nd3.1.1 90 (by decide), c31]; exact ⟨l13.1, l13.2, l12.2⟩) hb (nd3.2.2.2.2.2 _ _ _ _ rv)
      exact ⟨S3, T3, by rw [f1 S s1, g1], by rw [f2 T s2, g2], g3, nd3.tr g4⟩
    have i8 : (0 : Int) ≤ 12 * σ 90 (σ 87 21) + σ 13 n := ab.1
    rcases hb with e | e | e
    · have ov : (0 ≤ i_or (σ 11 n) 1 ∧ i_or (σ 11 n) 1 ≤ 3) := by rw [oo1]; omega
      clear bb1 bb2 bb4 oo1 oo2 aa2
      refine main 1 (i_or (σ 11 n) 1) 0 (by decide) (by omega) (by rw [if_pos rfl, e]) (fun _ => rfl) (fun S q => ?_) (fun T q => ?_)
      · rw [q1, mc_write_b114_e, if_pos z, e, if_neg (by decide), mc_write_b143_e, if_pos ab, if_neg (by decide), mc_write_b161_e, q]
        rfl
      · rw [q3, md_setsAnew_b67_e, e, if_neg (by decide), md_setsAnew_b84_e, ← e, q]
        simp only [Option.bind_some]
        rw [e, if_neg (by decide), md_setsAnew_b104_e, if_pos ab]
        rfl
    · have ov : (0 ≤ i_or (σ 11 n) 2 ∧ i_or (σ 11 n) 2 ≤ 3) := by rw [oo2]; omega
      clear bb1 bb2 bb4 oo1 oo2 aa2
      refine main 2 (i_or (σ 11 n) 2) 0 (by decide) (by omega) (by rw [if_pos rfl, e]) (fun _ => rfl) (fun S q => ?_) (fun T q => ?_)
      · rw [q1, mc_write_b114_e, if_pos z, e, if_neg (by decide), mc_write_b143_e, if_pos ab, if_neg (by decide), mc_write_b161_e, q]
        rfl
      · rw [q3, md_setsAnew_b67_e, e, if_neg (by decide), md_setsAnew_b84_e, ← e, q]
        simp only [Option.bind_some]
        rw [e, if_neg (by decide), md_setsAnew_b104_e, if_pos ab]
        rfl
    · have ov : i_or (i_and (σ 11 n) (i_xor 3 (-1))) 4 = 4 := by rw [aa2]; omega
      clear bb1 bb2 bb4 oo1 oo2 aa2
      refine main 3 4 1 (by decide) (by omega) (by rw [if_neg (by decide), e, show w32 (4 - 1) = 3 by decide, ov]) (fun q => by omega) (fun S q => ?_) (fun T q => ?_)
      · rw [q1, mc_write_b114_e, if_pos z, if_pos e, mc_write_b143_e, if_pos ab, if_pos e, mc_write_b161_e, q]
        rfl
      · rw [q3, md_setsAnew_b67_e, if_pos e, md_setsAnew_b84_e, q]
        simp only [Option.bind_some]
        rw [if_pos e, md_setsAnew_b104_e, if_pos ab]
        rfl
  · obtain ⟨S, T, g1, g2, g3, g4⟩ := loc_pair (l := σ 13 n) (b := b) R ⟨l13.1, l13.2, l12.2⟩ hb rv
    refine ⟨S, T, ?_, ?_, g3, g4⟩
    · rw [q1, mc_write_b114_e, if_neg z, g1]
    · rw [q2 z, g2]
theorem mc_work_2 (h : 0 < σ 87 8 ∧ σ 87 8 ≤ 18240) (e : mc_write σ n (σ 88 (σ 87 8 - 1)) (σ 89 (σ 87 8 - 1)) = some (S, 0)) : mc_work σ 2 n = some (gW S 87 22 (w32 (S 87 22 + 1)), 0) := by
  have : mc_work σ 2 n = (if 0 ≤ w32 (σ 87 8 - 1) ∧ w32 (σ 87 8 - 1) < 18240 then (if 0 ≤ w32 (σ 87 8 - 1) ∧ w32 (σ 87 8 - 1) < 18240 then ((mc_write σ n (σ 88 (w32 (σ 87 8 - 1))) (σ 89 (w32 (σ 87 8 - 1)))).bind fun p3 => some (gW p3.1 87 22 (w32 (p3.1 87 22 + 1)), 0)) else none) else none) := by
    rw [mc_work_e]; rfl
  rw [this, w32_e (by omega) (by omega), if_pos (by omega), if_pos (by omega), e]
  rfl
/-- a local is written -/
theorem op_write {E h' br' co' : Int} (R : RR σ τ pT hT (m + 1) br co θ) (en : τ 218 (τ 212 (σ 87 21) + m + 1) = n) (es : τ 219 (τ 212 (σ 87 21) + m + 1) = 1) (hn : 0 ≤ n ∧ σ 26 (σ 90 (σ 87 21)) ≤ n ∧ n < σ 26 (σ 90 (σ 87 21)) + σ 27 (σ 90 (σ 87 21))) (st : St σ τ (σ 26 (σ 90 (σ 87 21))) (σ 26 (σ 90 (σ 87 21)) + σ 27 (σ 90 (σ 87 21))) (σ 28 (σ 90 (σ 87 21))) (σ 28 (σ 90 (σ 87 21)) + σ 29 (σ 90 (σ 87 21)) - 2) (τ 212 (σ 87 21)) m E h' br' co') (hh : hT (σ 87 21) = h') (h1 : 1 ≤ h') (hb : h' ≤ 400) (hE : E = pT (σ 87 21) + 1) (kd : τ 168 n = 6) (i : cI σ (pT (σ 87 21)) 2 0 n) : goX σ τ θ := by
  obtain ⟨-, -, -, -, ⟨t1, t2⟩, t3, -, -, -, t6⟩ := R.top
  obtain ⟨c1, -, -, pc, c5, c6, c7, -, c9⟩ := R.cur
  obtain ⟨o, p1, p2, p3, p4, p5, p6⟩ := R.pl
  have v := p2 (σ 87 8 - 1) (by omega) (by omega)
  rw [show σ 87 8 - 1 + o = τ 119 125 - 1 by omega] at v
  have R' := R
  obtain ⟨Q, -⟩ := R'
  have Q' := Q
  obtain ⟨⟨⟨P1, -⟩, -⟩, A, -⟩ := Q'
  have hIn := P1.2.2.2.2.2.2.2.2.2.2.1
  have hl := St.le _ _ _ _ _ st
  obtain ⟨o1, o2, o3, o4, -⟩ := A.op rfl i hIn hIn.1.2
  have o4 : σ 20 (σ 87 22) = 2 := by
    rcases o4 with z | z | z
    · exact z
    · omega
    · omega
  have n2 : 0 ≤ n ∧ n < 20000 := by omega
  have gs : ∀ a j, a ≠ 219 ∨ j ≠ τ 212 (σ 87 21) + m + 1 → gW τ 219 (τ 212 (σ 87 21) + m + 1) 2 a j = τ a j := fun a j q => by
    rcases q with q | q
    · exact gW_c q
    · exact gW_j q
  have cc1 : smC σ σ := ⟨fun _ _ _ _ _ _ => rfl, fun _ _ _ _ => rfl⟩
  have dd1 := smM.g219 (τ := τ) (v := 2) (i := τ 212 (σ 87 21) + m + 1) (f := τ 212 (σ 87 21)) (by omega)
  have Q0 : RQ σ (gW τ 219 (τ 212 (σ 87 21) + m + 1) 2) pT hT := by
    have := Q.sm (P' := pT (σ 87 21)) (h' := hT (σ 87 21)) cc1 dd1 pc
    rw [updF_same, updF_same] at this
    exact this
  obtain ⟨S, T, r1, r2, r3, r4⟩ := write_pair Q0 ⟨hn.2.1, hn.2.2⟩ (by rw [gs 168 n (by omega)]; omega) ((smC.rv cc1 dd1).mpr v)
  have r4' := r4
  obtain ⟨⟨x1, x2, x3, x4⟩, x5, x6, x7, x8, x9⟩ := r4'
  have s21 := x2 21 (by decide)
  have kT : ∀ a, (a = 168 ∨ (170 ≤ a ∧ a ≤ 173) ∨ (212 ≤ a ∧ a ≤ 213)) → T a = τ a := fun a q => by
    rw [x3 a q]
    exact gW_cell (by omega)
  have f119 : ∀ j, j ≠ 123 → T 119 j = τ 119 j := fun j q => by rw [x8 j q, gs 119 j (by omega)]
  have A2 := r3.2.1
  have hIn2 := r3.1.1.1.2.2.2.2.2.2.2.2.2.2.1
  obtain ⟨w1, w2, -⟩ := A2.op (P := pT (σ 87 21)) (by rw [s21]) (show cI S (pT (σ 87 21)) 2 0 n by unfold cI; rw [x1 20 (by decide), x1 21 (by decide), x1 22 (by decide)]; exact i) hIn2 hIn2.1.2
  rw [s21] at w2
  have c2 : smC S (gW S 87 22 (S 87 22 + 1)) := ⟨fun a j q1 _ _ _ => gW_c q1, fun j _ q _ => gW_i q⟩
  have d2 := smM.g124 (τ := T) (v := τ 119 124 - 1) (f := τ 212 (σ 87 21))
  obtain ⟨kx, rv⟩ := chn cc1 dd1 r4 c2 d2
  have Q3 := r3.sm (h' := h') (P' := E) c2 (by rw [s21, kT 212 (by decide)]; exact d2) (by rw [gW_at, s21, hE]; exact w2.next (by rw [x1 28 (by decide), x1 29 (by decide), x1 90 (by decide)]; omega))
  rw [s21] at Q3
  have e8 : gW S 87 22 (S 87 22 + 1) 87 8 = σ 87 8 := by rw [gW_i (by decide), x6]
  refine ⟨_, gW T 119 124 (τ 119 124 - 1), updF pT (σ 87 21) E, updF hT (σ 87 21) h', m, br', co', θ - 1, cG_of t6.1 o1 o4 o3 (by decide) (mc_work_2 (by omega) r1), mG_of t6.2.1 t6.2.2 (work_n (v := 0) t1 t2 en n2 ?_), ?_, Or.inl (by omega), ?_, ?_⟩
  · rw [md_works_e, kd, if_pos (by decide), md_works_b109_e, if_neg (by decide), if_pos rfl, if_pos n2, begun1 t2 es]
    simp only [Option.bind_some]
    rw [if_neg (show ¬ (1 : Int) = 0 by decide), gs 119 125 (by omega), w32_e (x := τ 119 125 - 1) (by omega) (by omega), if_pos (by omega), if_pos (by omega), gs 221 _ (by omega), gs 222 _ (by omega)]
    rw [r2]
    simp only [Option.bind_some]
    rw [f119 124 (by decide), w32_e (by omega) (by omega)]
  · rw [w32_e (x := S 87 22 + 1) (by omega) (by omega)]
    refine R.asm Q3 (updF_at ..) kx (R.pk2 p1 kx rv (fun a j q _ => by rw [gW_c (show a ≠ 87 by omega), x5 a q]) (fun a j q _ => by rw [gW_c (show a ≠ 119 by omega), x7 a (by omega) (by omega), gs a j (by omega)]) (by rw [e8, gW_i (by decide), f119 125 (by decide)]; exact p1) fun j j0 j1 => ?_) (kx.st (fun a j q1 q2 q3 => by rw [gW_c (by omega), x7 a q1 (by omega), gs a j (by omega)]) st) (by rw [gW_at]; omega) (by rw [e8]; omega) (by omega) ⟨by rw [i.1]; decide, by rw [i.1]; decide⟩ (by omega) (by rw [e8]; omega)
    rw [e8] at j1
    rw [gW_c (show (88 : Int) ≠ 87 by decide), gW_c (show (89 : Int) ≠ 87 by decide), gW_c (show (221 : Int) ≠ 119 by decide), gW_c (show (222 : Int) ≠ 119 by decide), x5 88 (by decide), x5 89 (by decide), x7 221 (by decide) (by decide), x7 222 (by decide) (by decide), gs 221 _ (by omega), gs 222 _ (by omega)]
    exact rv _ _ _ _ (p2 j j0 j1)
  · rw [gW_i (by decide), f119 119 (by decide)]
  · rw [gW_i (by decide), f119 120 (by decide)]
end WP
