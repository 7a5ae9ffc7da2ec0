/-! locals are read: both sides -/
/-- bits of a node's state -/
theorem bitL {s : Int} (h : 0 ≤ s ∧ s < 16) : (i_and s 1 = s % 2 ∧ i_and s 2 = s / 2 % 2 * 2 ∧ i_and s 4 = s / 4 % 2 * 4 ∧ i_and s 8 = s / 8 % 2 * 8) ∧ (i_or s 1 = s + 1 - s % 2 ∧ i_or s 2 = s + 2 - s / 2 % 2 * 2 ∧ i_or s 4 = s + 4 - s / 4 % 2 * 4 ∧ i_or s 8 = s + 8 - s / 8 % 2 * 8) ∧ (i_or (i_and s (i_xor 1 (-1))) 2 = s - s % 2 + 2 - s / 2 % 2 * 2 ∧ i_or (i_and s (i_xor 3 (-1))) 4 = s - s % 4 + 4 - s / 4 % 2 * 4 ∧ i_or (i_and s (i_xor 7 (-1))) 8 = 8) := by
  have : ∀ k : Fin 16, (i_and k.val 1 = (k.val : Int) % 2 ∧ i_and k.val 2 = (k.val : Int) / 2 % 2 * 2 ∧ i_and k.val 4 = (k.val : Int) / 4 % 2 * 4 ∧ i_and k.val 8 = (k.val : Int) / 8 % 2 * 8) ∧ (i_or k.val 1 = (k.val : Int) + 1 - (k.val : Int) % 2 ∧ i_or k.val 2 = (k.val : Int) + 2 - (k.val : Int) / 2 % 2 * 2 ∧ i_or k.val 4 = (k.val : Int) + 4 - (k.val : Int) / 4 % 2 * 4 ∧ i_or k.val 8 = (k.val : Int) + 8 - (k.val : Int) / 8 % 2 * 8) ∧ (i_or (i_and k.val (i_xor 1 (-1))) 2 = (k.val : Int) - (k.val : Int) % 2 + 2 - (k.val : Int) / 2 % 2 * 2 ∧ i_or (i_and k.val (i_xor 3 (-1))) 4 = (k.val : Int) - (k.val : Int) % 4 + 4 - (k.val : Int) / 4 % 2 * 4 ∧ i_or (i_and k.val (i_xor 7 (-1))) 8 = 8) := by decide +kernel
  have hk := this ⟨s.toNat, by omega⟩
  have e : ((s.toNat : Nat) : Int) = s := by omega
  simp only [e] at hk
  exact hk
section RD
variable {σ τ S T : gM} {pT hT : Int → Int} {m : Nat} {br co θ n : Int}
/-- locals change -/
theorem RQ.lc (R : RQ σ τ pT hT) (c : ∀ a i, (a < 97 ∨ 99 < a) → S a i = σ a i) (d : ∀ a i, (a < 215 ∨ 217 < a) → T a i = τ a i) (V : rLo S T) : RQ S T pT hT := by
  have R0 := R
  obtain ⟨⟨⟨P1, P2⟩, ⟨N1, N2⟩, M, B⟩, A, ⟨V2, V3⟩, K1, C, F⟩ := R
  have kS : ∀ a, (a < 97 ∨ 99 < a) → S a = σ a := fun a q => funext fun i => c a i q
  have kT : ∀ a, (a < 215 ∨ 217 < a) → T a = τ a := fun a q => funext fun i => d a i q
  have k0 := kS 0 (by decide)
  have k8 := kS 8 (by decide)
  have k42 := kS 42 (by decide)
  have k52 := kS 52 (by decide)
  have k87 := kS 87 (by decide)
  have t119 := kT 119 (by decide)
  have e1 : sameC σ S := by
    refine ⟨fun a q => kS a (by omega), ?_⟩
    rw [k0, k8, k42, k52, k87]
    exact ⟨rfl, rfl, rfl, rfl, rfl, rfl, rfl, rfl, rfl, rfl, rfl, rfl, rfl, rfl, rfl, rfl, rfl, rfl, rfl⟩
  have e2 : sameT τ T := by
    refine ⟨fun a q => kT a (by omega), ?_⟩
    rw [t119]
    exact ⟨rfl, rfl, rfl, rfl, rfl, rfl, rfl, rfl, rfl, rfl, rfl, rfl, rfl, rfl⟩
  have rv := (rVal_mv e1 e2).1
  refine ⟨⟨⟨P1.mv e1 e2, ?_⟩, ⟨?_, ?_⟩, ?_, ?_⟩, A.mv (fun a q => kS a (by omega)) (by rw [k8]) (fun i _ _ => by rw [k52]) (fun i _ => by rw [k87]) (fun a q => kT a (by omega)) (fun i _ => by rw [t119]), ⟨V, ?_⟩, ?_, ?_, ?_⟩
  · unfold rRp at P2 ⊢
    rw [k8, kS 24 (by decide), kS 25 (by decide)]
    exact P2
  · unfold nIv at N1 ⊢
    rw [k8, kS 9 (by decide), kS 11 (by decide), kS 18 (by decide), kT 179 (by decide)]
    exact N1
  · unfold sI2 at N2 ⊢
    rw [k8, kS 9 (by decide), kS 11 (by decide), kS 13 (by decide), kS 26 (by decide), kS 27 (by decide), kS 35 (by decide)]
    exact N2
  · unfold rRm cRm mRm at M ⊢
    rw [k0, k8, k42, t119]
    exact M
  · exact ⟨by rw [kS 1 (by decide)]; exact B.1, by rw [kT 134 (by decide)]; exact B.2.1, B.2.2.mv (fun a q => kT a (by omega)) (by rw [t119])⟩
  · unfold rOb at V3 ⊢
    rw [k87, t119, kS 100 (by decide), kS 101 (by decide), kS 102 (by decide), k42, kS 47 (by decide), kT 193 (by decide), kT 194 (by decide), kT 195 (by decide)]
    simp only [rv]
    exact V3
  · rw [k87]
    have hm := A.2.2.2.2.2.1
    exact K1.fr (fun k q1 q2 => (A.2.1.2.2 k q1 (by omega)).2.1) (fun k _ _ => ⟨rfl, rfl⟩) (fun k _ _ => by rw [kS 90 (by decide)]) (fun k _ _ => by rw [kS 92 (by decide)]) (fun k _ _ => by rw [kT 212 (by decide)]) (fun a r q1 q2 _ _ => by rw [kS a (by omega)]) (fun r _ _ => ⟨fun a n q _ _ => by rw [kT a (by omega)], fun n _ _ => by rw [kS 14 (by decide)], fun p _ _ => ⟨by rw [kS 20 (by decide)], by rw [kS 21 (by decide)], by rw [kS 22 (by decide)]⟩⟩) (fun a i q1 q2 _ => by rw [kT a (by omega)]) K1.mon
  · unfold rCt at C ⊢
    rw [k87, k0, t119, kS 103 (by decide), kT 223 (by decide)]
    exact C
  · unfold rFa cFa at F ⊢
    rw [k87, kS 93 (by decide), kS 9 (by decide), kS 11 (by decide), kS 18 (by decide), kS 19 (by decide), kS 20 (by decide), kS 22 (by decide), kS 29 (by decide), kS 54 (by decide), kS 55 (by decide), kS 62 (by decide), kS 64 (by decide), kS 65 (by decide)]
    exact F
theorem lc_rv (c : ∀ a i, (a < 97 ∨ 99 < a) → S a i = σ a i) (d : ∀ a i, (a < 215 ∨ 217 < a) → T a i = τ a i) {k x t y : Int} : rVal S T k x t y ↔ rVal σ τ k x t y := by
  have kS : ∀ a, (a < 97 ∨ 99 < a) → S a = σ a := fun a q => funext fun i => c a i q
  have kT : ∀ a, (a < 215 ∨ 217 < a) → T a = τ a := fun a q => funext fun i => d a i q
  refine (rVal_mv ⟨fun a q => kS a (by omega), ?_⟩ ⟨fun a q => kT a (by omega), ?_⟩).1 k x t y
  · rw [kS 0 (by decide), kS 8 (by decide), kS 42 (by decide), kS 52 (by decide), kS 87 (by decide)]
    exact ⟨rfl, rfl, rfl, rfl, rfl, rfl, rfl, rfl, rfl, rfl, rfl, rfl, rfl, rfl, rfl, rfl, rfl, rfl, rfl⟩
  · rw [kT 119 (by decide)]
    exact ⟨rfl, rfl, rfl, rfl, rfl, rfl, rfl, rfl, rfl, rfl, rfl, rfl, rfl, rfl⟩
theorem lc_kp (c : ∀ a i, (a < 97 ∨ 99 < a) → S a i = σ a i) (d : ∀ a i, (a < 215 ∨ 217 < a) → T a i = τ a i) : ndX σ τ S T := by
  have kS : ∀ a, (a < 97 ∨ 99 < a) → S a = σ a := fun a q => funext fun i => c a i q
  have kT : ∀ a, (a < 215 ∨ 217 < a) → T a = τ a := fun a q => funext fun i => d a i q
  exact ⟨⟨fun a q => kS a (by omega), fun i _ => by rw [kS 87 (by decide)], fun a q => kT a (by omega), by rw [kT 119 (by decide), ccN_eq (S := S) (σ := σ) _ fun j _ _ => by rw [kS 93 (by decide)]]⟩, fun a q => kS a (by omega), by rw [kS 87 (by decide)], fun a q1 q2 => kT a (by omega), fun i _ => by rw [kT 119 (by decide)], fun k x t y q => (lc_rv c d).mpr q⟩
theorem ndX.tr {S2 T2 : gM} (h : ndX σ τ S T) (h2 : ndX S T S2 T2) : ndX σ τ S2 T2 := by
  obtain ⟨⟨x1, x2, x3, x4⟩, x5, x6, x7, x8, x9⟩ := h
  obtain ⟨⟨y1, y2, y3, y4⟩, y5, y6, y7, y8, y9⟩ := h2
  rw [x2 19 (by decide)] at y4
  exact ⟨⟨fun a q => by rw [y1 a q, x1 a q], fun i q => by rw [y2 i q, x2 i q], fun a q => by rw [y3 a q, x3 a q], by omega⟩, fun a q => by rw [y5 a q, x5 a q], by rw [y6, x6], fun a q1 q2 => by rw [y7 a q1 q2, x7 a q1 q2], fun i q => by rw [y8 i q, x8 i q], fun k x t y q => y9 k x t y (x9 k x t y q)⟩
/-- the state of a read, then the tag of its local -/
theorem read_pair (R : RQ σ τ pT hT) (hn : σ 26 (σ 90 (σ 87 21)) ≤ n ∧ n < σ 26 (σ 90 (σ 87 21)) + σ 27 (σ 90 (σ 87 21))) (kd : τ 168 n = 5) : ∃ S T, mc_read σ n = mc_read_b102 S (12 * σ 87 21 + σ 13 n) ∧ md_reads τ n = md_reads_b88 T (12 * σ 87 21 + σ 13 n) ∧ RQ S T pT hT ∧ ndX σ τ S T ∧ (0 ≤ 12 * σ 87 21 + σ 13 n ∧ 12 * σ 87 21 + σ 13 n < 720) ∧ rVal S T (S 97 (12 * σ 87 21 + σ 13 n)) (S 99 (12 * σ 87 21 + σ 13 n)) (T 216 (12 * σ 87 21 + σ 13 n)) (T 217 (12 * σ 87 21 + σ 13 n)) := by
  obtain ⟨c1, c2, c3, c4, c5, c6⟩ := R.cu
  have R' := R
  obtain ⟨⟨⟨P1, -⟩, ⟨N1, -⟩, -⟩, A, ⟨V2, -⟩, -⟩ := R'
  have hN := P1.2.2.2.2.2.2.2.2.1
  have hR := P1.2.2.2.2.2.2.2.2.2.2.2.2.2.1
  obtain ⟨-, -, -, -, n8, -⟩ := hN.2.1 _ c2.1 c2.2
  have nn := hN.2.2 n (by omega) (by omega)
  have e178 := nn.2.2.1
  have k9 := nn.1
  have e175 := nn.2.2.2.2.1
  have rr := hR _ c2.1 c2.2
  have l13 := rr.2.2.2.2.2 n hn.1 hn.2 (by omega)
  have l12 := rr.1.2.2.2.1
  have hm := A.2.2.2.2.2.1
  have m59 := A.2.1.1
  obtain ⟨v1, v2, v3⟩ := V2 (σ 87 21) (σ 13 n) c1.1 (by omega) l13.1 l13.2
  have s4 := (N1 n (by omega) (by omega)).1 (by omega)
  have nb : 0 ≤ n ∧ n < 16000 := by have := hN.1; omega
  have n2 : 0 ≤ n ∧ n < 20000 := by omega
  have kb : 0 ≤ 12 * σ 87 21 + σ 13 n ∧ 12 * σ 87 21 + σ 13 n < 720 := by omega
  obtain ⟨b1, b2, b3⟩ := bitL e178.2
  have w1 : w32 (w32 (12 * σ 87 21) + σ 13 n) = 12 * σ 87 21 + σ 13 n := by rw [w32_e (x := 12 * σ 87 21) (by omega) (by omega), w32_e (by omega) (by omega)]
  have w2 : w32 (w32 (12 * w32 (τ 119 121 - 1)) + τ 175 n) = 12 * σ 87 21 + σ 13 n := by rw [w32_e (x := τ 119 121 - 1) (by omega) (by omega), show τ 119 121 - 1 = σ 87 21 by omega, e175]; exact w1
  have has : ∀ (T' : gM) b, md_has T' n b = if i_and (T' 178 n) b = 0 then some (T', 0) else some (T', 1) := fun T' b => by rw [md_has_e, if_pos n2]
  -- after the state
  have fin : ∀ (S T : gM), RQ S T pT hT → ndX σ τ S T → S 11 n = T 178 n → (0 ≤ T 178 n ∧ T 178 n ≤ 4) → (∀ a, 97 ≤ a → a ≤ 99 → S a = σ a) → (∀ a, 215 ≤ a → a ≤ 217 → T a = τ a) → S 31 = σ 31 → ∃ S' T', mc_read_b82 S n (12 * σ 87 21 + σ 13 n) = mc_read_b102 S' (12 * σ 87 21 + σ 13 n) ∧ md_reads_b72 T n (12 * σ 87 21 + σ 13 n) = md_reads_b88 T' (12 * σ 87 21 + σ 13 n) ∧ RQ S' T' pT hT ∧ ndX σ τ S' T' ∧ rVal S' T' (S' 97 (12 * σ 87 21 + σ 13 n)) (S' 99 (12 * σ 87 21 + σ 13 n)) (T' 216 (12 * σ 87 21 + σ 13 n)) (T' 217 (12 * σ 87 21 + σ 13 n)) := fun S T Q nd e1 e2 k97 k215 k31 => by
    have rv := nd.2.2.2.2.2 _ _ _ _ v3
    by_cases z : T 178 n = 4
    · refine ⟨gW S 98 (12 * σ 87 21 + σ 13 n) 3, gW T 215 (12 * σ 87 21 + σ 13 n) 3, ?_, ?_, ?_, ?_, ?_⟩
      · rw [mc_read_b82_e, if_pos nb, if_pos (by rw [e1]; exact z), if_pos kb]
      · rw [md_reads_b72_e, has, z]
        simp only [show ¬ i_and 4 4 = 0 by decide, if_false, Option.bind_some]
        rw [if_neg (show ¬ (1 : Int) = 0 by decide), if_pos kb]
      · have sc : ∀ a i, (a < 97 ∨ 99 < a) → gW S 98 (12 * σ 87 21 + σ 13 n) 3 a i = S a i := fun a i q => gW_c (by omega)
        have sd : ∀ a i, (a < 215 ∨ 217 < a) → gW T 215 (12 * σ 87 21 + σ 13 n) 3 a i = T a i := fun a i q => gW_c (by omega)
        refine Q.lc sc sd fun k l k0 k1 l0 l1 => ?_
        rw [sc 87 19 (by decide)] at k1
        rw [sc 31 _ (by decide), sc 90 _ (by decide)] at l1
        obtain ⟨q1, q2, q3⟩ := Q.2.2.1.1 k l k0 k1 l0 l1
        rw [gW_c (show (97 : Int) ≠ 98 by decide), gW_c (show (99 : Int) ≠ 98 by decide), gW_c (show (216 : Int) ≠ 215 by decide), gW_c (show (217 : Int) ≠ 215 by decide), gW_if, gW_if]
        refine ⟨?_, ?_, (lc_rv sc sd).mpr q3⟩
        · split
          · rfl
          · exact q1
        · split
          · omega
          · exact q2
      · exact nd.tr (lc_kp (fun a i q => gW_c (by omega)) (fun a i q => gW_c (by omega)))
      · rw [gW_c (show (97 : Int) ≠ 98 by decide), gW_c (show (99 : Int) ≠ 98 by decide), gW_c (show (216 : Int) ≠ 215 by decide), gW_c (show (217 : Int) ≠ 215 by decide), k97 97 (by decide) (by decide), k97 99 (by decide) (by decide), k215 216 (by decide) (by decide), k215 217 (by decide) (by decide)]
        exact (lc_rv (fun a i q => gW_c (by omega)) (fun a i q => gW_c (by omega))).mpr rv
    · refine ⟨S, T, ?_, ?_, Q, nd, ?_⟩
      · rw [mc_read_b82_e, if_pos nb, if_neg (by rw [e1]; exact z)]
      · have := (bitL (s := T 178 n) (by omega)).1.2.2.1
        rw [md_reads_b72_e, has, if_pos (by rw [this]; omega)]
        rfl
      · rw [k97 97 (by decide) (by decide), k97 99 (by decide) (by decide), k215 216 (by decide) (by decide), k215 217 (by decide) (by decide)]
        exact rv
  -- the state
  have ini : ∃ S T, mc_read σ n = mc_read_b82 S n (12 * σ 87 21 + σ 13 n) ∧ md_reads τ n = md_reads_b72 T n (12 * σ 87 21 + σ 13 n) ∧ RQ S T pT hT ∧ ndX σ τ S T ∧ S 11 n = T 178 n ∧ (0 ≤ T 178 n ∧ T 178 n ≤ 4) ∧ (∀ a, 97 ≤ a → a ≤ 99 → S a = σ a) ∧ (∀ a, 215 ≤ a → a ≤ 217 → T a = τ a) ∧ S 31 = σ 31 := by
    have still : mc_read σ n = mc_read_b82 σ n (12 * σ 87 21 + σ 13 n) → md_reads τ n = md_reads_b72 τ n (12 * σ 87 21 + σ 13 n) → ∃ S T, mc_read σ n = mc_read_b82 S n (12 * σ 87 21 + σ 13 n) ∧ md_reads τ n = md_reads_b72 T n (12 * σ 87 21 + σ 13 n) ∧ RQ S T pT hT ∧ ndX σ τ S T ∧ S 11 n = T 178 n ∧ (0 ≤ T 178 n ∧ T 178 n ≤ 4) ∧ (∀ a, 97 ≤ a → a ≤ 99 → S a = σ a) ∧ (∀ a, 215 ≤ a → a ≤ 217 → T a = τ a) ∧ S 31 = σ 31 := fun q1 q2 => ⟨σ, τ, q1, q2, R, ndX.rf, e178.1.symm, by omega, fun _ _ _ => rfl, fun _ _ _ => rfl, rfl⟩
    have move : ∀ (b v rep : Int), (v = if rep = 0 then i_or (σ 11 n) b else i_or (i_and (σ 11 n) (i_xor (w32 (b - 1)) (-1))) b) → (0 ≤ v ∧ v ≤ 4) → (v ≠ 4 → rep = 0) → (∀ S, mc_changes σ n v = some (S, 0) → mc_read σ n = mc_read_b82 S n (12 * σ 87 21 + σ 13 n)) → (∀ T, md_settle τ n b rep = some (T, 0) → md_reads τ n = md_reads_b72 T n (12 * σ 87 21 + σ 13 n)) → σ 11 n ≠ 4 → ∃ S T, mc_read σ n = mc_read_b82 S n (12 * σ 87 21 + σ 13 n) ∧ md_reads τ n = md_reads_b72 T n (12 * σ 87 21 + σ 13 n) ∧ RQ S T pT hT ∧ ndX σ τ S T ∧ S 11 n = T 178 n ∧ (0 ≤ T 178 n ∧ T 178 n ≤ 4) ∧ (∀ a, 97 ≤ a → a ≤ 99 → S a = σ a) ∧ (∀ a, 215 ≤ a → a ≤ 217 → T a = τ a) ∧ S 31 = σ 31 := fun b v rep hv v4 hr q1 q2 s4' => by
      obtain ⟨S, T, s1, s2, s3, s4, s5, s6, ⟨s7, -⟩, ⟨s8, -⟩⟩ := set_pair (v := v) (g := if rep = 0 then τ 179 n else i_or (τ 179 n) (w32 (b - 1))) (b := b) (rep := rep) R hn hv rfl (by omega) (by omega) (fun _ => ⟨by omega, fun q => by rw [if_pos (hr q)]; exact s4.2 s4'⟩) (by omega) (by omega)
      exact ⟨S, T, q1 S s1, q2 T s2, s3, s4, by rw [s5, s6], by omega, fun a q1 q2 => funext fun i => s7 a i (by omega) (by omega) (by omega) (by omega) (by omega) (by omega) (by omega) (by omega) (by omega), fun a q1 q2 => funext fun i => s8 a i (by omega) (by omega) (by omega) (by omega) (by omega) (by omega) (by omega) (by omega) (by omega), funext fun i => s7 31 i (by decide) (by decide) (by decide) (by decide) (by decide) (by decide) (by decide) (by decide) (by decide)⟩
    have b38y : ¬ i_and (σ 11 n) 4 = 0 → ∀ t, md_reads_b38 τ n (12 * σ 87 21 + σ 13 n) t = md_reads_b72 τ n (12 * σ 87 21 + σ 13 n) := fun q t => by
      rw [md_reads_b38_e, has, e178.1, if_neg q]
      simp only [Option.bind_some]
      rw [if_neg (show ¬ (1 : Int) = 0 by decide)]
    have b38n : i_and (σ 11 n) 4 = 0 → ∀ t, md_reads_b38 τ n (12 * σ 87 21 + σ 13 n) t = if t = 3 then md_reads_b59 τ n (12 * σ 87 21 + σ 13 n) t 4 n else md_reads_b59 τ n (12 * σ 87 21 + σ 13 n) t t n := fun q t => by
      rw [md_reads_b38_e, has, e178.1, if_pos q]
      simp only [Option.bind_some, if_true]
    have hasn : ∀ t, i_and (σ 11 n) t = 0 → ((md_has τ n t).bind fun p1 => if p1.2 = 0 then md_reads_b38 p1.1 n (12 * σ 87 21 + σ 13 n) t else md_reads_b72 p1.1 n (12 * σ 87 21 + σ 13 n)) = md_reads_b38 τ n (12 * σ 87 21 + σ 13 n) t := fun t q => by
      rw [has, e178.1, if_pos q]
      simp only [Option.bind_some, if_true]
    have hasy : ∀ t, ¬ i_and (σ 11 n) t = 0 → ((md_has τ n t).bind fun p1 => if p1.2 = 0 then md_reads_b38 p1.1 n (12 * σ 87 21 + σ 13 n) t else md_reads_b72 p1.1 n (12 * σ 87 21 + σ 13 n)) = md_reads_b72 τ n (12 * σ 87 21 + σ 13 n) := fun t q => by
      rw [has, e178.1, if_neg q]
      simp only [Option.bind_some]
      rw [if_neg (show ¬ (1 : Int) = 0 by decide)]
    have mr : md_reads τ n = if σ 98 (12 * σ 87 21 + σ 13 n) < 3 then ((md_has τ n (σ 98 (12 * σ 87 21 + σ 13 n))).bind fun p1 => if p1.2 = 0 then md_reads_b38 p1.1 n (12 * σ 87 21 + σ 13 n) (σ 98 (12 * σ 87 21 + σ 13 n)) else md_reads_b72 p1.1 n (12 * σ 87 21 + σ 13 n)) else md_reads_b38 τ n (12 * σ 87 21 + σ 13 n) (σ 98 (12 * σ 87 21 + σ 13 n)) := by
      rw [md_reads_e, if_pos n2, w2, if_pos kb, v1]
    have cr : i_and (σ 11 n) 4 = 0 → mc_read σ n = if σ 98 (12 * σ 87 21 + σ 13 n) = 3 then mc_read_b54 σ n (12 * σ 87 21 + σ 13 n) (σ 11 n) 4 else mc_read_b54 σ n (12 * σ 87 21 + σ 13 n) (σ 11 n) (σ 98 (12 * σ 87 21 + σ 13 n)) := fun q => by
      rw [mc_read_e, if_pos nb, if_pos nb, w1, if_pos q, if_pos kb, if_pos kb]
    have x4 := b1.2.2.1
    by_cases z : σ 11 n = 4
    · have q4 : ¬ i_and (σ 11 n) 4 = 0 := by rw [x4]; omega
      refine still ?_ ?_
      · rw [mc_read_e, if_pos nb, if_pos nb, w1, if_neg q4]
      · rw [mr]
        by_cases y : σ 98 (12 * σ 87 21 + σ 13 n) < 3
        · rw [if_pos y]
          have : σ 98 (12 * σ 87 21 + σ 13 n) = 1 ∨ σ 98 (12 * σ 87 21 + σ 13 n) = 2 := by omega
          rcases this with e | e
          · rw [e, hasn 1 (by rw [b1.1]; omega)]; exact b38y q4 1
          · rw [e, hasn 2 (by rw [b1.2.1]; omega)]; exact b38y q4 2
        · rw [if_neg y]; exact b38y q4 _
    · have q4 : i_and (σ 11 n) 4 = 0 := by rw [x4]; omega
      have : σ 98 (12 * σ 87 21 + σ 13 n) = 1 ∨ σ 98 (12 * σ 87 21 + σ 13 n) = 2 ∨ σ 98 (12 * σ 87 21 + σ 13 n) = 3 := by omega
      -- a bit of one of the two kinds
      have one : ∀ t, (t = 1 ∨ t = 2) → σ 98 (12 * σ 87 21 + σ 13 n) = t → (0 ≤ i_or (σ 11 n) t ∧ i_or (σ 11 n) t ≤ 3) → ∃ S T, mc_read σ n = mc_read_b82 S n (12 * σ 87 21 + σ 13 n) ∧ md_reads τ n = md_reads_b72 T n (12 * σ 87 21 + σ 13 n) ∧ RQ S T pT hT ∧ ndX σ τ S T ∧ S 11 n = T 178 n ∧ (0 ≤ T 178 n ∧ T 178 n ≤ 4) ∧ (∀ a, 97 ≤ a → a ≤ 99 → S a = σ a) ∧ (∀ a, 215 ≤ a → a ≤ 217 → T a = τ a) ∧ S 31 = σ 31 := fun t ht e r => by
        by_cases y : i_and (σ 11 n) t = 0
        · refine move t (i_or (σ 11 n) t) 0 (by rw [if_pos rfl]) (by omega) (fun _ => rfl) (fun S q => ?_) (fun T q => ?_) z
          · rw [cr q4, e, if_neg (by omega), mc_read_b54_e, if_pos y, if_neg (by omega), mc_read_b79_e, q]
            rfl
          · rw [mr, e, if_pos (by omega), hasn t y, b38n q4, if_neg (by omega), md_reads_b59_e, if_neg (by omega), md_reads_b69_e, q]
            rfl
        · refine still ?_ ?_
          · rw [cr q4, e, if_neg (by omega), mc_read_b54_e, if_neg y]
          · rw [mr, e, if_pos (by omega), hasy t y]
      rcases this with e | e | e
      · exact one 1 (Or.inl rfl) e (by rw [b2.1]; omega)
      · exact one 2 (Or.inr rfl) e (by rw [b2.2.1]; omega)
      · refine move 4 4 1 ?_ (by omega) (fun q => by omega) (fun S q => ?_) (fun T q => ?_) z
        · rw [if_neg (by decide), show w32 (4 - 1) = 3 by decide, b3.2.1]
          omega
        · rw [cr q4, if_pos e, mc_read_b54_e, if_pos q4, if_pos rfl, mc_read_b79_e, q]
          rfl
        · rw [mr, e, if_neg (by decide), b38n q4, if_pos rfl, md_reads_b59_e, if_pos rfl, md_reads_b69_e, q]
          rfl
  obtain ⟨S, T, i1, i2, i3, i4, i5, i6, i7, i8, i9⟩ := ini
  obtain ⟨S', T', j1, j2, j3, j4, j5⟩ := fin S T i3 i4 i5 i6 i7 i8 i9
  exact ⟨S', T', by rw [i1, j1], by rw [i2, j2], j3, j4, kb, j5⟩
end RD
