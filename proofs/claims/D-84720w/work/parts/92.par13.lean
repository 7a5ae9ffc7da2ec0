/-! what is set; all that is worked out -/
section EE
variable {σ τ : gM} {d d' D D' : Nat}
theorem e_108 (ihb : XB (ps_e d)) {S T : gM} {k n : Int} (b : bd k S T) (hk : k < 4200) (hn : 0 ≤ n ∧ n < 4200) : ∃ S', ps_e_b108 d S n = some (S', n) ∧ bd (k + 1) S' T := by
  obtain ⟨S2, x1, x2, x3⟩ := ihb S T k b hk
  refine ⟨gW (gW S2 74 n (S 68 10)) 68 21 (w32 (S2 68 21 - 1)), ?_, (x2.w (by decide) (by omega)).w (by decide) (by omega)⟩
  rw [ps_e_b108_e, ps_open_b b.1]
  simp only [Option.bind_some]
  rw [x1]
  simp only [Option.bind_some]
  rw [if_pos hn]
theorem aM_28 {p e v : Int} : aM (gW τ 119 28 v) p e = gW (aM τ p e) 119 28 v := by
  have e54 : gW τ 119 28 v 119 54 = τ 119 54 := gW_i (by decide)
  have e152 : ∀ i, gW τ 119 28 v 152 i = τ 152 i := fun i => gW_c (by decide)
  unfold aM
  rw [e54, e152, gW_cm (a := 119) (b := 153) (by omega), gW_cm (a := 119) (b := 154) (by omega), gW_cm (a := 119) (b := 152) (by omega)]
/-- the right side, once the left one is settled: S' is the component where its kind is told, T' the model -/
theorem right_s {S T : gM} {n m v K : Int} (ihe : XS anyB D (ps_e d) (md_e d')) (ihb : XB (ps_e d)) (G : pG 1 S T) (ho : 10 * (20 - S 68 21) + 20 ≤ (D : Int)) (o20 : S 68 21 < 20) (h4 : T 119 25 ≠ 0) (hn : 0 ≤ n ∧ n < 4200) (hm : 0 ≤ m ∧ m < 4004) (hv : (v = 0 ∧ K = 22) ∨ (v = 1 ∧ K = 6)) :
    (∃ S3 T3 rr, ps_e_b108 d S n = some (gW (gW S3 74 n rr) 68 21 (S 68 21), n) ∧ md_e_b135 d' (gW T 119 28 (S 68 21 + 1)) m v = some (gW (gW (gW T3 119 28 (S 68 21)) 135 m K) (if v = 0 then 140 else 138) m (nd S3 rr), some m) ∧ pG 1 S3 T3 ∧ kE (S 68 10) (T 119 43) S S3 T T3 ∧ PX S3 T3 0 (S 68 10) (S3 68 10) rr 0 ∧ NB S3 T3 0 (S 68 19 - 1) (S 68 10) (S3 68 10) ∧ S3 68 21 = S 68 21 + 1 ∧ S3 68 22 = S 68 22 ∧ (S 68 10 ≤ rr ∧ rr < S3 68 10)) ∨
    (∃ S' T', ps_e_b108 d S n = some (S', n) ∧ md_e_b135 d' (gW T 119 28 (S 68 21 + 1)) m v = some (T', none) ∧ bd 4100 S' T') := by
  have kp := G.2.1.1
  unfold tKp at kp
  have hmm := G.2.2.2.1
  have hl := G.1.2.1
  have h7 := G.2.2.2.2.2.2.1
  rw [ps_e_b108_e, md_e_b135_e]
  rcases ps_open_g G h4 o20 with ⟨S2, T2, r1, r2, G2, F, r5, r6⟩ | ⟨S2, T2, r1, r2, b⟩
  · rw [r1, r2]
    simp only [Option.bind_some, gtry]
    have s10 : S2 68 10 = S 68 10 := by rw [F.1 68 (by decide), gW_i (by decide)]
    have s19 : S2 68 19 = S 68 19 := by rw [F.1 68 (by decide), gW_i (by decide)]
    have t43 : T2 119 43 = T 119 43 := by rw [F.2.2.2 43 (by omega) (by decide) (by decide), gW_i (by decide)]
    have k2 : ∀ M N, kE M N S S2 T T2 := fun M N => ((kE.rf.o (i := 21) (by decide)).u (i := 28) (by decide)).tr (kE.rd (M := M) (N := N) F (by rw [gW_c (by decide)]; omega)) (Int.le_refl _) (Int.le_refl _)
    rcases ihe S2 T2 (G2.le (by decide)) (by rw [r6]; omega) with ⟨S3, T3, rr, x1, x2, xg, -⟩ | ⟨S3, T3, rr, x1, x2, b, hr⟩
    · left
      have xn := xg.n
      obtain ⟨G3, k3, p3, nb3, o3, u3⟩ := xg
      have n2 : nd S2 (S2 68 10) = T 119 43 := by rw [← G2.2.2.2.2.1, t43]
      rw [n2] at k3
      rw [s10] at k3 p3 nb3 xn
      rw [s19] at nb3
      have o4 : S3 68 21 = S 68 21 + 1 := by rw [o3, r6]
      have t28 : T3 119 28 = S 68 21 + 1 := by rw [G3.2.2.2.2.2.2.1.2.2, o4]
      refine ⟨S3, T3, rr, ?_, ?_, G3, (k2 _ _).tr k3 (Int.le_refl _) (Int.le_refl _), p3, nb3, o4, by rw [u3, F.1 68 (by decide), gW_i (by decide)], by omega⟩
      · rw [x1]
        simp only [Option.bind_some]
        rw [if_pos hn, o4, w32_e (by omega) (by omega), show S 68 21 + 1 - 1 = S 68 21 by omega]
      · rw [x2]
        simp only [Option.bind_some]
        rw [t28, w32_e (by omega) (by omega), show S 68 21 + 1 - 1 = S 68 21 by omega]
        rcases hv with ⟨hv, hK⟩ | ⟨hv, hK⟩
        · rw [if_pos hv, if_pos hv, md_e_b170_e, if_pos hm, if_pos hv, if_pos hm, hK]
        · rw [if_neg (by omega), if_neg (by omega), md_e_b170_e, if_pos hm, if_neg (by omega), if_pos hm, hK]
    · right
      rw [x1, x2]
      simp only [Option.bind_some]
      rw [if_pos hn]
      exact ⟨_, T3, rfl, rfl, (b.w (by decide) (by omega)).w (by decide) (by omega)⟩
  · right
    obtain ⟨S3, x1, x2, x3⟩ := ihb S2 T2 _ b (by omega)
    rw [r1, r2]
    simp only [Option.bind_some]
    rw [x1]
    simp only [Option.bind_some]
    rw [if_pos hn]
    exact ⟨_, T2, rfl, rfl, ((x2.le (by omega)).w (by decide) (by omega)).w (by decide) (by omega)⟩
theorem RN_set6 {S T SF TF : gM} {f b b' n rr l : Int} (rn : RN S T 0 f b n) (h5 : S 70 n = 5) (hb : b ≤ b') (q : S 72 n = -1 ∧ S 73 n = -1 ∧ S 74 n = -1) (ndn : nd SF n = nd S n) (c70 : SF 70 n = 6) (c71 : SF 71 n = S 71 n) (c72 : SF 72 n = S 72 n) (c73 : SF 73 n = S 73 n) (c74 : SF 74 n = rr) (c76 : SF 76 n = l) (t135 : TF 135 (nd S n) = 6) (t : ∀ e, 136 ≤ e → e ≤ 145 → e ≠ 138 → TF e (nd S n) = T e (nd S n)) (t138 : TF 138 (nd S n) = nh SF rr) (hr : 0 ≤ rr ∧ rr < b') (lc : isLoc SF TF f l (T 142 (nd S n)) (T 143 (nd S n))) (b0 : 0 ≤ b) : RN SF TF 0 f b' n := by
  obtain ⟨r1, r2, -, -, r5, r6, -, -, -⟩ := rn
  have nm : ∀ X : gM, nh X (-1) = -1 := fun _ => rfl
  have pm : ∀ X : gM, ph X (-1) = -1 := fun _ => rfl
  obtain ⟨q1, q2, q3⟩ := q
  have e139 : T 139 (nd S n) = -1 := by
    rw [r5 (by rw [h5]; decide), h5, q2, nm, pm]
    simp
  have e140 : T 140 (nd S n) = -1 := by
    rw [r6, h5, q3, nm, pm]
    simp
  unfold RN
  rw [ndn, c70, c71, c72, c73, c74, c76, t135, t138, t 136 (by decide) (by decide) (by decide), t 139 (by decide) (by decide) (by decide), t 140 (by decide) (by decide) (by decide), t 142 (by decide) (by decide) (by decide), t 143 (by decide) (by decide) (by decide), q1, q2, nm, e139, e140]
  exact ⟨⟨rfl, by decide, by decide⟩, r2, ⟨by decide, by omega, by decide, by omega, by omega, hr.2, fun w => absurd w (by decide)⟩, by simp, fun _ => by simp, by simp, fun w => absurd w (by decide), fun w => absurd w (by decide), fun _ => lc⟩
theorem RN_set22 {S T SF TF : gM} {f b b' n rr : Int} (rn : RN S T 0 f b n) (h21 : S 70 n = 21) (hb : b ≤ b') (ndn : nd SF n = nd S n) (c70 : SF 70 n = 22) (c71 : SF 71 n = S 71 n) (c72 : SF 72 n = S 72 n) (c73 : SF 73 n = S 73 n) (c74 : SF 74 n = rr) (c76 : SF 76 n = S 76 n) (c77 : SF 77 n = S 77 n) (t135 : TF 135 (nd S n) = 22) (t : ∀ e, 136 ≤ e → e ≤ 145 → e ≠ 140 → TF e (nd S n) = T e (nd S n)) (t140 : TF 140 (nd S n) = nh SF rr) (hr : 0 ≤ rr ∧ rr < b') (n72 : nh SF (S 72 n) = nh S (S 72 n)) (n73 : nh SF (S 73 n) = nh S (S 73 n)) (s2 : SF 69 2 = S 69 2) (b0 : 0 ≤ b) : RN SF TF 0 f b' n := by
  obtain ⟨r1, r2, ⟨x1, x2, x3, x4, -⟩, r4, r5, -, -, r8, -⟩ := rn
  have e138 : T 138 (nd S n) = nh S (S 72 n) := by
    rw [r4, h21]
    simp
  have e139 : T 139 (nd S n) = nh S (S 73 n) := by
    rw [r5 (by rw [h21]; decide), h21]
    simp
  unfold RN
  rw [ndn, c70, c71, c72, c73, c74, c76, c77, s2, t135, t140, t 136 (by decide) (by decide) (by decide), t 138 (by decide) (by decide) (by decide), t 139 (by decide) (by decide) (by decide), t 142 (by decide) (by decide) (by decide), t 143 (by decide) (by decide) (by decide), n72, n73, e138, e139]
  refine ⟨⟨rfl, by decide, by decide⟩, r2, ⟨x1, by omega, x3, by omega, by omega, hr.2, fun w => absurd w (by decide)⟩, by simp, fun _ => by simp, by simp, fun w => absurd w (by decide), fun w => ?_, fun w => absurd w (by decide)⟩
  have w' : S 73 n = -1 := by
    rcases w with w | w | ⟨w, -⟩ | w | ⟨-, w⟩
    · exact absurd w (by decide)
    · exact absurd w (by decide)
    · exact absurd w (by decide)
    · exact absurd w (by decide)
    · exact w
  obtain ⟨z1, z2, z3, -, -, z6, -⟩ := r8 (by rw [h21]; exact Or.inr (Or.inr (Or.inr (Or.inr ⟨Or.inl rfl, w'⟩))))
  exact ⟨z1, z2, z3, fun w => absurd w (by decide), fun w => absurd w (by decide), fun _ _ => z6 (by rw [h21]; decide) (by rw [h21]; decide), fun w => absurd w (by decide)⟩
set_option maxHeartbeats 20000000 in
/-- what is set: the node and its right side -/
theorem set_s {S T S1 T1 S3 T3 : gM} {n rr K l : Int} (G : pG 1 S T) (k1 : kE (σ 68 10) (nd σ (σ 68 10)) σ S τ T) (m0 : 0 ≤ σ 68 10) (hnn : σ 68 10 ≤ n ∧ n < S 68 10) (c70 : S 70 n ≠ 30) (p1 : PX S T 0 (σ 68 10) (S 68 10) n 0) (nb1 : NB S T 0 (σ 68 19 - 1) (σ 68 10) (S 68 10)) (o1 : S 68 21 = σ 68 21) (u1 : S 68 22 = σ 68 22) (xa : anyB S T n) (hKf : ∀ _ : Unit, (K = 6 ∧ S 70 n = 5 ∧ isLoc S1 T1 (S 68 19 - 1) l (S 76 n) (S 76 n + S 77 n)) ∨ (K = 22 ∧ S 70 n = 21 ∧ l = S 76 n)) (ks1 : ∀ M N, kE M N S S1 T T1) (fs1 : ∀ e i, e ≠ 84 → e ≠ 85 → e ≠ 86 → S1 e i = S e i) (ft1 : ∀ e i, e ≠ 152 → e ≠ 153 → e ≠ 154 → T1 e i = T e i) (G3 : pG 1 S3 T3) (k3 : kE (S 68 10) (T 119 43) (gW (gW S1 70 n K) 76 n l) S3 T1 T3) (p3 : PX S3 T3 0 (S 68 10) (S3 68 10) rr 0) (nb3 : NB S3 T3 0 (S 68 19 - 1) (S 68 10) (S3 68 10)) (o3 : S3 68 21 = S 68 21 + 1) (u3 : S3 68 22 = S 68 22) (hr : S 68 10 ≤ rr ∧ rr < S3 68 10) :
    XG σ τ (σ 68 10) (gW (gW S3 74 n rr) 68 21 (S 68 21)) (gW (gW (gW T3 119 28 (S 68 21)) 135 (nd S n) K) (if K = 22 then 140 else 138) (nd S n) (nd S3 rr)) n ∧ anyB (gW (gW S3 74 n rr) 68 21 (S 68 21)) (gW (gW (gW T3 119 28 (S 68 21)) 135 (nd S n) K) (if K = 22 then 140 else 138) (nd S n) (nd S3 rr)) n ∧ nd (gW (gW S3 74 n rr) 68 21 (S 68 21)) n = nd S n := by
  have h7 := G.2.2.2.2.2.2.1
  have np := nd_pos (σ := S) (i := n) (by omega)
  have K30 : K ≠ 30 := by rcases hKf () with ⟨h, -⟩ | ⟨h, -⟩ <;> omega
  have g43 := G.2.2.2.2.1
  have A1 : ∀ e i, 70 ≤ e → e ≤ 78 → i < S 68 10 → ¬ (i = n ∧ (e = 70 ∨ e = 76)) → S3 e i = S e i := fun e i e0 e1 i1 q => by
    have u : gW (gW S1 70 n K) 76 n l e i = S1 e i := by
      unfold gW
      rw [if_neg (by omega), if_neg (by omega)]
    rw [k3.2.1 e i e0 e1 i1, u, fs1 e i (by omega) (by omega) (by omega)]
  have s70 : S3 70 n = K := by rw [k3.2.1 70 n (by decide) (by decide) (by omega), gW_c (by decide), gW_at]
  have s76 : S3 76 n = l := by rw [k3.2.1 76 n (by decide) (by decide) (by omega), gW_at]
  have A2 : ∀ e j, 135 ≤ e → e ≤ 145 → j < T 119 43 → T3 e j = T e j := fun e j e0 e1 j1 => by rw [k3.2.2.2.2.2.2.2.1 e j e0 e1 j1, ft1 e j (by omega) (by omega) (by omega)]
  have nd3 : ∀ i, i ≤ S 68 10 → nd S3 i = nd S i := fun i hi => nd_congr fun j j0 j1 => by
    by_cases q : j = n
    · subst q; rw [s70]; omega
    · rw [A1 70 j (by decide) (by decide) (by omega) (by omega)]
  generalize hC : (if K = 22 then (140 : Int) else 138) = C
  have hC2 : C = 138 ∨ C = 140 := by
    rw [← hC]
    split
    · exact Or.inr rfl
    · exact Or.inl rfl
  have w1 : ∀ e i, e ≠ 68 → ¬ (e = 74 ∧ i = n) → gW (gW S3 74 n rr) 68 21 (S 68 21) e i = S3 e i := fun e i q1 q2 => by
    rw [gW_c q1]
    unfold gW
    rw [if_neg q2]
  have w74 : gW (gW S3 74 n rr) 68 21 (S 68 21) 74 n = rr := by rw [gW_c (by decide), gW_at]
  have w10 : gW (gW S3 74 n rr) 68 21 (S 68 21) 68 10 = S3 68 10 := by rw [gW_i (by decide), gW_c (by decide)]
  have v1 : ∀ e j, e ≠ 119 → ¬ (e = 135 ∧ j = nd S n) → ¬ (e = C ∧ j = nd S n) → gW (gW (gW T3 119 28 (S 68 21)) 135 (nd S n) K) C (nd S n) (nd S3 rr) e j = T3 e j := fun e j q1 q2 q3 => by
    unfold gW
    rw [if_neg q3, if_neg q2, if_neg (by omega)]
  have vC : gW (gW (gW T3 119 28 (S 68 21)) 135 (nd S n) K) C (nd S n) (nd S3 rr) C (nd S n) = nd S3 rr := gW_at _ _ _ _
  have v135 : gW (gW (gW T3 119 28 (S 68 21)) 135 (nd S n) K) C (nd S n) (nd S3 rr) 135 (nd S n) = K := by rw [gW_c (by omega), gW_at]
  have ndF : ∀ i, nd (gW (gW S3 74 n rr) 68 21 (S 68 21)) i = nd S3 i := fun i => by rw [nd_w (by omega), nd_w (by omega)]
  have ndn : nd (gW (gW S3 74 n rr) 68 21 (S 68 21)) n = nd S n := by rw [ndF, nd3 n (by omega)]
  have mlt : nd S n < T 119 43 := by rw [g43]; exact nd_lt (by omega) hnn.2 c70
  have N0 := nd_r (σ := S) (i := σ 68 10) (j := n) (by omega) (by omega)
  have e0 := k1.nd (i := σ 68 10) (Int.le_refl _)
  have NM := nd_r (σ := S) (i := σ 68 10) (j := S 68 10) (by omega) (by omega)
  have GF : pG 1 (gW (gW S3 74 n rr) 68 21 (S 68 21)) (gW (gW (gW T3 119 28 (S 68 21)) 135 (nd S n) K) C (nd S n) (nd S3 rr)) := (((G3.w (a := 74) (by decide)).o (by omega)).v (by decide)).v (by omega)
  have kF : kE (σ 68 10) (nd σ (σ 68 10)) σ (gW (gW S3 74 n rr) 68 21 (S 68 21)) τ (gW (gW (gW T3 119 28 (S 68 21)) 135 (nd S n) K) C (nd S n) (nd S3 rr)) := ((((((((k1.tr (ks1 (σ 68 10) (nd σ (σ 68 10))) (Int.le_refl _) (Int.le_refl _)).w (a := 70) (i := n) (v := K) (by decide) (by omega)).w (a := 76) (i := n) (v := l) (by decide) (by omega)).tr k3 (by omega) (by omega)).w (a := 74) (v := rr) (by decide) (by omega)).o (i := 21) (v := S 68 21) (by decide)).u (i := 28) (v := S 68 21) (by decide)).v (a := 135) (v := K) (by decide) (by omega)).v (by omega) (by omega) (fun h => by omega)
  -- parts that were there
  have mvP : ∀ a b x, σ 68 10 ≤ a → b ≤ S 68 10 → (n < a ∨ b ≤ n) → PX S T 0 a b x 0 → PX (gW (gW S3 74 n rr) 68 21 (S 68 21)) (gW (gW (gW T3 119 28 (S 68 21)) 135 (nd S n) K) C (nd S n) (nd S3 rr)) 0 a b x 0 := by
    intro a b x ha hb hnn ⟨dd, h⟩
    have hab := (PT_ab _ _ _ _ _ _ h).1
    refine ⟨dd, PT_fr dd 0 a b x 0 (by omega) (fun i i0 i1 => ?_) (fun i i0 i1 _ => by rw [w1 75 i (by decide) (by omega), A1 75 i (by decide) (by decide) (by omega) (by omega)]) (fun i i0 i1 => by rw [ndF, nd3 i (by omega)]) (fun i i0 i1 _ _ => ?_) h⟩
    · refine ⟨Or.inl ?_, ?_, ?_, ?_, fun _ => ?_⟩
      · rw [w1 70 i (by decide) (by omega), A1 70 i (by decide) (by decide) (by omega) (by omega)]
      · rw [w1 72 i (by decide) (by omega), A1 72 i (by decide) (by decide) (by omega) (by omega)]
      · rw [w1 73 i (by decide) (by omega), A1 73 i (by decide) (by decide) (by omega) (by omega)]
      · rw [w1 74 i (by decide) (by omega), A1 74 i (by decide) (by decide) (by omega) (by omega)]
      · rw [w1 76 i (by decide) (by omega), A1 76 i (by decide) (by decide) (by omega) (by omega)]
    · have := nd_r (σ := S) (i := b) (j := S 68 10) (by omega) hb
      rw [v1 141 i (by decide) (by omega) (by omega), A2 141 i (by decide) (by decide) (by omega)]
  have pR : PX (gW (gW S3 74 n rr) 68 21 (S 68 21)) (gW (gW (gW T3 119 28 (S 68 21)) 135 (nd S n) K) C (nd S n) (nd S3 rr)) 0 (S 68 10) (S3 68 10) rr 0 := ((((p3.w (by omega) (by omega) (by omega)).w (by omega) (by omega) (by omega)).v (by omega) (by omega)).v (by omega) (by omega)).v (by omega) (by omega)
  have c72 : gW (gW S3 74 n rr) 68 21 (S 68 21) 72 n = S 72 n := by rw [w1 72 n (by decide) (by omega), A1 72 n (by decide) (by decide) (by omega) (by omega)]
  have c73 : gW (gW S3 74 n rr) 68 21 (S 68 21) 73 n = S 73 n := by rw [w1 73 n (by decide) (by omega), A1 73 n (by decide) (by decide) (by omega) (by omega)]
  have cK : gW (gW S3 74 n rr) 68 21 (S 68 21) 70 n = K := by rw [w1 70 n (by decide) (by omega), s70]
  have c71 : gW (gW S3 74 n rr) 68 21 (S 68 21) 71 n = S 71 n := by rw [w1 71 n (by decide) (by omega), A1 71 n (by decide) (by decide) (by omega) (by omega)]
  have c76 : gW (gW S3 74 n rr) 68 21 (S 68 21) 76 n = l := by rw [w1 76 n (by decide) (by omega), s76]
  have c77 : gW (gW S3 74 n rr) 68 21 (S 68 21) 77 n = S 77 n := by rw [w1 77 n (by decide) (by omega), A1 77 n (by decide) (by decide) (by omega) (by omega)]
  have tt : ∀ e, 136 ≤ e → e ≤ 145 → e ≠ C → gW (gW (gW T3 119 28 (S 68 21)) 135 (nd S n) K) C (nd S n) (nd S3 rr) e (nd S n) = T e (nd S n) := fun e e0 e1 e2 => by rw [v1 e _ (by omega) (by omega) (by omega), A2 e _ (by omega) e1 mlt]
  have t134 : gW (gW (gW T3 119 28 (S 68 21)) 135 (nd S n) K) C (nd S n) (nd S3 rr) 134 = T 134 := by
    rw [gW_cell (by omega), gW_cell (by decide), gW_cell (by decide), k3.2.2.2.2.2.2.1 134 (by decide) (by decide) (by decide)]
    funext i
    exact ft1 134 i (by decide) (by decide) (by decide)
  have s692 : gW (gW S3 74 n rr) 68 21 (S 68 21) 69 2 = S 69 2 := by
    rw [w1 69 2 (by decide) (by omega), k3.2.2.2.1 2 (by decide), gW_c (by decide), gW_c (by decide), fs1 69 2 (by decide) (by decide) (by decide)]
  have f19 : S 68 19 = σ 68 19 := k1.2.2.1 19 (by decide)
  have lcF : ∀ l p e, isLoc S T (σ 68 19 - 1) l p e → isLoc (gW (gW S3 74 n rr) 68 21 (S 68 21)) (gW (gW (gW T3 119 28 (S 68 21)) 135 (nd S n) K) C (nd S n) (nd S3 rr)) (σ 68 19 - 1) l p e := fun l' p e w => by
    have kS : kE 0 0 S (gW (gW S3 74 n rr) 68 21 (S 68 21)) T (gW (gW (gW T3 119 28 (S 68 21)) 135 (nd S n) K) C (nd S n) (nd S3 rr)) := (((((((ks1 0 0).w (a := 70) (i := n) (v := K) (by decide) (by omega)).w (a := 76) (i := n) (v := l) (by decide) (by omega)).tr k3 (by omega) (by omega)).w (a := 74) (v := rr) (by decide) (by omega)).o (i := 21) (v := S 68 21) (by decide)).u (i := 28) (v := S 68 21) (by decide)).v (a := 135) (v := K) (by decide) (by omega) |>.v (by omega) (by omega) (fun h => by omega)
    exact w.kE kS (by rw [f19])
  have nhr : nh (gW (gW S3 74 n rr) 68 21 (S 68 21)) rr = nd S3 rr := by
    unfold nh
    rw [if_neg (by omega), ndF]
  have nhx : ∀ x, x < S 68 10 → nh (gW (gW S3 74 n rr) 68 21 (S 68 21)) x = nh S x := fun x hx => by
    unfold nh
    by_cases q : x < 0
    · rw [if_pos q, if_pos q]
    · rw [if_neg q, if_neg q, ndF, nd3 x (by omega)]
  have rn := (nb1 n hnn.1 hnn.2).1 c70
  refine ⟨⟨GF, kF, ?_, ?_, by rw [gW_at, o1], by rw [gW_i (by decide), gW_c (by decide), u3, u1]⟩, ⟨?_, ?_⟩, ndn⟩
  · rw [w10]
    obtain ⟨dd, p1'⟩ := p1
    cases dd with
    | zero => exact p1'.elim
    | succ dd =>
      obtain ⟨pb, pc⟩ := p1'
      rcases hKf () with ⟨hK, h5, -⟩ | ⟨hK, h21, -⟩
      · have : σ 68 10 = n ∧ S 68 10 = n + 1 ∧ S 72 n = -1 ∧ S 73 n = -1 := by
          rcases pc with ⟨-, q1, q2, q3, q4, -⟩ | ⟨q, -⟩ | ⟨q, -⟩ | ⟨q, -⟩ | ⟨q, -⟩ | ⟨q, -⟩
          · exact ⟨q1, q2, q3, q4⟩
          · omega
          · omega
          · omega
          · omega
          · omega
        obtain ⟨q1, q2, q3, q4⟩ := this
        obtain ⟨d2, hR⟩ := pR
        refine ⟨d2 + 1, by omega, Or.inr (Or.inl ⟨by rw [cK, hK], q1, by rw [c72, q3], by rw [c73, q4], ?_⟩)⟩
        rw [w74, ← q2]
        exact hR
      · have : PX S T 0 (σ 68 10) n (S 72 n) 0 ∧ ((S 73 n = -1 ∧ S 68 10 = n + 1) ∨ (0 ≤ S 73 n ∧ PX S T 0 (n + 1) (S 68 10) (S 73 n) 0)) := by
          rcases pc with ⟨q, -⟩ | ⟨q, -⟩ | ⟨q, -⟩ | ⟨q, -⟩ | ⟨-, q1, qq, q2, q3⟩ | ⟨q, -⟩
          · omega
          · omega
          · omega
          · omega
          · have eq : qq = S 68 10 := by
              rcases q3 with ⟨_, _, q3⟩ | ⟨q3, _⟩
              · exact q3
              · omega
            refine ⟨⟨dd, q1⟩, ?_⟩
            rw [eq] at q2
            rcases q2 with ⟨q2, q4⟩ | ⟨q2, q4⟩
            · exact Or.inl ⟨q2, q4⟩
            · exact Or.inr ⟨q2, dd, q4⟩
          · omega
        obtain ⟨q1, q2⟩ := this
        have m1 := mvP _ _ _ (Int.le_refl _) (by omega) (by omega) q1
        rcases q2 with ⟨q2, q3⟩ | ⟨q2, q3⟩
        · obtain ⟨d2, h1, h2⟩ := m1.two pR
          refine ⟨d2 + 1, by omega, Or.inr (Or.inr (Or.inr (Or.inr (Or.inl ⟨by rw [cK]; omega, by rw [c72]; exact h1, S 68 10, Or.inl ⟨by rw [c73, q2], q3⟩, Or.inr ⟨by rw [cK, hK], by rw [w74]; exact h2⟩⟩))))⟩
        · obtain ⟨d2, h1, h2, h3⟩ := m1.three (mvP _ _ _ (by omega) (Int.le_refl _) (by omega) q3) pR
          refine ⟨d2 + 1, by omega, Or.inr (Or.inr (Or.inr (Or.inr (Or.inl ⟨by rw [cK]; omega, by rw [c72]; exact h1, S 68 10, Or.inr ⟨by rw [c73]; exact q2, by rw [c73]; exact h2⟩, Or.inr ⟨by rw [cK, hK], by rw [w74]; exact h3⟩⟩))))⟩
  · rw [w10]
    intro i i0 i1
    by_cases hi : i < S 68 10
    · by_cases hin : i = n
      · subst hin
        refine ⟨fun _ => ?_, fun w => absurd (cK.symm.trans w) K30⟩
        rcases hKf () with ⟨hK, h5, hl⟩ | ⟨hK, h21, hl⟩
        · have eC : C = 138 := by rw [← hC, if_neg (by omega)]
          subst eC
          have q7 : S 72 i = -1 ∧ S 73 i = -1 ∧ S 74 i = -1 := by
            obtain ⟨dd, p1'⟩ := p1
            cases dd with
            | zero => exact p1'.elim
            | succ dd =>
              obtain ⟨pb, pc⟩ := p1'
              rcases pc with ⟨-, q1, q2, q3, q4, q5⟩ | ⟨q, -⟩ | ⟨q, -⟩ | ⟨q, -⟩ | ⟨q, -⟩ | ⟨q, -⟩
              · exact ⟨q3, q4, q5⟩
              · rw [h5] at q; exact absurd q (by decide)
              · rw [h5] at q; exact absurd q (by decide)
              · rw [h5] at q; exact absurd q (by decide)
              · rw [h5] at q; exact absurd q (by decide)
              · rw [h5] at q; exact absurd q (by decide)
          have i8 := rn.2.2.2.2.2.2.2.1 (Or.inr (Or.inr (Or.inl ⟨h5, rfl⟩)))
          refine RN_set6 rn h5 (by omega) q7 ndn (cK.trans hK) c71 c72 c73 w74 c76 (v135.trans hK) tt (vC.trans nhr.symm) (by omega) ?_ (by omega)
          rw [i8.1, i8.2.1]
          have kS : kE 0 0 S1 (gW (gW S3 74 i rr) 68 21 (S 68 21)) T1 (gW (gW (gW T3 119 28 (S 68 21)) 135 (nd S i) K) 138 (nd S i) (nd S3 rr)) := ((((((((kE.rf (M := 0) (N := 0)).w (a := 70) (i := i) (v := K) (by decide) (by omega)).w (a := 76) (i := i) (v := l) (by decide) (by omega)).tr k3 (by omega) (by omega)).w (a := 74) (v := rr) (by decide) (by omega)).o (i := 21) (v := S 68 21) (by decide)).u (i := 28) (v := S 68 21) (by decide)).v (a := 135) (v := K) (by decide) (by omega)).v (by decide) (by omega)
          rw [← f19]
          exact hl.kE kS (by rw [fs1 68 19 (by decide) (by decide) (by decide)])
        · have eC : C = 140 := by rw [← hC, if_pos hK]
          subst eC
          exact RN_set22 rn h21 (by omega) ndn (cK.trans hK) c71 c72 c73 w74 (c76.trans hl) c77 (v135.trans hK) tt (vC.trans nhr.symm) (by omega) (nhx _ (by have := rn.2.2.1; omega)) (nhx _ (by have := rn.2.2.1; omega)) s692 (by omega)
      · rw [w1 70 i (by decide) (by omega), A1 70 i (by decide) (by decide) hi (by omega), w1 72 i (by decide) (by omega), A1 72 i (by decide) (by decide) hi (by omega)]
        refine ⟨fun k30 => ?_, fun w => by have := (nb1 i i0 hi).2 w; omega⟩
        have rni := (nb1 i i0 hi).1 k30
        have ilt := nd_lt (σ := S) (i := i) (j := S 68 10) (by omega) hi k30
        have ine : nd S i ≠ nd S n := by
          intro w
          rcases Int.lt_or_gt_of_ne hin with h | h
          · have := nd_lt (σ := S) (i := i) (j := n) (by omega) h k30; omega
          · have := nd_lt (σ := S) (i := n) (j := i) (by omega) h c70; omega
        refine (rni.fr (by omega) hi (fun x x0 x1 x2 => by rw [w1 x i (by omega) (by omega), A1 x i x0 (by omega) hi (by omega)]) (fun x x0 x1 => by rw [ndF, nd3 x x1]) (fun x x0 x1 => ?_) (fun x x0 x1 x2 => by rw [v1 x _ (by omega) (by omega) (by omega), A2 x _ x0 (by omega) (by omega)]) t134 s692 lcF).le (by omega)
        unfold ps
        have z72 : gW (gW S3 74 n rr) 68 21 (S 68 21) 72 x = S 72 x := by rw [w1 72 x (by decide) (by omega), A1 72 x (by decide) (by decide) x1 (by omega)]
        have z70 : gW (gW S3 74 n rr) 68 21 (S 68 21) 70 x = 30 ↔ S 70 x = 30 := by
          rw [w1 70 x (by decide) (by omega)]
          by_cases q : x = n
          · subst q; rw [s70]; omega
          · rw [A1 70 x (by decide) (by decide) x1 (by omega)]
        rw [z72, ndF, ndF, nd3 x (by omega)]
        by_cases q : S 70 x = 30
        · have := (nb1 x (by omega) x1).2 q
          rw [if_pos q, if_pos (z70.mpr q), nd3 _ (by omega)]
        · rw [if_neg q, if_neg (fun w => q (z70.mp w))]
    · have nb4 := (((nb3.w (e := 74) (k := n) (v := rr) (by decide) (by omega) (by omega)).kE (σ' := gW (gW S3 74 n rr) 68 21 (S 68 21)) (τ' := gW T3 119 28 (S 68 21)) (M := S3 68 10) (N := nd (gW S3 74 n rr) (S3 68 10)) ((kE.rf.o (by decide)).u (by decide)) (by rw [gW_c (by decide), k3.2.2.1 19 (by decide), gW_c (by decide), gW_c (by decide), fs1 68 19 (by decide) (by decide) (by decide)]) (by omega) (Int.le_refl _) (Int.le_refl _)).v (e := 135) (k := nd S n) (v := K) (by omega) (by decide) (by rw [ndF, ndF, nd3 _ (Int.le_refl _)]; omega)).v (e := C) (k := nd S n) (v := nd S3 rr) (by omega) (by omega) (by rw [ndF, ndF, nd3 _ (Int.le_refl _)]; omega)
      rw [f19] at nb4
      exact nb4 i (by omega) i1
  · rw [w1 75 n (by decide) (by omega), A1 75 n (by decide) (by decide) (by omega) (by omega)]
    exact xa.1
  · rw [ndn, tt 141 (by decide) (by decide) (by omega)]
    exact xa.2
set_option maxHeartbeats 20000000 in
theorem e_s (hD : (D' : Int) ≤ D + 10) (iho : XS bare D' (ps_or d) (md_either d')) (ihe : XS anyB D (ps_e d) (md_e d')) (ihb : XB (ps_e d)) : XS anyB D' (ps_e (d + 1)) (md_e (d' + 1)) := by
  intro σ τ G0 ho0
  rw [ps_e_e, md_e_e]
  rcases iho σ τ G0 ho0 with ⟨S, T, n, x1, x2, xg, xb⟩ | ⟨S, T, n, x1, x2, b, hn⟩
  · rw [x1, x2]
    simp only [Option.bind_some, gtry]
    have xn := xg.n
    have xg' := xg
    obtain ⟨G, k1, p1, nb1, o1, u1⟩ := xg
    obtain ⟨xb0, xa⟩ := xb
    rw [ps_good_g G.2.2.1]
    simp only [Option.bind_some]
    rw [if_neg (by decide), tk_is_s G.2.1.2 G.2.2.1 (c := 61) (t := 39) (by unfold sG; decide)]
    simp only [Option.bind_some]
    by_cases c39 : T 119 25 = 39
    · rw [if_pos c39, if_pos c39, if_neg (by decide), if_pos (show 0 ≤ n ∧ n < 4200 by omega), if_pos (show 0 ≤ nd S n ∧ nd S n < 4004 by omega)]
      have kp := G.2.1.1
      unfold tKp at kp
      have h7 := G.2.2.2.2.2.2.1
      have rn := (nb1 n (by omega) (by omega)).1 xn.2.2.2.1
      have t135 := rn.1.1
      have fin : ∀ (k : Int) (T' : gM) (p : Int), k ≠ 0 → T' 119 30 = k → T' 119 31 = p → XR anyB σ τ (σ 68 10) ((tk_fails S k p).bind fun p6 => ps_e_b108 d p6.1 n) (some (T', none)) := by
        intro k T' p hk h1 h2
        have bb : bd (S 68 10) (gW (gW S 69 8 k) 69 9 p) T' := by
          obtain ⟨y1, y2, y3, y4, y5⟩ := bd_of G (k := k) (p := p) hk
          exact ⟨y1, by simp [gW, h1], by simp [gW, h2], y4, y5⟩
        obtain ⟨S', e1, e2⟩ := e_108 ihb bb (by omega) (n := n) (by omega)
        right
        refine ⟨S', T', n, ?_, rfl, e2.le (by omega), by omega⟩
        rw [tk_fails_g G.2.2.1]
        simp only [Option.bind_some]
        exact e1
      rcases xb0 with ⟨b78, b145, bk⟩ | ⟨b78, b145⟩
      · rw [if_neg (show ¬ S 78 n = 0 by omega), t135]
        have e31 : ∀ y, (y = 1 ∧ S 70 n = 5 ∨ y = 0 ∧ S 70 n = 21) → md_e_b31 d' T (nd S n) y = md_e_b66 d' T (nd S n) y := by
          intro y hy
          rw [md_e_b31_e, if_pos (by omega), if_pos b145]
          rcases hy with ⟨h1, h2⟩ | ⟨h1, h2⟩
          · rw [if_neg (by omega)]
          · rw [if_pos h1, if_pos (by omega), t135, if_pos h2]
        by_cases o20 : S 68 21 = 20
        · rw [if_pos o20]
          obtain ⟨f1, f2⟩ := fail_s (k := 3) G (p := S 69 5) (q := T 119 26) G.2.1.1.1
          have e66 : ∀ y, md_e_b66 d' T (nd S n) y = some (gW (gW T 119 30 3) 119 31 (S 69 5), none) := fun y => by
            rw [md_e_b66_e, md_opens_e, if_pos (by omega), f2]
            rfl
          rcases bk with bk | bk
          · rw [if_pos bk, e31 1 (by omega), e66]
            exact fin 3 _ _ (by decide) (by simp [gW]) (by simp [gW])
          · rw [if_neg (by omega), e31 0 (by omega), e66]
            exact fin 3 _ _ (by decide) (by simp [gW]) (by simp [gW])
        · rw [if_neg o20, if_pos (by omega)]
          have end_ : ∀ (S1 T1 : gM) (K l v : Int), (K = 6 ∧ v = 1 ∧ S 70 n = 5 ∧ isLoc S1 T1 (S 68 19 - 1) l (S 76 n) (S 76 n + S 77 n) ∨ K = 22 ∧ v = 0 ∧ S 70 n = 21 ∧ l = S 76 n) → pG 1 S1 T1 → (∀ M N, kE M N S S1 T T1) → (∀ e i, e ≠ 84 → e ≠ 85 → e ≠ 86 → S1 e i = S e i) → (∀ e i, e ≠ 152 → e ≠ 153 → e ≠ 154 → T1 e i = T e i) →
              XR anyB σ τ (σ 68 10) (ps_e_b108 d (gW (gW S1 70 n K) 76 n l) n) (md_e_b135 d' (gW T1 119 28 (S 68 21 + 1)) (nd S n) v) := by
            intro S1 T1 K l v hK G1 ks1 fs1 ft1
            have G2 : pG 1 (gW (gW S1 70 n K) 76 n l) T1 := (G1.k (by omega) (by rw [fs1 70 n (by decide) (by decide) (by decide)]; exact xn.2.2.2.1)).w (by decide)
            have c21 : gW (gW S1 70 n K) 76 n l 68 21 = S 68 21 := by rw [gW_c (by decide), gW_c (by decide), fs1 68 21 (by decide) (by decide) (by decide)]
            have c10 : gW (gW S1 70 n K) 76 n l 68 10 = S 68 10 := by rw [gW_c (by decide), gW_c (by decide), fs1 68 10 (by decide) (by decide) (by decide)]
            have c19 : gW (gW S1 70 n K) 76 n l 68 19 = S 68 19 := by rw [gW_c (by decide), gW_c (by decide), fs1 68 19 (by decide) (by decide) (by decide)]
            have c22 : gW (gW S1 70 n K) 76 n l 68 22 = S 68 22 := by rw [gW_c (by decide), gW_c (by decide), fs1 68 22 (by decide) (by decide) (by decide)]
            have t43 : T1 119 43 = T 119 43 := ft1 119 43 (by decide) (by decide) (by decide)
            have hr := right_s (n := n) (m := nd S n) (v := v) (K := K) ihe ihb G2 (by rw [c21, o1]; omega) (by rw [c21]; omega) (by rw [ft1 119 25 (by decide) (by decide) (by decide)]; omega) (by omega) (by omega) (by omega)
            rw [c21, c10, c19, c22, t43] at hr
            rcases hr with ⟨S3, T3, rr, e1, e2, G3, k3, p3, nb3, o3, u3, hb⟩ | ⟨S', T', e1, e2, b⟩
            · have eC : (if v = 0 then (140 : Int) else 138) = if K = 22 then 140 else 138 := by
                rcases hK with ⟨h1, h2, -⟩ | ⟨h1, h2, -⟩
                · rw [if_neg (by omega), if_neg (by omega)]
                · rw [if_pos h2, if_pos h1]
              rw [eC] at e2
              obtain ⟨z1, z2, z3⟩ := set_s (σ := σ) (τ := τ) G k1 (by omega) (by omega) xn.2.2.2.1 p1 nb1 o1 u1 xa (fun _ => by rcases hK with ⟨a1, -, a2, a3⟩ | ⟨a1, -, a2, a3⟩; exact Or.inl ⟨a1, a2, a3⟩; exact Or.inr ⟨a1, a2, a3⟩) ks1 fs1 ft1 G3 k3 p3 nb3 o3 u3 hb
              exact Or.inl ⟨_, _, n, e1, by rw [z3]; exact e2, z1, z2⟩
            · exact Or.inr ⟨S', T', n, e1, e2, b, by omega⟩
          rcases bk with bk | bk
          · -- a name
            have i8 := rn.2.2.2.2.2.2.2.1 (by omega)
            rw [if_pos bk, if_pos bk, e31 1 (by omega), md_e_b66_e, md_opens_g G (by omega)]
            simp only [Option.bind_some, gtry]
            rw [if_neg (by decide), if_pos (by omega), if_pos (by omega)]
            have h9 := G.2.2.2.2.2.2.2.2.1
            have hL := G.2.2.2.2.2.2.2.2.2
            have hL12 := hL.1
            have n71 := i8.2.2.2.2.2.2 bk
            have n12 := i8.2.2.2.2.2.1 (by omega) (by omega)
            have u142 : gW T 119 28 (S 68 21 + 1) 142 (nd S n) = S 76 n := by rw [gW_c (by decide), i8.1]
            have u143 : gW T 119 28 (S 68 21 + 1) 143 (nd S n) = S 76 n + S 77 n := by rw [gW_c (by decide), i8.2.1]
            have hLT : pL S (gW T 119 28 (S 68 21 + 1)) (S 68 19 - 1) := hL.mv rfl rfl rfl rfl (gW_cell (by decide)) (gW_cell (by decide)) (gW_cell (by decide)) (gW_cell (by decide))
            obtain ⟨r, l1, l2, l3⟩ := local_s (G.1.r (by decide)) (f := S 68 19 - 1) (p := S 76 n) (n := S 77 n) (by omega) (by rw [gW_i (by decide)]; omega) hLT (by omega)
            have te : ∀ p n q m, tE (gW T 119 28 (S 68 21 + 1)) p n q m ↔ tE T p n q m := fun p n q m => tE.mv (gW_cell (by decide))
            have sets : ps_sets S n = if r < 0 then (if S 84 (S 68 19 - 1) = 12 then ((tk_fails S 4 (S 71 n)).bind fun p2 => some (p2.1, 0)) else ps_sets_b56 S n (S 68 19 - 1) r) else ps_sets_b56 S n (S 68 19 - 1) r := by
              rw [ps_sets_e, if_pos (by omega), if_pos (by omega), w32_e (by omega) (by omega), l1]
              simp only [Option.bind_some]
              rw [if_pos (show 0 ≤ S 68 19 - 1 ∧ S 68 19 - 1 < 50 by omega), if_pos (show 0 ≤ n ∧ n < 4200 by omega)]
            rw [u142, u143, l2]
            simp only [Option.bind_some]
            rcases l3 with ⟨l3, l4⟩ | ⟨l3, l4⟩
            · have h54 : 0 ≤ gW T 119 28 (S 68 21 + 1) 119 54 ∧ gW T 119 28 (S 68 21 + 1) 119 54 < 51 := by rw [gW_i (by decide)]; omega
              rw [sets, if_pos (show r < 0 by omega), if_pos (show r < 0 by omega), if_pos h54, gW_i (by decide), h9.2.2, gW_c (by decide), hL.2.1]
              by_cases full : S 84 (S 68 19 - 1) = 12
              · rw [if_pos full, if_pos full, if_pos (by omega), md_fails_s, u142, tk_fails_g G.2.2.1]
                have := fin 4 (gW (gW (gW T 119 28 (S 68 21 + 1)) 119 30 4) 119 31 (S 76 n)) (S 71 n) (by decide) (by simp [gW]) (by simp [gW, n71])
                rw [tk_fails_g G.2.2.1] at this
                simp only [Option.bind_some, gthr_s] at this ⊢
                exact this
              · rw [if_neg full, if_neg full, if_pos (by omega), if_pos (by omega)]
                obtain ⟨a1, -⟩ := adds_l (p := S 76 n) (n := S 77 n) (f := S 68 19 - 1) (by omega) h9.2.2 hL (by omega) (e := S 76 n + S 77 n)
                have a2 : md_addLocal (gW T 119 28 (S 68 21 + 1)) (S 76 n) (S 76 n + S 77 n) = some (gW (aM T (S 76 n) (S 76 n + S 77 n)) 119 28 (S 68 21 + 1), 0) := by
                  obtain ⟨-, a2⟩ := adds_l (p := S 76 n) (n := S 77 n) (f := S 68 19 - 1) (by omega) (by rw [gW_i (by decide)]; exact h9.2.2) hLT (by omega) (e := S 76 n + S 77 n)
                  rw [a2, aM_28]
                obtain ⟨G1, ks1, lc⟩ := pG_adds (e := S 76 n + S 77 n) G (by omega) rfl (by omega) (fun l l0 l1' w => l4 l l0 l1' ((te _ _ _ _).mpr w))
                have an := @aC_n S (S 68 19 - 1) (S 76 n) (S 77 n)
                have s56 : ps_sets_b56 S n (S 68 19 - 1) r = some (gW (gW (aC S (S 68 19 - 1) (S 76 n) (S 77 n)) 70 n 6) 76 n (S 84 (S 68 19 - 1)), 0) := by
                  rw [ps_sets_b56_e, if_pos (by omega), if_pos (by omega), if_pos (by omega), a1]
                  simp only [Option.bind_some]
                  rw [ps_sets_b77_e, if_pos (by omega), if_pos (by omega), if_pos (by omega), an.1, w32_e (by omega) (by omega), ps_sets_b106_e, if_pos (by omega), show S 84 (S 68 19 - 1) + 1 - 1 = S 84 (S 68 19 - 1) by omega]
                rw [s56, u142, u143, a2]
                simp only [Option.bind_some]
                exact end_ _ _ 6 _ 1 (Or.inl ⟨rfl, rfl, bk, lc⟩) G1 ks1 (fun e i q1 q2 q3 => aC_o (Or.inl ⟨q1, q2, q3⟩)) (fun e i q1 q2 q3 => aM_o (Or.inl ⟨q1, q2, q3⟩))
            · have s56 : ps_sets S n = some (gW (gW S 70 n 6) 76 n r, 0) := by
                rw [sets, if_neg (by omega), ps_sets_b56_e, if_neg (by omega), ps_sets_b77_e, if_pos (by omega), if_neg (by omega), ps_sets_b106_e, if_pos (by omega)]
              rw [s56, if_neg (by omega)]
              simp only [Option.bind_some]
              refine end_ S T 6 r 1 (Or.inl ⟨rfl, rfl, bk, ⟨l3, ?_, by omega⟩⟩) G (fun M N => kE.rf) (fun _ _ _ _ _ => rfl) (fun _ _ _ _ _ => rfl)
              rw [show S 76 n + S 77 n - S 76 n = S 77 n by omega]
              exact (te _ _ _ _).mp l4
          · rw [if_neg (show ¬ S 70 n = 5 by omega), if_neg (show ¬ S 70 n = 5 by omega), if_pos (show 0 ≤ n ∧ n < 4200 by omega), e31 0 (by omega), md_e_b66_e, md_opens_g G (by omega)]
            simp only [Option.bind_some, gtry]
            rw [if_pos (by trivial)]
            have := end_ S T 22 (S 76 n) 0 (Or.inr ⟨rfl, rfl, bk, rfl⟩) G (fun M N => kE.rf) (fun _ _ _ _ _ => rfl) (fun _ _ _ _ _ => rfl)
            rw [gW_nop (show gW S 70 n 22 76 n = S 76 n from gW_c (by decide))] at this
            exact this
      · rw [if_pos b78]
        obtain ⟨f1, f2⟩ := fail_s (k := 2) G (p := S 69 5) (q := T 119 26) G.2.1.1.1
        have e56 : md_e_b56 d' T = some (gW (gW T 119 30 2) 119 31 (S 69 5), none) := by rw [md_e_b56_e]; exact f2
        have e31 : ∀ y, (y = 1 ∧ S 70 n = 5 ∨ y = 0 ∧ S 70 n ≠ 5) → md_e_b31 d' T (nd S n) y = some (gW (gW T 119 30 2) 119 31 (S 69 5), none) := by
          intro y hy
          rw [md_e_b31_e, if_pos (by omega), e56, t135]
          by_cases q : T 145 (nd S n) = 0
          · rw [if_pos q]
            rcases hy with ⟨h1, h2⟩ | ⟨h1, h2⟩
            · omega
            · rw [if_pos h1, if_pos (by omega), if_neg (by omega)]
          · rw [if_neg q]
        rw [t135]
        by_cases bk : S 70 n = 5
        · rw [if_pos bk, e31 1 (by omega)]
          exact fin 2 _ _ (by decide) (by simp [gW]) (by simp [gW])
        · rw [if_neg bk, e31 0 (by omega)]
          exact fin 2 _ _ (by decide) (by simp [gW]) (by simp [gW])
    · rw [if_neg c39, if_neg c39, if_pos (by trivial)]
      exact Or.inl ⟨S, T, n, rfl, rfl, xg', xa⟩
  · right
    rw [x1, x2]
    simp only [Option.bind_some]
    rw [ps_good_b b.1]
    exact ⟨S, T, n, rfl, rfl, b, hn⟩
end EE
section AL
theorem e_b {d : Nat} : XB (ps_e (d + 9)) := by
  have h1 : XB (ps_unary (d + 2)) := unary_b
  have h2 := product_b h1
  have h3 := sum_b h2
  have h8 : XB (ps_or (d + 8)) := by
    have h4 : XB (ps_less (d + 5)) := by
      have h := row_b (Lc := fun s x => (ps_good s).bind fun p2 => if p2.2 = 0 then some (p2.1, x) else ((tk_is p2.1 60).bind fun p3 => if p3.2 = 0 then ((tk_is p3.1 15421).bind fun p4 => if p4.2 = 0 then ((tk_is p4.1 62).bind fun p5 => if p5.2 = 0 then ((tk_is p5.1 15933).bind fun p6 => if p6.2 = 0 then ps_less_b85 (d + 4) p6.1 x (-1) else ps_less_b85 (d + 4) p6.1 x 15) else ps_less_b85 (d + 4) p5.1 x 14) else ps_less_b85 (d + 4) p4.1 x 13) else ps_less_b85 (d + 4) p3.1 x 12)) h3 (fun σ x b => by
        show ((ps_good σ).bind _) = _
        rw [ps_good_b b]; rfl)
      intro σ τ k b hk
      rw [ps_less_e]
      exact h σ τ k b hk
    have h5 : XB (ps_equal (d + 6)) := by
      have h := row_b (Lc := fun s x => (tk_is s 15677).bind fun p2 => (ps_good p2.1).bind fun p3 => if p3.2 = 0 then some (p3.1, x) else (if p2.2 = 0 then ((tk_is p3.1 8509).bind fun p4 => if p4.2 = 0 then some (p4.1, x) else ps_equal_b42 (d + 5) p4.1 x p2.2) else ps_equal_b42 (d + 5) p3.1 x p2.2)) h4 (fun σ x b => by
        show ((tk_is σ 15677).bind _) = _
        rw [tk_is_b b]
        simp only [Option.bind_some]
        rw [ps_good_b b]; rfl)
      intro σ τ k b hk
      rw [ps_equal_e]
      exact h σ τ k b hk
    exact or_b (and_b h5)
  intro σ τ k b hk
  obtain ⟨S, x1, x2, x3⟩ := h8 σ τ k b hk
  refine ⟨S, ?_, x2, x3⟩
  rw [ps_e_e, x1]
  simp only [Option.bind_some]
  rw [ps_good_b x2.1]
  rfl
theorem XS.vac {B : gM → gM → Int → Prop} {D : Nat} {X : gM → Option (gM × Int)} {Y : gM → Option (gM × Option Int)} (h : D < 30) : XS B D X Y := fun σ τ G ho => by
  have := G.2.2.2.2.2.2.1
  omega
theorem XS.le {B : gM → gM → Int → Prop} {D D' : Nat} {X : gM → Option (gM × Int)} {Y : gM → Option (gM × Option Int)} (h : XS B D X Y) (hd : D' ≤ D) : XS B D' X Y := fun σ τ G ho => h σ τ G (by omega)
/-- from what stands in front and behind to all -/
theorem e_of {d d' D : Nat} (hD : 10 ≤ D) (hU : XS bare D (ps_unary (d + 2)) (md_unary d')) (ihe : XS anyB (D - 10) (ps_e (d + 8)) (md_e (d' + 6))) (ihb : XB (ps_e (d + 8))) : XS anyB D (ps_e (d + 9)) (md_e (d' + 7)) := by
  have b1 : XB (ps_unary (d + 2)) := unary_b
  have h2 := product_s hU b1
  have b2 := product_b b1
  have h3 := sum_s h2 b2
  have b3 := sum_b b2
  obtain ⟨h4, b4⟩ := less_s h3 b3
  obtain ⟨h5, b5⟩ := equal_s h4 b4
  have h6 := and_s h5 b5
  have b6 := and_b b5
  have h7 := or_s h6 b6
  exact e_s (D := D - 10) (D' := D) (by omega) h7 ihe ihb
theorem e_from {n : Nat} (U : ∀ d1 d2 D, d1 ≤ n → D ≤ d1 + 7 → D ≤ d2 + 7 → XS bare D (ps_unary d1) (md_unary d2)) : ∀ (e1 e2 D : Nat), e1 ≤ n + 7 → D ≤ e1 → D ≤ e2 → XS anyB D (ps_e e1) (md_e e2)
  | 0, e2, D, h1, h2, h3 => XS.vac (by omega)
  | e1 + 1, e2, D, h1, h2, h3 => by
    by_cases q : D < 30
    · exact XS.vac q
    · obtain ⟨d, rfl⟩ : ∃ d, e1 = d + 8 := ⟨e1 - 8, by omega⟩
      obtain ⟨d', rfl⟩ : ∃ d', e2 = d' + 7 := ⟨e2 - 7, by omega⟩
      obtain ⟨k, rfl⟩ : ∃ k, d = k + 1 := ⟨d - 1, by omega⟩
      exact e_of (by omega) (U _ _ _ (by omega) (by omega) (by omega)) (e_from U _ _ _ (by omega) (by omega) (by omega)) e_b
theorem unary_all : ∀ (n d1 d2 D : Nat), d1 ≤ n → D ≤ d1 + 7 → D ≤ d2 + 7 → XS bare D (ps_unary d1) (md_unary d2)
  | 0, d1, d2, D, h1, h2, h3 => XS.vac (by omega)
  | n + 1, d1, d2, D, h1, h2, h3 => by
    by_cases q : D < 30
    · exact XS.vac q
    · obtain ⟨d, rfl⟩ : ∃ d, d1 = d + 3 := ⟨d1 - 3, by omega⟩
      obtain ⟨e2, rfl⟩ : ∃ e2, d2 = e2 + 2 := ⟨d2 - 2, by omega⟩
      obtain ⟨k, rfl⟩ : ∃ k, d = k + 8 := ⟨d - 8, by omega⟩
      exact unary_s (D := D - 10) (by omega) (unary_all n _ _ _ (by omega) (by omega) (by omega)) unary_b (e_from (unary_all n) _ _ _ (by omega) (by omega) (by omega)) (e_from (unary_all n) _ _ _ (by omega) (by omega) (by omega)) e_b
/-- what is worked out, on both sides -/
theorem e_all : XS anyB 300 (ps_e 300) (md_e 300) := e_from (unary_all 300) 300 300 300 (by omega) (by omega) (by omega)
end AL
