/-! what stands behind something: calls -/
section CL
variable {σ τ S T : gM} {d d' D : Nat} {M0 f n c l : Int}
/-- things that are given were read, from one on -/
def AG (σ τ S T : gM) (n c l : Int) : Prop := pG 1 S T ∧ (S 68 21 = σ 68 21 - 1 ∧ S 68 22 = σ 68 22) ∧ kE n (nd σ n) σ S τ T ∧
  (∀ e i, 70 ≤ e → e ≤ 78 → n ≤ i → i < σ 68 10 → ¬ (e = 76 ∧ i = n) → ¬ (l < 0 ∧ e = 73 ∧ i = n) → ¬ (0 ≤ l ∧ e = 75 ∧ i = l) → S e i = σ e i) ∧
  (∀ e j, 135 ≤ e → e ≤ 145 → nd σ n ≤ j → j < τ 119 43 → ¬ (l < 0 ∧ e = 139 ∧ j = nd σ n) → ¬ (0 ≤ l ∧ e = 141 ∧ j = nd σ l) → T e j = τ e j) ∧
  PX S T 1 (σ 68 10) (S 68 10) (if l < 0 then S 73 n else S 75 l) (S 76 n - c) ∧ (if l < 0 then T 139 (nd σ n) = nh S (S 73 n) else T 141 (nd σ l) = nh S (S 75 l)) ∧ NB S T 0 (σ 68 19 - 1) (σ 68 10) (S 68 10)
def AR (σ τ : gM) (n c l : Int) (X : Option (gM × Int)) (Y : Option (gM × Option Int)) : Prop := (∃ S T, X = some (S, n) ∧ Y = some (T, some (nd σ n)) ∧ AG σ τ S T n c l) ∨ (∃ S T, X = some (S, n) ∧ Y = some (T, none) ∧ bd 4100 S T)
theorem kE.le {M N M' N' : Int} {σ' τ' : gM} (h : kE M' N' σ σ' τ τ') (hM : M ≤ M') (hN : N ≤ N') : kE M N σ σ' τ τ' := (kE.rf (M := M) (N := N)).tr h hM hN
/-- where the loop is -/
def AI (σ τ : gM) (n c l : Int) : Prop := (0 ≤ n ∧ n < σ 68 10 ∧ σ 70 n = 23) ∧ 1 ≤ σ 68 21 ∧ (0 ≤ c ∧ c ≤ 12) ∧ ((l = -1 ∧ σ 73 n = -1 ∧ τ 139 (nd σ n) = -1) ∨ ((n < l ∧ l < σ 68 10 ∧ σ 70 l ≠ 30) ∧ σ 75 l = -1 ∧ τ 141 (nd σ l) = -1))
/-- no more of them -/
theorem args_0 (G : pG 1 σ τ) (I : AI σ τ n c l) : AR σ τ n c l (ps_call_b74 d σ n c l 0) (md_call_b43 d' τ (nd σ n) c (nh σ l) 0) := by
  obtain ⟨⟨n0, n1, n70⟩, o1, c0, hl⟩ := I
  have kp := G.2.1.1
  unfold tKp at kp
  have hm := G.2.2.2.1
  have hn := G.1.2.1
  have g43 := G.2.2.2.2.1
  rw [ps_call_b74_e, if_pos (by trivial), md_call_b43_e, if_pos (by trivial)]
  rcases ps_closes_s (c := 41) (t := 31) G (by omega) o1 with ⟨S, T, y1, y2, G1, F, p1, o2⟩ | ⟨S, T, y1, y2, b⟩
  · left
    rw [y1, y2]
    simp only [Option.bind_some, gtry]
    rw [if_pos (by omega)]
    have f1 : ∀ a i, a ≠ 69 → a ≠ 68 → S a i = σ a i := fun a i w1 w2 => by rw [F.1 a w1, gW_c w2]
    have f2 : ∀ a i, a ≠ 119 → T a i = τ a i := fun a i w1 => by rw [F.2.2.1 a w1, gW_c w1]
    have kq : ∀ M N, kE M N σ S τ T := fun M N => ((kE.rf.o (i := 21) (by decide)).u (i := 28) (by decide)).tr (kE.rd (M := M) (N := N) F (by rw [gW_c (by decide)]; omega)) (Int.le_refl _) (Int.le_refl _)
    have c10 : gW S 76 n c 68 10 = σ 68 10 := by rw [gW_c (by decide), F.1 68 (by decide), gW_i (by decide)]
    have ndd : ∀ i, nd (gW S 76 n c) i = nd σ i := fun i => by rw [nd_w (by omega)]; exact nd_congr fun j _ _ => by rw [f1 70 j (by decide) (by decide)]
    refine ⟨gW S 76 n c, T, rfl, rfl, (G1.le (by decide)).w (by decide), ⟨by rw [gW_c (by decide)]; exact o2, by rw [gW_c (by decide), F.1 68 (by decide), gW_i (by decide)]⟩, (kq n (nd σ n)).w (by decide) (Int.le_refl _), fun e i e0 e1 i0 i1 x1 x2 x3 => ?_, fun e j e0 e1 j0 j1 x1 x2 => f2 e j (by omega), ?_, ?_, ?_⟩
    · have : gW S 76 n c e i = S e i := by unfold gW; rw [if_neg x1]
      rw [this, f1 e i (by omega) (by omega)]
    · rw [c10, gW_at, show c - c = 0 by omega]
      have hd : (if l < 0 then gW S 76 n c 73 n else gW S 76 n c 75 l) = -1 := by
        rcases hl with ⟨h1, h2, -⟩ | ⟨h1, h2, -⟩
        · rw [if_pos (by omega), gW_c (by decide), f1 73 n (by decide) (by decide), h2]
        · rw [if_neg (by omega), gW_c (by decide), f1 75 l (by decide) (by decide), h2]
      rw [hd]
      exact ⟨1, Or.inl ⟨rfl, rfl, rfl⟩⟩
    · rcases hl with ⟨h1, h2, h3⟩ | ⟨h1, h2, h3⟩
      · rw [if_pos (by omega), f2 139 _ (by decide), h3, gW_c (by decide), f1 73 n (by decide) (by decide), h2]; rfl
      · rw [if_neg (by omega), f2 141 _ (by decide), h3, gW_c (by decide), f1 75 l (by decide) (by decide), h2]; rfl
    · rw [c10]; exact NB.nil
  · right
    rw [y1, y2]
    simp only [Option.bind_some]
    rw [if_pos (by omega)]
    exact ⟨_, T, rfl, rfl, (b.le (by omega)).w (by decide) (by omega)⟩
/-- behind a fault -/
theorem args_b {k : Int} (b : bd k S T) (hn : 0 ≤ n ∧ n < 4200) (hl : l < 4200) : ∃ S', ps_call_b143 d S n c l = some (S', n) ∧ bd k S' T := by
  have e : ∀ (S0 : gM) (x : Int), bd k S0 T → ∃ S', ps_call_b185 d S0 n c x = some (S', n) ∧ bd k S' T := by
    intro S0 x b0
    refine ⟨gW (gW S0 68 21 (w32 (S0 68 21 - 1))) 76 n (w32 (c + 1)), ?_, (b0.w (by decide) (by omega)).w (by decide) (by omega)⟩
    rw [ps_call_b185_e, ps_good_b b0.1]
    simp only [Option.bind_some]
    rw [if_pos (by trivial), ps_call_b215_e, ps_call_b216_e, if_pos (by trivial), ps_call_b230_e, ps_call_b74_e, if_pos (by trivial), ps_closes_b b0.1]
    simp only [Option.bind_some]
    rw [if_pos hn]
  rw [ps_call_b143_e, ps_good_b b.1]
  simp only [Option.bind_some]
  rw [if_pos (by trivial), ps_call_b158_e]
  by_cases q : l < 0
  · rw [if_pos q, if_pos hn]
    exact e _ _ (b.w (by decide) (by omega))
  · rw [if_neg q, if_pos (by omega)]
    exact e _ _ (b.w (by decide) (by omega))
theorem begins_s (G : pG 1 σ τ) : ∃ b, (b = 0 ∨ b = 1) ∧ ps_begins σ = some (σ, b) ∧ md_canBegin τ = some (τ, b) ∧ (b = 1 → σ 69 4 = 4 → τ 119 25 = 30 ∨ τ 119 25 = 41) ∧ (σ 69 4 = 4 ∨ (τ 119 25 ≠ 30 ∧ τ 119 25 ≠ 41)) := by
  have kk := G.2.1.2.k
  have i1 := tk_is_s G.2.1.2 G.2.2.1 (c := 40) (t := 30) (by unfold sG; decide)
  have i2 := tk_is_s G.2.1.2 G.2.2.1 (c := 33) (t := 41) (by unfold sG; decide)
  have w11 := tk_isWord_2_s G.1 G.2.1 G.2.2.1 (x := 11) (p := 45) (t := 17) (by unfold wS; decide)
  have w12 := tk_isWord_2_s G.1 G.2.1 G.2.2.1 (x := 12) (p := 50) (t := 18) (by unfold wS; decide)
  have w5 := tk_isWord_2_s G.1 G.2.1 G.2.2.1 (x := 5) (p := 56) (t := 19) (by unfold wS; decide)
  by_cases q : τ 119 25 = 1 ∨ τ 119 25 = 2 ∨ τ 119 25 = 3 ∨ (17 ≤ τ 119 25 ∧ τ 119 25 ≤ 19) ∨ τ 119 25 = 30 ∨ τ 119 25 = 41
  · refine ⟨1, Or.inr rfl, ?_, ?_, fun _ h => by omega, by omega⟩
    · rw [ps_begins_e]
      by_cases c1 : σ 69 4 = 1
      · rw [if_pos c1, ps_begins_b93_e]
      · by_cases c2 : σ 69 4 = 2
        · rw [if_neg c1, if_pos c2, ps_begins_b93_e]
        · by_cases c3 : σ 69 4 = 3
          · rw [if_neg c1, if_neg c2, if_pos c3, ps_begins_b93_e]
          · rw [if_neg c1, if_neg c2, if_neg c3, i1]
            simp only [Option.bind_some]
            by_cases d1 : τ 119 25 = 30
            · rw [if_pos d1, if_neg (by decide), ps_begins_b93_e]
            · rw [if_neg d1, if_pos (by trivial), i2]
              simp only [Option.bind_some]
              by_cases d2 : τ 119 25 = 41
              · rw [if_pos d2, if_neg (by decide), ps_begins_b93_e]
              · rw [if_neg d2, if_pos (by trivial), w11]
                simp only [Option.bind_some]
                by_cases d3 : τ 119 25 = 17
                · rw [if_pos d3, if_neg (by decide), ps_begins_b93_e]
                · rw [if_neg d3, if_pos (by trivial), w12]
                  simp only [Option.bind_some]
                  by_cases d4 : τ 119 25 = 18
                  · rw [if_pos d4, if_neg (by decide), ps_begins_b93_e]
                  · rw [if_neg d4, if_pos (by trivial), w5]
                    simp only [Option.bind_some]
                    rw [if_pos (show τ 119 25 = 19 by omega), if_neg (by decide), ps_begins_b93_e]
    · rw [md_canBegin_e]
      simp only [md_canBegin_b60_e, md_canBegin_b42_e]
      by_cases c1 : τ 119 25 = 1
      · rw [if_pos c1]
      · by_cases c2 : τ 119 25 = 2
        · rw [if_neg c1, if_pos c2]
        · by_cases c3 : τ 119 25 = 3
          · rw [if_neg c1, if_neg c2, if_pos c3]
          · rw [if_neg c1, if_neg c2, if_neg c3]
            by_cases c4 : τ 119 25 < 17
            · omega
            · rw [if_neg c4]
              by_cases c5 : 19 < τ 119 25
              · rw [if_pos c5]
                by_cases c6 : τ 119 25 = 30
                · rw [if_pos c6]
                · rw [if_neg c6, if_pos (by omega)]
              · rw [if_neg c5]
  · refine ⟨0, Or.inl rfl, ?_, ?_, fun h => by omega, by omega⟩
    · rw [ps_begins_e, if_neg (by omega), if_neg (by omega), if_neg (by omega), i1, if_neg (by omega)]
      simp only [Option.bind_some]
      rw [if_pos (by trivial), i2, if_neg (by omega)]
      simp only [Option.bind_some]
      rw [if_pos (by trivial), w11, if_neg (by omega)]
      simp only [Option.bind_some]
      rw [if_pos (by trivial), w12, if_neg (by omega)]
      simp only [Option.bind_some]
      rw [if_pos (by trivial), w5, if_neg (by omega)]
      rfl
    · rw [md_canBegin_e]
      simp only [md_canBegin_b60_e, md_canBegin_b42_e]
      rw [if_neg (by omega), if_neg (by omega), if_neg (by omega), if_neg (show ¬ τ 119 25 = 30 by omega), if_neg (show ¬ τ 119 25 = 41 by omega)]
      by_cases c4 : τ 119 25 < 17
      · rw [if_pos c4]
      · rw [if_neg c4, if_pos (by omega)]
/-- one more of them -/
theorem AG.step {S1 T1 S2 T2 S3 T3 : gM} {a : Int} (G : pG 1 σ τ) (I : AI σ τ n c l) (x : XG σ τ (σ 68 10) S1 T1 a)
    (hS2 : S2 = if l < 0 then gW S1 73 n a else gW S1 75 l a) (hT2 : T2 = if l < 0 then gW T1 139 (nd σ n) (nd S1 a) else gW T1 141 (nd σ l) (nd S1 a))
    (k3 : ∀ M N, kE M N S2 S3 T2 T3) (o3 : S3 68 10 = S2 68 10 ∧ S3 68 21 = S2 68 21 ∧ S3 68 22 = S2 68 22 ∧ T3 119 43 = T2 119 43) (h : AG S3 T3 S T n (c + 1) a) : AG σ τ S T n c l := by
  obtain ⟨⟨n0, n1, n70⟩, oo, c0, hl⟩ := I
  have xn := x.n
  obtain ⟨G1, k1, p1, nb1, o1, u1⟩ := x
  obtain ⟨G4, ⟨o4, u4⟩, k4, fa, fb, px, lk, nb⟩ := h
  have g43 := G.2.2.2.2.1
  have nM := nd_r (σ := σ) (i := n) (j := σ 68 10) n0 (by omega)
  have nn30 : σ 70 n ≠ 30 := by omega
  have nlt := nd_lt (σ := σ) n0 n1 nn30
  -- the link
  have c2 : ∀ e i, e ≠ 73 → e ≠ 75 → S2 e i = S1 e i := fun e i q1 q2 => by
    rw [hS2]
    split
    · exact gW_c q1
    · exact gW_c q2
  have t2 : ∀ e i, e ≠ 139 → e ≠ 141 → T2 e i = T1 e i := fun e i q1 q2 => by
    rw [hT2]
    split
    · exact gW_c q1
    · exact gW_c q2
  have w2 : ∀ e i, ¬ (l < 0 ∧ e = 73 ∧ i = n) → ¬ (0 ≤ l ∧ e = 75 ∧ i = l) → S2 e i = S1 e i := fun e i q1 q2 => by
    rw [hS2]
    by_cases q : l < 0
    · rw [if_pos q]; unfold gW; rw [if_neg (by omega)]
    · rw [if_neg q]; unfold gW; rw [if_neg (by omega)]
  have v2 : ∀ e i, ¬ (l < 0 ∧ e = 139 ∧ i = nd σ n) → ¬ (0 ≤ l ∧ e = 141 ∧ i = nd σ l) → T2 e i = T1 e i := fun e i q1 q2 => by
    rw [hT2]
    by_cases q : l < 0
    · rw [if_pos q]; unfold gW; rw [if_neg (by omega)]
    · rw [if_neg q]; unfold gW; rw [if_neg (by omega)]
  have s10 : S3 68 10 = S1 68 10 := by rw [o3.1, c2 68 10 (by decide) (by decide)]
  have nd2 : ∀ i, nd S2 i = nd S1 i := fun i => nd_congr fun j _ _ => by rw [c2 70 j (by decide) (by decide)]
  have nd3 : ∀ i, i ≤ S1 68 10 → nd S3 i = nd S1 i := fun i hi => by rw [(k3 (S1 68 10) 0).nd hi, nd2]
  have e19 : S3 68 19 = σ 68 19 := by rw [(k3 0 0).2.2.1 19 (by decide), c2 68 19 (by decide) (by decide), k1.2.2.1 19 (by decide)]
  have nn3 : nd S3 n = nd σ n := by rw [nd3 n (by omega), k1.nd (by omega)]
  have k12 : kE n (nd σ n) σ S2 τ T2 := by
    have k1' := k1.le (M := n) (N := nd σ n) (by omega) nM.1
    rw [hS2, hT2]
    by_cases q : l < 0
    · rw [if_pos q, if_pos q]
      exact (k1'.w (by decide) (Int.le_refl _)).v (by decide) (Int.le_refl _)
    · rw [if_neg q, if_neg q]
      refine (k1'.w (by decide) (by omega)).v (by decide) ?_ (fun _ => ?_)
      · exact (nd_r n0 (by omega)).1
      · have z1 := nd_pos (σ := S1) (i := a) (by omega)
        have z2 := G1.1.2.1
        have z3 := G1.2.2.2.1
        have z4 := G1.2.1.1
        unfold tKp at z4
        omega
  rw [nn3] at k4 fb lk
  rw [s10] at fa px nb
  rw [e19] at nb
  have T343 : T3 119 43 = nd S1 (S1 68 10) := by rw [o3.2.2.2, t2 119 43 (by decide) (by decide), G1.2.2.2.2.1]
  have ga : 0 ≤ a := by omega
  rw [if_neg (by omega)] at px lk
  have nda : nd S3 a = nd S1 a := nd3 a (by omega)
  rw [nda] at fb lk
  have bnd : nd S1 (σ 68 10) = nd σ (σ 68 10) := k1.nd (Int.le_refl _)
  have aM := nd_r (σ := S1) (i := σ 68 10) (j := a) (by omega) (by omega)
  refine ⟨G4, ⟨by rw [o4, o3.2.1, c2 68 21 (by decide) (by decide), o1], by rw [u4, o3.2.2.1, c2 68 22 (by decide) (by decide), u1]⟩, (k12.tr (k3 n (nd σ n)) (Int.le_refl _) (Int.le_refl _)).tr k4 (Int.le_refl _) (Int.le_refl _), fun e i e0 e1 i0 i1 x1 x2 x3 => ?_, fun e j e0 e1 j0 j1 x1 x2 => ?_, ?_, ?_, ?_⟩
  · rw [fa e i e0 e1 i0 (by omega) x1 (by omega) (by omega), (k3 (S1 68 10) 0).2.1 e i e0 e1 (by omega), w2 e i x2 x3, k1.2.1 e i e0 e1 i1]
  · rw [g43] at j1
    rw [fb e j e0 e1 j0 (by rw [T343]; omega) (by omega) (by omega), (k3 0 (nd S1 (S1 68 10))).2.2.2.2.2.2.2.1 e j e0 e1 (by have := nd_r (σ := S1) (i := σ 68 10) (j := S1 68 10) (by omega) (by omega); omega), v2 e j x1 x2, k1.2.2.2.2.2.2.2.1 e j e0 e1 j1]
  · -- the row of what is given
    have hd : (if l < 0 then S 73 n else S 75 l) = a := by
      by_cases q : l < 0
      · rw [if_pos q, fa 73 n (by decide) (by decide) (Int.le_refl _) (by omega) (by omega) (by omega) (by omega), (k3 (S1 68 10) 0).2.1 73 n (by decide) (by decide) (by omega), hS2, if_pos q, gW_at]
      · rw [if_neg q, fa 75 l (by decide) (by decide) (by omega) (by omega) (by omega) (by omega) (by omega), (k3 (S1 68 10) 0).2.1 75 l (by decide) (by decide) (by omega), hS2, if_neg q, gW_at]
    rw [hd]
    have p2 : PX S2 T2 0 (σ 68 10) (S1 68 10) a 0 := by
      rw [hS2, hT2]
      by_cases q : l < 0
      · rw [if_pos q, if_pos q]
        exact (p1.w (by omega) (by omega) (by omega)).v (by omega) (by omega)
      · rw [if_neg q, if_neg q]
        have hl' : n < l ∧ l < σ 68 10 := by omega
        refine (p1.w (by omega) (by omega) (by omega)).v (by omega) ?_
        have h30 : σ 70 l ≠ 30 := by
          rcases hl with h | h
          · omega
          · exact h.1.2.2
        have := nd_lt (σ := σ) (i := l) (j := σ 68 10) (by omega) (by omega) h30
        rw [nd_w (by omega), bnd]
        omega
    have p3 := p2.kE (k3 (S1 68 10) (nd S2 (S1 68 10))) (by omega) (Int.le_refl _) (Int.le_refl _)
    obtain ⟨d1, q1⟩ := p3
    have q1' : PT S T d1 0 (σ 68 10) (S1 68 10) a 0 := by
      have ndS : ∀ i, 0 ≤ i → i ≤ S1 68 10 → nd S i = nd S3 i := fun i i0 i1 => nd_congr fun j j0 j1 => by
        by_cases q : j < n
        · rw [k4.2.1 70 j (by decide) (by decide) q]
        · rw [fa 70 j (by decide) (by decide) (by omega) (by omega) (by omega) (by omega) (by omega)]
      refine PT_fr d1 0 (σ 68 10) (S1 68 10) a 0 (by omega) (fun i i0 i1 => ?_) (fun i i0 i1 i2 => ?_) ndS (fun i i0 i1 i2 _ => ?_) q1
      · have g : ∀ e, 70 ≤ e → e ≤ 78 → e ≠ 75 → S e i = S3 e i := fun e e0 e1 e2 => fa e i e0 e1 (by omega) i1 (by omega) (by omega) (by omega)
        exact ⟨Or.inl (g 70 (by decide) (by decide) (by decide)), g 72 (by decide) (by decide) (by decide), g 73 (by decide) (by decide) (by decide), g 74 (by decide) (by decide) (by decide), fun _ => g 76 (by decide) (by decide) (by decide)⟩
      · have := i2 (Or.inl rfl)
        exact fa 75 i (by decide) (by decide) (by omega) i1 (by omega) (by omega) (by omega)
      · have := i2 rfl
        have u := nd3 (σ 68 10) (by omega)
        have u2 := nd3 (S1 68 10) (Int.le_refl _)
        exact fb 141 i (by decide) (by decide) (by omega) (by rw [T343]; omega) (by omega) (by omega)
    obtain ⟨d2, q2⟩ := px
    have : PX S T 1 (σ 68 10) (S 68 10) a (S 76 n - c) := by
      obtain ⟨d, w1, w2⟩ := PX.two ⟨d1, q1'⟩ ⟨d2, q2⟩
      have nSa : nd S a = nd S1 a := by
        rw [← nda]
        exact nd_congr fun j j0 j1 => by
          by_cases q : j < n
          · rw [k4.2.1 70 j (by decide) (by decide) q]
          · rw [fa 70 j (by decide) (by decide) (by omega) (by omega) (by omega) (by omega) (by omega)]
      refine ⟨d + 1, Or.inr ⟨ga, S1 68 10, w1, ?_, by rw [nSa]; exact lk⟩⟩
      rw [show S 76 n - c - 1 = S 76 n - (c + 1) by omega]
      exact w2
    exact this
  · have nSa : nd S a = nd S1 a := by
      rw [← nda]
      exact nd_congr fun j j0 j1 => by
        by_cases q : j < n
        · rw [k4.2.1 70 j (by decide) (by decide) q]
        · rw [fa 70 j (by decide) (by decide) (by omega) (by omega) (by omega) (by omega) (by omega)]
    by_cases q : l < 0
    · rw [if_pos q, fa 73 n (by decide) (by decide) (Int.le_refl _) (by omega) (by omega) (by omega) (by omega), (k3 (S1 68 10) 0).2.1 73 n (by decide) (by decide) (by omega), fb 139 (nd σ n) (by decide) (by decide) (Int.le_refl _) (by rw [T343]; have := nd_r (σ := S1) (i := σ 68 10) (j := S1 68 10) (by omega) (by omega); omega) (by omega) (by omega), (k3 0 (nd S1 (S1 68 10))).2.2.2.2.2.2.2.1 139 _ (by decide) (by decide) (by have := nd_r (σ := S1) (i := σ 68 10) (j := S1 68 10) (by omega) (by omega); omega), hS2, hT2, if_pos q, if_pos q, gW_at, gW_at]
      unfold nh
      rw [if_neg (by omega), nSa]
    · have hl' : (n < l ∧ l < σ 68 10) ∧ σ 70 l ≠ 30 := by
        rcases hl with h | h
        · omega
        · exact ⟨by omega, h.1.2.2⟩
      have := nd_lt (σ := σ) (i := l) (j := σ 68 10) (by omega) (by omega) hl'.2
      have := nd_r (σ := σ) (i := n) (j := l) n0 (by omega)
      have := nd_r (σ := S1) (i := σ 68 10) (j := S1 68 10) (by omega) (by omega)
      rw [if_neg q, fa 75 l (by decide) (by decide) (by omega) (by omega) (by omega) (by omega) (by omega), (k3 (S1 68 10) 0).2.1 75 l (by decide) (by decide) (by omega), fb 141 (nd σ l) (by decide) (by decide) (by omega) (by rw [T343]; omega) (by omega) (by omega), (k3 0 (nd S1 (S1 68 10))).2.2.2.2.2.2.2.1 141 _ (by decide) (by decide) (by omega), hS2, hT2, if_neg q, if_neg q, gW_at, gW_at]
      unfold nh
      rw [if_neg (by omega), nSa]
  · have ndS : ∀ i, 0 ≤ i → i ≤ S1 68 10 → nd S i = nd S3 i := fun i i0 i1 => nd_congr fun j j0 j1 => by
      by_cases q : j < n
      · rw [k4.2.1 70 j (by decide) (by decide) q]
      · rw [fa 70 j (by decide) (by decide) (by omega) (by omega) (by omega) (by omega) (by omega)]
    have nb2 : NB S2 T2 0 (σ 68 19 - 1) (σ 68 10) (S1 68 10) := by
      rw [hS2, hT2]
      by_cases q : l < 0
      · rw [if_pos q, if_pos q]
        exact (nb1.w (by decide) (by omega) (by omega)).v (by omega) (by decide) (by rw [nd_w (by omega), bnd]; omega)
      · rw [if_neg q, if_neg q]
        exact (nb1.w (by decide) (by omega) (by omega)).v (by omega) (by decide) (by omega)
    have nb3 := nb2.kE (k3 (S1 68 10) (nd S2 (S1 68 10))) (by rw [c2 68 19 (by decide) (by decide), k1.2.2.1 19 (by decide)]) (by omega) (Int.le_refl _) (Int.le_refl _)
    have u := nd3 (σ 68 10) (by omega)
    have u2 := nd3 (S1 68 10) (Int.le_refl _)
    refine NB.cat (NB.fr nb3 (by omega) (fun e i e0 e1 e2 i0 i1 => fa e i e0 (by omega) (by omega) i1 (by omega) (by omega) (by omega)) ndS (fun e j e0 e1 e2 j0 j1 => fb e j e0 (by omega) (by omega) (by rw [T343]; omega) (by omega) (by omega)) (k4.2.2.2.2.2.2.1 134 (by decide) (by decide) (by decide)) (k4.2.2.2.1 2 (by decide)) (fun l p e w => w.kE k4 (by rw [e19]))) nb ?_
    have := k4.2.2.2.2.1
    omega
end CL
section CM
variable {σ τ : gM} {d d' D : Nat} {M0 : Int}
theorem args_1 (ih : XS anyB D (ps_e d) (md_e d')) : ∀ (mm : Nat) (σ τ : gM) (n c l : Int), pG 1 σ τ → 10 * (21 - σ 68 21) + 20 ≤ (D : Int) → AI σ τ n c l → σ 69 2 - σ 69 5 ≤ mm → AR σ τ n c l (ps_call_b74 d σ n c l 1) (md_call_b43 d' τ (nd σ n) c (nh σ l) 1)
  | mm, σ, τ, n, c, l, G, ho, I, hm => by
    have I' := I
    obtain ⟨⟨n0, n1, n70⟩, oo, c0, hl⟩ := I'
    have kp := G.2.1.1
    unfold tKp at kp
    have hmm := G.2.2.2.1
    have hn := G.1.2.1
    have g43 := G.2.2.2.2.1
    have h7 := G.2.2.2.2.2.2.1
    have np := nd_pos (σ := σ) (i := n) n0
    have nlt := nd_lt (σ := σ) n0 n1 (by omega)
    have nM := nd_pos (σ := σ) (i := σ 68 10) (by omega)
    have hl42 : l < 4200 := by omega
    rw [ps_call_b74_e, if_neg (show ¬ ((1 : Int) = 0) by decide), md_call_b43_e, if_neg (show ¬ ((1 : Int) = 0) by decide)]
    by_cases c12 : c = 12
    · -- too many
      rw [if_pos c12, if_pos c12, ps_good_g G.2.2.1]
      simp only [Option.bind_some]
      rw [if_neg (by decide)]
      obtain ⟨b, hb, b1, b2, b3, b4⟩ := begins_s G
      have fin : ∀ k T', k ≠ 0 → T' 119 30 = k → T' 119 31 = σ 69 5 → AR σ τ n c l (ps_call_b132 d σ n c l k) (some (T', none)) := by
        intro k T' hk h1 h2
        have bb : bd (σ 68 10) (gW (gW σ 69 8 k) 69 9 (σ 69 5)) T' := by
          obtain ⟨x1, x2, x3, x4, x5⟩ := bd_of G (k := k) (p := σ 69 5) hk
          exact ⟨x1, by simp [gW, h1], by simp [gW, h2], x4, x5⟩
        obtain ⟨S', e1, e2⟩ := args_b (d := d) (n := n) (c := c) (l := l) bb (by omega) hl42
        right
        refine ⟨S', T', ?_, rfl, e2.le (by omega)⟩
        rw [ps_call_b132_e, tk_fails_g G.2.2.1]
        simp only [Option.bind_some]
        exact e1
      rw [b1, b2]
      simp only [Option.bind_some]
      rcases hb with hb | hb
      · rw [if_pos hb, if_pos hb]
        obtain ⟨f1, f2⟩ := fail_s (k := 2) G (p := σ 69 5) (q := τ 119 26) kp.1
        rw [f2]
        exact fin 2 _ (by decide) (by simp [gW]) (by simp [gW])
      · rw [if_neg (show ¬ b = 0 by omega), if_neg (show ¬ b = 0 by omega)]
        obtain ⟨f1, f2⟩ := fail_s (k := 4) G (p := σ 69 5) (q := τ 119 26) kp.1
        have e93 : ∀ v, md_call_b93 d' (gW τ 119 28 v) = some (gW (gW (gW τ 119 28 v) 119 30 4) 119 31 (σ 69 5), none) := fun v => by
          rw [md_call_b93_e, md_fails_s, gW_i (by decide), ← kp.1]
          simp only [Option.bind_some, gthr_s]
        have e93' : md_call_b93 d' τ = some (gW (gW τ 119 30 4) 119 31 (σ 69 5), none) := by rw [md_call_b93_e]; exact f2
        by_cases t3 : τ 119 25 = 30 ∨ τ 119 25 = 41
        · have e89 : (if τ 119 25 = 30 then md_call_b89 d' τ else if τ 119 25 = 41 then md_call_b89 d' τ else md_call_b93 d' τ) = md_call_b89 d' τ := by
            by_cases u : τ 119 25 = 30
            · rw [if_pos u]
            · rw [if_neg u, if_pos (by omega)]
          rw [e89, md_call_b89_e]
          by_cases o20 : σ 68 21 = 20
          · rw [if_pos o20, if_pos (show σ 69 4 = 4 by omega)]
            obtain ⟨S, T, r1, r2, bx⟩ := ps_open_x G o20
            have e3 : md_opens τ = some (gW (gW τ 119 30 3) 119 31 (σ 69 5), none) := by
              obtain ⟨f1, f2⟩ := fail_s (k := 3) G (p := σ 69 5) (q := τ 119 26) kp.1
              rw [md_opens_e, if_pos (by omega)]
              exact f2
            rw [e3]
            exact fin 3 _ (by decide) (by simp [gW]) (by simp [gW])
          · rw [if_neg o20, ps_call_b131_e, md_opens_g G (by omega)]
            simp only [Option.bind_some, gtry]
            rw [e93]
            exact fin 4 _ (by decide) (by simp [gW]) (by simp [gW])
        · rw [if_neg (fun u => t3 (Or.inl u)), if_neg (fun u => t3 (Or.inr u)), e93']
          have e131 : (if σ 68 21 = 20 then (if σ 69 4 = 4 then ps_call_b132 d σ n c l 3 else ps_call_b131 d σ n c l) else ps_call_b131 d σ n c l) = ps_call_b132 d σ n c l 4 := by
            rw [if_neg (show ¬ σ 69 4 = 4 from fun u => t3 (b3 hb u)), ite_self, ps_call_b131_e]
          rw [e131]
          exact fin 4 _ (by decide) (by simp [gW]) (by simp [gW])
    · rw [if_neg c12, if_neg c12, ps_call_b143_e, ps_good_g G.2.2.1]
      simp only [Option.bind_some]
      rw [if_neg (by decide)]
      rcases ih σ τ G ho with ⟨S1, T1, a, x1, x2, xg, xa⟩ | ⟨S1, T1, a, x1, x2, b, hr⟩
      · have xn := xg.n
        have k1 := xg.2.1
        rw [x1, x2]
        simp only [Option.bind_some, gtry]
        -- the link
        have lk : ∃ S2 T2, (S2 = if l < 0 then gW S1 73 n a else gW S1 75 l a) ∧ (T2 = if l < 0 then gW T1 139 (nd σ n) (nd S1 a) else gW T1 141 (nd σ l) (nd S1 a)) ∧ ps_call_b158 d S1 n c l a = ps_call_b185 d S2 n c a ∧ (if nh σ l = -1 then (if 0 ≤ nd σ n ∧ nd σ n < 4004 then md_call_b135 d' (gW T1 139 (nd σ n) (nd S1 a)) (nd σ n) c (nd S1 a) else none) else (if 0 ≤ nh σ l ∧ nh σ l < 4004 then md_call_b135 d' (gW T1 141 (nh σ l) (nd S1 a)) (nd σ n) c (nd S1 a) else none)) = md_call_b135 d' T2 (nd σ n) c (nd S1 a) ∧ pG 1 S2 T2 := by
          by_cases q : l < 0
          · refine ⟨_, _, rfl, rfl, ?_, ?_, ?_⟩
            · rw [ps_call_b158_e, if_pos q, if_pos q, if_pos (by omega)]
            · unfold nh
              rw [if_pos q, if_pos (by trivial), if_pos (by omega), if_pos q]
            · rw [if_pos q, if_pos q]
              exact (xg.1.w (by decide)).v (by decide)
          · have lp := nd_pos (σ := σ) (i := l) (by omega)
            refine ⟨_, _, rfl, rfl, ?_, ?_, ?_⟩
            · rw [ps_call_b158_e, if_neg q, if_neg q, if_pos (by omega)]
            · unfold nh
              rw [if_neg q, if_neg (by omega), if_pos (by omega), if_neg q]
            · rw [if_neg q, if_neg q]
              exact (xg.1.w (by decide)).v (by decide)
        obtain ⟨S2, T2, hS2, hT2, l1, l2, G2⟩ := lk
        have c2 : ∀ e i, e ≠ 73 → e ≠ 75 → S2 e i = S1 e i := fun e i q1 q2 => by
          rw [hS2]
          split
          · exact gW_c q1
          · exact gW_c q2
        have t2 : ∀ e i, e ≠ 139 → e ≠ 141 → T2 e i = T1 e i := fun e i q1 q2 => by
          rw [hT2]
          split
          · exact gW_c q1
          · exact gW_c q2
        have nd2 : ∀ i, nd S2 i = nd S1 i := fun i => nd_congr fun j _ _ => by rw [c2 70 j (by decide) (by decide)]
        -- where the loop is then
        have I2 : ∀ S3 T3, (∀ M N, kE M N S2 S3 T2 T3) → S3 68 10 = S2 68 10 → S3 68 21 = S2 68 21 → AI S3 T3 n (c + 1) a ∧ nd S3 n = nd σ n ∧ nd S3 a = nd S1 a := by
          intro S3 T3 k3 h1 h2
          have s10 : S3 68 10 = S1 68 10 := by rw [h1, c2 68 10 (by decide) (by decide)]
          have n3 : ∀ i, i ≤ S1 68 10 → nd S3 i = nd S1 i := fun i hi => by rw [(k3 (S1 68 10) 0).nd hi, nd2]
          have nn : nd S3 n = nd σ n := by rw [n3 n (by omega), k1.nd (by omega)]
          refine ⟨⟨⟨n0, by omega, ?_⟩, ?_, by omega, Or.inr ⟨⟨by omega, by omega, ?_⟩, ?_, ?_⟩⟩, nn, n3 a (by omega)⟩
          · rw [(k3 (S1 68 10) 0).2.1 70 n (by decide) (by decide) (by omega), c2 70 n (by decide) (by decide), k1.2.1 70 n (by decide) (by decide) n1, n70]
          · rw [h2, c2 68 21 (by decide) (by decide), xg.2.2.2.2.1]; exact oo
          · rw [(k3 (S1 68 10) 0).2.1 70 a (by decide) (by decide) (by omega), c2 70 a (by decide) (by decide)]; exact xn.2.2.2.1
          · rw [(k3 (S1 68 10) 0).2.1 75 a (by decide) (by decide) (by omega), hS2]
            split
            · rw [gW_c (by decide)]; exact xa.1
            · rw [gW_i (by omega)]; exact xa.1
          · have la := nd_lt (σ := S1) (i := a) (j := S1 68 10) (by omega) (by omega) xn.2.2.2.1
            rw [n3 a (by omega), (k3 0 (nd S1 (S1 68 10))).2.2.2.2.2.2.2.1 141 _ (by decide) (by decide) la, hT2]
            split
            · rw [gW_c (by decide)]; exact xa.2
            · next q =>
              have h30 : σ 70 l ≠ 30 := by
                rcases hl with h | h
                · omega
                · exact h.1.2.2
              have u1 := nd_lt (σ := σ) (i := l) (j := σ 68 10) (by omega) (by omega) h30
              have u2 := k1.nd (i := σ 68 10) (Int.le_refl _)
              have u3 := nd_r (σ := S1) (i := σ 68 10) (j := a) (by omega) (by omega)
              rw [gW_i (by omega)]; exact xa.2
        rw [l1, l2, ps_call_b185_e, ps_good_g G2.2.2.1]
        simp only [Option.bind_some]
        rw [if_neg (by decide), tk_is_s G2.2.1.2 G2.2.2.1 (c := 44) (t := 36) (by unfold sG; decide), md_call_b135_e, w32_e (x := c + 1) (by omega) (by omega)]
        simp only [Option.bind_some]
        have na : nh S2 a = nd S1 a := by unfold nh; rw [if_neg (by omega), nd2]
        by_cases cm : T2 119 25 = 36
        · rw [if_pos cm, if_pos cm, if_neg (by decide), ps_call_b216_e, if_neg (by decide), md_call_b156_e, if_neg (by decide)]
          rcases rd_p G2 (by omega) with ⟨S3, T3, r1, r2, G3, F, r5⟩ | ⟨S3, T3, r1, r2, b, F⟩
          · have k3 : ∀ M N, kE M N S2 S3 T2 T3 := fun M N => kE.rd F (by omega)
            have h68 : ∀ i, S3 68 i = S2 68 i := fun i => by rw [F.1 68 (by decide)]
            obtain ⟨I3, n3, na3⟩ := I2 S3 T3 k3 (h68 10) (h68 21)
            rw [r1, r2]
            simp only [Option.bind_some, gtry]
            rw [ps_call_b230_e, md_call_b167_e]
            have p5 := c2 69 5 (by decide) (by decide)
            have p2 := c2 69 2 (by decide) (by decide)
            have s2 := F.2.1 2 (by omega)
            have kx := k1.2.2.2.2.1
            have kx2 := k1.2.2.2.1 2 (by decide)
            have tk3 := G3.2.1.1
            unfold tKp at tk3
            have hih : AR S3 T3 n (c + 1) a (ps_call_b74 d S3 n (c + 1) a 1) (md_call_b43 d' T3 (nd S3 n) (c + 1) (nh S3 a) 1) := by
              match mm, hm with
              | 0, hm => omega
              | mm + 1, hm => exact args_1 ih mm S3 T3 n (c + 1) a (G3.le (by decide)) (by rw [h68, c2 68 21 (by decide) (by decide), xg.2.2.2.2.1]; exact ho) I3 (by omega)
            have nh3 : nh S3 a = nd S1 a := by unfold nh; rw [if_neg (by omega), na3]
            rw [n3, nh3] at hih
            rcases hih with ⟨S, T, z1, z2, ag⟩ | ⟨S, T, z1, z2, b⟩
            · rw [n3] at z2
              exact Or.inl ⟨S, T, z1, z2, AG.step G I xg hS2 hT2 k3 ⟨h68 10, h68 21, h68 22, F.2.2.2 43 (by omega) (by decide) (by decide)⟩ ag⟩
            · exact Or.inr ⟨S, T, z1, z2, b⟩
          · right
            rw [r1, r2]
            simp only [Option.bind_some]
            have e74 : ps_call_b230 d S3 n (c + 1) a 1 = ps_call_b143 d S3 n (c + 1) a := by
              rw [ps_call_b230_e, ps_call_b74_e, if_neg (by decide)]
              by_cases u : c + 1 = 12
              · rw [if_pos u, ps_good_b b.1]; rfl
              · rw [if_neg u]
            obtain ⟨S', e1, e2⟩ := args_b (d := d) (n := n) (c := c + 1) (l := a) b (by omega) (by omega)
            refine ⟨S', T3, by rw [e74]; exact e1, rfl, e2.le ?_⟩
            rw [c2 68 10 (by decide) (by decide)]; omega
        · rw [if_neg cm, if_neg cm, if_pos (by trivial), ps_call_b215_e, ps_call_b216_e, if_pos (by trivial), md_call_b156_e, if_pos (by trivial), ps_call_b230_e, md_call_b167_e]
          obtain ⟨I3, n3, na3⟩ := I2 S2 T2 (fun M N => kE.rf) rfl rfl
          have hih := args_0 (d := d) (d' := d') G2 I3
          rw [n3, na] at hih
          rcases hih with ⟨S, T, z1, z2, ag⟩ | ⟨S, T, z1, z2, b⟩
          · rw [n3] at z2
            exact Or.inl ⟨S, T, z1, z2, AG.step G I xg hS2 hT2 (fun M N => kE.rf) ⟨rfl, rfl, rfl, rfl⟩ ag⟩
          · exact Or.inr ⟨S, T, z1, z2, b⟩
      · right
        obtain ⟨S', e1, e2⟩ : ∃ S', ps_call_b158 d S1 n c l a = some (S', n) ∧ bd 4100 S' T1 := by
          have e : ∀ (S0 : gM) (x : Int), bd 4100 S0 T1 → ∃ S', ps_call_b185 d S0 n c x = some (S', n) ∧ bd 4100 S' T1 := by
            intro S0 x b0
            refine ⟨gW (gW S0 68 21 (w32 (S0 68 21 - 1))) 76 n (w32 (c + 1)), ?_, (b0.w (by decide) (by omega)).w (by decide) (by omega)⟩
            rw [ps_call_b185_e, ps_good_b b0.1]
            simp only [Option.bind_some]
            rw [if_pos (by trivial), ps_call_b215_e, ps_call_b216_e, if_pos (by trivial), ps_call_b230_e, ps_call_b74_e, if_pos (by trivial), ps_closes_b b0.1]
            simp only [Option.bind_some]
            rw [if_pos (by omega)]
          rw [ps_call_b158_e]
          by_cases q : l < 0
          · rw [if_pos q, if_pos (by omega)]
            exact e _ _ (b.w (by decide) (by omega))
          · rw [if_neg q, if_pos (by omega)]
            exact e _ _ (b.w (by decide) (by omega))
        rw [x1, x2]
        simp only [Option.bind_some]
        exact ⟨S', T1, e1, rfl, e2⟩
end CM
