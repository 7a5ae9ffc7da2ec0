/-! blocks; if and while -/
section BS
variable {σ τ S T : gM} {d : Nat}
theorem kE.up {M N : Int} {σ' τ' : gM} (h : kE 0 0 σ σ' τ τ') (f1 : ∀ a i, 70 ≤ a → a ≤ 78 → i < M → σ' a i = σ a i) (f2 : ∀ a j, 135 ≤ a → a ≤ 145 → j < N → τ' a j = τ a j) : kE M N σ σ' τ τ' := ⟨h.1, f1, h.2.2.1, h.2.2.2.1, h.2.2.2.2.1, h.2.2.2.2.2.1, h.2.2.2.2.2.2.1, f2, h.2.2.2.2.2.2.2.2⟩
theorem block_b {k : Int} (b : bd k S T) : ∃ S', ps_block (d + 1) S = some (S', -1) ∧ bd k S' T := by
  refine ⟨gW S 68 21 (w32 (S 68 21 - 1)), ?_, b.w (by decide) (by omega)⟩
  rw [ps_block_e, ps_opens_b b.1]
  simp only [Option.bind_some]
  rw [ps_block_b10_e, ps_good_b b.1]
  simp only [Option.bind_some]
  rw [if_pos (by trivial), ps_block_b55_e, ps_closes_b b.1]
  rfl
theorem block_s (ihs : ∀ σ τ, pG 0 σ τ → 1 ≤ σ 68 21 → 2 * (21 - σ 68 21) ≤ d → SR σ τ (ps_statement d σ) (md_statement d τ)) (G : pG 0 σ τ) (hd : 2 * (21 - σ 68 21) ≤ (d : Int) + 1) : BR σ τ (ps_block (d + 1) σ) (md_block (d + 1) τ) := by
  have kp := G.2.1.1
  unfold tKp at kp
  have hmm := G.2.2.2.1
  have hn := G.1.2.1
  have h7 := G.2.2.2.2.2.2.1
  have g43 := G.2.2.2.2.1
  rw [ps_block_e, md_block_e]
  rcases ps_opens_s (c := 123) (t := 32) G (by omega) with ⟨S1, T1, r1, r2, G1, F1, p1, o1, o2⟩ | ⟨S1, T1, r1, r2, b⟩
  · rw [r1, r2]
    simp only [Option.bind_some, gtry]
    have s10 : S1 68 10 = σ 68 10 := by rw [F1.1 68 (by decide), gW_i (by decide)]
    have s19 : S1 68 19 = σ 68 19 := by rw [F1.1 68 (by decide), gW_i (by decide)]
    have s22 : S1 68 22 = σ 68 22 := by rw [F1.1 68 (by decide), gW_i (by decide)]
    have t43 : T1 119 43 = τ 119 43 := by rw [F1.2.2.2 43 (by omega) (by decide) (by decide), gW_i (by decide)]
    have k1 : ∀ M N, kE M N σ S1 τ T1 := fun M N => ((kE.rf.o (i := 21) (v := σ 68 21 + 1) (by decide)).u (i := 28) (v := σ 68 21 + 1) (by decide)).tr (kE.rd (M := M) (N := N) F1 (by rw [gW_c (by decide)]; omega)) (Int.le_refl _) (Int.le_refl _)
    have := block_l ihs (S1 69 2 - S1 69 5).toNat S1 T1 (-1) (-1) (G1.le (by decide)) (by omega) (by omega) (Or.inl ⟨rfl, rfl⟩) (by omega)
    have e : ph S1 (-1) = -1 := rfl
    rw [e] at this
    rcases this with ⟨S2, T2, h, z1, z2, g⟩ | ⟨S2, T2, r, z1, z2, b⟩
    · left
      rw [if_pos (by decide)] at z1 z2
      obtain ⟨G2, ⟨o3, u3⟩, k2, fa, fb, px, -, nb, pl⟩ := g
      rw [s10] at fa px nb
      have s21 : S1 68 21 = σ 68 21 + 1 := by rw [F1.1 68 (by decide), gW_at]
      have sdp : sDp S1 = sDp σ - 2 := by
        unfold sDp
        rw [s21, s22]
        omega
      rw [sdp] at px
      rw [s19] at nb
      rw [t43] at fb
      refine ⟨S2, T2, h, z1, z2, G2, (k1 _ _).tr (k2.up (M := σ 68 10) (N := nd σ (σ 68 10)) (fun a i a0 a1 i1 => fa a i a0 a1 i1 (by omega)) (fun a j a0 a1 j1 => fb a j a0 a1 (by omega) (by omega))) (Int.le_refl _) (Int.le_refl _), px, nb, ⟨by omega, by rw [u3, s22]⟩, by omega⟩
    · exact Or.inr ⟨S2, T2, r, z1, z2, b⟩
  · right
    rw [r1, r2]
    simp only [Option.bind_some]
    refine ⟨gW S1 68 21 (w32 (S1 68 21 - 1)), T1, -1, ?_, rfl, (b.le (by omega)).w (by decide) (by omega)⟩
    rw [ps_block_b10_e, ps_good_b b.1]
    simp only [Option.bind_some]
    rw [if_pos (by trivial), ps_block_b55_e, ps_closes_b b.1]
    rfl
theorem cond_b {k n : Int} (b : bd k S T) (hk : k < 4200) (hn : 0 ≤ n ∧ n < 4200) : ∃ S', ps_condition S n = some (S', 0) ∧ bd (k + 1) S' T := by
  obtain ⟨S2, x1, x2, x3⟩ := e300_b S T k b hk
  refine ⟨gW (gW S2 72 n (S 68 10)) 68 21 (w32 (gW S2 72 n (S 68 10) 68 21 - 1)), ?_, (x2.w (by decide) (by omega)).w (by decide) (by omega)⟩
  rw [ps_condition_e, ps_good_b b.1]
  simp only [Option.bind_some]
  rw [if_pos (by trivial), ps_condition_b14_e, ps_opens_b b.1]
  simp only [Option.bind_some]
  rw [x1]
  simp only [Option.bind_some]
  rw [if_pos hn, ps_closes_b (x2.w (a := 72) (by decide) (by omega)).1]
  rfl
/-- the head of an if or a while -/
theorem head_s {K x : Int} (G : pG 0 σ τ) (hK : K ≠ 30) (h4 : τ 119 25 ≠ 0) :
    (∃ S T, ps_node σ K = some (nC σ K, σ 68 10) ∧ ps_condition (nC σ K) (σ 68 10) = some (S, 0) ∧ md_statement_b37 d τ x K = (if x = 13 then md_statement_b83 d T x (τ 119 43) 1 (T 119 29) else md_statement_b83 d T x (τ 119 43) 0 (T 119 29)) ∧ pG 0 S T ∧ kE (σ 68 10) (τ 119 43) σ S τ T ∧ nf S T (σ 68 10) (τ 119 43) K (σ 69 5) (σ 69 3) ∧ (0 ≤ S 72 (σ 68 10) ∧ S 72 (σ 68 10) < S 68 10) ∧ T 138 (τ 119 43) = nd S (S 72 (σ 68 10)) ∧ PX S T 0 (σ 68 10 + 1) (S 68 10) (S 72 (σ 68 10)) 0 ∧ NB S T 0 (σ 68 19 - 1) (σ 68 10 + 1) (S 68 10) ∧ S 68 21 = σ 68 21 ∧ S 68 22 = σ 68 22 ∧ σ 69 5 < S 69 5 ∧ (0 ≤ σ 68 10 ∧ σ 68 10 < 4200) ∧ (0 ≤ τ 119 43 ∧ τ 119 43 < 4004)) ∨
    (∃ S0 S T, ps_node σ K = some (S0, σ 68 10) ∧ ps_condition S0 (σ 68 10) = some (S, 0) ∧ bd 4100 S T ∧ md_statement_b37 d τ x K = some (T, none) ∧ (0 ≤ σ 68 10 ∧ σ 68 10 < 4200)) := by
  by_cases q : σ 68 20 = 300
  · obtain ⟨S, T, e1, e2, b, hb, -⟩ := node_x (K := K) G (by decide) q
    obtain ⟨S', x1, x2⟩ := cond_b (n := σ 68 10) b (by omega) (by omega)
    right
    refine ⟨S, S', T, e1, x1, x2.le (by omega), ?_, by omega⟩
    rw [md_statement_b37_e, e2]
    rfl
  · obtain ⟨e1, e2, hb, hc⟩ := node_g (K := K) G (by decide) q
    obtain ⟨G1, n1⟩ := pG_node G q hK
    have s10 : nC σ K 68 10 = σ 68 10 + 1 := nC_n.1
    have t43 : nM τ K 119 43 = τ 119 43 + 1 := nM_n.1
    have s19 : nC σ K 68 19 = σ 68 19 := nC_o (by omega) (by omega)
    have s5 : nC σ K 69 5 = σ 69 5 := nC_o (by omega) (by omega)
    rcases cond_s (n := σ 68 10) (m := τ 119 43) G1 (by rw [nM_o (by omega) (by omega)]; exact h4) (nf_new G) hb.1 s10 t43 hc with ⟨S, T, r, T1, T2, T3, a1, a2, a3, a4, a5, G2, k2, n2, r72, t138, p2, nb2, o2, u2, pl⟩ | ⟨S, T, a1, b, a2⟩
    · left
      rw [s19] at nb2
      refine ⟨S, T, e1, a1, ?_, G2, (kE_node (Int.le_refl _) (Int.le_refl _)).tr k2 (Int.le_refl _) (Int.le_refl _), n2, r72, t138, p2, nb2, by rw [o2]; exact nC_o (by omega) (by omega), by rw [u2]; exact nC_o (by omega) (by omega), by omega, by omega, hc⟩
      rw [md_statement_b37_e, e2]
      simp only [Option.bind_some, gtry]
      rw [a2]
      simp only [Option.bind_some]
      rw [a3]
      simp only [Option.bind_some]
      rw [a4]
      simp only [Option.bind_some]
      rw [if_pos hc, a5]
      rfl
    · right
      refine ⟨nC σ K, S, T, e1, a1, b, ?_, by omega⟩
      rw [md_statement_b37_e, e2]
      simp only [Option.bind_some, gtry]
      rcases a2 with a2 | ⟨T1, a2, a3⟩
      · rw [a2]; rfl
      · rw [a2]
        simp only [Option.bind_some]
        rcases a3 with a3 | ⟨T2, a3, a4⟩
        · rw [a3]; rfl
        · rw [a3]
          simp only [Option.bind_some]
          rcases a4 with a4 | ⟨T3, v, a4, a5⟩
          · rw [a4]; rfl
          · rw [a4]
            simp only [Option.bind_some]
            rw [if_pos hc, a5]
            rfl
/-- the node of an if or a while -/
theorem RN.st {f b n : Int} (hk : σ 70 n = 24 ∨ σ 70 n = 25) (t135 : τ 135 (nd σ n) = σ 70 n) (t136 : τ 136 (nd σ n) = σ 71 n) (hb : (-1 ≤ σ 72 n ∧ σ 72 n < b) ∧ (σ 73 n = -1 ∨ n < σ 73 n) ∧ -1 ≤ σ 73 n ∧ σ 73 n < b ∧ (σ 74 n = -1 ∨ n < σ 74 n) ∧ -1 ≤ σ 74 n ∧ σ 74 n < b) (t138 : τ 138 (nd σ n) = nh σ (σ 72 n)) (t139 : τ 139 (nd σ n) = ph σ (σ 73 n)) (t140 : τ 140 (nd σ n) = ph σ (σ 74 n)) (h74 : σ 70 n = 25 → σ 74 n = -1) : RN σ τ 0 f b n := by
  refine ⟨⟨t135, by omega, by omega⟩, t136, ⟨hb.1.1, hb.1.2, by omega, by omega, by omega, by omega, fun _ => ⟨hb.2.1, hb.2.2.2.2.1⟩⟩, by rw [if_neg (by omega)]; exact t138, fun _ => by rw [if_pos hk]; exact t139, ?_, fun q => by omega, fun q => by omega, fun q => by omega⟩
  rw [if_neg (by omega)]
  by_cases c : σ 70 n = 24
  · rw [if_pos c]; exact t140
  · rw [if_neg c, t140, h74 (by omega)]; rfl
end BS
