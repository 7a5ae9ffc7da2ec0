/-! the other statements -/
section S3
variable {σ τ S T : gM} {d d' : Nat}
/-- what ends a statement -/
theorem semi_s {m : Int} (G0 : pG 0 σ τ) (G : pG 1 S T) (k : kE (σ 68 10) (nd σ (σ 68 10)) σ S τ T) (p : PX S T 3 (σ 68 10) (S 68 10) (σ 68 10) (sDp σ)) (nb : NB S T 0 (σ 68 19 - 1) (σ 68 10) (S 68 10)) (o : S 68 21 = σ 68 21 ∧ S 68 22 = σ 68 22) (l : S 75 (σ 68 10) = -1 ∧ T 141 m = -1) (hm : ps S (σ 68 10) = m) :
    SR σ τ ((ps_must S 59).bind fun p1 => some (p1.1, σ 68 10)) ((md_pass T 37).bind fun p1 => gtry p1.2 (fun _ => some (p1.1, some m)) (some (p1.1, none))) := by
  have h0 := G0.2.2.2.1
  have hmm := G.2.2.2.1
  have kp := G.2.1.1
  unfold tKp at kp
  have kp0 := G0.2.1.1
  unfold tKp at kp0
  have hl := G.1.2.1
  have hl0 := G0.1.2.1
  have kx := k.2.2.2.2.1
  have s19 : S 68 19 = σ 68 19 := k.2.2.1 19 (by decide)
  rcases ps_must_s (c := 59) (t := 37) G (by unfold sG; decide) (by decide) (by decide) with ⟨S', T', a1, a2, G', F, a5⟩ | ⟨S', T', a1, a2, b⟩
  · left
    have k2 : ∀ M N, kE M N S S' T T' := fun M N => kE.rd F (by omega)
    have ndF : ∀ i, nd S' i = nd S i := fun i => nd_congr fun j _ _ => by rw [F.1 70 (by decide)]
    have psF : ∀ i, ps S' i = ps S i := fun i => by unfold ps; rw [F.1 70 (by decide), F.1 72 (by decide), ndF, ndF]
    have e10 : S' 68 10 = S 68 10 := by rw [F.1 68 (by decide)]
    refine ⟨S', T', by rw [a1]; rfl, by rw [a2, psF, hm]; rfl, G'.le (by decide), k.tr (k2 _ _) (Int.le_refl _) (Int.le_refl _), ?_, ?_, ⟨by rw [F.1 68 (by decide)]; exact o.1, by rw [F.1 68 (by decide)]; exact o.2⟩, ⟨by rw [F.1 75 (by decide)]; exact l.1, by rw [psF, hm, F.2.2.1 141 (by decide)]; exact l.2⟩, by omega⟩
    · rw [e10]
      exact p.kE (k2 (S 68 10) (nd S (S 68 10))) h0.1 (Int.le_refl _) (Int.le_refl _)
    · rw [e10]
      exact nb.kE (k2 (S 68 10) (nd S (S 68 10))) (by rw [s19]) h0.1 (Int.le_refl _) (Int.le_refl _)
  · right
    exact ⟨S', T', _, by rw [a1]; rfl, by rw [a2]; rfl, b.le (by omega), by omega⟩
theorem b272_b {k n : Int} (b : bd k S T) : ps_statement_b272 d S n = some (S, n) := by
  rw [ps_statement_b272_e, ps_good_b b.1]
  simp only [Option.bind_some]
  rw [if_pos (by trivial), ps_statement_b286_e, ps_must_b b.1]
  rfl
theorem PX.jump {n b k : Int} (k0 : 0 ≤ k ∧ k % 2 = 1) (n0 : 0 ≤ n) (hb : b = n + 1) (h70 : S 70 n = 27 ∨ S 70 n = 28) (h72 : S 72 n = -1) (h73 : S 73 n = -1) (h74 : S 74 n = -1) : PX S T 3 n b n k :=
  ⟨1, by omega, Or.inr (Or.inr (Or.inr (Or.inl ⟨h70, hb, h72, h73, h74, k0.2⟩)))⟩
theorem PX.ret {n b k : Int} (k0 : 0 ≤ k) (n0 : 0 ≤ n) (h70 : S 70 n = 26) (h : (S 72 n = -1 ∧ b = n + 1) ∨ PX S T 0 (n + 1) b (S 72 n) 0) (h73 : S 73 n = -1) (h74 : S 74 n = -1) : PX S T 3 n b n k := by
  rcases h with h | ⟨d, h⟩
  · exact ⟨1, by omega, Or.inr (Or.inr (Or.inl ⟨h70, Or.inl h, h73, h74⟩))⟩
  · have a := (PT_ab _ _ _ _ _ _ h).2.1 (Or.inl rfl)
    exact ⟨d + 1, by omega, Or.inr (Or.inr (Or.inl ⟨h70, Or.inr ⟨by omega, h⟩, h73, h74⟩))⟩
/-- break, continue -/
theorem jump_s {K : Int} (hK : K = 27 ∨ K = 28) (G : pG 0 σ τ) (h4 : τ 119 25 ≠ 0) : SR σ τ (ps_statement_b245 d σ K) (md_statement_b225 d' τ K) := by
  have hmm := G.2.2.2.1
  have g43 := G.2.2.2.2.1
  have h8 := G.2.2.2.2.2.2.2.1
  rw [ps_statement_b245_e, md_statement_b225_e]
  by_cases q : σ 68 20 = 300
  · obtain ⟨S, T, e1, e2, b, hb, -⟩ := node_x (K := K) G (by decide) q
    right
    rw [e1, e2]
    simp only [Option.bind_some]
    refine ⟨S, T, σ 68 10, ?_, rfl, b.le (by omega), by omega⟩
    by_cases z : S 68 22 = 0
    · rw [if_pos z, tk_fails_b b.1]
      exact b272_b b
    · rw [if_neg z, b272_b b]
  · obtain ⟨e1, e2, hb, hc⟩ := node_g (K := K) G (by decide) q
    obtain ⟨G1, n1⟩ := pG_node G q (by omega : K ≠ 30)
    have nn := nf_new (K := K) G
    have s10 : nC σ K 68 10 = σ 68 10 + 1 := nC_n.1
    have t43 : nM τ K 119 43 = τ 119 43 + 1 := nM_n.1
    have s72 : nC σ K 72 (σ 68 10) = -1 := nC_n.2.2.2.2.1
    have t138 : nM τ K 138 (τ 119 43) = -1 := nM_n.2.2.2.1
    have s22 : nC σ K 68 22 = σ 68 22 := nC_o (by omega) (by omega)
    have t29 : nM τ K 119 29 = τ 119 29 := nM_o (by omega) (by omega)
    rw [e1, e2]
    simp only [Option.bind_some, gtry]
    rw [s22, t29, h8.2.2]
    by_cases z : σ 68 22 = 0
    · right
      rw [if_pos z, if_pos z]
      obtain ⟨f1, f2⟩ := fail_s (k := 5) G1 (p := nC σ K 69 5) (q := nM τ K 119 26) G1.2.1.1.1
      have b := bd_of G1 (k := 5) (p := nC σ K 69 5) (by decide)
      rw [f1, f2]
      exact ⟨_, _, σ 68 10, b272_b b, rfl, b.le (by omega), by omega⟩
    · rw [if_neg z, if_neg z, ps_statement_b272_e, ps_good_g G1.2.2.1]
      simp only [Option.bind_some]
      rw [if_neg (by decide)]
      rcases rd_p G1 (by rw [nM_o (by omega) (by omega)]; exact h4) with ⟨S, T, a1, a2, G2, F, a5⟩ | ⟨S, T, a1, a2, b, F⟩
      · rw [a1, a2]
        simp only [Option.bind_some]
        have k1 : ∀ M N, kE M N (nC σ K) S (nM τ K) T := fun M N => kE.rd F (by omega)
        have e10 : S 68 10 = σ 68 10 + 1 := by rw [F.1 68 (by decide), s10]
        obtain ⟨⟨q70, q71, q73, q74, q75, q76, q77, q78⟩, ⟨y135, y136, y139, y140, y141, y142, y143, y145⟩, ynd⟩ := nn.kE (k1 (σ 68 10 + 1) (τ 119 43 + 1)) (by omega) (by omega)
        have q72 : S 72 (σ 68 10) = -1 := by rw [F.1 72 (by decide), s72]
        have y138 : T 138 (τ 119 43) = -1 := by rw [F.2.2.1 138 (by decide), t138]
        rw [ps_statement_b286_e, md_statement_b258_e]
        refine semi_s G (G2.le (by decide)) (by rw [← g43]; exact (kE_node (Int.le_refl _) (Int.le_refl _)).tr (k1 _ _) (Int.le_refl _) (Int.le_refl _)) (PX.jump ⟨sDp_0 G, by unfold sDp; rw [if_pos (by omega)]; omega⟩ hb.1 e10 (by omega) q72 q73 q74) ?_ ⟨by rw [F.1 68 (by decide)]; exact nC_o (by omega) (by omega), by rw [F.1 68 (by decide), s22]⟩ ⟨q75, y141⟩ (by unfold ps; rw [if_neg (by omega), ynd])
        rw [e10]
        refine NB.one (by omega) ?_ NB.nil
        refine RN.op (by omega) (by rw [ynd, y135, q70]) (by rw [ynd, y136, q71]) (by omega) ?_ ?_ ?_
        · rw [ynd, y138, q72]; rfl
        · rw [ynd, y139, q73]; rfl
        · rw [ynd, y140, q74]; rfl
      · right
        rw [a1, a2]
        simp only [Option.bind_some]
        rw [ps_statement_b286_e, ps_must_b b.1]
        exact ⟨S, T, σ 68 10, rfl, rfl, b.le (by omega), by omega⟩
end S3
