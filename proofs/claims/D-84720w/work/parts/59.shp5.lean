/-! shapes: the wider shape is made -/
section WD
variable {σ τ : gM}
theorem anF_old {σ' : gM} {C : Int} (hp : ∀ s, 1 ≤ s → s < C → 0 ≤ σ 43 s ∧ σ 43 s < s) (hz : ∀ s, s ≤ 0 → σ 47 s ≤ 0 ∨ s < 0) (h43 : ∀ i, i < C → σ' 43 i = σ 43 i) (h47 : ∀ i, i < C → σ' 47 i = σ 47 i) {p : Int} (hp0 : 0 ≤ p) (h0 : σ 47 0 = 0) : ∀ (d : Nat) (s : Int), 0 ≤ s → s < C → anF d σ' s p = anF d σ s p
  | 0, _, _, _ => rfl
  | d + 1, s, s0, hs => by
    unfold anF
    rw [h47 s hs]
    by_cases q : p + 1 < σ 47 s
    · rw [if_pos q, if_pos q]
      by_cases e : s = 0
      · rw [e, h0] at q; omega
      · have := hp s (by omega) hs
        rw [h43 s hs, anF_old hp hz h43 h47 hp0 h0 d (σ 43 s) this.1 (by omega)]
    · rw [if_neg q, if_neg q]
/-- what has been made so far -/
def wMk (σ τ S T : gM) (sh pl k at' : Int) : Prop := rSh S T ∧ mI T ∧ mKeep τ T ∧ (∀ i, i8 (T 121 i)) ∧ (∀ i, i < σ 42 6 → S 43 i = σ 43 i ∧ S 44 i = σ 44 i ∧ S 45 i = σ 45 i ∧ S 46 i = σ 46 i ∧ S 47 i = σ 47 i ∧ (0 ≤ i → T 192 i = τ 192 i)) ∧ S 42 10 = σ 42 10 ∧ S 42 11 = σ 42 11 ∧ σ 42 6 ≤ S 42 6 ∧
  (∀ a i, (a < 42 ∨ 47 < a) → a ≠ 51 → S a i = σ a i) ∧ (∀ q, 0 ≤ q → q < σ 47 sh → S 51 q = anc σ sh q) ∧ T 119 10 = τ 119 10 ∧ T 119 9 = τ 119 9 ∧ (∀ c i, c < 119 ∨ 126 < c → c < 188 ∨ 192 < c → T c i = τ c i) ∧ T 120 = τ 120 ∧ (∀ i, i ≠ 9 → i ≠ 10 → i ≠ 94 → T 119 i = τ 119 i) ∧ (∀ i, 60000 ≤ i → T 121 i = τ 121 i) ∧
  (0 ≤ at' ∧ at' < S 42 6) ∧ S 47 at' = k ∧ (∀ m, plc S at' m = plc σ (pre σ sh k) m) ∧ cn1 S at' + (if pl < k then 1 else 0) = cn1 σ (pre σ sh k) ∧ (∀ s m, s < σ 42 6 → plc S s m = plc σ s m) ∧ (∀ s, s < σ 42 6 → cn1 S s = cn1 σ s)
theorem sp_wider_b151_s (h : rSh σ τ) (h9 : τ 119 10 ≤ 9000) {sh pl : Int} (h0 : 0 ≤ sh) (hs : sh < σ 42 6) (hpl : 0 ≤ pl ∧ pl < σ 47 sh) (h1 : σ 45 (anc σ sh pl) = 1) :
    ∀ (d : Nat) (S T : gM) (k at' : Int), 0 ≤ k → k + d = σ 47 sh → wMk σ τ S T sh pl k at' → S 42 6 + d ≤ 200 → (0 < d → ∀ q, 1 ≤ q → q < S 42 6 → ¬ (S 43 q = at' ∧ S 44 q = σ 44 (anc σ sh k) ∧ S 45 q = if k = pl then 3 else σ 45 (anc σ sh k))) →
      ∃ S' T' t, sp_wider_b151 S pl (σ 47 sh) at' k = some (S', t) ∧ md_heirComes_b5 T sh pl at' k = some (T', t) ∧ wMk σ τ S' T' sh pl (σ 47 sh) t ∧ S' 42 6 = S 42 6 + d
  | 0, S, T, k, at', k0, hk, w, hC, _ => by
    have hb : 0 ≤ sh ∧ sh < 200 := by have := h.1; omega
    have e : k = σ 47 sh := by omega
    subst e
    have w' := w
    obtain ⟨wR, wI, wK, w8, wo, w10, w11, w6, wS, w51, wT10, wT9, wT, wT120, wT119, wT121, wa, wm, wp, wc, wp', wc'⟩ := w
    have i191 : T 191 sh = σ 47 sh := by
      rw [← (wo sh hs).2.2.2.2.1]
      by_cases z : sh = 0
      · rw [z, wR.2.2.2.1.1, wR.2.2.2.1.2.1]
      · exact (wR.2.2.2.2.1 sh (by omega) (by omega)).2.2.2.2.2.2.1
    refine ⟨S, T, at', ?_, ?_, w', by simp⟩
    · rw [sp_wider_b151_e, if_neg (by omega)]
    · rw [md_heirComes_b5_e]
      simp only [hb, and_self, if_true]
      rw [i191, if_neg (by omega)]
  | d + 1, S, T, k, at', k0, hk, w, hC, hno => by
    have hb : 0 ≤ sh ∧ sh < 200 := by have := h.1; omega
    have mr := many_r h h0 hs
    obtain ⟨wR, wI, wK, w8, wo, w10, w11, w6, wS, w51, wT10, wT9, wT, wT120, wT119, wT121, wa, wm, wp, wc, wp', wc'⟩ := w
    have hk12 : 0 ≤ k ∧ k < 12 := by omega
    have av := anc_v h k0 sh.toNat sh (by omega) h0 hs (by omega)
    have ap := anc_par h k0 sh.toNat sh (by omega) h0 hs (by omega)
    have oa := wo (anc σ sh k) (by omega)
    have aS : anc S sh k = anc σ sh k := anF_old h.par (fun s q => by
      by_cases z : s = 0
      · left; rw [z, h.2.2.2.1.1]; omega
      · right; omega) (fun i hi => (wo i hi).1) (fun i hi => (wo i hi).2.2.2.2.1) k0 h.2.2.2.1.1 _ sh h0 hs
    have at_ := wR.2.2.2.2.1 (anc σ sh k) (by omega) (by omega)
    have hba : 0 ≤ anc σ sh k ∧ anc σ sh k < 200 := by have := h.1; omega
    generalize hso : (if k = pl then (3 : Int) else σ 45 (anc σ sh k)) = so at hno
    have so13 : so = 1 ∨ so = 3 := by
      rw [← hso]
      split
      · right; rfl
      · have := at_.2.2.2.1; rw [oa.2.2.1] at this; exact this
    have i191 : T 191 sh = σ 47 sh := by
      rw [← (wo sh hs).2.2.2.2.1]
      by_cases z : sh = 0
      · rw [z, wR.2.2.2.1.1, wR.2.2.2.1.2.1]
      · exact (wR.2.2.2.2.1 sh (by omega) (by omega)).2.2.2.2.2.2.1
    have i191a : T 191 at' = k := by
      rw [← wm]
      by_cases z : at' = 0
      · rw [z, wR.2.2.2.1.1, wR.2.2.2.1.2.1]
      · exact (wR.2.2.2.2.1 at' (by omega) (by omega)).2.2.2.2.2.2.1
    have e94 : T 119 94 = S 42 6 := wR.1.2.2
    have nS : sN S (S 44 (anc σ sh k)) = mS T (T 192 (anc σ sh k)) := at_.2.2.2.2.2.2.2.2.symm
    -- no such child is there
    obtain ⟨t, c1, c2, c3, -⟩ := sp_child_s (sh := at') (srt := so) wR wI (Or.inl at_.2.2.2.2.2.2.2.1) ⟨at_.2.2.1, nS⟩ (S 42 6 - 1).toNat 1 (by omega) (by have := wR.1; omega)
    have tm : t = -1 := by
      rcases c3 with c3 | ⟨c3, c4, c5, c6⟩
      · exact c3
      · exact absurd ⟨c4, by rw [c5, oa.2.1], c6⟩ (hno (by omega) t c3.1 c3.2)
    subst tm
    -- both sides get it
    obtain ⟨S', a0, a42, a43, a44, a45, a46, a47, ao⟩ := sp_add_s (σ := S) (sh := at') (n := σ 44 (anc σ sh k)) (k := so) (by have := wR.1; omega) wa (by omega)
    obtain ⟨T', b0, bI, bK, b94, b188, b189, b190, b191, b192, bn, bS, bx, by', bT, bT120, bT119, bT121, b9, b8⟩ := md_shapeComes_s (τ := T) (sh := at') (w := T 192 (anc σ sh k)) (k := so) wI (Or.inl at_.2.2.2.2.2.2.2.1) w8 (by have := wR.1; omega) (by omega) (by omega) (fun q => by have := at_.2.2.2.2.2.2.2.1; omega) (fun q => by have := at_.2.2.2.2.2.2.2.1; omega)
    have b9' := b9 (by have := at_.2.2.2.2.2.2.2.1; omega)
    have nk : 0 ≤ σ 44 (anc σ sh k) ∧ σ 44 (anc σ sh k) < S 42 10 := by rw [← oa.2.1]; exact at_.2.2.1
    obtain ⟨nR, nP, nQ, nC, nD⟩ := rSh_add wR (by omega) (by omega) wa nk so13 (by omega) a42 a43 a44 a45 a46 a47 ao b94 bK b188 b189 b190 b191 b192 bn (by rw [bS, ← nS, oa.2.1])
    have pk : pre σ sh (k + 1) = anc σ sh k := by unfold pre; rw [if_neg (by omega), show k + 1 - 1 = k by omega]
    have t6 : S' 42 6 = S 42 6 + 1 := by rw [a42]; simp
    have s1 : sp_wider_b151 S pl (σ 47 sh) at' k = sp_wider_b151 S' pl (σ 47 sh) (S 42 6) (k + 1) := by
      rw [sp_wider_b151_e, if_pos (by omega), w51 k k0 (by omega)]
      simp only [hk12, hba, and_self, if_true, sp_wider_b194_e, oa.2.1, oa.2.2.1]
      have : (if k = pl then (sp_add S at' (σ 44 (anc σ sh k)) 3).bind fun p1 => sp_wider_b151 p1.1 pl (σ 47 sh) p1.2 (w32 (k + 1)) else (sp_add S at' (σ 44 (anc σ sh k)) (σ 45 (anc σ sh k))).bind fun p1 => sp_wider_b151 p1.1 pl (σ 47 sh) p1.2 (w32 (k + 1))) = (sp_add S at' (σ 44 (anc σ sh k)) so).bind fun p1 => sp_wider_b151 p1.1 pl (σ 47 sh) p1.2 (w32 (k + 1)) := by
        rw [← hso]; split <;> rfl
      rw [this, a0]
      simp only [Option.bind_some]
      rw [w32_e (by omega) (by omega)]
    have s2 : md_heirComes_b5 T sh pl at' k = md_heirComes_b5 T' sh pl (S 42 6) (k + 1) := by
      rw [md_heirComes_b5_e, md_withLast_e, md_withLast_s wR hk12 sh.toNat sh (by omega) h0 (by omega), aS]
      simp only [hb, and_self, if_true, i191, Option.bind_some, hba, show k < σ 47 sh by omega, at_.2.2.2.2.1, oa.2.2.1]
      have : (if k = pl then md_heirComes_b42 T sh pl at' k (anc σ sh k) 3 else md_heirComes_b42 T sh pl at' k (anc σ sh k) (σ 45 (anc σ sh k))) = md_heirComes_b42 T sh pl at' k (anc σ sh k) so := by
        rw [← hso]; split <;> rfl
      rw [this, md_heirComes_b42_e]
      simp only [hba, and_self, if_true]
      rw [md_childOf_e, c2]
      simp only [Option.bind_some]
      rw [if_pos (by decide), b0]
      simp only [Option.bind_some]
      rw [md_heirComes_b86_e, w32_e (by omega) (by omega), e94]
    rw [s1, s2]
    have mk : wMk σ τ S' T' sh pl (k + 1) (S 42 6) := by
      refine ⟨nR, bI, ?_, ?_, ?_, ?_, ?_, by omega, ?_, ?_, by omega, by omega, ?_, ?_, ?_, ?_, by omega, ?_, ?_, ?_, ?_, ?_⟩
      · intro r hr
        have q1 := wK r hr
        have q2 := bK r q1.1
        exact ⟨q2.1, q2.2.1.trans q1.2.1, q2.2.2.1.trans q1.2.2.1, q2.2.2.2.trans q1.2.2.2⟩
      · exact b8
      · intro i hi
        have q := wo i hi
        have ne : i ≠ S 42 6 := by omega
        exact ⟨by rw [a43, if_neg ne]; exact q.1, by rw [a44, if_neg ne]; exact q.2.1, by rw [a45, if_neg ne]; exact q.2.2.1, by rw [a46, if_neg ne]; exact q.2.2.2.1, by rw [a47, if_neg ne]; exact q.2.2.2.2.1, fun z => by rw [b192 i (by omega)]; exact q.2.2.2.2.2 z⟩
      · rw [a42, if_neg (by decide)]; exact w10
      · rw [a42, if_neg (by decide)]; exact w11
      · intro a i q1 q2
        rw [ao a i q1]; exact wS a i q1 q2
      · intro q q1 q2
        rw [ao 51 q (by omega)]; exact w51 q q1 q2
      · intro c i q1 q2
        rw [bT c i q1 q2]; exact wT c i q1 q2
      · rw [bT120]; exact wT120
      · intro i q1 q2 q3
        rw [bT119 i q1 q2 q3]; exact wT119 i q1 q2 q3
      · intro i q
        rw [bT121 i q]; exact wT121 i q
      · rw [a47, if_pos rfl, wm]
      · intro m
        rw [nQ m, pk, plc_e (s := anc σ sh k) h.par (by omega) (by omega), wp m, wm, ap, av.2, show k + 1 - 1 = k by omega]
      · rw [nD, pk, cn1_e (s := anc σ sh k) h.par (by omega) (by omega), ap, ← hso]
        by_cases e : k = pl
        · subst e
          rw [if_pos rfl, h1, if_neg (by decide), if_pos rfl, if_pos (by omega)]
          rw [if_neg (by omega)] at wc
          omega
        · rw [if_neg e]
          have : (if pl < k + 1 then 1 else 0) = (if pl < k then 1 else 0) := by
            by_cases z : pl < k
            · rw [if_pos z, if_pos (by omega)]
            · rw [if_neg z, if_neg (by omega)]
          rw [this]
          omega
      · intro s m hs'
        rw [nP s m (by omega)]; exact wp' s m hs'
      · intro s hs'
        rw [nC s (by omega)]; exact wc' s hs'
    obtain ⟨S2, T2, t, z1, z2, z3, z4⟩ := sp_wider_b151_s h h9 h0 hs hpl h1 d S' T' (k + 1) (S 42 6) (by omega) (by omega) mk (by omega) (fun hd q q1 q2 => by
      intro y
      have y1 := y.1
      have := nR.par q q1 q2
      omega)
    exact ⟨S2, T2, t, z1, z2, z3, by omega⟩
end WD
