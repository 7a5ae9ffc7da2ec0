/-! the queue's next code; what relations rest on -/
section MV
variable {σ τ σ' τ' : gM}
theorem rRt.mv (h : rRt σ τ) (c31 : σ' 8 31 = σ 8 31) (c10 : σ' 52 10 = σ 52 10) (cc : ∀ a, (a = 24 ∨ a = 25 ∨ a = 32 ∨ a = 33 ∨ a = 34 ∨ a = 53 ∨ a = 61) → σ' a = σ a) (d55 : τ' 119 55 = τ 119 55) (dd : ∀ a, (a = 156 ∨ a = 157 ∨ a = 163 ∨ a = 164 ∨ a = 165) → τ' a = τ a) : rRt σ' τ' := by
  unfold rRt
  simp only [c31, c10, d55, cc 24 (by omega), cc 25 (by omega), cc 32 (by omega), cc 33 (by omega), cc 34 (by omega), cc 53 (by omega), cc 61 (by omega), dd 156 (by omega), dd 157 (by omega), dd 163 (by omega), dd 164 (by omega), dd 165 (by omega)]
  exact h
theorem rCo.mv (h : rCo σ τ) (c31 : σ' 8 31 = σ 8 31) (c10 : σ' 52 10 = σ 52 10) (c11 : σ' 52 11 = σ 52 11) (cc : ∀ a, (53 ≤ a ∧ a ≤ 64) → σ' a = σ a) (d104 : τ' 119 104 = τ 119 104) (dd : ∀ a, (196 ≤ a ∧ a ≤ 206) → τ' a = τ a) : rCo σ' τ' := by
  unfold rCo
  simp only [c31, c10, c11, d104, cc 53 (by omega), cc 54 (by omega), cc 55 (by omega), cc 56 (by omega), cc 57 (by omega), cc 58 (by omega), cc 59 (by omega), cc 60 (by omega), cc 61 (by omega), cc 62 (by omega), cc 63 (by omega), cc 64 (by omega), dd 196 (by omega), dd 197 (by omega), dd 198 (by omega), dd 199 (by omega), dd 200 (by omega), dd 201 (by omega), dd 202 (by omega), dd 203 (by omega), dd 204 (by omega), dd 205 (by omega), dd 206 (by omega)]
  exact h
theorem rIn.mv (h : rIn σ) (c31 : σ' 8 31 = σ 8 31) (c16 : σ' 8 16 = σ 8 16) (cc : ∀ a, (a = 20 ∨ a = 21 ∨ a = 22 ∨ a = 26 ∨ a = 27 ∨ a = 28 ∨ a = 29) → σ' a = σ a) : rIn σ' := by
  unfold rIn
  simp only [c31, c16, cc 20 (by omega), cc 21 (by omega), cc 22 (by omega), cc 26 (by omega), cc 27 (by omega), cc 28 (by omega), cc 29 (by omega)]
  exact h
theorem rUn.mv (h : rUn σ) (c10 : σ' 52 10 = σ 52 10) (cc : ∀ a, (a = 26 ∨ a = 27 ∨ a = 53 ∨ a = 54 ∨ a = 55 ∨ a = 62 ∨ a = 63 ∨ a = 64) → σ' a = σ a) : rUn σ' := by
  unfold rUn
  simp only [c10, cc 26 (by omega), cc 27 (by omega), cc 53 (by omega), cc 54 (by omega), cc 55 (by omega), cc 62 (by omega), cc 63 (by omega), cc 64 (by omega)]
  exact h
theorem rCp.mv (h : rCp σ) (c10 : σ' 52 10 = σ 52 10) (c12 : σ' 52 12 = σ 52 12) (cc : ∀ a, (a = 9 ∨ a = 20 ∨ a = 21 ∨ a = 22 ∨ a = 28 ∨ a = 29 ∨ a = 54 ∨ a = 55 ∨ a = 62 ∨ a = 65 ∨ a = 66) → σ' a = σ a) : rCp σ' := by
  unfold rCp cpC cp2
  simp only [c10, c12, cc 9 (by omega), cc 20 (by omega), cc 21 (by omega), cc 22 (by omega), cc 28 (by omega), cc 29 (by omega), cc 54 (by omega), cc 55 (by omega), cc 62 (by omega), cc 65 (by omega), cc 66 (by omega)]
  exact h
theorem cFa.mv {c : Int} (h : cFa σ c) (cc : ∀ a, (a = 9 ∨ a = 11 ∨ a = 18 ∨ a = 19 ∨ a = 20 ∨ a = 22 ∨ a = 29 ∨ a = 54 ∨ a = 55 ∨ a = 62 ∨ a = 64 ∨ a = 65) → σ' a = σ a) : cFa σ' c := by
  unfold cFa
  simp only [cc 9 (by omega), cc 11 (by omega), cc 18 (by omega), cc 19 (by omega), cc 20 (by omega), cc 22 (by omega), cc 29 (by omega), cc 54 (by omega), cc 55 (by omega), cc 62 (by omega), cc 64 (by omega), cc 65 (by omega)]
  exact h
theorem rVc.mv (h : rVc σ) (c10 : σ' 52 10 = σ 52 10) (c61 : ∀ i, σ' 61 i = σ 61 i ∨ σ' 61 i = 0) (cc : ∀ a, (a = 9 ∨ a = 11 ∨ a = 18 ∨ a = 19 ∨ a = 20 ∨ a = 22 ∨ a = 29 ∨ a = 54 ∨ a = 55 ∨ a = 62 ∨ a = 64 ∨ a = 65) → σ' a = σ a) : rVc σ' := fun c c0 c1 hv => by
  rw [c10] at c1
  rcases c61 c with e | e
  · exact (h c c0 c1 (by rw [← e]; exact hv)).mv cc
  · omega
theorem rCc.mv (h : rCc σ τ) (c8 : ∀ i, (i = 12 ∨ i = 16 ∨ i = 31) → σ' 8 i = σ 8 i) (c42 : σ' 42 = σ 42) (c52 : ∀ i, (i = 10 ∨ i = 11 ∨ i = 12) → σ' 52 i = σ 52 i) (cc : ∀ a, (9 ≤ a ∧ a ≤ 35) ∨ (43 ≤ a ∧ a ≤ 47) ∨ (53 ≤ a ∧ a ≤ 66) → σ' a = σ a) (d119 : ∀ i, (i = 55 ∨ i = 57 ∨ i = 104) → τ' 119 i = τ 119 i) (dd : ∀ a, (156 ≤ a ∧ a ≤ 184) ∨ (196 ≤ a ∧ a ≤ 206) → τ' a = τ a) : rCc σ' τ' := by
  obtain ⟨⟨h1, h2⟩, h3, h4, h5, h6, h7, h8⟩ := h
  exact ⟨⟨h1.mv (c8 31 (by omega)) (c52 10 (by omega)) (fun a q => cc a (by omega)) (d119 55 (by omega)) (fun a q => dd a (by omega)), h2.mv (c8 31 (by omega)) (c52 10 (by omega)) (c52 11 (by omega)) (fun a q => cc a (by omega)) (d119 104 (by omega)) (fun a q => dd a (by omega))⟩,
    h3.mv (c8 12 (by omega)) (c8 31 (by omega)) c42 (fun a q => cc a (by omega)) (d119 57 (by omega)) (fun a q => dd a (by omega)), h4.mv (c8 12 (by omega)) (fun a q => cc a (by omega)) (fun a q => dd a (by omega)), h5.mv (c8 31 (by omega)) (c8 16 (by omega)) (fun a q => cc a (by omega)), h6.mv (c52 10 (by omega)) (fun a q => cc a (by omega)), h7.mv (c52 10 (by omega)) (c52 12 (by omega)) (fun a q => cc a (by omega)), h8.mv (c52 10 (by omega)) (fun i => Or.inl (by rw [cc 61 (by omega)])) (fun a q => cc a (by omega))⟩
end MV
section CQ
/-- the queue moves up -/
theorem cd_compile_b35_s {x w : Int} (hw : 0 ≤ w ∧ w < 60) : ∀ (d : Nat) (k : Int) (S T : gM), 0 ≤ k → k + d = w → S 52 19 = w → T 119 89 = w →
    ∃ S' T', cd_compile_b35 S x k = cd_compile_b35 S' x w ∧ md_compile_b37 T x k = md_compile_b37 T' x w ∧ (∀ a, a ≠ 67 → S' a = S a) ∧ (∀ a, a ≠ 185 → T' a = T a) ∧ (∀ i, S' 67 i = if k ≤ i ∧ i < w then S 67 (i + 1) else S 67 i) ∧ (∀ i, T' 185 i = if k ≤ i ∧ i < w then T 185 (i + 1) else T 185 i)
  | 0, k, S, T, k0, hk, hS, hT => by
    have e : k = w := by omega
    subst e
    exact ⟨S, T, rfl, rfl, fun _ _ => rfl, fun _ _ => rfl, fun i => by rw [if_neg (by omega)], fun i => by rw [if_neg (by omega)]⟩
  | d + 1, k, S, T, k0, hk, hS, hT => by
    have b1 : 0 ≤ k + 1 ∧ k + 1 < 60 := by omega
    have b2 : 0 ≤ k ∧ k < 60 := by omega
    obtain ⟨S', T', i1, i2, i3, i4, i5, i6⟩ := cd_compile_b35_s (x := x) hw d (k + 1) (gW S 67 k (S 67 (k + 1))) (gW T 185 k (T 185 (k + 1))) (by omega) (by omega) (by rw [gW_c (by decide)]; exact hS) (by rw [gW_c (by decide)]; exact hT)
    refine ⟨S', T', ?_, ?_, fun a q => by rw [i3 a q, gW_cell q], fun a q => by rw [i4 a q, gW_cell q], fun i => ?_, fun i => ?_⟩
    · rw [cd_compile_b35_e, hS, if_pos (by omega), w32_e (by omega) (by omega), if_pos b1, if_pos b2, i1]
    · rw [md_compile_b37_e, hT, if_pos (by omega), w32_e (by omega) (by omega), if_pos b1, if_pos b2, i2]
    · rw [i5, gW_if, gW_if]
      by_cases z : i = k
      · subst z; rw [if_neg (by omega), if_pos rfl, if_pos (by omega)]
      · by_cases y : k + 1 ≤ i ∧ i < w
        · rw [if_pos y, if_neg (by omega), if_pos (by omega)]
        · rw [if_neg y, if_neg z, if_neg (by omega)]
    · rw [i6, gW_if, gW_if]
      by_cases z : i = k
      · subst z; rw [if_neg (by omega), if_pos rfl, if_pos (by omega)]
      · by_cases y : k + 1 ≤ i ∧ i < w
        · rw [if_pos y, if_neg (by omega), if_pos (by omega)]
        · rw [if_neg y, if_neg z, if_neg (by omega)]
theorem cd_compile_b0_s : ∀ (d : Nat) (σ τ : gM), rCc σ τ → rQu σ τ → σ 52 19 = d → σ 52 10 < 100 →
    ∃ σ' τ' x, cd_compile_b0 σ = some (σ', x) ∧ md_compile_b11 τ = some (τ', x) ∧ rCc σ' τ' ∧ rQu σ' τ' ∧ mkO σ σ' ∧ mkP τ τ'
  | 0, σ, τ, H, Q, hd, hc => by
    rw [cd_compile_b0_e, if_neg (by omega), md_compile_b11_e, Q.1.2, if_neg (by omega)]
    exact ⟨σ, τ, -1, rfl, rfl, H, Q, ⟨fun _ _ _ _ => rfl, fun _ _ => ⟨rfl, rfl, rfl⟩, fun _ _ => ⟨rfl, rfl, rfl, rfl, rfl, rfl, rfl⟩, fun _ _ => ⟨rfl, rfl, rfl, rfl⟩, fun _ _ => rfl, Int.le_refl _⟩, ⟨fun _ _ _ _ _ => rfl, fun _ _ _ => rfl⟩⟩
  | d + 1, σ, τ, H, Q, hd, hc => by
    have hle := Q.le H.1.1
    have h60 := H.1.1.1
    have q0 := Q.2.1 0 (by omega) (by omega)
    obtain ⟨S, T, i1, i2, i3, i4, i5, i6⟩ := cd_compile_b35_s (x := σ 67 0) (w := (d : Int)) (by omega) d 0 (gW σ 52 19 d) (gW τ 119 89 d) (by omega) (by omega) (gW_at _ _ _ _) (gW_at _ _ _ _)
    have S52 : ∀ i, i ≠ 19 → S 52 i = σ 52 i := fun i q => by rw [i3 52 (by decide), gW_i q]
    have S19 : S 52 19 = d := by rw [i3 52 (by decide), gW_at]
    have T89 : T 119 89 = d := by rw [i4 119 (by decide), gW_at]
    have T119 : ∀ i, i ≠ 89 → T 119 i = τ 119 i := fun i q => by rw [i4 119 (by decide), gW_i q]
    have So : ∀ a, a ≠ 52 → a ≠ 67 → S a = σ a := fun a p1 p2 => by rw [i3 a p2, gW_cell p1]
    have To : ∀ a, a ≠ 119 → a ≠ 185 → T a = τ a := fun a p1 p2 => by rw [i4 a p2, gW_cell p1]
    have HS : rCc S T := H.mv (fun i _ => by rw [So 8 (by decide) (by decide)]) (So 42 (by decide) (by decide)) (fun i q => S52 i (by omega)) (fun a q => So a (by omega) (by omega)) (fun i q => T119 i (by omega)) (fun a q => To a (by omega) (by omega))
    have QS : rQu S T := by
      unfold rQu
      rw [S19, T89, So 8 (by decide) (by decide)]
      refine ⟨by omega, fun k k0 k1 => ?_, fun j k j0 j1 k0 k1 e => ?_⟩
      · rw [i5, i6, if_pos (by omega), if_pos (by omega), gW_c (by decide), gW_c (by decide)]
        exact Q.2.1 (k + 1) (by omega) (by omega)
      · rw [i5, i5, if_pos (by omega), if_pos (by omega), gW_c (by decide), gW_c (by decide)] at e
        have := Q.2.2 (j + 1) (k + 1) (by omega) (by omega) (by omega) (by omega) e
        omega
    have OS : mkO σ S := ⟨fun a p1 p2 p3 => So a (by omega) (by omega), fun i _ => by rw [So 20 (by decide) (by decide), So 21 (by decide) (by decide), So 22 (by decide) (by decide)]; exact ⟨rfl, rfl, rfl⟩, fun i _ => by rw [So 53 (by decide) (by decide), So 54 (by decide) (by decide), So 55 (by decide) (by decide), So 58 (by decide) (by decide), So 59 (by decide) (by decide), So 60 (by decide) (by decide), So 61 (by decide) (by decide)]; exact ⟨rfl, rfl, rfl, rfl, rfl, rfl, rfl⟩, fun i _ => by rw [So 62 (by decide) (by decide), So 63 (by decide) (by decide), So 64 (by decide) (by decide), So 65 (by decide) (by decide)]; exact ⟨rfl, rfl, rfl, rfl⟩, fun i _ => by rw [So 66 (by decide) (by decide)], by rw [S52 10 (by decide)]; exact Int.le_refl _⟩
    have PS : mkP τ T := ⟨fun a p1 p2 p3 p4 => To a p1 p3, fun i p1 p2 => T119 i p1⟩
    have nw := fr_isNewest_n HS.1.1.nw (r := σ 67 0) (by omega) (by rw [So 8 (by decide) (by decide)]; omega)
    have eC : cd_compile_b0 σ = (fr_isNewest S (σ 67 0)).bind fun p1 => if p1.2 = 0 then cd_compile_b0 p1.1 else (cd_make p1.1 (σ 67 0)).bind fun p2 => some (p2.1, σ 67 0) := by
      rw [cd_compile_b0_e, if_pos (by omega), if_pos hc, if_pos (by decide), hd, show ((d + 1 : Nat) : Int) - 1 = (d : Int) by omega, w32_e (by omega) (by omega), i1, cd_compile_b35_e, S19, if_neg (by omega)]
    have eM : md_compile_b11 τ = (md_isNewest T (σ 67 0)).bind fun p1 => if p1.2 = 0 then md_compile_b11 p1.1 else (md_makeCode p1.1 (σ 67 0)).bind fun p2 => some (p2.1, σ 67 0) := by
      rw [md_compile_b11_e, Q.1.2, if_pos (by omega), if_pos (by decide), hd, show ((d + 1 : Nat) : Int) - 1 = (d : Int) by omega, w32_e (by omega) (by omega), q0.1, i2, md_compile_b37_e, T89, if_neg (by omega)]
    rw [eC, eM, nw.1, nw.2]
    simp only [Option.bind_some]
    by_cases z : S 24 (S 25 (σ 67 0)) = σ 67 0
    · simp only [if_pos z, show ¬ ((1 : Int) = 0) by decide, if_false]
      obtain ⟨σ', τ', a1, a2, a3, a4, a5, a6, a7, a8, a9, a10⟩ := cd_make_s HS (r := σ 67 0) q0.2.1 (by rw [So 8 (by decide) (by decide)]; omega) (by rw [S52 10 (by decide)]; exact hc)
      rw [a1, a2]
      simp only [Option.bind_some]
      refine ⟨σ', τ', σ 67 0, rfl, rfl, a3, ?_, ?_, ?_⟩
      · unfold rQu at QS ⊢
        have c8 : σ' 8 = S 8 := a4.1 8 (by omega) (by omega) (by omega)
        simp only [a6, a7, a8, a9, c8]
        exact QS
      · obtain ⟨o1, o2, o3, o4, o5, o6⟩ := a4
        have e12 := S52 12 (by decide)
        have e10 := S52 10 (by decide)
        have e11 := S52 11 (by decide)
        refine ⟨fun a p1 p2 p3 => by rw [o1 a p1 p2 p3, OS.1 a p1 p2 p3], fun i p => ?_, fun i p => ?_, fun i p => ?_, fun i p => ?_, by omega⟩
        · have x := o2 i (by omega)
          have y := OS.2.1 i p
          exact ⟨x.1.trans y.1, x.2.1.trans y.2.1, x.2.2.trans y.2.2⟩
        · have x := o3 i (by omega)
          have y := OS.2.2.1 i p
          exact ⟨x.1.trans y.1, x.2.1.trans y.2.1, x.2.2.1.trans y.2.2.1, x.2.2.2.1.trans y.2.2.2.1, x.2.2.2.2.1.trans y.2.2.2.2.1, x.2.2.2.2.2.1.trans y.2.2.2.2.2.1, x.2.2.2.2.2.2.trans y.2.2.2.2.2.2⟩
        · have x := o4 i (by omega)
          have y := OS.2.2.2.1 i p
          exact ⟨x.1.trans y.1, x.2.1.trans y.2.1, x.2.2.1.trans y.2.2.1, x.2.2.2.trans y.2.2.2⟩
        · exact (o5 i (by omega)).trans (OS.2.2.2.2.1 i p)
      · exact ⟨fun a p1 p2 p3 p4 => (a5.1 a p1 p2 p3 p4).trans (PS.1 a p1 p2 p3 p4), fun i p1 p2 => (a5.2 i p1 p2).trans (PS.2 i p1 p2)⟩
    · simp only [if_neg z, if_true]
      obtain ⟨σ', τ', x, a1, a2, a3, a4, a5, a6⟩ := cd_compile_b0_s d S T HS QS S19 (by rw [S52 10 (by decide)]; exact hc)
      refine ⟨σ', τ', x, a1, a2, a3, a4, ?_, ?_⟩
      · obtain ⟨o1, o2, o3, o4, o5, o6⟩ := a5
        have e12 := S52 12 (by decide)
        have e10 := S52 10 (by decide)
        have e11 := S52 11 (by decide)
        refine ⟨fun a p1 p2 p3 => by rw [o1 a p1 p2 p3, OS.1 a p1 p2 p3], fun i p => ?_, fun i p => ?_, fun i p => ?_, fun i p => ?_, by omega⟩
        · have x := o2 i (by omega)
          have y := OS.2.1 i p
          exact ⟨x.1.trans y.1, x.2.1.trans y.2.1, x.2.2.trans y.2.2⟩
        · have x := o3 i (by omega)
          have y := OS.2.2.1 i p
          exact ⟨x.1.trans y.1, x.2.1.trans y.2.1, x.2.2.1.trans y.2.2.1, x.2.2.2.1.trans y.2.2.2.1, x.2.2.2.2.1.trans y.2.2.2.2.1, x.2.2.2.2.2.1.trans y.2.2.2.2.2.1, x.2.2.2.2.2.2.trans y.2.2.2.2.2.2⟩
        · have x := o4 i (by omega)
          have y := OS.2.2.2.1 i p
          exact ⟨x.1.trans y.1, x.2.1.trans y.2.1, x.2.2.1.trans y.2.2.1, x.2.2.2.trans y.2.2.2⟩
        · exact (o5 i (by omega)).trans (OS.2.2.2.2.1 i p)
      · exact ⟨fun a p1 p2 p3 p4 => (a6.1 a p1 p2 p3 p4).trans (PS.1 a p1 p2 p3 p4), fun i p1 p2 => (a6.2 i p1 p2).trans (PS.2 i p1 p2)⟩
/-- compile -/
theorem cd_compile_s {σ τ : gM} (H : rCc σ τ) (Q : rQu σ τ) : ∃ σ' τ' x, cd_compile σ = some (σ', x) ∧ md_compile τ = some (τ', x) ∧ rCc σ' τ' ∧ rQu σ' τ' ∧ mkO σ σ' ∧ mkP τ τ' := by
  have e : cd_compile σ = cd_compile_b0 σ := by rw [cd_compile_e, cd_compile_b0_e]
  have q2 := H.1.2.1
  rw [e, md_compile_e, q2.2.2]
  by_cases z : σ 52 10 = 100
  · rw [if_pos z, cd_compile_b0_e]
    refine ⟨σ, τ, -1, ?_, rfl, H, Q, ⟨fun _ _ _ _ => rfl, fun _ _ => ⟨rfl, rfl, rfl⟩, fun _ _ => ⟨rfl, rfl, rfl, rfl, rfl, rfl, rfl⟩, fun _ _ => ⟨rfl, rfl, rfl, rfl⟩, fun _ _ => rfl, Int.le_refl _⟩, ⟨fun _ _ _ _ _ => rfl, fun _ _ _ => rfl⟩⟩
    rw [if_neg (show ¬ σ 52 10 < 100 by omega)]
    split <;> rfl
  · rw [if_neg z]
    exact cd_compile_b0_s (σ 52 19).toNat σ τ H Q (by have := Q.1; omega) (by omega)
end CQ
