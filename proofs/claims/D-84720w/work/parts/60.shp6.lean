/-! shapes: wider, heirs, children: both sides -/
section W6
variable {σ τ : gM}
theorem sp_wider_s (h : rSh σ τ) (hm : mI τ) (h8 : ∀ i, i8 (τ 121 i)) {sh pl : Int} (h0 : 0 ≤ sh) (hs : sh < σ 42 6) (hpl : 0 ≤ pl ∧ pl < σ 47 sh) (h1 : σ 45 (anc σ sh pl) = 1) :
    ∃ m, (0 ≤ m ∧ m ≤ 12) ∧ md_lacking τ sh pl = some (τ, m) ∧ (200 < σ 42 6 + m → ∃ S, sp_wider σ sh pl = some (S, -1) ∧ (∀ a i, a ≠ 51 → S a i = σ a i)) ∧
      (σ 42 6 + m ≤ 200 → ∃ S T t, sp_wider σ sh pl = some (S, t) ∧ md_heirComes τ sh pl = some (T, t) ∧ wMk σ τ S T sh pl (σ 47 sh) t ∧ S 42 6 = σ 42 6 + m) := by
  have hb : 0 ≤ sh ∧ sh < 200 := by have := h.1; omega
  have mr := many_r h h0 hs
  obtain ⟨S, e1, fr, hw⟩ := sp_wider_b10_s (pl := pl) (n := σ 47 sh) h h0 hs sh.toNat sh σ (by omega) h0 hs (fun _ _ _ => rfl) (fun q q1 q2 => by omega) (fun q q1 q2 => rfl)
  have p0 : pre σ sh 0 = 0 := by unfold pre; rw [if_pos (by omega)]
  obtain ⟨j, t, j1, j2, j3, j4, j5, j6, j7, j8, j9⟩ := sp_wider_b52_s h hm h0 hs hpl S fr hw h1 (σ 47 sh).toNat 0 0 (by omega) (by omega) (by have := h.1; omega) h.2.2.2.1.1 (fun m => by rw [p0]) (by rw [p0, if_neg (by omega)]; rfl)
  have e0 : sp_wider σ sh pl = sp_wider_b52 S pl (σ 47 sh) t (σ 47 sh - j) (σ 47 sh) := by
    rw [sp_wider_e]
    simp only [hb, and_self, if_true]
    rw [e1, j6]
  have e2 : sp_wider_b52 S pl (σ 47 sh) t (σ 47 sh - j) (σ 47 sh) = if 200 < σ 42 6 + (σ 47 sh - j) then some (S, -1) else sp_wider_b151 S pl (σ 47 sh) t j := by
    rw [sp_wider_b52_e, if_neg (by omega), fr 42 6 (by decide), w32_e (x := σ 42 6 + (σ 47 sh - j)) (by have := h.1; omega) (by have := h.1; omega), w32_e (by omega) (by omega), show σ 47 sh - (σ 47 sh - j) = j by omega]
  refine ⟨σ 47 sh - j, by omega, by rw [md_lacking_e]; exact j7, fun hg => ⟨S, by rw [e0, e2, if_pos hg], fr⟩, fun hg => ?_⟩
  have c : ∀ a, a ≠ 51 → S a = σ a := fun a ha => funext fun i => fr a i ha
  have hR : rSh S τ := h.mv (fun a q1 q2 => c a (by omega)) (fun _ _ _ => rfl) rfl (fun r hr => ⟨hr, rfl, rfl, rfl⟩) hm.1.2
  have eP : ∀ s m, plc S s m = plc σ s m := plc_congr (c 43 (by decide)) (c 44 (by decide)) (c 47 (by decide))
  have eC : ∀ s, cn1 S s = cn1 σ s := cn1_congr (c 43 (by decide)) (c 45 (by decide))
  have mk : wMk σ τ S τ sh pl j t := by
    refine ⟨hR, hm, fun r hr => ⟨hr, rfl, rfl, rfl⟩, h8, fun i hi => ⟨fr _ _ (by decide), fr _ _ (by decide), fr _ _ (by decide), fr _ _ (by decide), fr _ _ (by decide), fun _ => rfl⟩, fr _ _ (by decide), fr _ _ (by decide), by rw [fr 42 6 (by decide)]; omega, fun a i _ q => fr a i q, hw, rfl, rfl, fun _ _ _ _ => rfl, rfl, fun _ _ _ _ => rfl, fun _ _ => rfl, by rw [fr 42 6 (by decide)]; exact j2, by rw [fr 47 t (by decide)]; exact j3, fun m => by rw [eP]; exact j4 m, by rw [eC]; exact j5, fun s m _ => eP s m, fun s _ => eC s⟩
  obtain ⟨S', T', t', z1, z2, z3, z4⟩ := sp_wider_b151_s h hm.1.2 h0 hs hpl h1 (σ 47 sh - j).toNat S τ j t (by omega) (by omega) mk (by rw [fr 42 6 (by decide)]; omega) (fun hd q q1 q2 => by
    rw [fr 42 6 (by decide)] at q2
    rw [fr 43 q (by decide), fr 44 q (by decide), fr 45 q (by decide)]
    exact j9 (by omega) q q1 q2)
  rw [fr 42 6 (by decide)] at z4
  exact ⟨S', T', t', by rw [e0, e2, if_neg (by omega), z1], by rw [md_heirComes_e, j8, z2], z3, by omega⟩
/-- an heir is noted -/
theorem rSh_heir (h : rSh σ τ) {sh t : Int} (hs : 0 ≤ sh ∧ sh < σ 42 6) (ht : 0 ≤ t ∧ t < σ 42 6) (hm : σ 47 t = σ 47 sh) (hc : cn1 σ t < cn1 σ sh) (hp : ∀ m, plc σ t m = plc σ sh m) : rSh (gW σ 46 sh t) (gW τ 190 sh t) := by
  obtain ⟨h1, h2, h3, h4, h5, h6, h7, h8⟩ := h
  have c : ∀ a, a ≠ 46 → gW σ 46 sh t a = σ a := fun a ha => gW_cell ha
  have d : ∀ a, a ≠ 190 → gW τ 190 sh t a = τ a := fun a ha => gW_cell ha
  have eN := sN_congr (c 48 (by decide)) (c 49 (by decide)) (c 50 (by decide))
  have eP : ∀ s m, plc (gW σ 46 sh t) s m = plc σ s m := plc_congr (c 43 (by decide)) (c 44 (by decide)) (c 47 (by decide))
  have eC : ∀ s, cn1 (gW σ 46 sh t) s = cn1 σ s := cn1_congr (c 43 (by decide)) (c 45 (by decide))
  have eS : ∀ r, mS (gW τ 190 sh t) r = mS τ r := by
    intro r; unfold mS
    rw [d 121 (by decide), d 122 (by decide), d 123 (by decide)]
  unfold rSh sTr sHr sNm sUq
  simp only [eN, eP, eC, eS, c 42 (by decide), c 43 (by decide), c 44 (by decide), c 45 (by decide), c 47 (by decide), c 49 (by decide), c 50 (by decide), d 119 (by decide), d 188 (by decide), d 189 (by decide), d 191 (by decide), d 192 (by decide)]
  refine ⟨h1, h2, h3, h4, h5, fun s q1 q2 => ?_, h7, h8⟩
  rw [gW_if, gW_if]
  by_cases e : s = sh
  · subst e
    rw [if_pos rfl, if_pos rfl]
    exact ⟨rfl, Or.inr ⟨ht, hm, hc, hp⟩⟩
  · rw [if_neg e, if_neg e]
    exact h6 s q1 q2
/-- what a shape's child leaves of the component's strings and shapes -/
def sGrow (σ σ' : gM) : Prop := (∀ a i, (a < 42 ∨ 50 < a) → a ≠ 4 → a ≠ 5 → σ' a i = σ a i) ∧ sCa σ' ∧ (σ 42 6 ≤ σ' 42 6 ∧ σ' 42 6 ≤ σ 42 6 + 1) ∧ (∀ i, i < σ 42 6 → σ' 43 i = σ 43 i ∧ σ' 44 i = σ 44 i ∧ σ' 45 i = σ 45 i ∧ σ' 46 i = σ 46 i ∧ σ' 47 i = σ 47 i) ∧
  (∀ s m, s < σ 42 6 → plc σ' s m = plc σ s m) ∧ (∀ s, s < σ 42 6 → cn1 σ' s = cn1 σ s) ∧ σ 42 10 ≤ σ' 42 10 ∧ (∀ k, 0 ≤ k → k < σ 42 10 → sN σ' k = sN σ k) ∧ σ' 42 10 < σ' 42 6
theorem hI_same {σ' : gM} (h : hI σ) (c : ∀ a, (a = 0 ∨ a = 1 ∨ a = 2 ∨ a = 3) → σ' a = σ a) : hI σ' := by
  have eS : ∀ s, cS σ' s = cS σ s := cS_congr (c 1 (by decide)) (c 2 (by decide)) (c 3 (by decide))
  unfold hI at *
  simp only [eS, c 0 (by decide), c 2 (by decide), c 3 (by decide)]
  exact h
theorem sp_childFor_s (h : rSh σ τ) (hh : hI σ) (hm : mI τ) (h8 : ∀ i, i8 (τ 121 i)) (hc : sCa σ) (hlt : σ 42 10 < σ 42 6) {sh s w k : Int} (hs : 0 ≤ sh ∧ sh < σ 42 6) (hv : vS σ s) (hw : vM τ w) (he : cS σ s = mS τ w) (hsz : σ 3 s ≤ 200) (hk : k = 1 ∨ k = 3) (hmy : σ 47 sh < 12)
    (r1 : 9000 ≤ w → τ 119 10 < 9000) (r2 : 9000 ≤ w → τ 119 9 + τ 123 w ≤ 60000) :
    ∃ σ' t c, sp_childFor σ sh s k = some (σ', t) ∧ md_childOf τ sh w k = some (τ, c) ∧ sGrow σ σ' ∧
      ((t = c ∧ (1 ≤ t ∧ t < σ 42 6) ∧ rSh σ' τ ∧ (∃ n, (0 ≤ n ∧ n < σ' 42 10) ∧ sN σ' n = cS σ s ∧ plc σ' t n = σ 47 sh) ∧ σ' 47 t = σ 47 sh + 1 ∧ σ' 42 6 = σ 42 6) ∨
       (t = -1 ∧ c = -1 ∧ σ 42 6 = 200 ∧ rSh σ' τ) ∨
       (t = σ 42 6 ∧ c = -1 ∧ σ 42 6 < 200 ∧ σ' 46 t = -1 ∧ σ' 47 t = σ 47 sh + 1 ∧ σ' 42 6 = σ 42 6 + 1 ∧ (∃ n, (0 ≤ n ∧ n < σ' 42 10) ∧ sN σ' n = cS σ s ∧ plc σ' t n = σ 47 sh) ∧
        ∃ τ', md_shapeComes τ sh w k = some (τ', σ 42 6) ∧ rSh σ' τ' ∧ mI τ' ∧ mKeep τ τ' ∧ (∀ i, i8 (τ' 121 i)) ∧ (τ 119 10 ≤ τ' 119 10 ∧ τ' 119 10 ≤ τ 119 10 + 1) ∧ (τ 119 9 ≤ τ' 119 9 ∧ τ' 119 9 ≤ τ 119 9 + τ 123 w) ∧
          (∀ c i, c < 119 ∨ 126 < c → c < 188 ∨ 192 < c → τ' c i = τ c i) ∧ τ' 120 = τ 120 ∧ (∀ i, i ≠ 9 → i ≠ 10 → i ≠ 94 → τ' 119 i = τ 119 i) ∧ (∀ i, 60000 ≤ i → τ' 121 i = τ 121 i))) := by
  have hC := h.1
  have vs := hh.v hv
  have ms := many_r h hs.1 hs.2
  have e94 : τ 119 94 = σ 42 6 := h.1.2.2
  have hN := h.2.2.2.2.2.2.1
  have hN10 := h.2.1
  have i191 : τ 191 sh = σ 47 sh := by
    by_cases z : sh = 0
    · rw [z, h.2.2.2.1.1, h.2.2.2.1.2.1]
    · exact (h.2.2.2.2.1 sh (by omega) hs.2).2.2.2.2.2.2.1
  obtain ⟨σ1, n, a1, a2, a3, a4, a5, a6⟩ := sp_nameOf_s hh hv (by omega) hN (by have := h.2.2.1; omega) hc
  have ca1 : sCa σ1 := hc.name a2 a3 a4 a5 (by omega) a6
  have c1 : ∀ a, a ≠ 4 → a ≠ 5 → σ1 a = σ a := fun a q1 q2 => sOnly_c a2 q1 q2
  have hR1 : rSh σ1 τ := h.mv (fun a q1 q2 => c1 a (by omega) (by omega)) (fun _ _ _ => rfl) rfl (fun r hr => ⟨hr, rfl, rfl, rfl⟩) hm.1.2
  have eN1 : ∀ j, sN σ1 j = sN σ j := sN_congr (c1 48 (by decide) (by decide)) (c1 49 (by decide) (by decide)) (c1 50 (by decide) (by decide))
  have eP1 : ∀ s m, plc σ1 s m = plc σ s m := plc_congr (c1 43 (by decide) (by decide)) (c1 44 (by decide) (by decide)) (c1 47 (by decide) (by decide))
  have eC1 : ∀ s, cn1 σ1 s = cn1 σ s := cn1_congr (c1 43 (by decide) (by decide)) (c1 45 (by decide) (by decide))
  have t6 : σ1 42 6 = σ 42 6 := by rw [c1 42 (by decide) (by decide)]
  have t10 : σ1 42 10 = σ 42 10 := by rw [c1 42 (by decide) (by decide)]
  have g1 : sGrow σ σ1 := ⟨fun a i _ q2 q3 => a2 a i q2 q3, ca1, by omega, fun i _ => by rw [c1 43 (by decide) (by decide), c1 44 (by decide) (by decide), c1 45 (by decide) (by decide), c1 46 (by decide) (by decide), c1 47 (by decide) (by decide)]; exact ⟨rfl, rfl, rfl, rfl, rfl⟩, fun s m _ => eP1 s m, fun s _ => eC1 s, by omega, fun k _ _ => eN1 k, by omega⟩
  -- what comes behind a name that is known, where no child is there
  have new : ∀ (S : gM) (nn : Int), rSh S τ → S 42 6 = σ 42 6 → (0 ≤ nn ∧ nn < S 42 10) → sN S nn = cS σ s → sCa S → σ 42 6 < 200 → sGrow σ S → S 42 10 ≤ σ 42 6 → ∃ σ', sp_childFor_b61 S k nn sh = some (σ', σ 42 6) ∧ sGrow σ σ' ∧ σ' 46 (σ 42 6) = -1 ∧ σ' 47 (σ 42 6) = σ 47 sh + 1 ∧ σ' 42 6 = σ 42 6 + 1 ∧ (∃ n, (0 ≤ n ∧ n < σ' 42 10) ∧ sN σ' n = cS σ s ∧ plc σ' (σ 42 6) n = σ 47 sh) ∧
      ∃ τ', md_shapeComes τ sh w k = some (τ', σ 42 6) ∧ rSh σ' τ' ∧ mI τ' ∧ mKeep τ τ' ∧ (∀ i, i8 (τ' 121 i)) ∧ (τ 119 10 ≤ τ' 119 10 ∧ τ' 119 10 ≤ τ 119 10 + 1) ∧ (τ 119 9 ≤ τ' 119 9 ∧ τ' 119 9 ≤ τ 119 9 + τ 123 w) ∧
          (∀ c i, c < 119 ∨ 126 < c → c < 188 ∨ 192 < c → τ' c i = τ c i) ∧ τ' 120 = τ 120 ∧ (∀ i, i ≠ 9 → i ≠ 10 → i ≠ 94 → τ' 119 i = τ 119 i) ∧ (∀ i, 60000 ≤ i → τ' 121 i = τ 121 i) := by
    intro S nn hR hS6 hn hnS hca hlt2 hg hle
    have gsh := hg.2.2.2.1 sh hs.2
    have m47 : S 47 sh = σ 47 sh := gsh.2.2.2.2
    obtain ⟨S', b0, a42, a43, a44, a45, a46, a47, ao⟩ := sp_add_s (σ := S) (sh := sh) (n := nn) (k := k) (by omega) (by omega) (by omega)
    obtain ⟨τ', d0, dI, dK, d94, d188, d189, d190, d191, d192, dn, dS, dx, dy, dT, d120, d119, d121, d9, d8⟩ := md_shapeComes_s (τ := τ) (sh := sh) (w := w) (k := k) hm hw h8 (by omega) (by omega) (by omega) r1 r2
    obtain ⟨nR, nP, nQ, nC, nD⟩ := rSh_add hR hm.1.2 (by omega) (by omega) hn hk (by omega) a42 a43 a44 a45 a46 a47 ao d94 dK d188 d189 d190 d191 d192 dn (by rw [dS, hnS, he])
    rw [hS6] at a43 a44 a45 a46 a47 nP nQ nC nD b0
    have eN : ∀ j, sN S' j = sN S j := sN_congr (funext fun i => ao 48 i (by omega)) (funext fun i => ao 49 i (by omega)) (funext fun i => ao 50 i (by omega))
    have eS : ∀ j, cS S' j = cS S j := cS_congr (funext fun i => ao 1 i (by omega)) (funext fun i => ao 2 i (by omega)) (funext fun i => ao 3 i (by omega))
    have u10 : S' 42 10 = S 42 10 := by rw [a42]; simp
    have u6 : S' 42 6 = σ 42 6 + 1 := by rw [a42, hS6]; simp
    refine ⟨S', by rw [sp_childFor_b61_e, b0]; rfl, ⟨?_, ?_, by omega, ?_, ?_, ?_, ?_, ?_, by omega⟩, by rw [a46, if_pos rfl], by rw [a47, if_pos rfl, m47], u6, ⟨nn, by omega, by rw [eN, hnS], by rw [nQ, if_pos rfl, m47]⟩, τ', by rw [d0, e94], nR, dI, dK, d8, dx, dy, dT, d120, d119, d121⟩
    · intro a i q1 q2 q3
      rw [ao a i (by omega)]; exact hg.1 a i q1 q2 q3
    · intro x hx
      have hx' : vS S x := by
        unfold vS at hx ⊢
        rw [ao 0 7 (by omega), ao 0 10 (by omega)] at hx
        exact hx
      have q := hca x hx'
      simp only [eN, eS, u10, ao 4 x (by omega), ao 5 x (by omega)]
      exact q
    · intro i hi
      have q := hg.2.2.2.1 i hi
      rw [a43, a44, a45, a46, a47, if_neg (by omega), if_neg (by omega), if_neg (by omega), if_neg (by omega), if_neg (by omega)]
      exact q
    · intro x m hx
      rw [nP x m (by omega)]; exact hg.2.2.2.2.1 x m hx
    · intro x hx
      rw [nC x (by omega)]; exact hg.2.2.2.2.2.1 x hx
    · have := hg.2.2.2.2.2.2.1; omega
    · intro j q1 q2
      rw [eN]; exact hg.2.2.2.2.2.2.2.1 j q1 q2
  rw [sp_childFor_e, a1]
  simp only [Option.bind_some]
  rcases a6 with ⟨n1, n2⟩ | ⟨n1, n2⟩
  · -- the name is not known: no shape has it
    rw [if_pos (by omega)]
    have hno : md_childOf τ sh w k = some (τ, -1) := by
      have go : ∀ (d : Nat) (x : Int), 1 ≤ x → x + d = σ 42 6 → md_childOf_b3 τ sh w k x = some (τ, -1) := by
        intro d
        induction d with
        | zero => intro x x1 x2; rw [md_childOf_b3_e, e94, if_neg (by omega)]
        | succ d ih =>
          intro x x1 x2
          have hb : 0 ≤ x ∧ x < 200 := by omega
          have hlx : x < σ 42 6 := by omega
          have ht := h.2.2.2.2.1 x x1 hlx
          rw [md_childOf_b3_e, e94]
          simp only [hb, hlx, and_self, if_true, md_childOf_b54_e]
          rw [md_isSame_s hm (Or.inl ht.2.2.2.2.2.2.2.1) hw, ht.2.2.2.2.2.2.2.2, w32_e (by omega) (by omega), ih (x + 1) (by omega) (by omega)]
          have ne : ¬ sN σ (σ 44 x) = mS τ w := by rw [← he]; exact n2 _ ht.2.2.1.1 ht.2.2.1.2
          simp only [Option.bind_some, if_neg ne, if_true]
          split
          · split <;> first | rfl | exact ih (x + 1) (by omega) (by omega)
          · rfl
      rw [md_childOf_e]
      exact go (σ 42 6 - 1).toNat 1 (by omega) (by omega)
    rw [sp_childFor_b24_e, if_pos (by decide), t6]
    by_cases h200 : σ 42 6 = 200
    · rw [if_pos h200]
      exact ⟨σ1, -1, -1, rfl, hno, g1, Or.inr (Or.inl ⟨rfl, rfl, h200, hR1⟩)⟩
    · rw [if_neg h200, if_pos (by omega)]
      have hh1 : hI σ1 := hI_same hh (fun a ha => c1 a (by omega) (by omega))
      have hv1 : vS σ1 s := by
        unfold vS at hv ⊢
        rw [c1 0 (by decide) (by decide)]; exact hv
      have e3 : σ1 3 s = σ 3 s := by rw [c1 3 (by decide) (by decide)]
      have t11 : σ1 42 11 = σ 42 11 := by rw [c1 42 (by decide) (by decide)]
      have eS1 : ∀ j, cS σ1 j = cS σ j := cS_congr (c1 1 (by decide) (by decide)) (c1 2 (by decide) (by decide)) (c1 3 (by decide) (by decide))
      have b11 := h.2.2.1
      obtain ⟨S, f0, f10, f11, f42, fo, fS, fO, fN⟩ := sp_newName_s hh1 hv1 (by omega) (by omega) hR1.2.2.2.2.2.2.1 (by omega)
      have hRS : rSh S τ := rSh_name hR1 (by omega) (sz := σ1 3 s) (by omega) f10 f11 f42 fo fS fO fN (fun j q1 q2 => by rw [eN1, eS1]; exact n2 j q1 (by omega))
      have eSS : ∀ j, cS S j = cS σ1 j := cS_congr (funext fun i => fo 1 i (by decide) (by decide) (by decide) (by decide)) (funext fun i => fo 2 i (by decide) (by decide) (by decide) (by decide)) (funext fun i => fo 3 i (by decide) (by decide) (by decide) (by decide))
      have caS : sCa S := by
        intro x hx
        have hx' : vS σ1 x := by
          unfold vS at hx ⊢
          rw [fo 0 7 (by decide) (by decide) (by decide) (by decide), fo 0 10 (by decide) (by decide) (by decide) (by decide)] at hx
          exact hx
        have q := ca1 x hx'
        rw [fo 4 x (by decide) (by decide) (by decide) (by decide), fo 5 x (by decide) (by decide) (by decide) (by decide), eSS, f10]
        refine ⟨by omega, ?_⟩
        rcases q.2 with ⟨q1, q2⟩ | ⟨q1, q2⟩
        · exact Or.inl ⟨q1, fun j y1 y2 => by rw [fO j y1 (by omega)]; exact q2 j y1 y2⟩
        · exact Or.inr ⟨by omega, by rw [fO _ q1.1 q1.2]; exact q2⟩
      have S6 : S 42 6 = σ 42 6 := by rw [f42 6 (by decide) (by decide), t6]
      have cellS : ∀ a, 43 ≤ a ∧ a ≤ 47 → S a = σ1 a := fun a ha => funext fun i => fo a i (by omega) (by omega) (by omega) (by omega)
      -- names may be as many as shapes for a moment
      have gS : (∀ a i, (a < 42 ∨ 50 < a) → a ≠ 4 → a ≠ 5 → S a i = σ a i) ∧ (∀ i, i < σ 42 6 → S 43 i = σ 43 i ∧ S 44 i = σ 44 i ∧ S 45 i = σ 45 i ∧ S 46 i = σ 46 i ∧ S 47 i = σ 47 i) ∧ (∀ s m, s < σ 42 6 → plc S s m = plc σ s m) ∧ (∀ s, s < σ 42 6 → cn1 S s = cn1 σ s) ∧ (∀ k, 0 ≤ k → k < σ 42 10 → sN S k = sN σ k) := by
        refine ⟨fun a i q1 q2 q3 => by rw [fo a i (by omega) (by omega) (by omega) (by omega)]; exact a2 a i q2 q3, fun i hi => ?_, fun x m _ => by rw [plc_congr (cellS 43 (by decide)) (cellS 44 (by decide)) (cellS 47 (by decide)), eP1], fun x _ => by rw [cn1_congr (cellS 43 (by decide)) (cellS 45 (by decide)), eC1], fun j q1 q2 => by rw [fO j q1 (by omega), eN1]⟩
        rw [cellS 43 (by decide), cellS 44 (by decide), cellS 45 (by decide), cellS 46 (by decide), cellS 47 (by decide)]
        exact g1.2.2.2.1 i hi
      rw [f0]
      simp only [Option.bind_some]
      rw [t10]
      -- as in new, but the count of names is one behind
      have m47 : S 47 sh = σ 47 sh := (gS.2.1 sh hs.2).2.2.2.2
      obtain ⟨S', b0, a42, a43, a44, a45, a46, a47, ao⟩ := sp_add_s (σ := S) (sh := sh) (n := σ 42 10) (k := k) (by omega) (by omega) (by omega)
      obtain ⟨τ', d0, dI, dK, d94, d188, d189, d190, d191, d192, dn, dS, dx, dy, dT, d120, d119, d121, d9, d8⟩ := md_shapeComes_s (τ := τ) (sh := sh) (w := w) (k := k) hm hw h8 (by omega) (by omega) (by omega) r1 r2
      have fS' : sN S (σ 42 10) = cS σ s := by rw [← eS1, ← fS, t10]
      obtain ⟨nR, nP, nQ, nC, nD⟩ := rSh_add hRS hm.1.2 (by omega) (by omega) (n := σ 42 10) (by omega) hk (by omega) a42 a43 a44 a45 a46 a47 ao d94 dK d188 d189 d190 d191 d192 dn (by rw [dS, fS', he])
      rw [S6] at a43 a44 a45 a46 a47 nP nQ nC nD b0
      have eN : ∀ j, sN S' j = sN S j := sN_congr (funext fun i => ao 48 i (by omega)) (funext fun i => ao 49 i (by omega)) (funext fun i => ao 50 i (by omega))
      have eS : ∀ j, cS S' j = cS S j := cS_congr (funext fun i => ao 1 i (by omega)) (funext fun i => ao 2 i (by omega)) (funext fun i => ao 3 i (by omega))
      have u10 : S' 42 10 = σ 42 10 + 1 := by rw [a42, if_neg (by decide), f10, t10]
      have u6 : S' 42 6 = σ 42 6 + 1 := by rw [a42, S6]; simp
      refine ⟨S', σ 42 6, -1, by rw [sp_childFor_b61_e, b0]; rfl, hno, ⟨?_, ?_, by omega, ?_, ?_, ?_, by omega, ?_, by omega⟩, Or.inr (Or.inr ⟨rfl, rfl, by omega, by rw [a46, if_pos rfl], by rw [a47, if_pos rfl, m47], u6, ⟨σ 42 10, by omega, by rw [eN, fS'], by rw [nQ, if_pos rfl, m47]⟩, τ', by rw [d0, e94], nR, dI, dK, d8, dx, dy, dT, d120, d119, d121⟩)⟩
      · intro a i q1 q2 q3
        rw [ao a i (by omega)]; exact gS.1 a i q1 q2 q3
      · intro x hx
        have hx' : vS S x := by
          unfold vS at hx ⊢
          rw [ao 0 7 (by omega), ao 0 10 (by omega)] at hx
          exact hx
        have q := caS x hx'
        simp only [eN, eS, u10, ao 4 x (by omega), ao 5 x (by omega)]
        rw [f10, t10] at q
        exact q
      · intro i hi
        have q := gS.2.1 i hi
        rw [a43, a44, a45, a46, a47, if_neg (by omega), if_neg (by omega), if_neg (by omega), if_neg (by omega), if_neg (by omega)]
        exact q
      · intro x m hx
        rw [nP x m (by omega)]; exact gS.2.2.1 x m hx
      · intro x hx
        rw [nC x (by omega)]; exact gS.2.2.2.1 x hx
      · intro j q1 q2
        rw [eN]; exact gS.2.2.2.2 j q1 q2
  · rw [if_neg (by omega)]
    obtain ⟨t, z1, z2, z3, -⟩ := sp_child_s (n := n) (sh := sh) (srt := k) hR1 hm hw ⟨by omega, by rw [eN1, n2, he]⟩ (σ 42 6 - 1).toNat 1 (by omega) (by omega)
    rw [sp_child_e, z1]
    simp only [Option.bind_some]
    rw [sp_childFor_b24_e, t6]
    rcases z3 with z3 | ⟨z3, z4, z5, z6⟩
    · subst z3
      rw [if_pos (by decide)]
      by_cases h200 : σ 42 6 = 200
      · rw [if_pos h200]
        exact ⟨σ1, -1, -1, rfl, by rw [md_childOf_e]; exact z2, g1, Or.inr (Or.inl ⟨rfl, rfl, h200, hR1⟩)⟩
      · rw [if_neg h200, if_neg (by omega)]
        obtain ⟨σ', y1, y2, y3, y4, y5, y6, y7⟩ := new σ1 n hR1 t6 (by omega) (by rw [eN1, n2]) ca1 (by omega) g1 (by omega)
        exact ⟨σ', σ 42 6, -1, y1, by rw [md_childOf_e]; exact z2, y2, Or.inr (Or.inr ⟨rfl, rfl, by omega, y3, y4, y5, y6, y7⟩)⟩
    · rw [if_neg (by omega)]
      have tt := hR1.2.2.2.2.1 t z3.1 z3.2
      refine ⟨σ1, t, t, rfl, by rw [md_childOf_e]; exact z2, g1, Or.inl ⟨rfl, by omega, hR1, ⟨n, by omega, by rw [eN1, n2], ?_⟩, ?_, t6⟩⟩
      · rw [plc_e hR1.par z3.1 z3.2, if_pos z5, tt.2.2.2.2.2.1.1, z4, c1 47 (by decide) (by decide)]
        omega
      · rw [tt.2.2.2.2.2.1.1, z4, c1 47 (by decide) (by decide)]
end W6
