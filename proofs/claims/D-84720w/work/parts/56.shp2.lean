/-! shapes: names that strings have, shapes that come -/
section NM
variable {σ σ' τ τ' : gM}
/-- only what strings know of names has changed -/
def sOnly (σ σ' : gM) : Prop := ∀ a i, a ≠ 4 → a ≠ 5 → σ' a i = σ a i
theorem sOnly_c (h : sOnly σ σ') {a : Int} (h1 : a ≠ 4) (h2 : a ≠ 5) : σ' a = σ a := funext fun i => h a i h1 h2
theorem sN_congr (h1 : σ' 48 = σ 48) (h2 : σ' 49 = σ 49) (h3 : σ' 50 = σ 50) (k : Int) : sN σ' k = sN σ k := by
  unfold sN
  rw [h1, h2, h3]
theorem cS_congr (h1 : σ' 1 = σ 1) (h2 : σ' 2 = σ 2) (h3 : σ' 3 = σ 3) (k : Int) : cS σ' k = cS σ k := by
  unfold cS
  rw [h1, h2, h3]
theorem plF_congr (h1 : σ' 43 = σ 43) (h2 : σ' 44 = σ 44) (h3 : σ' 47 = σ 47) : ∀ (d : Nat) (s n : Int), plF d σ' s n = plF d σ s n
  | 0, _, _ => rfl
  | d + 1, s, n => by
    unfold plF
    rw [h1, h2, h3, plF_congr h1 h2 h3 d]
theorem plc_congr (h1 : σ' 43 = σ 43) (h2 : σ' 44 = σ 44) (h3 : σ' 47 = σ 47) (s n : Int) : plc σ' s n = plc σ s n := plF_congr h1 h2 h3 _ _ _
theorem c1F_congr (h1 : σ' 43 = σ 43) (h2 : σ' 45 = σ 45) : ∀ (d : Nat) (s : Int), c1F d σ' s = c1F d σ s
  | 0, _ => rfl
  | d + 1, s => by
    unfold c1F
    rw [h1, h2, c1F_congr h1 h2 d]
theorem cn1_congr (h1 : σ' 43 = σ 43) (h2 : σ' 45 = σ 45) (s : Int) : cn1 σ' s = cn1 σ s := c1F_congr h1 h2 _ _
/-- the shapes of both sides when nothing of them is touched -/
theorem rSh.mv (h : rSh σ τ) (hσ : ∀ a, 42 ≤ a → a ≤ 50 → σ' a = σ a) (hτ : ∀ a, 188 ≤ a → a ≤ 192 → τ' a = τ a) (h94 : τ' 119 94 = τ 119 94) (hk : mKeep τ τ') (h9 : τ 119 10 ≤ 9000) : rSh σ' τ' := by
  obtain ⟨h1, h2, h3, h4, h5, h6, h7, h8⟩ := h
  have e42 := hσ 42 (by decide) (by decide)
  have e43 := hσ 43 (by decide) (by decide)
  have e44 := hσ 44 (by decide) (by decide)
  have e45 := hσ 45 (by decide) (by decide)
  have e46 := hσ 46 (by decide) (by decide)
  have e47 := hσ 47 (by decide) (by decide)
  have e48 := hσ 48 (by decide) (by decide)
  have e49 := hσ 49 (by decide) (by decide)
  have e50 := hσ 50 (by decide) (by decide)
  have f188 := hτ 188 (by decide) (by decide)
  have f189 := hτ 189 (by decide) (by decide)
  have f190 := hτ 190 (by decide) (by decide)
  have f191 := hτ 191 (by decide) (by decide)
  have f192 := hτ 192 (by decide) (by decide)
  have eN := sN_congr e48 e49 e50
  have eP := plc_congr e43 e44 e47
  have eC := cn1_congr e43 e45
  unfold rSh sTr sHr sNm sUq
  rw [e42, e43, e44, e45, e46, e47, e49, e50, f188, f189, f190, f191, f192, h94]
  simp only [eN, eP, eC]
  refine ⟨h1, h2, h3, h4, fun s a b => ?_, h6, h7, h8⟩
  obtain ⟨g1, g2, g3, g4, g5, g6, g7, g8, g9⟩ := h5 s a b
  have kk := hk (τ 192 s) (Or.inl g8)
  refine ⟨g1, g2, g3, g4, g5, g6, g7, ?_, by rw [kk.2.1, g9]⟩
  rcases kk.1 with q | q
  · exact q
  · have := g8; omega
/-- the number of a string's name -/
theorem sp_nameOf_b10_s (h : hI σ) {s : Int} (hv : vS σ s) (h10 : 0 ≤ σ 42 10 ∧ σ 42 10 ≤ 200) (hn : sNm σ) (h11 : σ 42 11 ≤ 40000) : ∀ (d : Nat) (k : Int), 0 ≤ k → k + d = σ 42 10 → σ 4 s = -1 → (∀ j, 0 ≤ j → j < k → sN σ j ≠ cS σ s) →
    ∃ σ' r, sp_nameOf_b10 σ s k = some (σ', r) ∧ sOnly σ σ' ∧ (∀ t, t ≠ s → σ' 4 t = σ 4 t ∧ σ' 5 t = σ 5 t) ∧ σ' 5 s = σ 42 10 ∧ σ' 4 s = r ∧ ((r = -1 ∧ ∀ j, 0 ≤ j → j < σ 42 10 → sN σ j ≠ cS σ s) ∨ ((0 ≤ r ∧ r < σ 42 10) ∧ sN σ r = cS σ s))
  | 0, k, h0, hk, h4, hj => by
    have v := h.v hv
    have hb : 0 ≤ s ∧ s < 108000 := by omega
    rw [sp_nameOf_b10_e, if_neg (by omega), sp_nameOf_b73_e]
    simp only [hb, and_self, if_true]
    refine ⟨_, _, rfl, fun a i q1 q2 => gW_c q2, fun t ht => ⟨gW_c (by decide), gW_i ht⟩, gW_at _ _ _ _, gW_c (by decide), Or.inl ⟨h4, fun j a b => hj j a (by omega)⟩⟩
  | d + 1, k, h0, hk, h4, hj => by
    have v := h.v hv
    have hb : 0 ≤ s ∧ s < 108000 := by omega
    have hb2 : 0 ≤ k ∧ k < 200 := by omega
    have nk := hn k h0 (by omega)
    rw [sp_nameOf_b10_e, if_pos (by omega)]
    simp only [hb, hb2, and_self, if_true]
    rw [if_pos (by omega)]
    have e50 : σ 50 k = ((σ 50 k).toNat : Int) := by omega
    rw [e50, hp_is_s hb (by omega) (by rfl) (by show _ ∧ _ ≤ (40000 : Int); omega) (by decide)]
    simp only [Option.bind_some, sp_nameOf_b67_e]
    rw [w32_e (by omega) (by omega), show lt (σ 48) (σ 49 k) (σ 50 k).toNat = sN σ k from rfl]
    by_cases q : cS σ s = sN σ k
    · simp only [if_pos q]
      rw [if_neg (by decide)]
      -- it is found: the loop ends
      have e : sp_nameOf_b10 (gW σ 4 s k) s (k + 1) = some (gW (gW σ 4 s k) 5 s (σ 42 10), k) := by
        rw [sp_nameOf_b10_e]
        simp only [hb, and_self, if_true, sp_nameOf_b73_e, gW_at, gW_c (show (42 : Int) ≠ 4 by decide)]
        rw [if_neg (show ¬ k < 0 by omega)]
        simp
      rw [e]
      refine ⟨_, _, rfl, fun a i q1 q2 => by rw [gW_c q2, gW_c q1], fun t ht => ⟨by rw [gW_c (by decide), gW_i ht], by rw [gW_i ht, gW_c (by decide)]⟩, gW_at _ _ _ _, by rw [gW_c (by decide), gW_at], Or.inr ⟨by omega, q.symm⟩⟩
    · simp only [if_neg q, if_true]
      refine sp_nameOf_b10_s h hv h10 hn h11 d (k + 1) (by omega) (by omega) h4 (fun j a b => ?_)
      by_cases e : j = k
      · subst e; exact fun z => q z.symm
      · exact hj j a (by omega)
theorem sp_nameOf_s (h : hI σ) {s : Int} (hv : vS σ s) (h10 : 0 ≤ σ 42 10 ∧ σ 42 10 ≤ 200) (hn : sNm σ) (h11 : σ 42 11 ≤ 40000) (hc : sCa σ) :
    ∃ σ' r, sp_nameOf σ s = some (σ', r) ∧ sOnly σ σ' ∧ (∀ t, t ≠ s → σ' 4 t = σ 4 t ∧ σ' 5 t = σ 5 t) ∧ σ' 5 s = σ 42 10 ∧ σ' 4 s = r ∧ ((r = -1 ∧ ∀ j, 0 ≤ j → j < σ 42 10 → sN σ j ≠ cS σ s) ∨ ((0 ≤ r ∧ r < σ 42 10) ∧ sN σ r = cS σ s)) := by
  have v := h.v hv
  have hb : 0 ≤ s ∧ s < 108000 := by omega
  have c := hc s hv
  rw [sp_nameOf_e]
  simp only [hb, and_self, if_true]
  rcases c.2 with ⟨c1, c2⟩ | ⟨c1, c2⟩
  · exact sp_nameOf_b10_s h hv h10 hn h11 (σ 42 10 - σ 5 s).toNat (σ 5 s) (by omega) (by omega) c1 c2
  · have e : sp_nameOf_b10 σ s (σ 5 s) = some (gW σ 5 s (σ 42 10), σ 4 s) := by
      rw [sp_nameOf_b10_e]
      simp only [hb, and_self, if_true, sp_nameOf_b73_e]
      rw [if_neg (show ¬ σ 4 s < 0 by omega)]
      simp
    rw [e]
    refine ⟨_, _, rfl, fun a i q1 q2 => gW_c q2, fun t ht => ⟨gW_c (by decide), gW_i ht⟩, gW_at _ _ _ _, gW_c (by decide), Or.inr ⟨c1, c2⟩⟩
/-- what strings know stays true -/
theorem sCa.name (hc : sCa σ) {s r : Int} (ho : sOnly σ σ') (h1 : ∀ t, t ≠ s → σ' 4 t = σ 4 t ∧ σ' 5 t = σ 5 t) (h2 : σ' 5 s = σ 42 10) (h3 : σ' 4 s = r) (h10 : 0 ≤ σ 42 10) (h4 : (r = -1 ∧ ∀ j, 0 ≤ j → j < σ 42 10 → sN σ j ≠ cS σ s) ∨ ((0 ≤ r ∧ r < σ 42 10) ∧ sN σ r = cS σ s)) : sCa σ' := by
  intro t ht
  have eN := sN_congr (sOnly_c ho (a := 48) (by decide) (by decide)) (sOnly_c ho (a := 49) (by decide) (by decide)) (sOnly_c ho (a := 50) (by decide) (by decide))
  have eS := cS_congr (sOnly_c ho (a := 1) (by decide) (by decide)) (sOnly_c ho (a := 2) (by decide) (by decide)) (sOnly_c ho (a := 3) (by decide) (by decide))
  have e42 : σ' 42 10 = σ 42 10 := ho _ _ (by decide) (by decide)
  have ht' : vS σ t := by
    unfold vS at ht ⊢
    rw [ho 0 7 (by decide) (by decide), ho 0 10 (by decide) (by decide)] at ht
    exact ht
  simp only [eN, eS, e42]
  by_cases e : t = s
  · subst e
    rw [h2, h3]
    refine ⟨by omega, ?_⟩
    rcases h4 with ⟨a, b⟩ | ⟨a, b⟩
    · exact Or.inl ⟨a, b⟩
    · exact Or.inr ⟨a, b⟩
  · rw [(h1 t e).1, (h1 t e).2]
    exact hc t ht'
end NM
section AD
variable {σ σ' τ τ' : gM}
/-- a name comes -/
theorem sp_newName_s (h : hI σ) {s : Int} (hv : vS σ s) (hsz : σ 3 s ≤ 200) (h10 : 0 ≤ σ 42 10 ∧ σ 42 10 < 200) (hn : sNm σ) (h11 : 0 ≤ σ 42 11 ∧ σ 42 11 + σ 3 s ≤ 40000) :
    ∃ σ', sp_newName σ s = some (σ', σ 42 10) ∧ σ' 42 10 = σ 42 10 + 1 ∧ σ' 42 11 = σ 42 11 + σ 3 s ∧ (∀ i, i ≠ 10 → i ≠ 11 → σ' 42 i = σ 42 i) ∧ (∀ a i, a ≠ 42 → a ≠ 48 → a ≠ 49 → a ≠ 50 → σ' a i = σ a i) ∧
      sN σ' (σ 42 10) = cS σ s ∧ (∀ k, 0 ≤ k → k < σ 42 10 → sN σ' k = sN σ k) ∧ sNm σ' := by
  have v := h.v hv
  have hb : 0 ≤ s ∧ s < 108000 := by omega
  rw [sp_newName_e]
  simp only [hb, h10, and_self, if_true, gW_at]
  have ej : jcopy (119, 820219021793629471639688335169108012007438536584954663659663977403732374699765971210787766220619776) 0 [(2, 1), (0, σ 2 s), (2, 48), (0, σ 42 11), (0, σ 3 s)] (gW (gW σ 49 (σ 42 10) (σ 42 11)) 50 (σ 42 10) (σ 3 s)) = some (gCpy (gW (gW σ 49 (σ 42 10) (σ 42 11)) 50 (σ 42 10) (σ 3 s)) 1 (σ 2 s) 48 (σ 42 11) (σ 3 s), 0) := by
    show (if (0 ≤ σ 2 s ∧ 0 ≤ σ 42 11 ∧ 0 ≤ σ 3 s) ∧ σ 2 s + σ 3 s ≤ gN 1 ∧ σ 42 11 + σ 3 s ≤ gN 48 then some (gCpy _ 1 (σ 2 s) 48 (σ 42 11) (σ 3 s), (0 : Int)) else none) = _
    rw [if_pos]
    refine ⟨⟨by omega, by omega, by omega⟩, ?_, ?_⟩
    · show _ ≤ (124600 : Int); omega
    · show _ ≤ (40000 : Int); omega
  rw [ej]
  simp only [Option.bind_some]
  generalize hS : gCpy (gW (gW σ 49 (σ 42 10) (σ 42 11)) 50 (σ 42 10) (σ 3 s)) 1 (σ 2 s) 48 (σ 42 11) (σ 3 s) = S
  have c48 : ∀ i, S 48 i = if σ 42 11 ≤ i ∧ i < σ 42 11 + σ 3 s then σ 1 (σ 2 s + (i - σ 42 11)) else σ 48 i := by
    intro i; rw [← hS]; unfold gCpy
    by_cases q : σ 42 11 ≤ i ∧ i < σ 42 11 + σ 3 s
    · rw [if_pos ⟨rfl, q⟩, if_pos q, gW_c (by decide), gW_c (by decide)]
    · rw [if_neg (fun z => q z.2), if_neg q, gW_c (by decide), gW_c (by decide)]
  have c49 : ∀ i, S 49 i = if i = σ 42 10 then σ 42 11 else σ 49 i := by
    intro i; rw [← hS]; unfold gCpy
    rw [if_neg (by omega), gW_c (by decide), gW_if]
  have c50 : ∀ i, S 50 i = if i = σ 42 10 then σ 3 s else σ 50 i := by
    intro i; rw [← hS]; unfold gCpy
    rw [if_neg (by omega), gW_if, gW_c (by decide)]
  have co : ∀ a i, a ≠ 48 → a ≠ 49 → a ≠ 50 → S a i = σ a i := by
    intro a i q1 q2 q3; rw [← hS]; unfold gCpy
    rw [if_neg (fun z => q1 z.1), gW_c q3, gW_c q2]
  clear hS ej
  have t10 : S 42 10 = σ 42 10 := co _ _ (by decide) (by decide) (by decide)
  have t11 : S 42 11 = σ 42 11 := co _ _ (by decide) (by decide) (by decide)
  have t50 : S 50 (σ 42 10) = σ 3 s := by rw [c50, if_pos rfl]
  simp only [t10, t11, t50, h10, and_self, if_true]
  rw [w32_e (x := σ 42 11 + σ 3 s) (by omega) (by omega), w32_e (x := σ 42 10 + 1) (by omega) (by omega), w32_e (by omega) (by omega), show σ 42 10 + 1 - 1 = σ 42 10 by omega]
  have d42 : ∀ i, gW (gW S 42 11 (σ 42 11 + σ 3 s)) 42 10 (σ 42 10 + 1) 42 i = if i = 10 then σ 42 10 + 1 else if i = 11 then σ 42 11 + σ 3 s else σ 42 i := by
    intro i; rw [gW_if, gW_if, co _ _ (by decide) (by decide) (by decide)]
  have dd : ∀ a i, a ≠ 42 → gW (gW S 42 11 (σ 42 11 + σ 3 s)) 42 10 (σ 42 10 + 1) a i = S a i := by
    intro a i q; rw [gW_c q, gW_c q]
  generalize gW (gW S 42 11 (σ 42 11 + σ 3 s)) 42 10 (σ 42 10 + 1) = σ' at d42 dd
  have old : ∀ k, 0 ≤ k → k < σ 42 10 → sN σ' k = sN σ k := by
    intro k a b
    have nk := hn k a b
    unfold sN
    rw [dd 49 k (by decide), dd 50 k (by decide), c49, c50, if_neg (by omega), if_neg (by omega), lt_eq]
    intro i hi
    rw [dd 48 _ (by decide), c48, if_neg (by omega)]
  refine ⟨σ', rfl, by rw [d42]; simp, by rw [d42]; simp, fun i a b => by rw [d42, if_neg a, if_neg b], fun a i q1 q2 q3 q4 => by rw [dd _ _ q1, co _ _ q2 q3 q4], ?_, old, ?_⟩
  · unfold sN cS
    rw [dd 49 _ (by decide), dd 50 _ (by decide), c49, c50, if_pos rfl, if_pos rfl, lt_eq]
    intro i hi
    rw [dd 48 _ (by decide), c48, if_pos (by omega)]
    congr 1
    omega
  · intro k a b
    have e10 : σ' 42 10 = σ 42 10 + 1 := by rw [d42]; simp
    have e11 : σ' 42 11 = σ 42 11 + σ 3 s := by rw [d42]; simp
    rw [dd 49 k (by decide), dd 50 k (by decide), c49, c50, e11]
    by_cases e : k = σ 42 10
    · rw [if_pos e, if_pos e]; omega
    · rw [if_neg e, if_neg e]
      have := hn k a (by omega)
      omega
/-- a shape comes -/
theorem sp_add_s {sh n k : Int} (hC : 1 ≤ σ 42 6 ∧ σ 42 6 < 200) (hs : 0 ≤ sh ∧ sh < σ 42 6) (hm : 0 ≤ σ 47 sh ∧ σ 47 sh < 12) :
    ∃ σ', sp_add σ sh n k = some (σ', σ 42 6) ∧ (∀ i, σ' 42 i = if i = 6 then σ 42 6 + 1 else σ 42 i) ∧ (∀ i, σ' 43 i = if i = σ 42 6 then sh else σ 43 i) ∧ (∀ i, σ' 44 i = if i = σ 42 6 then n else σ 44 i) ∧ (∀ i, σ' 45 i = if i = σ 42 6 then k else σ 45 i) ∧
      (∀ i, σ' 46 i = if i = σ 42 6 then -1 else σ 46 i) ∧ (∀ i, σ' 47 i = if i = σ 42 6 then σ 47 sh + 1 else σ 47 i) ∧ (∀ a i, a < 42 ∨ 47 < a → σ' a i = σ a i) := by
  rw [sp_add_e]
  have b1 : 0 ≤ σ 42 6 ∧ σ 42 6 < 200 := by omega
  have b2 : 0 ≤ sh ∧ sh < 200 := by omega
  simp only [b1, b2, and_self, if_true]
  rw [w32_e (x := σ 42 6 + 1) (by omega) (by omega), w32_e (x := σ 47 sh + 1) (by omega) (by omega)]
  refine ⟨_, rfl, ?_, ?_, ?_, ?_, ?_, ?_, ?_⟩
  · intro i; rw [gW_c (by decide), gW_c (by decide), gW_c (by decide), gW_c (by decide), gW_c (by decide), gW_if]
  · intro i; rw [gW_c (by decide), gW_c (by decide), gW_c (by decide), gW_c (by decide), gW_if, gW_c (by decide)]
  · intro i; rw [gW_c (by decide), gW_c (by decide), gW_c (by decide), gW_if, gW_c (by decide), gW_c (by decide)]
  · intro i; rw [gW_c (by decide), gW_c (by decide), gW_if, gW_c (by decide), gW_c (by decide), gW_c (by decide)]
  · intro i; rw [gW_c (by decide), gW_if, gW_c (by decide), gW_c (by decide), gW_c (by decide), gW_c (by decide)]
  · intro i; rw [gW_if, gW_c (by decide), gW_c (by decide), gW_c (by decide), gW_c (by decide), gW_c (by decide)]
  · intro a i q; rw [gW_c (by omega), gW_c (by omega), gW_c (by omega), gW_c (by omega), gW_c (by omega), gW_c (by omega)]
theorem md_shapeComes_s {sh w k : Int} (hm : mI τ) (hw : vM τ w) (h8 : ∀ i, i8 (τ 121 i)) (hC : 1 ≤ τ 119 94 ∧ τ 119 94 < 200) (hs : 0 ≤ sh ∧ sh < τ 119 94) (hsz : 0 ≤ τ 191 sh ∧ τ 191 sh < 12) (r1 : 9000 ≤ w → τ 119 10 < 9000) (r2 : 9000 ≤ w → τ 119 9 + τ 123 w ≤ 60000) :
    ∃ τ', md_shapeComes τ sh w k = some (τ', τ 119 94) ∧ mI τ' ∧ mKeep τ τ' ∧ τ' 119 94 = τ 119 94 + 1 ∧ (∀ i, τ' 188 i = if i = τ 119 94 then sh else τ 188 i) ∧ (∀ i, τ' 189 i = if i = τ 119 94 then k else τ 189 i) ∧ (∀ i, τ' 190 i = if i = τ 119 94 then -1 else τ 190 i) ∧
      (∀ i, τ' 191 i = if i = τ 119 94 then τ 191 sh + 1 else τ 191 i) ∧ (∀ i, i ≠ τ 119 94 → τ' 192 i = τ 192 i) ∧ (0 ≤ τ' 192 (τ 119 94) ∧ τ' 192 (τ 119 94) < τ' 119 10) ∧ mS τ' (τ' 192 (τ 119 94)) = mS τ w ∧
      (τ 119 10 ≤ τ' 119 10 ∧ τ' 119 10 ≤ τ 119 10 + 1) ∧ (τ 119 9 ≤ τ' 119 9 ∧ τ' 119 9 ≤ τ 119 9 + τ 123 w) ∧ (∀ c i, c < 119 ∨ 126 < c → c < 188 ∨ 192 < c → τ' c i = τ c i) ∧ τ' 120 = τ 120 ∧ (∀ i, i ≠ 9 → i ≠ 10 → i ≠ 94 → τ' 119 i = τ 119 i) ∧ (∀ i, 60000 ≤ i → τ' 121 i = τ 121 i) ∧ (w < 9000 → τ' 119 10 = τ 119 10 ∧ τ' 119 9 = τ 119 9) ∧ (∀ i, i8 (τ' 121 i)) := by
  have v := hm.v hw
  have bw : 0 ≤ w ∧ w < 109004 := by omega
  have bC : 0 ≤ τ 119 94 ∧ τ 119 94 < 200 := by omega
  have bs : 0 ≤ sh ∧ sh < 200 := by omega
  rw [md_shapeComes_e, w32_e (x := w) (by omega) (by omega)]
  simp only [bw, bC, and_self, if_true]
  -- the end, once a kept row is at hand
  have fin : ∀ (S : gM) (y : Int), mI S → mKeep τ S → (0 ≤ y ∧ y < S 119 10) → mS S y = mS τ w → (τ 119 10 ≤ S 119 10 ∧ S 119 10 ≤ τ 119 10 + 1) → (τ 119 9 ≤ S 119 9 ∧ S 119 9 ≤ τ 119 9 + τ 123 w) → (∀ c i, c < 119 ∨ 126 < c → S c i = gW τ 188 (τ 119 94) sh c i) → S 120 = τ 120 → (∀ i, i ≠ 9 → i ≠ 10 → S 119 i = τ 119 i) → (∀ i, 60000 ≤ i → S 121 i = τ 121 i) → (w < 9000 → S 119 10 = τ 119 10 ∧ S 119 9 = τ 119 9) → (∀ i, i8 (S 121 i)) →
      ∃ τ', md_shapeComes_b70 S sh k y (τ 119 94) = some (τ', τ 119 94) ∧ mI τ' ∧ mKeep τ τ' ∧ τ' 119 94 = τ 119 94 + 1 ∧ (∀ i, τ' 188 i = if i = τ 119 94 then sh else τ 188 i) ∧ (∀ i, τ' 189 i = if i = τ 119 94 then k else τ 189 i) ∧ (∀ i, τ' 190 i = if i = τ 119 94 then -1 else τ 190 i) ∧
      (∀ i, τ' 191 i = if i = τ 119 94 then τ 191 sh + 1 else τ 191 i) ∧ (∀ i, i ≠ τ 119 94 → τ' 192 i = τ 192 i) ∧ (0 ≤ τ' 192 (τ 119 94) ∧ τ' 192 (τ 119 94) < τ' 119 10) ∧ mS τ' (τ' 192 (τ 119 94)) = mS τ w ∧
      (τ 119 10 ≤ τ' 119 10 ∧ τ' 119 10 ≤ τ 119 10 + 1) ∧ (τ 119 9 ≤ τ' 119 9 ∧ τ' 119 9 ≤ τ 119 9 + τ 123 w) ∧ (∀ c i, c < 119 ∨ 126 < c → c < 188 ∨ 192 < c → τ' c i = τ c i) ∧ τ' 120 = τ 120 ∧ (∀ i, i ≠ 9 → i ≠ 10 → i ≠ 94 → τ' 119 i = τ 119 i) ∧ (∀ i, 60000 ≤ i → τ' 121 i = τ 121 i) ∧ (w < 9000 → τ' 119 10 = τ 119 10 ∧ τ' 119 9 = τ 119 9) ∧ (∀ i, i8 (τ' 121 i)) := by
    intro S y g1 g2 g3 g4 g5 g6 g7 g8 g9 g10 g11 g12
    have e94 : S 119 94 = τ 119 94 := g9 _ (by decide) (by decide)
    have e191 : S 191 sh = τ 191 sh := by rw [g7 _ _ (by decide), gW_c (by decide)]
    rw [md_shapeComes_b70_e, e94, e191]
    simp only [bC, bs, and_self, if_true]
    rw [w32_e (x := τ 191 sh + 1) (by omega) (by omega), w32_e (x := τ 119 94 + 1) (by omega) (by omega), w32_e (by omega) (by omega), show τ 119 94 + 1 - 1 = τ 119 94 by omega]
    generalize hT : gW (gW (gW (gW (gW S 192 (τ 119 94) y) 189 (τ 119 94) k) 190 (τ 119 94) (-1)) 191 (τ 119 94) (τ 191 sh + 1)) 119 94 (τ 119 94 + 1) = T
    have t119 : ∀ i, T 119 i = if i = 94 then τ 119 94 + 1 else S 119 i := by intro i; rw [← hT, gW_if, gW_c (by decide), gW_c (by decide), gW_c (by decide), gW_c (by decide)]
    have t192 : ∀ i, T 192 i = if i = τ 119 94 then y else τ 192 i := by intro i; rw [← hT, gW_c (by decide), gW_c (by decide), gW_c (by decide), gW_c (by decide), gW_if, g7 _ _ (by decide), gW_c (by decide)]
    have t189 : ∀ i, T 189 i = if i = τ 119 94 then k else τ 189 i := by intro i; rw [← hT, gW_c (by decide), gW_c (by decide), gW_c (by decide), gW_if, gW_c (by decide), g7 _ _ (by decide), gW_c (by decide)]
    have t190 : ∀ i, T 190 i = if i = τ 119 94 then -1 else τ 190 i := by intro i; rw [← hT, gW_c (by decide), gW_c (by decide), gW_if, gW_c (by decide), gW_c (by decide), g7 _ _ (by decide), gW_c (by decide)]
    have t191 : ∀ i, T 191 i = if i = τ 119 94 then τ 191 sh + 1 else τ 191 i := by intro i; rw [← hT, gW_c (by decide), gW_if, gW_c (by decide), gW_c (by decide), gW_c (by decide), g7 _ _ (by decide), gW_c (by decide)]
    have t188 : ∀ i, T 188 i = if i = τ 119 94 then sh else τ 188 i := by intro i; rw [← hT, gW_c (by decide), gW_c (by decide), gW_c (by decide), gW_c (by decide), gW_c (by decide), g7 _ _ (by decide), gW_if]
    have to : ∀ c i, c < 119 ∨ 119 < c → c < 188 ∨ 192 < c → T c i = S c i := by intro c i q1 q2; rw [← hT, gW_c (by omega), gW_c (by omega), gW_c (by omega), gW_c (by omega), gW_c (by omega)]
    clear hT
    have cell : ∀ c, (120 ≤ c ∧ c ≤ 127) → T c = S c := fun c hc => funext fun i => to c i (by omega) (by omega)
    have e10 : T 119 10 = S 119 10 := by rw [t119]; simp
    have e9 : T 119 9 = S 119 9 := by rw [t119]; simp
    have e12 : T 119 12 = S 119 12 := by rw [t119]; simp
    have e13 : T 119 13 = S 119 13 := by rw [t119]; simp
    have eS : ∀ r, mS T r = mS S r := by
      intro r; unfold mS
      rw [cell 121 (by decide), cell 122 (by decide), cell 123 (by decide)]
    have mIT : mI T := by
      unfold mI mKr mRr at *
      simp only [eS, e10, e9, e12, e13, cell 122 (by decide), cell 123 (by decide), cell 124 (by decide), cell 125 (by decide), cell 126 (by decide), cell 127 (by decide)]
      exact g1
    refine ⟨T, rfl, mIT, ?_, by rw [t119]; simp, t188, t189, t190, t191, fun i hi => by rw [t192, if_neg hi], by rw [t192, if_pos rfl, e10]; exact g3, by rw [t192, if_pos rfl, eS]; exact g4, by rw [e10]; exact g5, by rw [e9]; exact g6, ?_, ?_, ?_, ?_, by rw [e10, e9]; exact g11, by rw [cell 121 (by decide)]; exact g12⟩
    · intro r hr
      have q := g2 r hr
      refine ⟨?_, by rw [eS]; exact q.2.1, by rw [cell 122 (by decide)]; exact q.2.2.1, by rw [cell 123 (by decide)]; exact q.2.2.2⟩
      have := q.1
      unfold vM at this ⊢
      rw [e10, e13]
      exact this
    · intro c i q1 q2
      rw [to c i (by omega) q2, g7 c i q1, gW_c (by omega)]
    · rw [cell 120 (by decide)]; exact g8
    · intro i q1 q2 q3
      rw [t119, if_neg q3]; exact g9 i q1 q2
    · intro i q
      rw [cell 121 (by decide)]; exact g10 i q
  have base : mI (gW τ 188 (τ 119 94) sh) ∧ ∀ r, mS (gW τ 188 (τ 119 94) sh) r = mS τ r := by
    have cell : ∀ c, c ≠ 188 → gW τ 188 (τ 119 94) sh c = τ c := fun c hc => gW_cell hc
    have eS : ∀ r, mS (gW τ 188 (τ 119 94) sh) r = mS τ r := by
      intro r; unfold mS
      rw [cell 121 (by decide), cell 122 (by decide), cell 123 (by decide)]
    refine ⟨?_, eS⟩
    unfold mI mKr mRr at *
    simp only [eS, cell 119 (by decide), cell 122 (by decide), cell 123 (by decide), cell 124 (by decide), cell 125 (by decide), cell 126 (by decide), cell 127 (by decide)]
    exact hm
  have bkeep : mKeep τ (gW τ 188 (τ 119 94) sh) := fun r hr => ⟨hr, base.2 r, gW_c (by decide), gW_c (by decide)⟩
  have hm' := hm
  obtain ⟨g1, g2, g3, g4, g5, g6, -⟩ := hm
  -- like: kept, or of the run
  have lk : (0 ≤ τ 125 w ∧ τ 125 w < τ 119 10 ∧ mS τ (τ 125 w) = mS τ w) ∨ (9000 ≤ w ∧ w < 9000 + τ 119 13 ∧ τ 125 w = w) := by
    rcases hw with q | q
    · left; rw [(g5 w q.1 q.2).2.1]; exact ⟨q.1, q.2, rfl⟩
    · rcases (g6 w q.1 q.2).2.2 with ⟨j, a, b, c, d⟩ | ⟨a, b⟩
      · left; rw [d]; exact ⟨a, b, c⟩
      · right; exact ⟨q.1, q.2, b⟩
  rcases lk with ⟨l1, l2, l3⟩ | ⟨l1, l2, l3⟩
  · rw [if_pos (by omega)]
    exact fin _ _ base.1 bkeep ⟨l1, by rw [gW_c (by decide)]; exact l2⟩ (by rw [base.2]; exact l3) (by rw [gW_c (by decide)]; omega) (by rw [gW_c (by decide)]; omega) (fun c i _ => rfl) (gW_cell (by decide)) (fun i _ _ => gW_c (by decide)) (fun i _ => gW_c (by decide)) (fun _ => ⟨gW_c (by decide), gW_c (by decide)⟩) (fun i => by rw [gW_c (by decide)]; exact h8 i)
  · rw [l3, if_neg (by omega)]
    simp only [bw, and_self, if_true]
    rw [w32_e (by omega) (by omega)]
    have rw6 := (g6 w l1 l2).1
    obtain ⟨S, y, f1, f2, f3, f4, f5, f6, f7, -, -, f8, f9, f10, f11⟩ := md_keep_2_s (τ := gW τ 188 (τ 119 94) sh) (row := 121) (a := τ 122 w) (t := τ 122 w + τ 123 w) (n := (τ 123 w).toNat) base.1 (Or.inr (Or.inr rfl)) (by omega) (by omega) (by show _ ≤ (160400 : Int); omega) (fun _ => by omega) (fun i => by rw [gW_c (by decide)]; exact h8 i) (by rw [gW_c (by decide)]; exact r1 l1) (by rw [gW_c (by decide)]; have := r2 l1; omega)
    simp only [gW_c (show (119 : Int) ≠ 188 by decide)] at f6 f7
    rw [f1]
    simp only [Option.bind_some]
    refine fin S y f2 ?_ f3 ?_ ?_ ?_ ?_ ?_ ?_ ?_ (fun q => by omega) (f11 (fun i => by rw [gW_c (by decide)]; exact h8 i))
    · intro r hr
      have q := f5 r hr
      exact ⟨q.1, q.2.1.trans (base.2 r), q.2.2.1.trans (gW_c (by decide)), q.2.2.2.trans (gW_c (by decide))⟩
    · rw [f4, gW_cell (by decide)]
      rfl
    · omega
    · omega
    · intro c i q
      exact f8 c i (by omega) (by omega) (by omega) (by omega) (by omega) (by omega) (by omega)
    · exact funext fun i => (f8 120 i (by decide) (by decide) (by decide) (by decide) (by decide) (by decide) (by decide)).trans (gW_c (by decide))
    · intro i q1 q2
      exact (f9 i q1 q2).trans (gW_c (by decide))
    · intro i q
      exact (f10 i q).trans (gW_c (by decide))
end AD
