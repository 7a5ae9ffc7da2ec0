/-! codes that rest on a shape end: both sides -/
section OB
variable {σ τ : gM}
/-- the model's look through one node's entries -/
theorem md_ecs_b112_s (h : rNd σ τ) {s c u r n : Int} (hs : 0 ≤ s) (hn : 0 ≤ n ∧ n < σ 8 12) (hk : σ 9 n = 21 ∨ σ 9 n = 22) : ∀ (d : Nat) (i f : Int), 0 ≤ i → i + d = σ 18 n → (f = 0 ∨ f = 1) →
    ∃ f', (f' = 0 ∨ f' = 1) ∧ (f' = 1 ↔ f = 1 ∨ ∃ j, i ≤ j ∧ j < σ 18 n ∧ enS σ s n j) ∧ md_endCodesOfShape_b112 τ s c f u r n i = md_endCodesOfShape_b184 τ s c f' u r n
  | 0, i, f, i0, hi, hf => by
    have hb : 0 ≤ n ∧ n < 20000 := by have := h.1; omega
    have g := h.2.2 n hn.1 hn.2
    refine ⟨f, hf, ⟨fun q => Or.inl q, fun q => ?_⟩, ?_⟩
    · rcases q with q | ⟨j, a, b, _⟩
      · exact q
      · omega
    · rw [md_endCodesOfShape_b112_e, g.2.2.2.2.2.1.1]
      simp only [hb, and_self, if_true]
      rw [if_neg (by omega)]
  | d + 1, i, f, i0, hi, hf => by
    have hb : 0 ≤ n ∧ n < 20000 := by have := h.1; omega
    have hh := h.1
    have g := h.2.2 n hn.1 hn.2
    have g6 := g.2.2.2.2.2.1
    have ge := g.2.2.2.2.2.2 i i0 (by omega)
    have hlt : i < σ 18 n := by omega
    -- the flag behind this entry
    have e : ∃ f1, (f1 = 0 ∨ f1 = 1) ∧ (f1 = 1 ↔ f = 1 ∨ enS σ s n i) ∧ md_endCodesOfShape_b112 τ s c f u r n i = md_endCodesOfShape_b112 τ s c f1 u r n (i + 1) := by
      rw [md_endCodesOfShape_b112_e, g6.1, w32_e (x := 3 * n) (by omega) (by omega), w32_e (x := 3 * n + i) (by omega) (by omega)]
      have b1 : 0 ≤ 3 * n + i ∧ 3 * n + i < 60000 := by omega
      simp only [hb, hlt, b1, and_self, if_true, md_endCodesOfShape_b172_e, md_endCodesOfShape_b176_e, md_endCodesOfShape_b177_e, g.1, ge.1]
      rw [w32_e (x := i + 1) (by omega) (by omega)]
      rcases hf with hf | hf <;> subst hf
      · simp only [if_true]
        by_cases q1 : σ 19 (9 * n + 3 * i) = s
        · rw [if_pos q1]
          exact ⟨1, Or.inr rfl, ⟨fun _ => Or.inr (Or.inl q1), fun _ => rfl⟩, rfl⟩
        · rw [if_neg q1]
          by_cases q2 : σ 9 n = 22
          · rw [if_pos q2]
            have e184 : τ 184 (3 * n + i) = σ 19 (9 * n + 3 * i + 2) := by
              rcases ge.2 with z | z | z
              · omega
              · omega
              · exact z.2.2.2.2.2.1
            rw [e184]
            by_cases q3 : σ 19 (9 * n + 3 * i + 2) = s
            · rw [if_pos q3]
              exact ⟨1, Or.inr rfl, ⟨fun _ => Or.inr (Or.inr q3), fun _ => rfl⟩, rfl⟩
            · rw [if_neg q3]
              refine ⟨0, Or.inl rfl, ⟨fun q => absurd q (by decide), fun q => ?_⟩, rfl⟩
              rcases q with q | q | q
              · exact absurd q (by decide)
              · exact absurd q q1
              · exact absurd q q3
          · rw [if_neg q2]
            have e2 : σ 19 (9 * n + 3 * i + 2) = -1 := by
              rcases ge.2 with z | z | z
              · omega
              · exact z.2.2.2.1
              · omega
            refine ⟨0, Or.inl rfl, ⟨fun q => absurd q (by decide), fun q => ?_⟩, rfl⟩
            rcases q with q | q | q
            · exact absurd q (by decide)
            · exact absurd q q1
            · omega
      · simp only [show ¬ ((1 : Int) = 0) by decide, if_false]
        exact ⟨1, Or.inr rfl, ⟨fun _ => Or.inl trivial, fun _ => rfl⟩, rfl⟩
    obtain ⟨f1, a1, a2, a3⟩ := e
    obtain ⟨f', b1, b2, b3⟩ := md_ecs_b112_s h hs hn hk d (i + 1) f1 (by omega) (by omega) a1 (c := c) (u := u) (r := r)
    refine ⟨f', b1, b2.trans ?_, by rw [a3, b3]⟩
    rw [a2]
    constructor
    · intro q
      rcases q with (q | q) | ⟨j, x, y, z⟩
      · exact Or.inl q
      · exact Or.inr ⟨i, by omega, hlt, q⟩
      · exact Or.inr ⟨j, by omega, y, z⟩
    · intro q
      rcases q with q | ⟨j, x, y, z⟩
      · exact Or.inl (Or.inl q)
      · by_cases w : j = i
        · subst w; exact Or.inl (Or.inr z)
        · exact Or.inr ⟨j, by omega, y, z⟩
theorem md_ecs_b62_s (h : rNd σ τ) {s c u r : Int} (hs : 0 ≤ s) (hr : 4 ≤ r ∧ r < σ 8 31) (h60 : σ 8 31 ≤ 60) (hu : 0 ≤ u ∧ u < 200) : ∀ (d : Nat) (n f : Int), σ 26 r ≤ n → n + d = σ 26 r + σ 27 r → (f = 0 ∨ f = 1) →
    ∃ f', (f' = 0 ∨ f' = 1) ∧ (f' = 1 ↔ f = 1 ∨ hasS σ s r n) ∧ md_endCodesOfShape_b62 τ s c f u r n = md_endCodesOfShape_b15 τ s c f' (u + 1)
  | 0, n, f, n0, hn, hf => by
    have hb : 0 ≤ r ∧ r < 60 := by omega
    have gr := h.2.1 r hr.1 hr.2
    have hh := h.1
    refine ⟨f, hf, ⟨fun q => Or.inl q, fun q => ?_⟩, ?_⟩
    · rcases q with q | ⟨m, i, a, b, _⟩
      · exact q
      · omega
    · rw [md_endCodesOfShape_b62_e, gr.1, gr.2.1, w32_e (x := σ 26 r + σ 27 r) (by omega) (by omega)]
      simp only [hb, and_self, if_true]
      rw [if_neg (by omega), w32_e (by omega) (by omega)]
  | d + 1, n, f, n0, hn, hf => by
    have hb : 0 ≤ r ∧ r < 60 := by omega
    have gr := h.2.1 r hr.1 hr.2
    have hh := h.1
    have hbn : 0 ≤ n ∧ n < 20000 := by omega
    have hlt : n < σ 26 r + σ 27 r := by omega
    have gn := h.2.2 n (by omega) (by omega)
    have e184 : ∀ f, md_endCodesOfShape_b184 τ s c f u r n = md_endCodesOfShape_b62 τ s c f u r (n + 1) := fun f => by rw [md_endCodesOfShape_b184_e, w32_e (by omega) (by omega)]
    have e : md_endCodesOfShape_b62 τ s c f u r n = if σ 9 n = 21 ∨ σ 9 n = 22 then md_endCodesOfShape_b112 τ s c f u r n 0 else md_endCodesOfShape_b62 τ s c f u r (n + 1) := by
      rw [md_endCodesOfShape_b62_e, gr.1, gr.2.1, w32_e (x := σ 26 r + σ 27 r) (by omega) (by omega)]
      simp only [hb, hbn, hlt, and_self, if_true, md_endCodesOfShape_b109_e, e184, gn.1]
      by_cases q1 : σ 9 n = 21
      · rw [if_pos q1, if_pos (Or.inl q1)]
      · rw [if_neg q1]
        by_cases q2 : σ 9 n = 22
        · rw [if_pos q2, if_pos (Or.inr q2)]
        · rw [if_neg q2, if_neg (by omega)]
    have later : hasS σ s r n ↔ ((σ 9 n = 21 ∨ σ 9 n = 22) ∧ ∃ j, 0 ≤ j ∧ j < σ 18 n ∧ enS σ s n j) ∨ hasS σ s r (n + 1) := by
      constructor
      · intro ⟨m, i, a, b, c, d1, d2, d3⟩
        by_cases z : m = n
        · subst z; exact Or.inl ⟨c, i, d1, d2, d3⟩
        · exact Or.inr ⟨m, i, by omega, b, c, d1, d2, d3⟩
      · intro q
        rcases q with ⟨c, j, d1, d2, d3⟩ | ⟨m, i, a, b, c, d1, d2, d3⟩
        · exact ⟨n, j, by omega, hlt, c, d1, d2, d3⟩
        · exact ⟨m, i, by omega, b, c, d1, d2, d3⟩
    rw [e, later]
    by_cases k : σ 9 n = 21 ∨ σ 9 n = 22
    · rw [if_pos k]
      obtain ⟨f1, a1, a2, a3⟩ := md_ecs_b112_s (c := c) (u := u) (r := r) h hs (n := n) (by omega) k (σ 18 n).toNat 0 f (by omega) (by have := gn.2.2.2.2.2.1; omega) hf
      obtain ⟨f', b1, b2, b3⟩ := md_ecs_b62_s (c := c) h hs hr h60 hu d (n + 1) f1 (by omega) (by omega) a1
      refine ⟨f', b1, b2.trans ?_, by rw [a3, e184, b3]⟩
      rw [a2]
      constructor
      · intro q
        rcases q with (q | q) | q
        · exact Or.inl q
        · exact Or.inr (Or.inl ⟨k, q⟩)
        · exact Or.inr (Or.inr q)
      · intro q
        rcases q with q | ⟨_, q⟩ | q
        · exact Or.inl (Or.inl q)
        · exact Or.inl (Or.inr q)
        · exact Or.inr q
    · rw [if_neg k]
      obtain ⟨f', b1, b2, b3⟩ := md_ecs_b62_s (c := c) h hs hr h60 hu d (n + 1) f (by omega) (by omega) hf
      refine ⟨f', b1, b2.trans ?_, b3⟩
      constructor
      · intro q
        rcases q with q | q
        · exact Or.inl q
        · exact Or.inr (Or.inr q)
      · intro q
        rcases q with q | q | q
        · exact Or.inl q
        · exact absurd q.1 k
        · exact Or.inr q
/-- the units of one code -/
theorem cd_obsolete_b27_s (hb : rBk σ τ) (h : rNd σ τ) {s c : Int} (hs : 0 ≤ s) (h0 : 0 ≤ c) (hc : c < σ 52 10) (hv : σ 61 c = 1) : ∀ (d : Nat) (u f : Int), 0 ≤ u → u + d = σ 55 c → (f = 0 ∨ f = 1) →
    ∃ f', (f' = 0 ∨ f' = 1) ∧ cd_obsolete_b27 σ s c f u = cd_obsolete_b68 σ s c f' ∧ md_endCodesOfShape_b15 τ s c f u = md_endCodesOfShape_b196 τ s c f'
  | 0, u, f, u0, hu, hf => by
    have g := hb.2.2.2 c h0 hc
    have b1 : 0 ≤ c ∧ c < 100 := by have := hb.2.1; omega
    rw [cd_obsolete_b27_e, md_endCodesOfShape_b15_e, g.2.1.1]
    simp only [b1, and_self, if_true]
    rw [if_neg (by omega), if_neg (by omega)]
    exact ⟨f, hf, rfl, rfl⟩
  | d + 1, u, f, u0, hu, hf => by
    have g := hb.2.2.2 c h0 hc
    have b1 : 0 ≤ c ∧ c < 100 := by have := hb.2.1; omega
    have gu := g.2.2.2.2.2.2.2.2.2 u u0 (by omega)
    have hlt : u < σ 55 c := by omega
    have v1 : ¬ τ 203 c = 0 := by rw [g.2.2.2.2.2.2.2.1.1, hv]; decide
    have bb := g.2.2.2.2.2.2.2.2.1
    have h60 : σ 8 31 ≤ 60 := by have := hb.1.1; omega
    have b2 : 0 ≤ σ 54 c + u ∧ σ 54 c + u < 16000 := by have := hb.2.1; have := hb.2.2.1; omega
    have b3 : 0 ≤ 152 * c + u ∧ 152 * c + u < 15200 := by omega
    have b4 : 0 ≤ σ 62 (σ 54 c + u) ∧ σ 62 (σ 54 c + u) < 60 := by omega
    rw [cd_obsolete_b27_e, md_endCodesOfShape_b15_e, g.2.1.1]
    simp only [b1, hlt, and_self, if_true, if_neg v1]
    rw [w32_e (x := σ 54 c + u) (by omega) (by omega), md_unit_s (by omega)]
    simp only [Option.bind_some, b2, b3, and_self, if_true, gu.1.1, b4]
    rw [w32_e (x := u + 1) (by omega) (by omega)]
    have gr := h.2.1 (σ 62 (σ 54 c + u)) gu.1.2.1 gu.1.2.2
    rcases hf with hf | hf <;> subst hf
    · simp only [if_true]
      rw [gr.1, cd_has_e]
      simp only [b4, and_self, if_true]
      have ca := cd_has_b10_s h (s := s) (r := σ 62 (σ 54 c + u)) ⟨gu.1.2.1, gu.1.2.2⟩ h60 (σ 27 (σ 62 (σ 54 c + u))).toNat (σ 26 (σ 62 (σ 54 c + u))) (by omega) (by omega)
      obtain ⟨f1, a1, a2, a3⟩ := md_ecs_b62_s (c := c) h hs (r := σ 62 (σ 54 c + u)) ⟨gu.1.2.1, gu.1.2.2⟩ h60 (u := u) (by omega) (σ 27 (σ 62 (σ 54 c + u))).toNat (σ 26 (σ 62 (σ 54 c + u))) 0 (by omega) (by omega) (Or.inl rfl)
      rw [a3]
      have e1 : cd_has_b10 σ (σ 62 (σ 54 c + u)) s (σ 26 (σ 62 (σ 54 c + u))) = some (σ, f1) := by
        rcases a1 with a1 | a1
        · rw [a1]
          exact ca.2 (fun q => by have := a2.mpr (Or.inr q); omega)
        · rw [a1]
          refine ca.1 ?_
          rcases a2.mp a1 with q | q
          · omega
          · exact q
      rw [e1]
      simp only [Option.bind_some]
      exact cd_obsolete_b27_s hb h hs h0 hc hv d (u + 1) f1 (by omega) (by omega) a1
    · simp only [show ¬ ((1 : Int) = 0) by decide, if_false]
      exact ⟨1, Or.inr rfl, rfl, rfl⟩
theorem rNd.ef {σ' τ' : gM} (h : rNd σ τ) (e1 : eFr σ σ') (e2 : eFm τ τ') : rNd σ' τ' := by
  have c : ∀ a, a ≠ 32 → a ≠ 34 → a ≠ 61 → σ' a = σ a := fun a q1 q2 q3 => funext fun i => e1 a i q1 q2 q3
  have d : ∀ a, a ≠ 163 → a ≠ 164 → a ≠ 203 → τ' a = τ a := fun a q1 q2 q3 => funext fun i => e2 a i q1 q2 q3
  have eP : ∀ s m, plc σ' s m = plc σ s m := plc_congr (c 43 (by decide) (by decide) (by decide)) (c 44 (by decide) (by decide) (by decide)) (c 47 (by decide) (by decide) (by decide))
  unfold rNd rN1 rEn at *
  simp only [eP, c 8 (by decide) (by decide) (by decide), c 9 (by decide) (by decide) (by decide), c 10 (by decide) (by decide) (by decide), c 11 (by decide) (by decide) (by decide), c 12 (by decide) (by decide) (by decide), c 13 (by decide) (by decide) (by decide), c 18 (by decide) (by decide) (by decide), c 19 (by decide) (by decide) (by decide), c 26 (by decide) (by decide) (by decide), c 27 (by decide) (by decide) (by decide), c 42 (by decide) (by decide) (by decide),
    d 119 (by decide) (by decide) (by decide), d 158 (by decide) (by decide) (by decide), d 159 (by decide) (by decide) (by decide), d 168 (by decide) (by decide) (by decide), d 169 (by decide) (by decide) (by decide), d 174 (by decide) (by decide) (by decide), d 175 (by decide) (by decide) (by decide), d 178 (by decide) (by decide) (by decide), d 180 (by decide) (by decide) (by decide), d 181 (by decide) (by decide) (by decide), d 182 (by decide) (by decide) (by decide), d 183 (by decide) (by decide) (by decide), d 184 (by decide) (by decide) (by decide)]
  exact h
theorem cd_obsolete_s {s : Int} (hs : 0 ≤ s) : ∀ (d : Nat) (σ τ : gM) (c : Int), rBk σ τ → rNd σ τ → 0 ≤ c → c + d = σ 52 10 →
    ∃ σ' τ', cd_obsolete_b2 σ s c = some (σ', 0) ∧ md_endCodesOfShape_b2 τ s c = some (τ', 0) ∧ rBk σ' τ' ∧ eFr σ σ' ∧ eFm τ τ' ∧ (∀ i, σ' 61 i = σ 61 i ∨ σ' 61 i = 0)
  | 0, σ, τ, c, h, hn, h0, hc => by
    rw [cd_obsolete_b2_e, if_neg (by omega), md_endCodesOfShape_b2_e, h.2.1.2.2, if_neg (by omega)]
    exact ⟨σ, τ, rfl, rfl, h, fun _ _ _ _ _ => rfl, fun _ _ _ _ _ => rfl, fun _ => Or.inl rfl⟩
  | d + 1, σ, τ, c, h, hn, h0, hc => by
    have b1 : 0 ≤ c ∧ c < 100 := by have := h.2.1; omega
    have g := h.2.2.2 c h0 (by omega)
    have hlt : c < σ 52 10 := by omega
    rw [cd_obsolete_b2_e, md_endCodesOfShape_b2_e, h.2.1.2.2]
    simp only [b1, hlt, and_self, if_true]
    have next : ∀ (σ1 τ1 : gM), rBk σ1 τ1 → eFr σ σ1 → eFm τ τ1 → (∀ i, σ1 61 i = σ 61 i ∨ σ1 61 i = 0) → ∃ σ' τ', cd_obsolete_b77 σ1 s c = some (σ', 0) ∧ md_endCodesOfShape_b205 τ1 s c = some (τ', 0) ∧ rBk σ' τ' ∧ eFr σ σ' ∧ eFm τ τ' ∧ (∀ i, σ' 61 i = σ 61 i ∨ σ' 61 i = 0) := by
      intro σ1 τ1 hb f1 f2 f3
      rw [cd_obsolete_b77_e, md_endCodesOfShape_b205_e, w32_e (by omega) (by omega)]
      obtain ⟨σ', τ', i1, i2, i3, i4, i5, i6⟩ := cd_obsolete_s hs d σ1 τ1 (c + 1) hb (hn.ef f1 f2) (by omega) (by rw [f1 52 10 (by decide) (by decide) (by decide)]; omega)
      refine ⟨σ', τ', i1, i2, i3, f1.tr i4, f2.tr i5, fun i => ?_⟩
      rcases i6 i with q | q
      · rw [q]; exact f3 i
      · exact Or.inr q
    have v := g.2.2.2.2.2.2.2.1
    by_cases hv : σ 61 c = 0
    · rw [if_pos hv]
      have e : md_endCodesOfShape_b15 τ s c 0 0 = md_endCodesOfShape_b205 τ s c := by
        rw [md_endCodesOfShape_b15_e, g.2.1.1]
        have hlt : (0 : Int) < σ 55 c := by omega
        have : τ 203 c = 0 := by rw [v.1]; exact hv
        simp only [b1, hlt, and_self, if_true, this, md_endCodesOfShape_b196_e]
      rw [e]
      exact next σ τ h (fun _ _ _ _ _ => rfl) (fun _ _ _ _ _ => rfl) (fun _ => Or.inl rfl)
    · rw [if_neg hv]
      obtain ⟨f', hf, e1, e2⟩ := cd_obsolete_b27_s h hn hs h0 hlt (by omega) (σ 55 c).toNat 0 0 (by omega) (by omega) (Or.inl rfl)
      rw [e1, e2, cd_obsolete_b68_e, md_endCodesOfShape_b196_e]
      rcases hf with hf | hf <;> subst hf
      · simp only [if_true]
        exact next σ τ h (fun _ _ _ _ _ => rfl) (fun _ _ _ _ _ => rfl) (fun _ => Or.inl rfl)
      · simp only [show ¬ ((1 : Int) = 0) by decide, if_false]
        obtain ⟨σ1, τ1, a1, a2, a3, a4, a5, a6, a7⟩ := cd_ends_s h h0 (c := c) hlt
        rw [a1, a2]
        simp only [Option.bind_some]
        exact next σ1 τ1 a3 a4 a5 (fun i => by
          by_cases e : i = c
          · subst e; exact Or.inr a6
          · exact Or.inl (a7 i e))
end OB
