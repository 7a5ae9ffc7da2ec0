/-! codes end: both sides -/
section EN
variable {σ τ : gM}
/-- the books of one side and the other -/
def rBk (σ τ : gM) : Prop := rRt σ τ ∧ rCo σ τ
/-- what ending codes may change -/
def eFr (σ σ' : gM) : Prop := ∀ a i, a ≠ 32 → a ≠ 34 → a ≠ 61 → σ' a i = σ a i
def eFm (τ τ' : gM) : Prop := ∀ a i, a ≠ 163 → a ≠ 164 → a ≠ 203 → τ' a i = τ a i
theorem cd_ends_s (h : rBk σ τ) {c : Int} (h0 : 0 ≤ c) (hc : c < σ 52 10) : ∃ σ' τ', cd_ends σ c = some (σ', 0) ∧ md_endCode τ c = some (τ', 0) ∧ rBk σ' τ' ∧ eFr σ σ' ∧ eFm τ τ' ∧ σ' 61 c = 0 ∧ (∀ i, i ≠ c → σ' 61 i = σ 61 i) := by
  obtain ⟨h1, h2⟩ := h
  have g := h2.2.2 c h0 hc
  have b1 : 0 ≤ c ∧ c < 100 := by have := h2.1; omega
  have b2 : 0 ≤ σ 53 c ∧ σ 53 c < 60 := by have := h1.1; omega
  rw [cd_ends_e, md_endCode_e, g.1.1]
  simp only [b1, b2, and_self, if_true]
  refine ⟨_, _, rfl, rfl, ⟨?_, ?_⟩, ?_, ?_, ?_, ?_⟩
  · have e : ∀ a, a ≠ 32 → a ≠ 34 → a ≠ 61 → gW (gW (gW σ 61 c 0) 34 (σ 53 c) (-1)) 32 (σ 53 c) 0 a = σ a := fun a q1 q2 q3 => by rw [gW_cell q1, gW_cell q2, gW_cell q3]
    have f : ∀ a, a ≠ 163 → a ≠ 164 → a ≠ 203 → gW (gW (gW τ 203 c 0) 164 (σ 53 c) (-1)) 163 (σ 53 c) 0 a = τ a := fun a q1 q2 q3 => by rw [gW_cell q1, gW_cell q2, gW_cell q3]
    unfold rRt
    rw [e 8 (by decide) (by decide) (by decide), e 53 (by decide) (by decide) (by decide), e 52 (by decide) (by decide) (by decide), e 25 (by decide) (by decide) (by decide), e 24 (by decide) (by decide) (by decide), e 33 (by decide) (by decide) (by decide), f 119 (by decide) (by decide) (by decide), f 165 (by decide) (by decide) (by decide), f 157 (by decide) (by decide) (by decide), f 156 (by decide) (by decide) (by decide)]
    refine ⟨h1.1, fun r r0 r1 => ?_⟩
    have q := h1.2 r r0 r1
    rw [gW_if, gW_if, gW_c (show (34 : Int) ≠ 32 by decide), gW_if, gW_c (show (164 : Int) ≠ 163 by decide), gW_if]
    by_cases z : r = σ 53 c
    · rw [if_pos z, if_pos z, if_pos z, if_pos z]
      exact ⟨by omega, ⟨rfl, by omega, by have := h2.1; omega, fun w => absurd w (by decide)⟩, q.2.2⟩
    · rw [if_neg z, if_neg z, if_neg z, if_neg z, gW_c (by decide), gW_c (by decide), gW_c (by decide), gW_c (by decide), gW_c (by decide), gW_c (by decide)]
      refine ⟨q.1, ⟨q.2.1.1, q.2.1.2.1, q.2.1.2.2.1, fun w => ?_⟩, q.2.2⟩
      have q4 := q.2.1.2.2.2 w
      rw [gW_c (by decide), gW_c (by decide), gW_i (fun y => z (by rw [← y]; exact q4.1.symm))]
      exact q4
  · have e : ∀ a, a ≠ 32 → a ≠ 34 → a ≠ 61 → gW (gW (gW σ 61 c 0) 34 (σ 53 c) (-1)) 32 (σ 53 c) 0 a = σ a := fun a q1 q2 q3 => by rw [gW_cell q1, gW_cell q2, gW_cell q3]
    have f : ∀ a, a ≠ 163 → a ≠ 164 → a ≠ 203 → gW (gW (gW τ 203 c 0) 164 (σ 53 c) (-1)) 163 (σ 53 c) 0 a = τ a := fun a q1 q2 q3 => by rw [gW_cell q1, gW_cell q2, gW_cell q3]
    have e61 : ∀ i, gW (gW (gW σ 61 c 0) 34 (σ 53 c) (-1)) 32 (σ 53 c) 0 61 i = if i = c then 0 else σ 61 i := fun i => by rw [gW_c (by decide), gW_c (by decide), gW_if]
    have f203 : ∀ i, gW (gW (gW τ 203 c 0) 164 (σ 53 c) (-1)) 163 (σ 53 c) 0 203 i = if i = c then 0 else τ 203 i := fun i => by rw [gW_c (by decide), gW_c (by decide), gW_if]
    unfold rCo
    rw [e 8 (by decide) (by decide) (by decide), e 52 (by decide) (by decide) (by decide), e 53 (by decide) (by decide) (by decide), e 54 (by decide) (by decide) (by decide), e 55 (by decide) (by decide) (by decide), e 56 (by decide) (by decide) (by decide), e 57 (by decide) (by decide) (by decide), e 58 (by decide) (by decide) (by decide), e 59 (by decide) (by decide) (by decide), e 60 (by decide) (by decide) (by decide), e 62 (by decide) (by decide) (by decide), e 63 (by decide) (by decide) (by decide), e 64 (by decide) (by decide) (by decide),
      f 119 (by decide) (by decide) (by decide), f 196 (by decide) (by decide) (by decide), f 197 (by decide) (by decide) (by decide), f 198 (by decide) (by decide) (by decide), f 199 (by decide) (by decide) (by decide), f 200 (by decide) (by decide) (by decide), f 201 (by decide) (by decide) (by decide), f 202 (by decide) (by decide) (by decide), f 204 (by decide) (by decide) (by decide), f 205 (by decide) (by decide) (by decide), f 206 (by decide) (by decide) (by decide)]
    refine ⟨h2.1, h2.2.1, fun x x0 x1 => ?_⟩
    obtain ⟨q1, q2, q3, q4, q5, q6, q7, q8, q9, q10⟩ := h2.2.2 x x0 x1
    refine ⟨q1, q2, q3, q4, q5, q6, q7, ?_, q9, q10⟩
    rw [e61, f203]
    by_cases z : x = c
    · rw [if_pos z, if_pos z]; exact ⟨rfl, Or.inl rfl⟩
    · rw [if_neg z, if_neg z]; exact q8
  · intro a i q1 q2 q3; rw [gW_c q1, gW_c q2, gW_c q3]
  · intro a i q1 q2 q3; rw [gW_c q1, gW_c q2, gW_c q3]
  · rw [gW_c (by decide), gW_c (by decide), gW_at]
  · intro i q; rw [gW_c (by decide), gW_c (by decide), gW_i q]
theorem md_unit_s {c u : Int} (h : 0 ≤ c ∧ c < 100 ∧ 0 ≤ u ∧ u < 152) : md_unit τ c u = some (τ, 152 * c + u) := by
  rw [md_unit_e, w32_e (x := 152 * c) (by omega) (by omega), w32_e (by omega) (by omega)]
/-- a code's units are looked through for a root -/
theorem cd_changed_b27_s (h : rBk σ τ) {r c : Int} (h0 : 0 ≤ c) (hc : c < σ 52 10) (hv : σ 61 c = 1) : ∀ (d : Nat) (u f : Int), 0 ≤ u → u + d = σ 55 c → (f = 0 ∨ f = 1) →
    ∃ f', (f' = 0 ∨ f' = 1) ∧ cd_changed_b27 σ r c f u = cd_changed_b72 σ r c f' ∧ md_endCodesOfRoot_b15 τ r c f u = md_endCodesOfRoot_b67 τ r c f'
  | 0, u, f, u0, hu, hf => by
    have g := h.2.2.2 c h0 hc
    have b1 : 0 ≤ c ∧ c < 100 := by have := h.2.1; omega
    rw [cd_changed_b27_e, md_endCodesOfRoot_b15_e, g.2.1.1]
    simp only [b1, and_self, if_true]
    rw [if_neg (by omega), if_neg (by omega)]
    exact ⟨f, hf, rfl, rfl⟩
  | d + 1, u, f, u0, hu, hf => by
    have g := h.2.2.2 c h0 hc
    have b1 : 0 ≤ c ∧ c < 100 := by have := h.2.1; omega
    have gu := g.2.2.2.2.2.2.2.2.2 u u0 (by omega)
    have hlt : u < σ 55 c := by omega
    have v1 : ¬ τ 203 c = 0 := by rw [g.2.2.2.2.2.2.2.1.1, hv]; decide
    have bb := g.2.2.2.2.2.2.2.2.1
    have b2 : 0 ≤ σ 54 c + u ∧ σ 54 c + u < 16000 := by have := h.2.1; have := h.2.2.1; omega
    have b3 : 0 ≤ 152 * c + u ∧ 152 * c + u < 15200 := by omega
    rw [cd_changed_b27_e, md_endCodesOfRoot_b15_e, g.2.1.1]
    simp only [b1, hlt, and_self, if_true, if_neg v1]
    rw [w32_e (x := σ 54 c + u) (by omega) (by omega), md_unit_s (by omega)]
    simp only [Option.bind_some, b2, b3, and_self, if_true, gu.1.1, md_endCodesOfRoot_b55_e, md_endCodesOfRoot_b60_e, cd_changed_b65_e]
    rw [w32_e (x := u + 1) (by omega) (by omega)]
    rcases hf with hf | hf <;> subst hf
    · simp only [if_true]
      by_cases e : σ 62 (σ 54 c + u) = r
      · simp only [if_pos e]
        exact cd_changed_b27_s h h0 hc hv d (u + 1) 1 (by omega) (by omega) (Or.inr rfl)
      · simp only [if_neg e]
        exact cd_changed_b27_s h h0 hc hv d (u + 1) 0 (by omega) (by omega) (Or.inl rfl)
    · simp only [show ¬ ((1 : Int) = 0) by decide, if_false]
      -- the component stops here, the model goes on to the end
      refine ⟨1, Or.inr rfl, rfl, ?_⟩
      have go : ∀ (d : Nat) (u : Int), 0 ≤ u → u + d = σ 55 c → md_endCodesOfRoot_b15 τ r c 1 u = md_endCodesOfRoot_b67 τ r c 1 := by
        intro d
        induction d with
        | zero =>
          intro u u0 hu
          rw [md_endCodesOfRoot_b15_e, g.2.1.1]
          simp only [b1, and_self, if_true]
          rw [if_neg (by omega)]
        | succ d ih =>
          intro u u0 hu
          have hlt : u < σ 55 c := by omega
          rw [md_endCodesOfRoot_b15_e, g.2.1.1]
          simp only [b1, hlt, and_self, if_true, if_neg v1, show ¬ ((1 : Int) = 0) by decide, if_false, md_endCodesOfRoot_b55_e, md_endCodesOfRoot_b60_e]
          rw [w32_e (by omega) (by omega)]
          exact ih (u + 1) (by omega) (by omega)
      exact go d (u + 1) (by omega) (by omega)
theorem eFr.tr {σ' σ'' : gM} (h : eFr σ σ') (h2 : eFr σ' σ'') : eFr σ σ'' := fun a i q1 q2 q3 => (h2 a i q1 q2 q3).trans (h a i q1 q2 q3)
theorem eFm.tr {τ' τ'' : gM} (h : eFm τ τ') (h2 : eFm τ' τ'') : eFm τ τ'' := fun a i q1 q2 q3 => (h2 a i q1 q2 q3).trans (h a i q1 q2 q3)
/-- codes that have a root's nodes end -/
theorem cd_changed_s {r : Int} : ∀ (d : Nat) (σ τ : gM) (c : Int), rBk σ τ → 0 ≤ c → c + d = σ 52 10 →
    ∃ σ' τ', cd_changed_b2 σ r c = some (σ', 0) ∧ md_endCodesOfRoot_b2 τ r c = some (τ', 0) ∧ rBk σ' τ' ∧ eFr σ σ' ∧ eFm τ τ' ∧ (∀ i, σ' 61 i = σ 61 i ∨ σ' 61 i = 0)
  | 0, σ, τ, c, h, h0, hc => by
    rw [cd_changed_b2_e, if_neg (by omega), md_endCodesOfRoot_b2_e, h.2.1.2.2, if_neg (by omega)]
    exact ⟨σ, τ, rfl, rfl, h, fun _ _ _ _ _ => rfl, fun _ _ _ _ _ => rfl, fun _ => Or.inl rfl⟩
  | d + 1, σ, τ, c, h, h0, hc => by
    have b1 : 0 ≤ c ∧ c < 100 := by have := h.2.1; omega
    have g := h.2.2.2 c h0 (by omega)
    have hlt : c < σ 52 10 := by omega
    rw [cd_changed_b2_e, md_endCodesOfRoot_b2_e, h.2.1.2.2]
    simp only [b1, hlt, and_self, if_true]
    -- both go on with the next
    have next : ∀ (σ1 τ1 : gM), rBk σ1 τ1 → eFr σ σ1 → eFm τ τ1 → (∀ i, σ1 61 i = σ 61 i ∨ σ1 61 i = 0) → ∃ σ' τ', cd_changed_b81 σ1 r c = some (σ', 0) ∧ md_endCodesOfRoot_b76 τ1 r c = some (τ', 0) ∧ rBk σ' τ' ∧ eFr σ σ' ∧ eFm τ τ' ∧ (∀ i, σ' 61 i = σ 61 i ∨ σ' 61 i = 0) := by
      intro σ1 τ1 hb f1 f2 f3
      rw [cd_changed_b81_e, md_endCodesOfRoot_b76_e, w32_e (by omega) (by omega)]
      obtain ⟨σ', τ', i1, i2, i3, i4, i5, i6⟩ := cd_changed_s (r := r) d σ1 τ1 (c + 1) hb (by omega) (by rw [f1 52 10 (by decide) (by decide) (by decide)]; omega)
      refine ⟨σ', τ', i1, i2, i3, f1.tr i4, f2.tr i5, fun i => ?_⟩
      rcases i6 i with q | q
      · rw [q]; exact f3 i
      · exact Or.inr q
    have v := g.2.2.2.2.2.2.2.1
    by_cases hv : σ 61 c = 0
    · rw [if_pos hv]
      have e : md_endCodesOfRoot_b15 τ r c 0 0 = md_endCodesOfRoot_b76 τ r c := by
        rw [md_endCodesOfRoot_b15_e, g.2.1.1]
        have hlt : (0 : Int) < σ 55 c := by omega
        have : τ 203 c = 0 := by rw [v.1]; exact hv
        simp only [b1, hlt, and_self, if_true, this, md_endCodesOfRoot_b67_e]
      rw [e]
      exact next σ τ h (fun _ _ _ _ _ => rfl) (fun _ _ _ _ _ => rfl) (fun _ => Or.inl rfl)
    · rw [if_neg hv]
      obtain ⟨f', hf, e1, e2⟩ := cd_changed_b27_s (r := r) h h0 (by omega) (by omega) (σ 55 c).toNat 0 0 (by omega) (by omega) (Or.inl rfl)
      rw [e1, e2, cd_changed_b72_e, md_endCodesOfRoot_b67_e]
      rcases hf with hf | hf <;> subst hf
      · simp only [if_true]
        exact next σ τ h (fun _ _ _ _ _ => rfl) (fun _ _ _ _ _ => rfl) (fun _ => Or.inl rfl)
      · simp only [show ¬ ((1 : Int) = 0) by decide, if_false]
        obtain ⟨σ1, τ1, a1, a2, a3, a4, a5, a6, a7⟩ := cd_ends_s h h0 (c := c) (by omega)
        rw [a1, a2]
        simp only [Option.bind_some]
        exact next σ1 τ1 a3 a4 a5 (fun i => by
          by_cases e : i = c
          · subst e; exact Or.inr a6
          · exact Or.inl (a7 i e))
end EN
