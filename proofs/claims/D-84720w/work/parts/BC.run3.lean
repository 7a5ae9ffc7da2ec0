/-! codes that have a root's nodes have ended; activations of both sides -/
section CN
variable {σ τ : gM} {r : Int}
def cO (σ : gM) : Prop := σ 52 10 ≤ 100 ∧ ∀ i, 0 ≤ i → i < σ 52 10 → (0 ≤ σ 54 i ∧ σ 54 i + σ 55 i ≤ 16000) ∧ (0 ≤ σ 53 i ∧ σ 53 i < 60) ∧ 0 ≤ σ 55 i
theorem rBk.co (h : rBk σ τ) : cO σ := ⟨h.2.1.2.1, fun i i0 i1 => by
  have g := h.2.2.2 i i0 i1
  have g9 := g.2.2.2.2.2.2.2.2.1
  have := h.2.1
  have := h.2.2.1
  have := h.1.1
  exact ⟨by omega, by omega, by omega⟩⟩
theorem chg_b27 {c : Int} (c0 : 0 ≤ c ∧ c < 100) (hb : 0 ≤ σ 54 c ∧ σ 54 c + σ 55 c ≤ 16000) : ∀ (d : Nat) (u : Int), u + d = σ 55 c → 0 ≤ u → ∃ f', cd_changed_b27 σ r c 0 u = cd_changed_b72 σ r c f' ∧ (f' = 0 → ∀ v, u ≤ v → v < σ 55 c → σ 62 (σ 54 c + v) ≠ r) ∧ (f' = 0 ∨ f' = 1)
  | 0, u, hu, u0 => by
    rw [cd_changed_b27_e, if_pos c0, if_neg (by omega)]
    exact ⟨0, rfl, fun _ v q1 q2 => by omega, Or.inl rfl⟩
  | d + 1, u, hu, u0 => by
    have b2 : 0 ≤ σ 54 c + u ∧ σ 54 c + u < 16000 := by omega
    have hlt : u < σ 55 c := by omega
    rw [cd_changed_b27_e, w32_e (x := σ 54 c + u) (by omega) (by omega)]
    simp only [c0, b2, hlt, and_self, if_true, cd_changed_b65_e]
    rw [w32_e (x := u + 1) (by omega) (by omega)]
    by_cases e : σ 62 (σ 54 c + u) = r
    · rw [if_pos e, cd_changed_b27_e, if_pos c0]
      refine ⟨1, ?_, fun q => by omega, Or.inr rfl⟩
      by_cases z : u + 1 < σ 55 c
      · rw [if_pos z, if_neg (by decide)]
      · rw [if_neg z]
    · rw [if_neg e]
      obtain ⟨f', i1, i2, i3⟩ := chg_b27 c0 hb d (u + 1) (by omega) (by omega)
      refine ⟨f', i1, fun q v q1 q2 => ?_, i3⟩
      by_cases z : v = u
      · rw [z]; exact e
      · exact i2 q v (by omega) q2
theorem chg_no : ∀ (d : Nat) (σ : gM) (c : Int), cO σ → 0 ≤ c → c + d = σ 52 10 → ∃ S, cd_changed_b2 σ r c = some (S, 0) ∧ eFr σ S ∧ (∀ i, S 61 i = σ 61 i ∨ S 61 i = 0) ∧ ∀ i, c ≤ i → i < σ 52 10 → S 61 i ≠ 0 → ∀ u, 0 ≤ u → u < σ 55 i → σ 62 (σ 54 i + u) ≠ r
  | 0, σ, c, h, h0, hc => by
    rw [cd_changed_b2_e, if_neg (by omega)]
    exact ⟨σ, rfl, fun _ _ _ _ _ => rfl, fun _ => Or.inl rfl, fun i q1 q2 => by omega⟩
  | d + 1, σ, c, h, h0, hc => by
    have c0 : 0 ≤ c ∧ c < 100 := by have := h.1; omega
    obtain ⟨g1, g2, g3⟩ := h.2 c h0 (by omega)
    have next : ∀ σ1 : gM, eFr σ σ1 → (∀ i, σ1 61 i = σ 61 i ∨ σ1 61 i = 0) → (σ1 61 c ≠ 0 → ∀ u, 0 ≤ u → u < σ 55 c → σ 62 (σ 54 c + u) ≠ r) → ∃ S, cd_changed_b81 σ1 r c = some (S, 0) ∧ eFr σ S ∧ (∀ i, S 61 i = σ 61 i ∨ S 61 i = 0) ∧ ∀ i, c ≤ i → i < σ 52 10 → S 61 i ≠ 0 → ∀ u, 0 ≤ u → u < σ 55 i → σ 62 (σ 54 i + u) ≠ r := fun σ1 f1 f2 f3 => by
      have k : ∀ a, a ≠ 32 → a ≠ 34 → a ≠ 61 → σ1 a = σ a := fun a q1 q2 q3 => funext fun i => f1 a i q1 q2 q3
      have k52 := k 52 (by decide) (by decide) (by decide)
      have k53 := k 53 (by decide) (by decide) (by decide)
      have k54 := k 54 (by decide) (by decide) (by decide)
      have k55 := k 55 (by decide) (by decide) (by decide)
      have k62 := k 62 (by decide) (by decide) (by decide)
      rw [cd_changed_b81_e, w32_e (by omega) (by omega)]
      obtain ⟨S, i1, i2, i3, i4⟩ := chg_no d σ1 (c + 1) (by unfold cO; rw [k52, k53, k54, k55]; exact h) (by omega) (by rw [k52]; omega)
      rw [k52, k54, k55, k62] at i4
      refine ⟨S, i1, f1.tr i2, fun i => ?_, fun i q1 q2 q3 => ?_⟩
      · rcases i3 i with z | z
        · rw [z]; exact f2 i
        · exact Or.inr z
      · by_cases z : i = c
        · rw [z] at q3 ⊢
          rcases i3 c with y | y
          · exact f3 (by rw [← y]; exact q3)
          · exact absurd y q3
        · exact i4 i (by omega) q2 q3
    rw [cd_changed_b2_e, if_pos (by omega), if_pos c0]
    by_cases hv : σ 61 c = 0
    · rw [if_pos hv]
      exact next σ (fun _ _ _ _ _ => rfl) (fun _ => Or.inl rfl) (fun q => absurd hv q)
    · rw [if_neg hv]
      obtain ⟨f', i1, i2, i3⟩ := chg_b27 (r := r) c0 g1 (σ 55 c).toNat 0 (by omega) (by decide)
      rw [i1, cd_changed_b72_e]
      rcases i3 with e | e
      · rw [if_pos e]
        exact next σ (fun _ _ _ _ _ => rfl) (fun _ => Or.inl rfl) (fun _ => i2 e)
      · rw [if_neg (by omega), cd_ends_e]
        simp only [c0, g2, and_self, if_true, Option.bind_some]
        refine next _ (fun a i q1 q2 q3 => by rw [gW_c q1, gW_c q2, gW_c q3]) (fun i => ?_) (fun q => ?_)
        · rw [gW_c (by decide), gW_c (by decide), gW_if]
          by_cases z : i = c
          · rw [if_pos z]; exact Or.inr rfl
          · rw [if_neg z]; exact Or.inl rfl
        · rw [gW_c (by decide), gW_c (by decide), gW_at] at q
          exact absurd rfl q
end CN
section AC
variable {σ τ S T : gM} {pT : Int → Int}
/-- the code of an activation, and its frame -/
def acC (σ : gM) (k : Int) : Prop := (σ 93 k = -1 ∧ σ 94 k = -1 ∧ σ 96 k = 0 ∧ σ 95 k = k) ∨ ((0 ≤ σ 93 k ∧ σ 93 k < σ 52 10) ∧ (0 ≤ σ 94 k ∧ σ 94 k < σ 55 (σ 93 k)) ∧ σ 62 (σ 54 (σ 93 k) + σ 94 k) = σ 90 k ∧ ((σ 95 k = k ∧ σ 96 k = 0) ∨ (1 ≤ k ∧ σ 95 k = σ 95 (k - 1) ∧ σ 93 k = σ 93 (k - 1) ∧ σ 96 k = 1)))
/-- one activation -/
def aR1 (σ τ : gM) (k : Int) : Prop := (τ 208 k = σ 90 k ∧ τ 209 k = σ 93 k ∧ τ 210 k = σ 94 k ∧ τ 214 k = σ 96 k ∧ σ 92 k ≤ τ 213 k) ∧ (4 ≤ σ 90 k ∧ σ 90 k < σ 8 31) ∧ acC σ k ∧ τ 211 k ≤ τ 119 123 ∧ (1 ≤ k → (σ 95 k = k ∧ τ 211 (k - 1) < τ 211 k) ∨ (σ 95 k = σ 95 (k - 1) ∧ τ 211 k = τ 211 (k - 1))) ∧ 0 ≤ σ 95 k ∧ σ 95 k ≤ k
/-- activations -/
def aR (σ τ : gM) : Prop := (0 ≤ σ 87 19 ∧ σ 87 19 ≤ 59 ∧ τ 119 121 = σ 87 19) ∧ 0 ≤ τ 119 123 ∧ ∀ k, 0 ≤ k → k < σ 87 19 → aR1 σ τ k
/-- where an activation stands: there, and in the trees -/
def pcA (σ : gM) (k : Int) : Int := if k = σ 87 21 then σ 87 22 else σ 91 k
def pcT (σ : gM) (k pc P : Int) : Prop := (σ 28 (σ 90 k) ≤ P ∧ P < σ 28 (σ 90 k) + σ 29 (σ 90 k)) ∧ (σ 93 k = -1 → pc = P) ∧ (0 ≤ σ 93 k → pc = P - σ 28 (σ 90 k) + σ 65 (σ 54 (σ 93 k) + σ 94 k))
def aP (σ : gM) (pT : Int → Int) : Prop := ∀ k, 0 ≤ k → k < σ 87 19 → pcT σ k (pcA σ k) (pT k)
theorem pcT.wk {k pc P : Int} (h : pcT σ k pc P) (cp : rCp σ) (ac : acC σ k) (hc : 0 ≤ σ 93 k) (c100 : σ 52 10 ≤ 100) : (64000 ≤ pc ∧ pc < 164000) ∧ σ 66 (pc - 64000) = P ∧ cp2 σ pc P ∧ (isJ (σ 20 P) → σ 21 pc = σ 21 P - σ 28 (σ 90 k) + σ 65 (σ 54 (σ 93 k) + σ 94 k)) := by
  obtain ⟨h1, -, h3⟩ := h
  have h3 := h3 hc
  rcases ac with z | ⟨a1, a2, a3, -⟩
  · omega
  obtain ⟨b1, b2⟩ := cp.2 (σ 93 k) (σ 94 k) a1.1 a1.2 a2.1 a2.2
  rw [a3] at b1 b2
  obtain ⟨b3, b4⟩ := b2 (P - σ 28 (σ 90 k)) (by omega) (by omega)
  rw [show σ 28 (σ 90 k) + (P - σ 28 (σ 90 k)) = P by omega] at b3 b4
  rw [show σ 65 (σ 54 (σ 93 k) + σ 94 k) + (P - σ 28 (σ 90 k)) = pc by omega] at b3 b4
  have := cp.1
  exact ⟨by omega, b3.1, b3, b4⟩
theorem aR.fr (h : aR σ τ) {cu : Int} (hc : 0 ≤ cu ∧ cu < σ 87 19) : ∀ (d : Nat) (j : Int), j = cu - d → σ 95 cu ≤ j → σ 95 j = σ 95 cu ∧ σ 93 j = σ 93 cu ∧ τ 211 j = τ 211 cu
  | 0, j, hj, _ => by rw [show j = cu by omega]; exact ⟨rfl, rfl, rfl⟩
  | d + 1, j, hj, hf => by
    have h0 := (h.2.2 cu hc.1 hc.2).2.2.2.2.2
    obtain ⟨i1, i2, i3⟩ := aR.fr h hc d (j + 1) (by omega) (by omega)
    obtain ⟨-, -, g1, -, g2, g3⟩ := h.2.2 (j + 1) (by omega) (by omega)
    rw [show j + 1 - 1 = j by omega] at g2
    unfold acC at g1
    rw [show j + 1 - 1 = j by omega] at g1
    rcases g2 (by omega) with z | ⟨z1, z2⟩
    · omega
    · rcases g1 with y | ⟨-, -, -, y | ⟨-, y1, y2, -⟩⟩
      · omega
      · omega
      · exact ⟨by omega, by omega, by omega⟩
theorem aR.lo (h : aR σ τ) {f : Int} (hf : 1 ≤ f ∧ f < σ 87 19) (he : σ 95 f = f) : ∀ (d : Nat) (j : Int), j + 1 + d = f → 0 ≤ j → τ 211 j < τ 211 f
  | 0, j, hj, j0 => by
    obtain ⟨-, -, -, -, g2, -⟩ := h.2.2 f (by omega) hf.2
    rcases g2 hf.1 with ⟨-, z⟩ | ⟨z, -⟩
    · rw [show j = f - 1 by omega]; exact z
    · have := (h.2.2 (f - 1) (by omega) (by omega)).2.2.2.2.2
      omega
  | d + 1, j, hj, j0 => by
    have i := aR.lo h hf he d (j + 1) (by omega) (by omega)
    obtain ⟨-, -, -, -, g2, -⟩ := h.2.2 (j + 1) (by omega) (by omega)
    rw [show j + 1 - 1 = j by omega] at g2
    rcases g2 (by omega) with ⟨-, z⟩ | ⟨-, z⟩ <;> omega
/-- the newest activation's frame is left on both sides -/
theorem leave_pair (h : aR σ τ) (cp : rCp σ) (c100 : σ 52 10 ≤ 100) (ap : aP σ pT) (m1 : 1 ≤ σ 87 19) (cu : σ 87 21 = σ 87 19 - 1) (hc : 0 ≤ σ 93 (σ 87 21)) (fb : τ 119 123 ≤ 2147000000) :
    ∃ S T f, mc_leaves σ = some (S, 0) ∧ md_leave τ (τ 211 (σ 87 21)) = some (T, 0) ∧ lvC σ S f ∧ lvM τ T f ∧ aR S T ∧ aP S pT ∧ (0 ≤ f ∧ f < σ 87 19) ∧ ∀ j, f ≤ j → j < σ 87 19 → 0 ≤ σ 93 j := by
  obtain ⟨h1, h2, h3⟩ := h
  have hA : aR σ τ := ⟨h1, h2, h3⟩
  have k0 : 0 ≤ σ 87 21 ∧ σ 87 21 < σ 87 19 := by omega
  obtain ⟨-, -, g3, -, -, g6⟩ := h3 _ k0.1 k0.2
  have fr : ∀ j, σ 95 (σ 87 21) ≤ j → j < σ 87 19 → σ 95 j = σ 95 (σ 87 21) ∧ σ 93 j = σ 93 (σ 87 21) ∧ τ 211 j = τ 211 (σ 87 21) := fun j q1 q2 => aR.fr hA k0 (σ 87 21 - j).toNat j (by omega) q1
  have wk : ∀ j, σ 95 (σ 87 21) ≤ j → j < σ 87 19 → (64000 ≤ pcA σ j ∧ pcA σ j < 164000) ∧ σ 66 (pcA σ j - 64000) = pT j := fun j q1 q2 => by
    have e := fr j q1 q2
    have := (ap j (by omega) q2).wk cp (h3 j (by omega) q2).2.2.1 (by omega) c100
    exact ⟨this.1, this.2.1⟩
  have p1 := wk (σ 87 21) g6.2 k0.2
  unfold pcA at p1
  rw [if_pos rfl] at p1
  have p2 : ∀ j, σ 95 (σ 87 21) ≤ j → j + 1 < σ 87 19 → (64000 ≤ σ 91 j ∧ σ 91 j < 164000) ∧ σ 66 (σ 91 j - 64000) = pT j := fun j q1 q2 => by
    have := wk j q1 (by omega)
    unfold pcA at this
    rw [if_neg (by omega)] at this
    exact this
  obtain ⟨S, e1, v1, v2, v3, v4, v5, v6⟩ := leaves_s (σ 87 19 - σ 95 (σ 87 21)).toNat σ (σ 95 (σ 87 21)) (by omega) g6.1 (by omega) cu (fun _ => p1.1) (fun j q1 q2 => (p2 j q1 q2).1)
  obtain ⟨T, e2, w1, w2, w3, w4, w5⟩ := leave_m (σ 87 19 - σ 95 (σ 87 21)).toNat τ (τ 211 (σ 87 21)) (σ 95 (σ 87 21)) (by omega) g6.1 (by omega) (fun j q1 q2 => (fr j q1 (by omega)).2.2) h2 (by omega)
  have ff := fr (σ 95 (σ 87 21)) (by omega) (by omega)
  refine ⟨S, T, σ 95 (σ 87 21), ?_, ?_, ⟨v1, v2, v3, v4, v5, v6⟩, ⟨w1, w2, w3, w4, w5⟩, ?_, ?_, by omega, fun j q1 q2 => by have := fr j q1 q2; omega⟩
  · rw [mc_leaves_e, if_pos (by omega), e1]
  · rw [md_leave_e, leave_m0 (σ 95 (σ 87 21)) _ (by omega) (by omega) (fun j q1 q2 => ?_) (σ 95 (σ 87 21)).toNat 0 (by omega) (by decide), e2]
    have := aR.lo hA (f := σ 95 (σ 87 21)) (by omega) ff.1 (σ 95 (σ 87 21) - j - 1).toNat j (by omega) q1
    omega
  · refine ⟨by rw [v2 19 (by decide), w2 121 (by decide)]; exact h1, by omega, fun k q1 q2 => ?_⟩
    rw [v2 19 (by decide)] at q2
    obtain ⟨a1, a2, a3, a4, a5, a6⟩ := h3 k q1 q2
    unfold aR1 acC
    rw [v1 90 k (by decide) (by decide) (by decide), v1 92 k (by decide) (by decide) (by decide), v1 8 31 (by decide) (by decide) (by decide), w1 208 k (by decide) (by decide) (by decide), w1 213 k (by decide) (by decide) (by decide)]
    by_cases z : k < σ 95 (σ 87 21)
    · rw [v3 93 k (by decide) (Or.inl z), v3 94 k (by decide) (Or.inl z), v3 95 k (by decide) (Or.inl z), v3 96 k (by decide) (Or.inl z), v3 95 (k - 1) (by decide) (by omega), v3 93 (k - 1) (by decide) (by omega), w3 209 k (Or.inl z) (by decide), w3 210 k (Or.inl z) (by decide), w3 214 k (Or.inl z) (by decide), w3 211 k (Or.inl z) (by decide), w3 211 (k - 1) (by omega) (by decide), v1 52 10 (by decide) (by decide) (by decide), v1 55 _ (by decide) (by decide) (by decide), v1 54 _ (by decide) (by decide) (by decide), v1 62 _ (by decide) (by decide) (by decide)]
      exact ⟨a1, a2, a3, by omega, a5, a6⟩
    · obtain ⟨y1, y2, y3, y4⟩ := v4 k (by omega) q2
      obtain ⟨x1, x2, x3, x4⟩ := w4 k (by omega) (by omega)
      refine ⟨⟨a1.1, by omega, by omega, by omega, a1.2.2.2.2⟩, a2, Or.inl ⟨y1, y2, y3, y4⟩, by omega, fun q => Or.inl ⟨y4, ?_⟩, by omega, by omega⟩
      by_cases u : k - 1 < σ 95 (σ 87 21)
      · rw [w3 211 (k - 1) (Or.inl u) (by decide)]
        have := (h3 (k - 1) (by omega) (by omega)).2.2.2.1
        omega
      · have := (w4 (k - 1) (by omega) (by omega)).2.2.2
        omega
  · intro k q1 q2
    rw [v2 19 (by decide)] at q2
    have a := ap k q1 q2
    unfold pcT pcA at a ⊢
    rw [v1 90 k (by decide) (by decide) (by decide), v1 28 _ (by decide) (by decide) (by decide), v1 29 _ (by decide) (by decide) (by decide), v2 21 (by decide)]
    refine ⟨a.1, ?_⟩
    by_cases z : k < σ 95 (σ 87 21)
    · rw [if_neg (by omega)] at a ⊢
      rw [v3 93 k (by decide) (Or.inl z), v3 94 k (by decide) (Or.inl z), v3 91 k (by decide) (Or.inl z), v1 65 _ (by decide) (by decide) (by decide), v1 54 _ (by decide) (by decide) (by decide)]
      exact a.2
    · obtain ⟨y1, -⟩ := v4 k (by omega) q2
      refine ⟨fun _ => ?_, fun q => by omega⟩
      by_cases u : k = σ 87 21
      · rw [if_pos u, v5 (by omega), u]
        exact p1.2
      · rw [if_neg u, v6 k (by omega) (by omega)]
        exact (p2 k (by omega) (by omega)).2
/-- how many activations are in a code -/
def ccN (σ : gM) : Nat → Int
  | 0 => 0
  | m + 1 => ccN σ m + if 0 ≤ σ 93 m then 1 else 0
theorem ccN_eq : ∀ m : Nat, (∀ j, 0 ≤ j → j < (m : Int) → S 93 j = σ 93 j) → ccN S m = ccN σ m
  | 0, _ => rfl
  | m + 1, h => by
    show ccN S m + _ = ccN σ m + _
    rw [ccN_eq m fun j q1 q2 => h j q1 (by omega), h m (by omega) (by omega)]
theorem ccN_rg : ∀ m : Nat, 0 ≤ ccN σ m ∧ ccN σ m ≤ m
  | 0 => by
    show (0 : Int) ≤ 0 ∧ (0 : Int) ≤ _
    omega
  | m + 1 => by
    have := ccN_rg m
    show 0 ≤ ccN σ m + _ ∧ ccN σ m + _ ≤ _
    split <;> omega
theorem ccN_lv {f : Int} (f0 : 0 ≤ f) : ∀ m : Nat, f ≤ m → (∀ j, 0 ≤ j → j < f → S 93 j = σ 93 j) → (∀ j, f ≤ j → j < m → 0 ≤ σ 93 j ∧ S 93 j = -1) → ccN S m + (m - f) = ccN σ m
  | 0, h, _, _ => by
    show (0 : Int) + _ = 0
    omega
  | m + 1, h, h1, h2 => by
    by_cases z : f = (m + 1 : Nat)
    · rw [ccN_eq (m + 1) fun j q1 q2 => h1 j q1 (by omega)]
      omega
    · have i := ccN_lv f0 m (by omega) h1 fun j q1 q2 => h2 j q1 (by omega)
      have := h2 m (by omega) (by omega)
      show ccN S m + (if 0 ≤ S 93 m then 1 else 0) + _ = ccN σ m + (if 0 ≤ σ 93 m then 1 else 0)
      rw [if_pos this.1, if_neg (by omega)]
      omega
end AC
