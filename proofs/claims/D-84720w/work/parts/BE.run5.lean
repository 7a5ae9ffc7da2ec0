/-! a node changes, a frame falls out of its code: both sides -/
/-- what is counted -/
def rTo (σ τ : gM) : Prop := τ 224 9 = σ 87 36 ∧ τ 224 10 = σ 87 37 ∧ τ 224 11 = σ 87 38 ∧ τ 224 12 = σ 87 39 ∧ τ 224 13 = σ 87 40 ∧ τ 224 14 = σ 87 41 ∧ τ 224 15 = σ 87 42 ∧ (0 ≤ σ 87 37 ∧ σ 87 37 ≤ 1000000000) ∧ (0 ≤ σ 87 41 ∧ σ 87 41 ≤ 1000000000) ∧ (0 ≤ σ 87 42 ∧ σ 87 42 ≤ 1000000000)
section CH
variable {σ τ S T σ' τ' : gM} {pT : Int → Int} {n r : Int}
theorem rBk.up (h : rBk σ τ) (c : ∀ a, (a = 24 ∨ a = 25 ∨ (32 ≤ a ∧ a ≤ 34) ∨ (53 ≤ a ∧ a ≤ 57) ∨ (61 ≤ a ∧ a ≤ 64)) → σ' a = σ a) (c31 : σ' 8 31 = σ 8 31) (c10 : σ' 52 10 = σ 52 10) (c11 : σ' 52 11 = σ 52 11) (d : ∀ a, (a = 156 ∨ a = 157 ∨ (163 ≤ a ∧ a ≤ 165) ∨ (196 ≤ a ∧ a ≤ 199) ∨ (203 ≤ a ∧ a ≤ 206)) → τ' a = τ a) (d55 : τ' 119 55 = τ 119 55) (d104 : τ' 119 104 = τ 119 104) (nw : ∀ i, 0 ≤ i → i < σ 52 10 → (τ' 200 i = σ' 58 i ∧ 0 ≤ σ' 58 i ∧ σ' 58 i ≤ 1000000000) ∧ τ' 201 i = σ' 59 i ∧ τ' 202 i = σ' 60 i) : rBk σ' τ' := by
  obtain ⟨h1, h2, h3, h4⟩ := h
  refine ⟨?_, ?_, ?_, fun k k0 k1 => ?_⟩
  · unfold rRt at h1 ⊢
    simp only [c31, c10, d55, c 24 (by decide), c 25 (by decide), c 32 (by decide), c 33 (by decide), c 34 (by decide), c 53 (by decide), c 61 (by decide), d 156 (by decide), d 157 (by decide), d 163 (by decide), d 164 (by decide), d 165 (by decide)]
    exact h1
  · rw [c10, d104]; exact h2
  · rw [c10, c11]; exact h3
  · rw [c10] at k1
    obtain ⟨q1, q2, q3, q4, q5, q6, q7, q8, q9, q10⟩ := h4 k k0 k1
    obtain ⟨n1, n2, n3⟩ := nw k k0 k1
    simp only [c31, c11, c 53 (by decide), c 54 (by decide), c 55 (by decide), c 56 (by decide), c 57 (by decide), c 61 (by decide), c 62 (by decide), c 63 (by decide), c 64 (by decide), d 196 (by decide), d 197 (by decide), d 198 (by decide), d 199 (by decide), d 203 (by decide), d 204 (by decide), d 205 (by decide), d 206 (by decide)]
    exact ⟨q1, q2, q3, q4, n1, n2, n3, q8, q9, q10⟩
/-- activations stay where their rows stay -/
theorem aR.mv (h : aR σ τ) (c : ∀ a, (a = 54 ∨ a = 55 ∨ a = 62 ∨ a = 90 ∨ (92 ≤ a ∧ a ≤ 96)) → S a = σ a) (c19 : S 87 19 = σ 87 19) (c31 : S 8 31 = σ 8 31) (c10 : S 52 10 = σ 52 10) (d : ∀ a, (208 ≤ a ∧ a ≤ 211) ∨ a = 213 ∨ a = 214 → T a = τ a) (d121 : T 119 121 = τ 119 121) (d123 : T 119 123 = τ 119 123) : aR S T := by
  unfold aR aR1 acC at h ⊢
  simp only [c19, c31, c10, d121, d123, c 54 (by decide), c 55 (by decide), c 62 (by decide), c 90 (by decide), c 92 (by decide), c 93 (by decide), c 94 (by decide), c 95 (by decide), c 96 (by decide), d 208 (by decide), d 209 (by decide), d 210 (by decide), d 211 (by decide), d 213 (by decide), d 214 (by decide)]
  exact h
theorem aP.mv (h : aP σ pT) (c : ∀ a, (a = 28 ∨ a = 29 ∨ a = 54 ∨ a = 65 ∨ a = 90 ∨ a = 91 ∨ a = 93 ∨ a = 94) → S a = σ a) (c19 : S 87 19 = σ 87 19) (c21 : S 87 21 = σ 87 21) (c22 : S 87 22 = σ 87 22) : aP S pT := by
  unfold aP pcT pcA at h ⊢
  simp only [c19, c21, c22, c 28 (by decide), c 29 (by decide), c 54 (by decide), c 65 (by decide), c 90 (by decide), c 91 (by decide), c 93 (by decide), c 94 (by decide)]
  exact h
theorem rCp.mv' (h : rCp σ) (c : ∀ a, (a = 9 ∨ (20 ≤ a ∧ a ≤ 22) ∨ a = 28 ∨ a = 29 ∨ a = 54 ∨ a = 55 ∨ a = 62 ∨ a = 65 ∨ a = 66) → S a = σ a) (c10 : S 52 10 = σ 52 10) (c12 : S 52 12 = σ 52 12) : rCp S := by
  unfold rCp cpC cp2 at h ⊢
  simp only [c10, c12, c 9 (by decide), c 20 (by decide), c 21 (by decide), c 22 (by decide), c 28 (by decide), c 29 (by decide), c 54 (by decide), c 55 (by decide), c 62 (by decide), c 65 (by decide), c 66 (by decide)]
  exact h
/-- what a node's change changes -/
def chC (σ S : gM) (n : Int) : Prop := (∀ a i, a ≠ 12 → a ≠ 32 → a ≠ 34 → a ≠ 59 → a ≠ 61 → a ≠ 87 → a ≠ 91 → (a < 93 ∨ 96 < a) → S a i = σ a i) ∧ (S 12 n = w32 (σ 12 n + 1) ∧ ∀ i, i ≠ n → S 12 i = σ 12 i) ∧ (∀ i, i ≠ 22 → i ≠ 36 → i ≠ 38 → S 87 i = σ 87 i) ∧ ∀ i, S 61 i = σ 61 i ∨ S 61 i = 0
def chM (τ T : gM) (n r : Int) : Prop := (∀ a i, a ≠ 119 → (a < 163 ∨ 164 < a) → a ≠ 166 → a ≠ 180 → a ≠ 201 → a ≠ 203 → (a < 209 ∨ 211 < a) → a ≠ 214 → a ≠ 224 → T a i = τ a i) ∧ (T 180 n = w32 (τ 180 n + 1) ∧ ∀ i, i ≠ n → T 180 i = τ 180 i) ∧ (T 166 r = w32 (τ 166 r + 1) ∧ ∀ i, i ≠ r → T 166 i = τ 166 i) ∧ (∀ i, i ≠ 123 → T 119 i = τ 119 i) ∧ ∀ i, i ≠ 9 → i ≠ 11 → T 224 i = τ 224 i
/-- the activations' side of a run -/
def aA (σ τ : gM) (pT : Int → Int) : Prop := rBk σ τ ∧ aR σ τ ∧ rCp σ ∧ aP σ pT ∧ rTo σ τ ∧ (1 ≤ σ 87 19 ∧ σ 87 21 = σ 87 19 - 1) ∧ τ 119 123 + ccN σ (σ 87 19).toNat ≤ 2146000000
/-- a node has changed, the frame being left already -/
theorem chg_b47 (h : aA σ τ pT) (hn : 0 ≤ n ∧ n < 16000) (hr : τ 174 n = σ 90 (σ 87 21)) : ∃ S T, mc_changed_b47 σ n = some (S, 0) ∧ md_changing_b52 τ n = some (T, 0) ∧ aA S T pT ∧ (∀ c, 0 ≤ c → c < S 52 10 → S 61 c ≠ 0 → ∀ u, 0 ≤ u → u < S 55 c → S 62 (S 54 c + u) ≠ σ 90 (σ 87 21)) ∧
    (∀ a i, a ≠ 12 → a ≠ 32 → a ≠ 34 → a ≠ 61 → a ≠ 87 → S a i = σ a i) ∧ (S 12 n = w32 (σ 12 n + 1) ∧ ∀ i, i ≠ n → S 12 i = σ 12 i) ∧ (∀ i, i ≠ 36 → S 87 i = σ 87 i) ∧ (∀ i, S 61 i = σ 61 i ∨ S 61 i = 0) ∧
    (∀ a i, (a < 163 ∨ 164 < a) → a ≠ 166 → a ≠ 180 → a ≠ 203 → a ≠ 224 → T a i = τ a i) ∧ (T 180 n = w32 (τ 180 n + 1) ∧ ∀ i, i ≠ n → T 180 i = τ 180 i) ∧ (T 166 (σ 90 (σ 87 21)) = w32 (τ 166 (σ 90 (σ 87 21)) + 1) ∧ ∀ i, i ≠ σ 90 (σ 87 21) → T 166 i = τ 166 i) ∧ ∀ i, i ≠ 9 → T 224 i = τ 224 i := by
  obtain ⟨hb, ha, hcp, hap, ht, ⟨hm, hc⟩, hf⟩ := h
  have m59 := ha.1
  have r1 := (ha.2.2 (σ 87 21) (by omega) (by omega)).2.1
  have r60 := hb.1.1
  have cu : 0 ≤ σ 87 21 ∧ σ 87 21 < 60 := by omega
  have n2 : 0 ≤ n ∧ n < 20000 := by omega
  have rr : 0 ≤ σ 90 (σ 87 21) ∧ σ 90 (σ 87 21) < 60 := by omega
  rw [mc_changed_b47_e, md_changing_b52_e, hr]
  simp only [hn, n2, cu, rr, and_self, if_true, if_pos (show (0 : Int) ≤ 9 ∧ (9 : Int) < 16 by decide)]
  generalize eσ : gW (gW σ 12 n (w32 (σ 12 n + 1))) 87 36 (w32 (σ 87 36 + 1)) = σ1
  generalize eτ : gW (gW (gW τ 180 n (w32 (τ 180 n + 1))) 166 (σ 90 (σ 87 21)) (w32 (τ 166 (σ 90 (σ 87 21)) + 1))) 224 9 (w32 (τ 224 9 + 1)) = τ1
  have u1 : ∀ a, a ≠ 12 → a ≠ 87 → σ1 a = σ a := fun a q1 q2 => by rw [← eσ, gW_cell q2, gW_cell q1]
  have u12 : σ1 12 n = w32 (σ 12 n + 1) ∧ ∀ i, i ≠ n → σ1 12 i = σ 12 i := by
    rw [← eσ]
    exact ⟨by rw [gW_c (by decide), gW_at], fun i q => by rw [gW_c (by decide), gW_i q]⟩
  have u87 : σ1 87 36 = w32 (σ 87 36 + 1) ∧ ∀ i, i ≠ 36 → σ1 87 i = σ 87 i := by
    rw [← eσ]
    exact ⟨by rw [gW_at], fun i q => by rw [gW_i q, gW_c (by decide)]⟩
  have w1 : ∀ a, a ≠ 180 → a ≠ 166 → a ≠ 224 → τ1 a = τ a := fun a q1 q2 q3 => by rw [← eτ, gW_cell q3, gW_cell q2, gW_cell q1]
  have w180 : τ1 180 n = w32 (τ 180 n + 1) ∧ ∀ i, i ≠ n → τ1 180 i = τ 180 i := by
    rw [← eτ]
    exact ⟨by rw [gW_c (by decide), gW_c (by decide), gW_at], fun i q => by rw [gW_c (by decide), gW_c (by decide), gW_i q]⟩
  have w166 : τ1 166 (σ 90 (σ 87 21)) = w32 (τ 166 (σ 90 (σ 87 21)) + 1) ∧ ∀ i, i ≠ σ 90 (σ 87 21) → τ1 166 i = τ 166 i := by
    rw [← eτ]
    exact ⟨by rw [gW_c (by decide), gW_at], fun i q => by rw [gW_c (by decide), gW_i q, gW_c (by decide)]⟩
  have w224 : τ1 224 9 = w32 (τ 224 9 + 1) ∧ ∀ i, i ≠ 9 → τ1 224 i = τ 224 i := by
    rw [← eτ]
    exact ⟨by rw [gW_at], fun i q => by rw [gW_i q, gW_c (by decide), gW_c (by decide)]⟩
  clear eσ eτ
  have hb1 : rBk σ1 τ1 := hb.up (fun a q => u1 a (by omega) (by omega)) (by rw [u1 8 (by decide) (by decide)]) (by rw [u1 52 (by decide) (by decide)]) (by rw [u1 52 (by decide) (by decide)]) (fun a q => w1 a (by omega) (by omega) (by omega)) (by rw [w1 119 (by decide) (by decide) (by decide)]) (by rw [w1 119 (by decide) (by decide) (by decide)]) fun i i0 i1 => by
    rw [w1 200 (by decide) (by decide) (by decide), w1 201 (by decide) (by decide) (by decide), w1 202 (by decide) (by decide) (by decide), u1 58 (by decide) (by decide), u1 59 (by decide) (by decide), u1 60 (by decide) (by decide)]
    have g := hb.2.2.2 i i0 i1
    exact ⟨g.2.2.2.2.1, g.2.2.2.2.2.1, g.2.2.2.2.2.2.1⟩
  have c10 := hb1.2.1
  obtain ⟨S, T, e1, e2, b2, f1, f2, f3⟩ := cd_changed_s (r := σ 90 (σ 87 21)) (σ1 52 10).toNat σ1 τ1 0 hb1 (by decide) (by omega)
  obtain ⟨S', e3, -, -, f4⟩ := chg_no (r := σ 90 (σ 87 21)) (σ1 52 10).toNat σ1 0 hb1.co (by decide) (by omega)
  rw [e1] at e3
  have : S' = S := by
    have := Option.some.inj e3
    exact (congrArg Prod.fst this).symm
  rw [this] at f4
  have k1 : ∀ a, a ≠ 32 → a ≠ 34 → a ≠ 61 → S a = σ1 a := fun a q1 q2 q3 => funext fun i => f1 a i q1 q2 q3
  have k2 : ∀ a, a ≠ 163 → a ≠ 164 → a ≠ 203 → T a = τ1 a := fun a q1 q2 q3 => funext fun i => f2 a i q1 q2 q3
  have kS : ∀ a, a ≠ 12 → a ≠ 32 → a ≠ 34 → a ≠ 61 → a ≠ 87 → S a = σ a := fun a q1 q2 q3 q4 q5 => by rw [k1 a q2 q3 q4, u1 a q1 q5]
  have kT : ∀ a, (a < 163 ∨ 164 < a) → a ≠ 166 → a ≠ 180 → a ≠ 203 → a ≠ 224 → T a = τ a := fun a q1 q2 q3 q4 q5 => by rw [k2 a (by omega) (by omega) q4, w1 a q3 q2 q5]
  have s87 : ∀ i, i ≠ 36 → S 87 i = σ 87 i := fun i q => by rw [k1 87 (by decide) (by decide) (by decide), u87.2 i q]
  have t224 : ∀ i, i ≠ 9 → T 224 i = τ 224 i := fun i q => by rw [k2 224 (by decide) (by decide) (by decide), w224.2 i q]
  refine ⟨S, T, ?_, ?_, ⟨b2, ha.mv (fun a q => kS a (by omega) (by omega) (by omega) (by omega) (by omega)) (s87 19 (by decide)) (by rw [kS 8 (by decide) (by decide) (by decide) (by decide) (by decide)]) (by rw [kS 52 (by decide) (by decide) (by decide) (by decide) (by decide)]) (fun a q => kT a (by omega) (by omega) (by omega) (by omega) (by omega)) (by rw [kT 119 (by decide) (by decide) (by decide) (by decide) (by decide)]) (by rw [kT 119 (by decide) (by decide) (by decide) (by decide) (by decide)]), hcp.mv' (fun a q => kS a (by omega) (by omega) (by omega) (by omega) (by omega)) (by rw [kS 52 (by decide) (by decide) (by decide) (by decide) (by decide)]) (by rw [kS 52 (by decide) (by decide) (by decide) (by decide) (by decide)]), hap.mv (fun a q => kS a (by omega) (by omega) (by omega) (by omega) (by omega)) (s87 19 (by decide)) (s87 21 (by decide)) (s87 22 (by decide)), ?_, by rw [s87 19 (by decide), s87 21 (by decide)]; exact ⟨hm, hc⟩, by rw [kT 119 (by decide) (by decide) (by decide) (by decide) (by decide), s87 19 (by decide), ccN_eq (S := S) (σ := σ) _ fun j _ _ => by rw [kS 93 (by decide) (by decide) (by decide) (by decide) (by decide)]]; exact hf⟩, ?_, fun a i q1 q2 q3 q4 q5 => by rw [kS a q1 q2 q3 q4 q5], ?_, s87, fun i => ?_, fun a i q1 q2 q3 q4 q5 => by rw [kT a q1 q2 q3 q4 q5], ?_, ?_, t224⟩
  · rw [cd_changed_e, e1]; rfl
  · rw [md_endCodesOfRoot_e, e2]; rfl
  · unfold rTo at ht ⊢
    rw [k2 224 (by decide) (by decide) (by decide), k1 87 (by decide) (by decide) (by decide), w224.1, w224.2 10 (by decide), w224.2 11 (by decide), w224.2 12 (by decide), w224.2 13 (by decide), w224.2 14 (by decide), w224.2 15 (by decide), u87.1, u87.2 37 (by decide), u87.2 38 (by decide), u87.2 39 (by decide), u87.2 40 (by decide), u87.2 41 (by decide), u87.2 42 (by decide), ht.1]
    exact ⟨rfl, ht.2⟩
  · intro k q0 q1 q2 u u0 u1'
    rw [k1 52 (by decide) (by decide) (by decide)] at q1
    rw [k1 55 (by decide) (by decide) (by decide)] at u1'
    rw [k1 62 (by decide) (by decide) (by decide), k1 54 (by decide) (by decide) (by decide)]
    exact f4 k q0 q1 q2 u u0 u1'
  · rw [k1 12 (by decide) (by decide) (by decide)]; exact u12
  · have := f3 i
    rw [u1 61 (by decide) (by decide)] at this
    exact this
  · rw [k2 180 (by decide) (by decide) (by decide)]; exact w180
  · rw [k2 166 (by decide) (by decide) (by decide)]; exact w166
/-- a frame is left: what stays of the activations' side -/
theorem aA.lv {f : Int} (h : aA σ τ pT) (l1 : lvC σ S f) (l2 : lvM τ T f) (a1 : aR S T) (a2 : aP S pT) (fb : T 119 123 + ccN S (σ 87 19).toNat = τ 119 123 + ccN σ (σ 87 19).toNat) : aA S T pT := by
  obtain ⟨hb, ha, hcp, hap, ht, ⟨hm, hc⟩, hf⟩ := h
  obtain ⟨v1, v2, -⟩ := l1
  obtain ⟨w1, w2, -⟩ := l2
  have k1 : ∀ a, a ≠ 87 → a ≠ 91 → (a < 93 ∨ 96 < a) → S a = σ a := fun a q1 q2 q3 => funext fun i => v1 a i q1 q2 q3
  have k2 : ∀ a, a ≠ 119 → (a < 209 ∨ 211 < a) → a ≠ 214 → T a = τ a := fun a q1 q2 q3 => funext fun i => w1 a i q1 q2 q3
  refine ⟨hb.up (fun a q => k1 a (by omega) (by omega) (by omega)) (by rw [k1 8 (by decide) (by decide) (by decide)]) (by rw [k1 52 (by decide) (by decide) (by decide)]) (by rw [k1 52 (by decide) (by decide) (by decide)]) (fun a q => k2 a (by omega) (by omega) (by omega)) (w2 55 (by decide)) (w2 104 (by decide)) fun i i0 i1 => ?_, a1, hcp.mv' (fun a q => k1 a (by omega) (by omega) (by omega)) (by rw [k1 52 (by decide) (by decide) (by decide)]) (by rw [k1 52 (by decide) (by decide) (by decide)]), a2, ?_, by rw [v2 19 (by decide), v2 21 (by decide)]; exact ⟨hm, hc⟩, by rw [v2 19 (by decide)]; omega⟩
  · rw [k2 200 (by decide) (by decide) (by decide), k2 201 (by decide) (by decide) (by decide), k2 202 (by decide) (by decide) (by decide), k1 58 (by decide) (by decide) (by decide), k1 59 (by decide) (by decide) (by decide), k1 60 (by decide) (by decide) (by decide)]
    have g := hb.2.2.2 i i0 i1
    exact ⟨g.2.2.2.2.1, g.2.2.2.2.2.1, g.2.2.2.2.2.2.1⟩
  · unfold rTo at ht ⊢
    rw [k2 224 (by decide) (by decide) (by decide), v2 36 (by decide), v2 37 (by decide), v2 38 (by decide), v2 39 (by decide), v2 40 (by decide), v2 41 (by decide), v2 42 (by decide)]
    exact ht
theorem lv_cc {f : Int} (m0 : 0 ≤ σ 87 19) (e : τ 119 121 = σ 87 19) (l1 : lvC σ S f) (l2 : lvM τ T f) (hf : 0 ≤ f ∧ f < σ 87 19) (hj : ∀ j, f ≤ j → j < σ 87 19 → 0 ≤ σ 93 j) : T 119 123 + ccN S (σ 87 19).toNat = τ 119 123 + ccN σ (σ 87 19).toNat := by
  obtain ⟨-, -, v3, v4, -⟩ := l1
  obtain ⟨-, -, -, -, w5⟩ := l2
  have := ccN_lv (S := S) (σ := σ) hf.1 (σ 87 19).toNat (by omega) (fun j q1 q2 => v3 93 j (by decide) (Or.inl q2)) (fun j q1 q2 => ⟨hj j q1 (by omega), (v4 j q1 (by omega)).1⟩)
  omega
theorem aA.cc (h : aA σ τ pT) : τ 119 123 ≤ 2147000000 := by
  have := h.2.2.2.2.2.2
  have := ccN_rg (σ := σ) (σ 87 19).toNat
  omega
/-- a node of the newest activation changes -/
theorem changed_pair (h : aA σ τ pT) (hn : 0 ≤ n ∧ n < 16000) (hr : τ 174 n = σ 90 (σ 87 21)) : ∃ S T, mc_changed σ n = some (S, 0) ∧ md_changing τ n = some (T, 0) ∧ aA S T pT ∧ (∀ c, 0 ≤ c → c < S 52 10 → S 61 c ≠ 0 → ∀ u, 0 ≤ u → u < S 55 c → S 62 (S 54 c + u) ≠ σ 90 (σ 87 21)) ∧ chC σ S n ∧ chM τ T n (σ 90 (σ 87 21)) ∧ S 93 (σ 87 21) = -1 ∧ T 119 123 + ccN S (σ 87 19).toNat = τ 119 123 + ccN σ (σ 87 19).toNat := by
  have hA := h
  obtain ⟨hb, ha, hcp, hap, ht, ⟨hm, hc⟩, hf⟩ := h
  have m59 := ha.1
  have cu : 0 ≤ σ 87 21 ∧ σ 87 21 < 60 := by omega
  obtain ⟨a1, a2, a3, -⟩ := ha.2.2 (σ 87 21) (by omega) (by omega)
  have c100 := hb.2.1
  rw [mc_changed_e, md_changing_e, w32_e (x := τ 119 121 - 1) (by omega) (by omega), show τ 119 121 - 1 = σ 87 21 by omega, a1.2.1]
  by_cases z : σ 93 (σ 87 21) < 0
  · simp only [cu, and_self, if_true, if_pos z]
    obtain ⟨S, T, e1, e2, e3, e4, b1, b2, b3, b4, d1, d2, d3, d4⟩ := chg_b47 hA hn hr
    refine ⟨S, T, e1, e2, e3, e4, ⟨fun a i q1 q2 q3 q4 q5 q6 q7 q8 => b1 a i q1 q2 q3 q5 q6, b2, fun i q1 q2 q3 => b3 i q2, b4⟩, ⟨fun a i q1 q2 q3 q4 q5 q6 q7 q8 q9 => d1 a i q2 q3 q4 q6 q9, d2, d3, fun i q => d1 119 i (by decide) (by decide) (by decide) (by decide) (by decide), fun i q1 q2 => d4 i q1⟩, ?_, ?_⟩
    · rw [b1 93 _ (by decide) (by decide) (by decide) (by decide) (by decide)]
      rcases a3 with y | y
      · exact y.1
      · omega
    · rw [d1 119 123 (by decide) (by decide) (by decide) (by decide) (by decide), ccN_eq (S := S) (σ := σ) _ fun j _ _ => b1 93 j (by decide) (by decide) (by decide) (by decide) (by decide)]
  · have cb : 0 ≤ σ 93 (σ 87 21) ∧ σ 93 (σ 87 21) < 100 := by
      rcases a3 with y | y
      · omega
      · omega
    simp only [cu, cb, and_self, if_true, if_neg z, if_pos (show (0 : Int) ≤ 11 ∧ (11 : Int) < 16 by decide)]
    generalize eσ : gW (gW σ 87 38 (w32 (σ 87 38 + 1))) 59 (σ 93 (σ 87 21)) (w32 (σ 59 (σ 93 (σ 87 21)) + 1)) = σ1
    generalize eτ : gW (gW τ 201 (σ 93 (σ 87 21)) (w32 (τ 201 (σ 93 (σ 87 21)) + 1))) 224 11 (w32 (τ 224 11 + 1)) = τ1
    have u1 : ∀ a, a ≠ 59 → a ≠ 87 → σ1 a = σ a := fun a q1 q2 => by rw [← eσ, gW_cell q1, gW_cell q2]
    have u59 : ∀ i, σ1 59 i = if i = σ 93 (σ 87 21) then w32 (σ 59 (σ 93 (σ 87 21)) + 1) else σ 59 i := fun i => by rw [← eσ, gW_if, gW_c (by decide)]
    have u87 : σ1 87 38 = w32 (σ 87 38 + 1) ∧ ∀ i, i ≠ 38 → σ1 87 i = σ 87 i := by
      rw [← eσ]
      exact ⟨by rw [gW_c (by decide), gW_at], fun i q => by rw [gW_c (by decide), gW_i q]⟩
    have w1 : ∀ a, a ≠ 201 → a ≠ 224 → τ1 a = τ a := fun a q1 q2 => by rw [← eτ, gW_cell q2, gW_cell q1]
    have w201 : ∀ i, τ1 201 i = if i = σ 93 (σ 87 21) then w32 (τ 201 (σ 93 (σ 87 21)) + 1) else τ 201 i := fun i => by rw [← eτ, gW_c (by decide), gW_if]
    have w224 : τ1 224 11 = w32 (τ 224 11 + 1) ∧ ∀ i, i ≠ 11 → τ1 224 i = τ 224 i := by
      rw [← eτ]
      exact ⟨by rw [gW_at], fun i q => by rw [gW_i q, gW_c (by decide)]⟩
    clear eσ eτ
    have u87' := u87.2
    have A1 : aA σ1 τ1 pT := by
      refine ⟨hb.up (fun a q => u1 a (by omega) (by omega)) (by rw [u1 8 (by decide) (by decide)]) (by rw [u1 52 (by decide) (by decide)]) (by rw [u1 52 (by decide) (by decide)]) (fun a q => w1 a (by omega) (by omega)) (by rw [w1 119 (by decide) (by decide)]) (by rw [w1 119 (by decide) (by decide)]) fun i i0 i1 => ?_, ha.mv (fun a q => u1 a (by omega) (by omega)) (u87' 19 (by decide)) (by rw [u1 8 (by decide) (by decide)]) (by rw [u1 52 (by decide) (by decide)]) (fun a q => w1 a (by omega) (by omega)) (by rw [w1 119 (by decide) (by decide)]) (by rw [w1 119 (by decide) (by decide)]), hcp.mv' (fun a q => u1 a (by omega) (by omega)) (by rw [u1 52 (by decide) (by decide)]) (by rw [u1 52 (by decide) (by decide)]), hap.mv (fun a q => u1 a (by omega) (by omega)) (u87' 19 (by decide)) (u87' 21 (by decide)) (u87' 22 (by decide)), ?_, by rw [u87' 19 (by decide), u87' 21 (by decide)]; exact ⟨hm, hc⟩, by rw [w1 119 (by decide) (by decide), u87' 19 (by decide), ccN_eq (S := σ1) (σ := σ) _ fun j _ _ => by rw [u1 93 (by decide) (by decide)]]; exact hf⟩
      · rw [w1 200 (by decide) (by decide), w1 202 (by decide) (by decide), u1 58 (by decide) (by decide), u1 60 (by decide) (by decide), w201, u59]
        have g := hb.2.2.2 i i0 i1
        refine ⟨g.2.2.2.2.1, ?_, g.2.2.2.2.2.2.1⟩
        by_cases y : i = σ 93 (σ 87 21)
        · rw [if_pos y, if_pos y, ← y, g.2.2.2.2.2.1]
        · rw [if_neg y, if_neg y, g.2.2.2.2.2.1]
      · unfold rTo at ht ⊢
        rw [w224.1, w224.2 9 (by decide), w224.2 10 (by decide), w224.2 12 (by decide), w224.2 13 (by decide), w224.2 14 (by decide), w224.2 15 (by decide), u87.1, u87' 36 (by decide), u87' 37 (by decide), u87' 39 (by decide), u87' 40 (by decide), u87' 41 (by decide), u87' 42 (by decide), ht.2.2.1]
        exact ⟨ht.1, ht.2.1, rfl, ht.2.2.2⟩
    obtain ⟨S1, T1, f, e1, e2, l1, l2, r1, r2, r3, r4⟩ := leave_pair A1.2.1 A1.2.2.1 (by rw [u1 52 (by decide) (by decide)]; exact c100.2.1) A1.2.2.2.1 A1.2.2.2.2.2.1.1 A1.2.2.2.2.2.1.2 (by rw [u87' 21 (by decide), u1 93 (by decide) (by decide)]; omega) A1.cc
    have cc := lv_cc A1.2.1.1.1 A1.2.1.1.2.2 l1 l2 r3 r4
    have A2 := A1.lv l1 l2 r1 r2 cc
    rw [u87' 21 (by decide), w1 211 (by decide) (by decide)] at e2
    rw [e1, e2]
    simp only [Option.bind_some]
    obtain ⟨v1, v2, v3, v4, -⟩ := l1
    obtain ⟨x1, x2, -⟩ := l2
    rw [u87' 19 (by decide)] at r3 r4 v4 cc
    have s21 : S1 87 21 = σ 87 21 := by rw [v2 21 (by decide), u87' 21 (by decide)]
    have s90 : S1 90 = σ 90 := funext fun i => by rw [v1 90 i (by decide) (by decide) (by decide), u1 90 (by decide) (by decide)]
    obtain ⟨S, T, i1, i2, i3, i4, b1, b2, b3, b4, d1, d2, d3, d4⟩ := chg_b47 (n := n) A2 hn (by rw [x1 174 n (by decide) (by decide) (by decide), w1 174 (by decide) (by decide), s21, s90]; exact hr)
    rw [s21, s90] at i4 d3
    have S12 : ∀ i, S1 12 i = σ 12 i := fun i => by rw [v1 12 i (by decide) (by decide) (by decide), u1 12 (by decide) (by decide)]
    have S61 : ∀ i, S1 61 i = σ 61 i := fun i => by rw [v1 61 i (by decide) (by decide) (by decide), u1 61 (by decide) (by decide)]
    have T180 : ∀ i, T1 180 i = τ 180 i := fun i => by rw [x1 180 i (by decide) (by decide) (by decide), w1 180 (by decide) (by decide)]
    have T166 : ∀ i, T1 166 i = τ 166 i := fun i => by rw [x1 166 i (by decide) (by decide) (by decide), w1 166 (by decide) (by decide)]
    simp only [S12, S61, T180, T166] at b2 b4 d2 d3
    refine ⟨S, T, i1, i2, i3, i4, ⟨fun a i q1 q2 q3 q4 q5 q6 q7 q8 => ?_, b2, fun i q1 q2 q3 => ?_, b4⟩, ⟨fun a i q1 q2 q3 q4 q5 q6 q7 q8 q9 => ?_, d2, d3, fun i q => ?_, fun i q1 q2 => ?_⟩, ?_, ?_⟩
    · rw [b1 a i q1 q2 q3 q5 q6, v1 a i q6 q7 q8, u1 a q4 q6]
    · rw [b3 i q2, v2 i q1, u87' i q3]
    · rw [d1 a i q2 q3 q4 q6 q9, x1 a i q1 q7 q8, w1 a q5 q9]
    · rw [d1 119 i (by decide) (by decide) (by decide) (by decide) (by decide), x2 i q, w1 119 (by decide) (by decide)]
    · rw [d4 i q1, x1 224 i (by decide) (by decide) (by decide), w224.2 i q2]
    · rw [b1 93 _ (by decide) (by decide) (by decide) (by decide) (by decide)]
      exact (v4 _ (by omega) (by omega)).1
    · rw [d1 119 123 (by decide) (by decide) (by decide) (by decide) (by decide), ccN_eq (S := S) (σ := S1) _ fun j _ _ => b1 93 j (by decide) (by decide) (by decide) (by decide) (by decide), cc, w1 119 (by decide) (by decide), ccN_eq (S := σ1) (σ := σ) _ fun j _ _ => by rw [u1 93 (by decide) (by decide)]]
/-- what a fall changes -/
def flC (σ S : gM) : Prop := (∀ a i, a ≠ 60 → a ≠ 87 → a ≠ 91 → (a < 93 ∨ 96 < a) → S a i = σ a i) ∧ ∀ i, i ≠ 22 → i ≠ 39 → S 87 i = σ 87 i
def flM (τ T : gM) : Prop := (∀ a i, a ≠ 119 → a ≠ 202 → (a < 209 ∨ 211 < a) → a ≠ 214 → a ≠ 224 → T a i = τ a i) ∧ (∀ i, i ≠ 123 → T 119 i = τ 119 i) ∧ ∀ i, i ≠ 12 → T 224 i = τ 224 i
/-- the newest frame falls out of a code that is not valid -/
theorem falls_pair (h : aA σ τ pT) : ∃ S T, mc_falls σ = some (S, 0) ∧ md_falls τ = some (T, 0) ∧ aA S T pT ∧ flC σ S ∧ flM τ T ∧ ((S = σ ∧ T = τ ∧ (0 ≤ σ 93 (σ 87 21) → σ 61 (σ 93 (σ 87 21)) = 1)) ∨ S 93 (σ 87 21) = -1) ∧ T 119 123 + ccN S (σ 87 19).toNat = τ 119 123 + ccN σ (σ 87 19).toNat := by
  have hA := h
  obtain ⟨hb, ha, hcp, hap, ht, ⟨hm, hc⟩, hf⟩ := h
  have m59 := ha.1
  have cu : 0 ≤ σ 87 21 ∧ σ 87 21 < 60 := by omega
  obtain ⟨a1, a2, a3, -⟩ := ha.2.2 (σ 87 21) (by omega) (by omega)
  have c100 := hb.2.1
  rw [mc_falls_e, md_falls_e, w32_e (x := τ 119 121 - 1) (by omega) (by omega), show τ 119 121 - 1 = σ 87 21 by omega, a1.2.1]
  by_cases z : σ 93 (σ 87 21) < 0
  · simp only [cu, and_self, if_true, if_pos z]
    exact ⟨σ, τ, rfl, rfl, hA, ⟨fun _ _ _ _ _ _ => rfl, fun _ _ _ => rfl⟩, ⟨fun _ _ _ _ _ _ _ => rfl, fun _ _ => rfl, fun _ _ => rfl⟩, Or.inl ⟨rfl, rfl, fun q => by omega⟩, rfl⟩
  · have ci : σ 93 (σ 87 21) < σ 52 10 := by
      rcases a3 with y | y
      · omega
      · omega
    have cb : 0 ≤ σ 93 (σ 87 21) ∧ σ 93 (σ 87 21) < 100 := by omega
    have g8 := (hb.2.2.2 _ cb.1 ci).2.2.2.2.2.2.2.1
    rw [g8.1]
    by_cases v : ¬ σ 61 (σ 93 (σ 87 21)) = 0
    · simp only [cu, cb, and_self, if_true, if_neg z, if_neg v]
      exact ⟨σ, τ, rfl, rfl, hA, ⟨fun _ _ _ _ _ _ => rfl, fun _ _ _ => rfl⟩, ⟨fun _ _ _ _ _ _ _ => rfl, fun _ _ => rfl, fun _ _ => rfl⟩, Or.inl ⟨rfl, rfl, fun q => by omega⟩, rfl⟩
    have v : σ 61 (σ 93 (σ 87 21)) = 0 := by omega
    simp only [cu, cb, and_self, if_true, if_neg z, if_pos v, if_pos (show (0 : Int) ≤ 12 ∧ (12 : Int) < 16 by decide)]
    generalize eσ : gW (gW σ 87 39 (w32 (σ 87 39 + 1))) 60 (σ 93 (σ 87 21)) (w32 (σ 60 (σ 93 (σ 87 21)) + 1)) = σ1
    generalize eτ : gW (gW τ 202 (σ 93 (σ 87 21)) (w32 (τ 202 (σ 93 (σ 87 21)) + 1))) 224 12 (w32 (τ 224 12 + 1)) = τ1
    have u1 : ∀ a, a ≠ 60 → a ≠ 87 → σ1 a = σ a := fun a q1 q2 => by rw [← eσ, gW_cell q1, gW_cell q2]
    have u60 : ∀ i, σ1 60 i = if i = σ 93 (σ 87 21) then w32 (σ 60 (σ 93 (σ 87 21)) + 1) else σ 60 i := fun i => by rw [← eσ, gW_if, gW_c (by decide)]
    have u87 : σ1 87 39 = w32 (σ 87 39 + 1) ∧ ∀ i, i ≠ 39 → σ1 87 i = σ 87 i := by
      rw [← eσ]
      exact ⟨by rw [gW_c (by decide), gW_at], fun i q => by rw [gW_c (by decide), gW_i q]⟩
    have w1 : ∀ a, a ≠ 202 → a ≠ 224 → τ1 a = τ a := fun a q1 q2 => by rw [← eτ, gW_cell q2, gW_cell q1]
    have w202 : ∀ i, τ1 202 i = if i = σ 93 (σ 87 21) then w32 (τ 202 (σ 93 (σ 87 21)) + 1) else τ 202 i := fun i => by rw [← eτ, gW_c (by decide), gW_if]
    have w224 : τ1 224 12 = w32 (τ 224 12 + 1) ∧ ∀ i, i ≠ 12 → τ1 224 i = τ 224 i := by
      rw [← eτ]
      exact ⟨by rw [gW_at], fun i q => by rw [gW_i q, gW_c (by decide)]⟩
    clear eσ eτ
    have u87' := u87.2
    have A1 : aA σ1 τ1 pT := by
      refine ⟨hb.up (fun a q => u1 a (by omega) (by omega)) (by rw [u1 8 (by decide) (by decide)]) (by rw [u1 52 (by decide) (by decide)]) (by rw [u1 52 (by decide) (by decide)]) (fun a q => w1 a (by omega) (by omega)) (by rw [w1 119 (by decide) (by decide)]) (by rw [w1 119 (by decide) (by decide)]) fun i i0 i1 => ?_, ha.mv (fun a q => u1 a (by omega) (by omega)) (u87' 19 (by decide)) (by rw [u1 8 (by decide) (by decide)]) (by rw [u1 52 (by decide) (by decide)]) (fun a q => w1 a (by omega) (by omega)) (by rw [w1 119 (by decide) (by decide)]) (by rw [w1 119 (by decide) (by decide)]), hcp.mv' (fun a q => u1 a (by omega) (by omega)) (by rw [u1 52 (by decide) (by decide)]) (by rw [u1 52 (by decide) (by decide)]), hap.mv (fun a q => u1 a (by omega) (by omega)) (u87' 19 (by decide)) (u87' 21 (by decide)) (u87' 22 (by decide)), ?_, by rw [u87' 19 (by decide), u87' 21 (by decide)]; exact ⟨hm, hc⟩, by rw [w1 119 (by decide) (by decide), u87' 19 (by decide), ccN_eq (S := σ1) (σ := σ) _ fun j _ _ => by rw [u1 93 (by decide) (by decide)]]; exact hf⟩
      · rw [w1 200 (by decide) (by decide), w1 201 (by decide) (by decide), u1 58 (by decide) (by decide), u1 59 (by decide) (by decide), w202, u60]
        have g := hb.2.2.2 i i0 i1
        refine ⟨g.2.2.2.2.1, g.2.2.2.2.2.1, ?_⟩
        by_cases y : i = σ 93 (σ 87 21)
        · rw [if_pos y, if_pos y, ← y, g.2.2.2.2.2.2.1]
        · rw [if_neg y, if_neg y, g.2.2.2.2.2.2.1]
      · unfold rTo at ht ⊢
        rw [w224.1, w224.2 9 (by decide), w224.2 10 (by decide), w224.2 11 (by decide), w224.2 13 (by decide), w224.2 14 (by decide), w224.2 15 (by decide), u87.1, u87' 36 (by decide), u87' 37 (by decide), u87' 38 (by decide), u87' 40 (by decide), u87' 41 (by decide), u87' 42 (by decide), ht.2.2.2.1]
        exact ⟨ht.1, ht.2.1, ht.2.2.1, rfl, ht.2.2.2.2⟩
    obtain ⟨S1, T1, f, e1, e2, l1, l2, r1, r2, r3, r4⟩ := leave_pair A1.2.1 A1.2.2.1 (by rw [u1 52 (by decide) (by decide)]; exact c100.2.1) A1.2.2.2.1 A1.2.2.2.2.2.1.1 A1.2.2.2.2.2.1.2 (by rw [u87' 21 (by decide), u1 93 (by decide) (by decide)]; omega) A1.cc
    have cc := lv_cc A1.2.1.1.1 A1.2.1.1.2.2 l1 l2 r3 r4
    have A2 := A1.lv l1 l2 r1 r2 cc
    rw [u87' 21 (by decide), w1 211 (by decide) (by decide)] at e2
    rw [e1, e2]
    simp only [Option.bind_some]
    obtain ⟨v1, v2, v3, v4, -⟩ := l1
    obtain ⟨x1, x2, -⟩ := l2
    rw [u87' 19 (by decide)] at r3 r4 v4 cc
    refine ⟨S1, T1, rfl, rfl, A2, ⟨fun a i q1 q2 q3 q4 => ?_, fun i q1 q2 => ?_⟩, ⟨fun a i q1 q2 q3 q4 q5 => ?_, fun i q => ?_, fun i q => ?_⟩, Or.inr (v4 _ (by omega) (by omega)).1, ?_⟩
    · rw [v1 a i q2 q3 q4, u1 a q1 q2]
    · rw [v2 i q1, u87' i q2]
    · rw [x1 a i q1 q3 q4, w1 a q2 q5]
    · rw [x2 i q, w1 119 (by decide) (by decide)]
    · rw [x1 224 i (by decide) (by decide) (by decide), w224.2 i q]
    · rw [cc, w1 119 (by decide) (by decide), ccN_eq (S := σ1) (σ := σ) _ fun j _ _ => by rw [u1 93 (by decide) (by decide)]]
end CH
