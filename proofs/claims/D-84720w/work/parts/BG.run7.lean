/-! a node gets another state: both sides -/
section SE
variable {σ τ S T : gM} {pT : Int → Int} {n r v g : Int}
theorem aA.mv (h : aA σ τ pT) (c : ∀ a, (20 ≤ a ∧ a ≤ 22) ∨ a = 9 ∨ a = 24 ∨ a = 25 ∨ a = 28 ∨ a = 29 ∨ (32 ≤ a ∧ a ≤ 34) ∨ (53 ≤ a ∧ a ≤ 66) ∨ (90 ≤ a ∧ a ≤ 96) → S a = σ a) (c31 : S 8 31 = σ 8 31) (c52 : ∀ i, 10 ≤ i → i ≤ 12 → S 52 i = σ 52 i) (c87 : ∀ i, (19 ≤ i ∧ i ≤ 22) ∨ (36 ≤ i ∧ i ≤ 42) → S 87 i = σ 87 i) (d : ∀ a, a = 156 ∨ a = 157 ∨ (163 ≤ a ∧ a ≤ 165) ∨ (196 ≤ a ∧ a ≤ 206) ∨ (208 ≤ a ∧ a ≤ 211) ∨ a = 213 ∨ a = 214 ∨ a = 224 → T a = τ a) (d119 : ∀ i, i = 55 ∨ i = 104 ∨ i = 121 ∨ i = 123 → T 119 i = τ 119 i) : aA S T pT := by
  obtain ⟨hb, ha, hcp, hap, ht, ⟨hm, hc⟩, hf⟩ := h
  refine ⟨hb.up (fun a q => c a (by omega)) c31 (c52 10 (by decide) (by decide)) (c52 11 (by decide) (by decide)) (fun a q => d a (by omega)) (d119 55 (by decide)) (d119 104 (by decide)) fun i i0 i1 => ?_, ha.mv (fun a q => c a (by omega)) (c87 19 (by decide)) c31 (c52 10 (by decide) (by decide)) (fun a q => d a (by omega)) (d119 121 (by decide)) (d119 123 (by decide)), hcp.mv' (fun a q => c a (by omega)) (c52 10 (by decide) (by decide)) (c52 12 (by decide) (by decide)), hap.mv (fun a q => c a (by omega)) (c87 19 (by decide)) (c87 21 (by decide)) (c87 22 (by decide)), ?_, by rw [c87 19 (by decide), c87 21 (by decide)]; exact ⟨hm, hc⟩, by rw [d119 123 (by decide), c87 19 (by decide), ccN_eq (S := S) (σ := σ) _ fun j _ _ => by rw [c 93 (by decide)]]; exact hf⟩
  · rw [d 200 (by decide), d 201 (by decide), d 202 (by decide), c 58 (by decide), c 59 (by decide), c 60 (by decide)]
    have g := hb.2.2.2 i i0 i1
    exact ⟨g.2.2.2.2.1, g.2.2.2.2.2.1, g.2.2.2.2.2.2.1⟩
  · unfold rTo at ht ⊢
    rw [d 224 (by decide), c87 36 (by decide), c87 37 (by decide), c87 38 (by decide), c87 39 (by decide), c87 40 (by decide), c87 41 (by decide), c87 42 (by decide)]
    exact ht
/-- what a new state changes -/
def cgC (σ S : gM) (n v : Int) : Prop := (∀ a i, a ≠ 11 → a ≠ 12 → a ≠ 32 → a ≠ 34 → a ≠ 59 → a ≠ 61 → a ≠ 87 → a ≠ 91 → (a < 93 ∨ 96 < a) → S a i = σ a i) ∧ (S 11 n = v ∧ ∀ i, i ≠ n → S 11 i = σ 11 i) ∧ (S 12 n = w32 (σ 12 n + 1) ∧ ∀ i, i ≠ n → S 12 i = σ 12 i) ∧ (∀ i, i ≠ 22 → i ≠ 36 → i ≠ 38 → S 87 i = σ 87 i) ∧ ∀ i, S 61 i = σ 61 i ∨ S 61 i = 0
def cgM (τ T : gM) (n r v g : Int) : Prop := (∀ a i, a ≠ 119 → (a < 163 ∨ 164 < a) → a ≠ 166 → (a < 178 ∨ 180 < a) → a ≠ 201 → a ≠ 203 → (a < 209 ∨ 211 < a) → a ≠ 214 → a ≠ 224 → T a i = τ a i) ∧ (T 178 n = v ∧ ∀ i, i ≠ n → T 178 i = τ 178 i) ∧ (T 179 n = g ∧ ∀ i, i ≠ n → T 179 i = τ 179 i) ∧ (T 180 n = w32 (τ 180 n + 1) ∧ ∀ i, i ≠ n → T 180 i = τ 180 i) ∧ (T 166 r = w32 (τ 166 r + 1) ∧ ∀ i, i ≠ r → T 166 i = τ 166 i) ∧ (∀ i, i ≠ 123 → T 119 i = τ 119 i) ∧ ∀ i, i ≠ 9 → i ≠ 11 → T 224 i = τ 224 i
/-- no valid code has a root's nodes -/
def noV (S : gM) (r : Int) : Prop := ∀ c, 0 ≤ c → c < S 52 10 → S 61 c ≠ 0 → ∀ u, 0 ≤ u → u < S 55 c → S 62 (S 54 c + u) ≠ r
theorem settle_pair {b rep : Int} (A : aA σ τ pT) (hn : 0 ≤ n ∧ n < 16000) (hr : τ 174 n = σ 90 (σ 87 21)) (hv : v = if rep = 0 then i_or (τ 178 n) b else i_or (i_and (τ 178 n) (i_xor (w32 (b - 1)) (-1))) b) (hg : g = if rep = 0 then τ 179 n else i_or (τ 179 n) (w32 (b - 1))) :
    ∃ S T, mc_changes σ n v = some (S, 0) ∧ md_settle τ n b rep = some (T, 0) ∧ aA S T pT ∧ noV S (σ 90 (σ 87 21)) ∧ cgC σ S n v ∧ cgM τ T n (σ 90 (σ 87 21)) v g ∧ S 93 (σ 87 21) = -1 ∧ T 119 123 + ccN S (σ 87 19).toNat = τ 119 123 + ccN σ (σ 87 19).toNat := by
  have u1 : ∀ a, a ≠ 11 → gW σ 11 n v a = σ a := fun a q => gW_cell q
  have A1 : aA (gW σ 11 n v) τ pT := A.mv (fun a q => u1 a (by omega)) (by rw [u1 8 (by decide)]) (fun i _ _ => by rw [u1 52 (by decide)]) (fun i _ => by rw [u1 87 (by decide)]) (fun a _ => rfl) (fun i _ => rfl)
  obtain ⟨S, T, e1, e2, e3, e4, ⟨c1, c2, c3, c4⟩, ⟨d1, d2, d3, d4, d5⟩, e5, e6⟩ := changed_pair (n := n) A1 hn (by rw [u1 90 (by decide), u1 87 (by decide)]; exact hr)
  rw [u1 90 (by decide), u1 87 (by decide)] at e4 d3
  rw [u1 87 (by decide)] at e5 e6
  rw [u1 12 (by decide)] at c2
  rw [ccN_eq (S := gW σ 11 n v) (σ := σ) _ fun j _ _ => by rw [u1 93 (by decide)]] at e6
  have n2 : 0 ≤ n ∧ n < 20000 := by omega
  have s178 : T 178 n = τ 178 n := d1 178 n (by decide) (by decide) (by decide) (by decide) (by decide) (by decide) (by decide) (by decide) (by decide)
  have s179 : T 179 n = τ 179 n := d1 179 n (by decide) (by decide) (by decide) (by decide) (by decide) (by decide) (by decide) (by decide) (by decide)
  have cg : cgC σ S n v := ⟨fun a i q1 q2 q3 q4 q5 q6 q7 q8 q9 => by rw [c1 a i q2 q3 q4 q5 q6 q7 q8 q9, u1 a q1], ⟨by rw [c1 11 n (by decide) (by decide) (by decide) (by decide) (by decide) (by decide) (by decide) (by decide), gW_at], fun i q => by rw [c1 11 i (by decide) (by decide) (by decide) (by decide) (by decide) (by decide) (by decide) (by decide), gW_i q]⟩, c2, fun i q1 q2 q3 => by rw [c3 i q1 q2 q3, u1 87 (by decide)], fun i => by have := c4 i; rw [u1 61 (by decide)] at this; exact this⟩
  have fin : ∀ T' : gM, (∀ a, a ≠ 178 → a ≠ 179 → T' a = T a) → (T' 178 n = v ∧ ∀ i, i ≠ n → T' 178 i = T 178 i) → (T' 179 n = g ∧ ∀ i, i ≠ n → T' 179 i = T 179 i) → aA S T' pT ∧ cgM τ T' n (σ 90 (σ 87 21)) v g ∧ T' 119 123 = T 119 123 := fun T' k1 k2 k3 => by
    refine ⟨e3.mv (fun _ _ => rfl) rfl (fun _ _ _ => rfl) (fun _ _ => rfl) (fun a q => k1 a (by omega) (by omega)) (fun i _ => by rw [k1 119 (by decide) (by decide)]), ⟨fun a i q1 q2 q3 q4 q5 q6 q7 q8 q9 => by rw [k1 a (by omega) (by omega), d1 a i q1 q2 q3 (by omega) q5 q6 q7 q8 q9], ⟨k2.1, fun i q => by rw [k2.2 i q, d1 178 i (by decide) (by decide) (by decide) (by decide) (by decide) (by decide) (by decide) (by decide) (by decide)]⟩, ⟨k3.1, fun i q => by rw [k3.2 i q, d1 179 i (by decide) (by decide) (by decide) (by decide) (by decide) (by decide) (by decide) (by decide) (by decide)]⟩, by rw [k1 180 (by decide) (by decide)]; exact d2, by rw [k1 166 (by decide) (by decide)]; exact d3, fun i q => by rw [k1 119 (by decide) (by decide), d4 i q], fun i q1 q2 => by rw [k1 224 (by decide) (by decide), d5 i q1 q2]⟩, by rw [k1 119 (by decide) (by decide)]⟩
  rw [mc_changes_e, if_pos hn, e1, md_settle_e, e2]
  simp only [Option.bind_some]
  by_cases z : rep = 0
  · rw [if_pos z] at hv hg
    rw [if_pos z, md_settle_b35_e]
    simp only [n2, and_self, if_true]
    obtain ⟨k1, k2, k3⟩ := fin (gW T 178 n (i_or (T 178 n) b)) (fun a q1 q2 => gW_cell q1) ⟨by rw [gW_at, s178, hv], fun i q => gW_i q⟩ ⟨by rw [gW_c (by decide), s179, hg], fun i q => gW_c (by decide)⟩
    exact ⟨S, _, rfl, rfl, k1, e4, cg, k2, e5, by rw [k3]; exact e6⟩
  · rw [if_neg z] at hv hg
    rw [if_neg z, md_settle_b35_e]
    simp only [n2, and_self, if_true]
    obtain ⟨k1, k2, k3⟩ := fin (gW (gW (gW T 179 n (i_or (T 179 n) (w32 (b - 1)))) 178 n (i_and (T 178 n) (i_xor (w32 (b - 1)) (-1)))) 178 n (i_or (gW (gW T 179 n (i_or (T 179 n) (w32 (b - 1)))) 178 n (i_and (T 178 n) (i_xor (w32 (b - 1)) (-1))) 178 n) b)) (fun a q1 q2 => by rw [gW_cell q1, gW_cell q1, gW_cell q2]) ⟨by rw [gW_at, gW_at, s178, hv], fun i q => by rw [gW_i q, gW_i q, gW_c (by decide)]⟩ ⟨by rw [gW_c (by decide), gW_c (by decide), gW_at, s179, hg], fun i q => by rw [gW_c (by decide), gW_c (by decide), gW_i q]⟩
    exact ⟨S, _, rfl, rfl, k1, e4, cg, k2, e5, by rw [k3]; exact e6⟩
/-- the program stays related -/
theorem rPg.st (h : rPg σ τ) (A : aA S T pT) (no : noV S r) (c : cgC σ S n v) (d : cgM τ T n r v g) (r4 : 4 ≤ r ∧ r < σ 8 31) (hn : σ 26 r ≤ n ∧ n < σ 26 r + σ 27 r) (hv : 0 ≤ v ∧ v < 16) : rPg S T := by
  obtain ⟨c1, c2, c3, c4, c5⟩ := c
  obtain ⟨d1, d2, d3, d4, d5, d6, d7⟩ := d
  have kS : ∀ a, a ≠ 11 → a ≠ 12 → a ≠ 32 → a ≠ 34 → a ≠ 59 → a ≠ 61 → a ≠ 87 → a ≠ 91 → (a < 93 ∨ 96 < a) → S a = σ a := fun a q1 q2 q3 q4 q5 q6 q7 q8 q9 => funext fun i => c1 a i q1 q2 q3 q4 q5 q6 q7 q8 q9
  have kT : ∀ a, a ≠ 119 → (a < 163 ∨ 164 < a) → a ≠ 166 → (a < 178 ∨ 180 < a) → a ≠ 201 → a ≠ 203 → (a < 209 ∨ 211 < a) → a ≠ 214 → a ≠ 224 → T a = τ a := fun a q1 q2 q3 q4 q5 q6 q7 q8 q9 => funext fun i => d1 a i q1 q2 q3 q4 q5 q6 q7 q8 q9
  have k0 := kS 0 (by decide) (by decide) (by decide) (by decide) (by decide) (by decide) (by decide) (by decide) (by decide)
  have k8 := kS 8 (by decide) (by decide) (by decide) (by decide) (by decide) (by decide) (by decide) (by decide) (by decide)
  have k42 := kS 42 (by decide) (by decide) (by decide) (by decide) (by decide) (by decide) (by decide) (by decide) (by decide)
  have k52 := kS 52 (by decide) (by decide) (by decide) (by decide) (by decide) (by decide) (by decide) (by decide) (by decide)
  have k18 := kS 18 (by decide) (by decide) (by decide) (by decide) (by decide) (by decide) (by decide) (by decide) (by decide)
  have k19 := kS 19 (by decide) (by decide) (by decide) (by decide) (by decide) (by decide) (by decide) (by decide) (by decide)
  have k181 := kT 181 (by decide) (by decide) (by decide) (by decide) (by decide) (by decide) (by decide) (by decide) (by decide)
  have hN := h.2.2.2.2.2.2.2.2.1
  have hS := h.2.2.2.2.2.2.2.2.2.2.2.2.2.2.2.1
  have n8 := (hN.2.1 r r4.1 r4.2)
  have nn : rN1 σ τ n := hN.2.2 n (by omega) (by omega)
  refine h.chg ⟨fun a q => kS a (by omega) (by omega) (by omega) (by omega) (by omega) (by omega) (by omega) (by omega) (by omega), ?_⟩ ⟨fun a q => kT a (by omega) (by omega) (by omega) (by omega) (by omega) (by omega) (by omega) (by omega) (by omega), ?_⟩ A.1 (kS 67 (by decide) (by decide) (by decide) (by decide) (by decide) (by decide) (by decide) (by decide) (by decide)) (by rw [k52]) (kT 185 (by decide) (by decide) (by decide) (by decide) (by decide) (by decide) (by decide) (by decide) (by decide)) (d6 89 (by decide)) ?_ r4 hn (fun m q => ⟨⟨c2.2 m q, c3.2 m q, by rw [k18]⟩, d2.2 m q, d4.2 m q, by rw [k181]⟩) (fun i _ => by rw [k19]) (fun a i q1 q2 _ => by rw [kT a (by omega) (by omega) (by omega) (by omega) (by omega) (by omega) (by omega) (by omega) (by omega)]) ?_ c3.1 d5 c5 no
  · rw [k0, k8, k42, k52]
    exact ⟨rfl, rfl, rfl, rfl, rfl, rfl, rfl, rfl, rfl, rfl, rfl, rfl, rfl, rfl, rfl, rfl, rfl, c4 31 (by decide) (by decide) (by decide)⟩
  · exact ⟨d6 9 (by decide), d6 10 (by decide), d6 12 (by decide), d6 13 (by decide), d6 15 (by decide), d6 16 (by decide), d6 55 (by decide), d6 56 (by decide), d6 57 (by decide), d6 92 (by decide), d6 93 (by decide), d6 94 (by decide), d6 104 (by decide)⟩
  · unfold rSo at hS ⊢
    rw [k8, kS 35 (by decide) (by decide) (by decide) (by decide) (by decide) (by decide) (by decide) (by decide) (by decide), kT 167 (by decide) (by decide) (by decide) (by decide) (by decide) (by decide) (by decide) (by decide) (by decide)]
    exact hS
  · obtain ⟨n1, n2, n3, n4, n5, n6, n7⟩ := nn
    unfold rN1 rEn at *
    have pl : ∀ s n, plc S s n = plc σ s n := fun s n => plc_mv (kS 43 (by decide) (by decide) (by decide) (by decide) (by decide) (by decide) (by decide) (by decide) (by decide)) (kS 44 (by decide) (by decide) (by decide) (by decide) (by decide) (by decide) (by decide) (by decide) (by decide)) (kS 47 (by decide) (by decide) (by decide) (by decide) (by decide) (by decide) (by decide) (by decide) (by decide))
    rw [c2.1, c3.1, d2.1, d4.1, k18, k181, n4]
    simp only [pl, k19, k8, k42]
    rw [kS 9 (by decide) (by decide) (by decide) (by decide) (by decide) (by decide) (by decide) (by decide) (by decide), kS 10 (by decide) (by decide) (by decide) (by decide) (by decide) (by decide) (by decide) (by decide) (by decide), kS 13 (by decide) (by decide) (by decide) (by decide) (by decide) (by decide) (by decide) (by decide) (by decide), kT 168 (by decide) (by decide) (by decide) (by decide) (by decide) (by decide) (by decide) (by decide) (by decide), kT 169 (by decide) (by decide) (by decide) (by decide) (by decide) (by decide) (by decide) (by decide) (by decide), kT 175 (by decide) (by decide) (by decide) (by decide) (by decide) (by decide) (by decide) (by decide) (by decide), kT 182 (by decide) (by decide) (by decide) (by decide) (by decide) (by decide) (by decide) (by decide) (by decide), kT 183 (by decide) (by decide) (by decide) (by decide) (by decide) (by decide) (by decide) (by decide) (by decide), kT 184 (by decide) (by decide) (by decide) (by decide) (by decide) (by decide) (by decide) (by decide) (by decide)]
    exact ⟨n1, n2, ⟨trivial, hv⟩, trivial, n5, n6, n7⟩
end SE
