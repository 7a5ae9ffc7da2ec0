/-! entries of a node: both sides -/
section SN
variable {σ τ S T W : gM} {pT : Int → Int} {n r x2 x3 x4 x5 y2 y3 y4 : Int}
/-- what meeting an entry may change -/
def enC (σ S : gM) (n : Int) : Prop := (∀ a i, a ≠ 11 → a ≠ 12 → a ≠ 18 → a ≠ 19 → a ≠ 32 → a ≠ 34 → a ≠ 59 → a ≠ 61 → a ≠ 87 → a ≠ 91 → (a < 93 ∨ 96 < a) → S a i = σ a i) ∧ (∀ i, i ≠ n → S 11 i = σ 11 i ∧ S 12 i = σ 12 i ∧ S 18 i = σ 18 i) ∧ (∀ i, i < 9 * n ∨ 9 * n + 9 ≤ i → S 19 i = σ 19 i) ∧ (∀ i, i ≠ 22 → i ≠ 36 → i ≠ 38 → S 87 i = σ 87 i) ∧ ∀ i, S 61 i = σ 61 i ∨ S 61 i = 0
def enM (τ T : gM) (n : Int) : Prop := (∀ a i, a ≠ 119 → (a < 163 ∨ 164 < a) → a ≠ 166 → a ≠ 178 → (a < 180 ∨ 184 < a) → a ≠ 201 → a ≠ 203 → (a < 209 ∨ 211 < a) → a ≠ 214 → a ≠ 224 → T a i = τ a i) ∧ (∀ i, i ≠ n → T 178 i = τ 178 i ∧ T 180 i = τ 180 i ∧ T 181 i = τ 181 i) ∧ (∀ a i, 182 ≤ a → a ≤ 184 → i < 3 * n ∨ 3 * n + 3 ≤ i → T a i = τ a i) ∧ (∀ i, i ≠ 123 → T 119 i = τ 119 i) ∧ ∀ i, i ≠ 9 → i ≠ 11 → T 224 i = τ 224 i
theorem settles_fin {c v : Int} (P : rPg σ τ) (A : aA σ τ pT) (er : σ 90 (σ 87 21) = r) (r4 : 4 ≤ r ∧ r < σ 8 31) (hn : σ 26 r ≤ n ∧ n < σ 26 r + σ 27 r) (hE : nE σ n x3 x4 x5 y2 y3 y4) (L : List Nat) (hL : ∀ i : Nat, i < L.length → (L.getD i 0 : Int) < σ 18 n) (l3 : L.length ≤ 3) (hc : c = L.length ∨ (c = L.length + 1 ∧ c ≤ 3) ∨ c = 0) (hv : v = 0 ∨ v = 1)
    (w1 : ∀ a i, a ≠ 11 → a ≠ 18 → a ≠ 19 → W a i = σ a i) (w11 : W 11 n = v ∧ ∀ i, i ≠ n → W 11 i = σ 11 i) (w18 : W 18 n = c ∧ ∀ i, i ≠ n → W 18 i = σ 18 i) (w19 : ∀ i, i < 9 * n ∨ 9 * n + 9 ≤ i → W 19 i = σ 19 i) (wL : ∀ i : Nat, i < L.length → (i : Int) < c → ∀ t, 0 ≤ t → t < 3 → W 19 (9 * n + 3 * i + t) = σ 19 (9 * n + 3 * (L.getD i 0 : Nat) + t)) (wN : c = L.length + 1 → W 19 (9 * n + 3 * L.length) = x3 ∧ W 19 (9 * n + 3 * L.length + 1) = x4 ∧ W 19 (9 * n + 3 * L.length + 2) = x5) :
    ∃ S T1, mc_changed W n = some (S, 0) ∧ md_changing τ n = some (T1, 0) ∧ chM τ T1 n r ∧ ∀ T : gM, (∀ a i, a ≠ 178 → (a < 181 ∨ 184 < a) → T a i = T1 a i) → (T 178 n = v ∧ ∀ i, i ≠ n → T 178 i = T1 178 i) → (T 181 n = c ∧ ∀ i, i ≠ n → T 181 i = T1 181 i) → (∀ a i, 182 ≤ a → a ≤ 184 → i < 3 * n ∨ 3 * n + 3 ≤ i → T a i = T1 a i) → (∀ a, 182 ≤ a → a ≤ 184 → ∀ i : Nat, i < L.length → (i : Int) < c → T a (3 * n + i) = T1 a (3 * n + (L.getD i 0 : Nat))) → (c = L.length + 1 → T 182 (3 * n + L.length) = y2 ∧ T 183 (3 * n + L.length) = y3 ∧ T 184 (3 * n + L.length) = y4) →
      rPg S T ∧ aA S T pT ∧ enC σ S n ∧ enM τ T n ∧ S 93 (σ 87 21) = -1 ∧ T 119 123 + ccN S (σ 87 19).toNat = τ 119 123 + ccN σ (σ 87 19).toNat ∧ S 11 n = v ∧ S 18 n = c := by
  have hN := P.2.2.2.2.2.2.2.2.1
  have hS := P.2.2.2.2.2.2.2.2.2.2.2.2.2.2.2.1
  have n8 := hN.2.1 r r4.1 r4.2
  have h16 := hN.1
  have nn : rN1 σ τ n := hN.2.2 n (by omega) (by omega)
  have kW : ∀ a, a ≠ 11 → a ≠ 18 → a ≠ 19 → W a = σ a := fun a q1 q2 q3 => funext fun i => w1 a i q1 q2 q3
  have k87 := kW 87 (by decide) (by decide) (by decide)
  have A1 : aA W τ pT := A.mv (fun a q => kW a (by omega) (by omega) (by omega)) (by rw [kW 8 (by decide) (by decide) (by decide)]) (fun i _ _ => by rw [kW 52 (by decide) (by decide) (by decide)]) (fun i _ => by rw [k87]) (fun a _ => rfl) (fun i _ => rfl)
  obtain ⟨S, T1, e1, e2, e3, e4, ⟨c1, c2, c3, c4⟩, hM, e5, e6⟩ := changed_pair (n := n) A1 (by omega) (by rw [k87, kW 90 (by decide) (by decide) (by decide), er]; exact n8.2.2.2.2.2 n hn.1 hn.2)
  rw [k87, kW 90 (by decide) (by decide) (by decide), er] at e4 hM
  rw [k87] at e5 e6
  rw [kW 12 (by decide) (by decide) (by decide)] at c2
  rw [ccN_eq (S := W) (σ := σ) _ fun j _ _ => by rw [kW 93 (by decide) (by decide) (by decide)]] at e6
  refine ⟨S, T1, e1, e2, hM, fun T t1 t178 t181 t182 tL tN => ?_⟩
  obtain ⟨d1, d2, d3, d4, d5⟩ := hM
  have kT : ∀ a, a ≠ 178 → (a < 181 ∨ 184 < a) → T a = T1 a := fun a q1 q2 => funext fun i => t1 a i q1 q2
  have sS : ∀ a i, a ≠ 12 → a ≠ 32 → a ≠ 34 → a ≠ 59 → a ≠ 61 → a ≠ 87 → a ≠ 91 → (a < 93 ∨ 96 < a) → S a i = W a i := c1
  have sK : ∀ a, a ≠ 11 → a ≠ 12 → a ≠ 18 → a ≠ 19 → a ≠ 32 → a ≠ 34 → a ≠ 59 → a ≠ 61 → a ≠ 87 → a ≠ 91 → (a < 93 ∨ 96 < a) → S a = σ a := fun a q1 q2 q3 q4 q5 q6 q7 q8 q9 q10 q11 => funext fun i => by rw [c1 a i q2 q5 q6 q7 q8 q9 q10 q11, w1 a i q1 q3 q4]
  have tK : ∀ a, a ≠ 119 → (a < 163 ∨ 164 < a) → a ≠ 166 → a ≠ 178 → (a < 180 ∨ 184 < a) → a ≠ 201 → a ≠ 203 → (a < 209 ∨ 211 < a) → a ≠ 214 → a ≠ 224 → T a = τ a := fun a q1 q2 q3 q4 q5 q6 q7 q8 q9 q10 => funext fun i => by rw [t1 a i q4 (by omega), d1 a i q1 q2 q3 (by omega) q6 q7 q8 q9 q10]
  have s11 : S 11 n = v ∧ ∀ i, i ≠ n → S 11 i = σ 11 i := ⟨by rw [c1 11 n (by decide) (by decide) (by decide) (by decide) (by decide) (by decide) (by decide) (by decide), w11.1], fun i q => by rw [c1 11 i (by decide) (by decide) (by decide) (by decide) (by decide) (by decide) (by decide) (by decide), w11.2 i q]⟩
  have s18 : S 18 n = c ∧ ∀ i, i ≠ n → S 18 i = σ 18 i := ⟨by rw [c1 18 n (by decide) (by decide) (by decide) (by decide) (by decide) (by decide) (by decide) (by decide), w18.1], fun i q => by rw [c1 18 i (by decide) (by decide) (by decide) (by decide) (by decide) (by decide) (by decide) (by decide), w18.2 i q]⟩
  have s19 : ∀ i, S 19 i = W 19 i := fun i => c1 19 i (by decide) (by decide) (by decide) (by decide) (by decide) (by decide) (by decide) (by decide)
  have o178 : ∀ i, i ≠ n → T 178 i = τ 178 i := fun i q => by rw [t178.2 i q, d1 178 i (by decide) (by decide) (by decide) (by decide) (by decide) (by decide) (by decide) (by decide) (by decide)]
  have o181 : ∀ i, i ≠ n → T 181 i = τ 181 i := fun i q => by rw [t181.2 i q, d1 181 i (by decide) (by decide) (by decide) (by decide) (by decide) (by decide) (by decide) (by decide) (by decide)]
  have o182 : ∀ a i, 182 ≤ a → a ≤ 184 → T1 a i = τ a i := fun a i q1 q2 => d1 a i (by omega) (by omega) (by omega) (by omega) (by omega) (by omega) (by omega) (by omega) (by omega)
  have t119 : ∀ i, i ≠ 123 → T 119 i = τ 119 i := fun i q => by rw [kT 119 (by decide) (by decide), d4 i q]
  have s87 : ∀ i, i ≠ 22 → i ≠ 36 → i ≠ 38 → S 87 i = σ 87 i := fun i q1 q2 q3 => by rw [c3 i q1 q2 q3, k87]
  have s61 : ∀ i, S 61 i = σ 61 i ∨ S 61 i = 0 := fun i => by
    have := c4 i
    rw [kW 61 (by decide) (by decide) (by decide)] at this
    exact this
  have A2 : aA S T pT := e3.mv (fun _ _ => rfl) rfl (fun _ _ _ => rfl) (fun _ _ => rfl) (fun a q => kT a (by omega) (by omega)) (fun i _ => by rw [kT 119 (by decide) (by decide)])
  have k0 := sK 0 (by decide) (by decide) (by decide) (by decide) (by decide) (by decide) (by decide) (by decide) (by decide) (by decide) (by decide)
  have k8 := sK 8 (by decide) (by decide) (by decide) (by decide) (by decide) (by decide) (by decide) (by decide) (by decide) (by decide) (by decide)
  have k42 := sK 42 (by decide) (by decide) (by decide) (by decide) (by decide) (by decide) (by decide) (by decide) (by decide) (by decide) (by decide)
  have k52 := sK 52 (by decide) (by decide) (by decide) (by decide) (by decide) (by decide) (by decide) (by decide) (by decide) (by decide) (by decide)
  have pl : ∀ s n, plc S s n = plc σ s n := fun s n => plc_mv (sK 43 (by decide) (by decide) (by decide) (by decide) (by decide) (by decide) (by decide) (by decide) (by decide) (by decide) (by decide)) (sK 44 (by decide) (by decide) (by decide) (by decide) (by decide) (by decide) (by decide) (by decide) (by decide) (by decide) (by decide)) (sK 47 (by decide) (by decide) (by decide) (by decide) (by decide) (by decide) (by decide) (by decide) (by decide) (by decide) (by decide))
  refine ⟨?_, A2, ⟨fun a i q1 q2 q3 q4 q5 q6 q7 q8 q9 q10 q11 => by rw [sK a q1 q2 q3 q4 q5 q6 q7 q8 q9 q10 q11], fun i q => ⟨s11.2 i q, c2.2 i q, s18.2 i q⟩, fun i q => by rw [s19, w19 i q], s87, s61⟩, ⟨fun a i q1 q2 q3 q4 q5 q6 q7 q8 q9 q10 => by rw [tK a q1 q2 q3 q4 q5 q6 q7 q8 q9 q10], fun i q => ⟨o178 i q, by rw [kT 180 (by decide) (by decide), d2.2 i q], o181 i q⟩, fun a i q1 q2 q => by rw [t182 a i q1 q2 q, o182 a i q1 q2], t119, fun i q1 q2 => by rw [kT 224 (by decide) (by decide), d5 i q1 q2]⟩, e5, by rw [kT 119 (by decide) (by decide)]; exact e6, s11.1, s18.1⟩
  refine P.chg ⟨fun a q => sK a (by omega) (by omega) (by omega) (by omega) (by omega) (by omega) (by omega) (by omega) (by omega) (by omega) (by omega), ?_⟩ ⟨fun a q => tK a (by omega) (by omega) (by omega) (by omega) (by omega) (by omega) (by omega) (by omega) (by omega) (by omega), ?_⟩ A2.1 (sK 67 (by decide) (by decide) (by decide) (by decide) (by decide) (by decide) (by decide) (by decide) (by decide) (by decide) (by decide)) (by rw [k52]) (tK 185 (by decide) (by decide) (by decide) (by decide) (by decide) (by decide) (by decide) (by decide) (by decide) (by decide)) (t119 89 (by decide)) ?_ r4 hn (fun m q => ⟨⟨s11.2 m q, c2.2 m q, s18.2 m q⟩, o178 m q, by rw [kT 180 (by decide) (by decide), d2.2 m q], o181 m q⟩) (fun i q => by rw [s19, w19 i q]) (fun a i q1 q2 q => by rw [t182 a i q1 q2 q, o182 a i q1 q2]) ?_ c2.1 (by rw [kT 166 (by decide) (by decide)]; exact d3) s61 e4
  · rw [k0, k8, k42, k52]
    exact ⟨rfl, rfl, rfl, rfl, rfl, rfl, rfl, rfl, rfl, rfl, rfl, rfl, rfl, rfl, rfl, rfl, rfl, s87 31 (by decide) (by decide) (by decide)⟩
  · exact ⟨t119 9 (by decide), t119 10 (by decide), t119 12 (by decide), t119 13 (by decide), t119 15 (by decide), t119 16 (by decide), t119 55 (by decide), t119 56 (by decide), t119 57 (by decide), t119 92 (by decide), t119 93 (by decide), t119 94 (by decide), t119 104 (by decide)⟩
  · unfold rSo at hS ⊢
    rw [k8, sK 35 (by decide) (by decide) (by decide) (by decide) (by decide) (by decide) (by decide) (by decide) (by decide) (by decide) (by decide), tK 167 (by decide) (by decide) (by decide) (by decide) (by decide) (by decide) (by decide) (by decide) (by decide) (by decide)]
    exact hS
  · obtain ⟨n1, n2, n3, n4, n5, n6, n7⟩ := nn
    unfold rN1
    rw [s11.1, c2.1, s18.1, t178.1, t181.1, kT 180 (by decide) (by decide), d2.1, n4, sK 9 (by decide) (by decide) (by decide) (by decide) (by decide) (by decide) (by decide) (by decide) (by decide) (by decide) (by decide), sK 10 (by decide) (by decide) (by decide) (by decide) (by decide) (by decide) (by decide) (by decide) (by decide) (by decide) (by decide), sK 13 (by decide) (by decide) (by decide) (by decide) (by decide) (by decide) (by decide) (by decide) (by decide) (by decide) (by decide), tK 168 (by decide) (by decide) (by decide) (by decide) (by decide) (by decide) (by decide) (by decide) (by decide) (by decide), tK 169 (by decide) (by decide) (by decide) (by decide) (by decide) (by decide) (by decide) (by decide) (by decide) (by decide), tK 175 (by decide) (by decide) (by decide) (by decide) (by decide) (by decide) (by decide) (by decide) (by decide) (by decide)]
    refine ⟨n1, n2, ⟨rfl, by omega, by omega⟩, rfl, n5, ⟨rfl, by omega, by omega⟩, fun i i0 i1 => ?_⟩
    unfold rEn
    rw [s19, s19, s19, sK 9 (by decide) (by decide) (by decide) (by decide) (by decide) (by decide) (by decide) (by decide) (by decide) (by decide) (by decide), k8, k42, pl, pl]
    by_cases z : i < L.length
    · have g1 := hL i.toNat (by omega)
      have ei : ((i.toNat : Nat) : Int) = i := by omega
      have w0 := wL i.toNat (by omega) (by omega) 0 (by decide) (by decide)
      have w1' := wL i.toNat (by omega) (by omega) 1 (by decide) (by decide)
      have w2 := wL i.toNat (by omega) (by omega) 2 (by decide) (by decide)
      have y0 := tL 182 (by decide) (by decide) i.toNat (by omega) (by omega)
      have y1 := tL 183 (by decide) (by decide) i.toNat (by omega) (by omega)
      have y2' := tL 184 (by decide) (by decide) i.toNat (by omega) (by omega)
      rw [o182 _ _ (by decide) (by decide)] at y0 y1 y2'
      rw [ei] at w0 w1' w2 y0 y1 y2'
      rw [Int.add_zero, Int.add_zero] at w0
      rw [w0, w1', w2, y0, y1, y2']
      exact n7 _ (by omega) g1
    · have hc' : c = L.length + 1 := by omega
      obtain ⟨a1, a2, a3⟩ := wN hc'
      obtain ⟨b1, b2, b3⟩ := tN hc'
      rw [show i = (L.length : Int) by omega, a1, a2, a3, b1, b2, b3]
      exact hE
theorem stI_same {L : List Nat} (h : stI σ W n L) (hL : ∀ i, i < L.length → L.getD i 0 = i) : W = σ := by
  obtain ⟨w1, w2, w3⟩ := h
  funext a i
  by_cases z : a = 19
  · rw [z]
    by_cases y : i < 9 * n ∨ 9 * n + 3 * L.length ≤ i
    · exact w2 i y
    · have := w3 ((i - 9 * n) / 3).toNat (by omega) ((i - 9 * n) % 3) (by omega) (by omega)
      rw [hL _ (by omega), show 9 * n + 3 * (((i - 9 * n) / 3).toNat : Int) + (i - 9 * n) % 3 = i by omega] at this
      exact this
  · exact w1 a i z
theorem gW_same {a i v : Int} (h : σ a i = v) : gW σ a i v = σ := by
  funext b j
  by_cases z : b = a
  · by_cases y : j = i
    · rw [z, y, gW_at, h]
    · exact gW_j y
  · exact gW_c z
/-- an entry is met: both sides -/
theorem settles_pair (P : rPg σ τ) (A : aA σ τ pT) (er : σ 90 (σ 87 21) = r) (r4 : 4 ≤ r ∧ r < σ 8 31) (hn : σ 26 r ≤ n ∧ n < σ 26 r + σ 27 r) (hE : nE σ n x3 x4 x5 y2 y3 y4) (st : σ 11 n = 0 ∨ (σ 11 n = 1 ∧ σ 18 n = 0)) (hx : 1 ≤ x2 ∧ x2 ≤ 3) (h18x : σ 18 n ≤ x2) :
    ∃ S T, mc_settles σ n x2 x3 x4 x5 = some (S, 0) ∧ md_enter τ n y2 y3 y4 x2 = some (T, 0) ∧ rPg S T ∧ aA S T pT ∧ enC σ S n ∧ enM τ T n ∧ ((S = σ ∧ T = τ ∧ (σ 11 n = 1 ∨ (σ 11 n = 0 ∧ (σ 18 n = 1 → σ 19 (9 * n) = x3)))) ∨ S 93 (σ 87 21) = -1) ∧ T 119 123 + ccN S (σ 87 19).toNat = τ 119 123 + ccN σ (σ 87 19).toNat ∧ (S 11 n = 0 ∨ (S 11 n = 1 ∧ S 18 n = 0)) ∧ S 18 n ≤ x2 := by
  have hN := P.2.2.2.2.2.2.2.2.1
  have hs := P.2.2.2.2.2.1
  have hb := A.1
  have n8 := hN.2.1 r r4.1 r4.2
  have h16 := hN.1
  obtain ⟨k9, -, ⟨k11, -⟩, -, -, ⟨k18, k18'⟩, en⟩ := hN.2.2 n (by omega) (by omega)
  have n1 : 0 ≤ n ∧ n < 16000 := by omega
  have n2 : 0 ≤ n ∧ n < 20000 := by omega
  have same : ((σ 11 n = 1 ∨ (σ 11 n = 0 ∧ (σ 18 n = 1 → σ 19 (9 * n) = x3)))) → rPg σ τ ∧ aA σ τ pT ∧ enC σ σ n ∧ enM τ τ n ∧ ((σ = σ ∧ τ = τ ∧ (σ 11 n = 1 ∨ (σ 11 n = 0 ∧ (σ 18 n = 1 → σ 19 (9 * n) = x3)))) ∨ σ 93 (σ 87 21) = -1) ∧ τ 119 123 + ccN σ (σ 87 19).toNat = τ 119 123 + ccN σ (σ 87 19).toNat ∧ (σ 11 n = 0 ∨ (σ 11 n = 1 ∧ σ 18 n = 0)) ∧ σ 18 n ≤ x2 := fun q => ⟨P, A, ⟨fun _ _ _ _ _ _ _ _ _ _ _ _ _ => rfl, fun _ _ => ⟨rfl, rfl, rfl⟩, fun _ _ => rfl, fun _ _ _ _ => rfl, fun _ => Or.inl rfl⟩, ⟨fun _ _ _ _ _ _ _ _ _ _ _ _ => rfl, fun _ _ => ⟨rfl, rfl, rfl⟩, fun _ _ _ _ _ => rfl, fun _ _ => rfl, fun _ _ _ => rfl⟩, Or.inl ⟨rfl, rfl, q⟩, rfl, st, h18x⟩
  rw [mc_settles_e, if_pos n1, md_enter_e, if_pos n2, k11]
  by_cases z1 : σ 11 n = 1
  · rw [if_pos z1, if_pos z1]
    exact ⟨σ, τ, rfl, rfl, same (Or.inl z1)⟩
  have z0 : σ 11 n = 0 := by omega
  rw [if_neg z1, if_neg z1, w32_e (x := 9 * n) (by omega) (by omega), w32_e (x := 3 * n) (by omega) (by omega)]
  obtain ⟨W, eC, sI⟩ := settles_b32_s (x2 := x2) (x3 := x3) (x4 := x4) (x5 := x5) n1 hb hs k18' en (σ 18 n).toNat 0 σ (by omega) ⟨fun _ _ _ => rfl, fun _ _ => rfl, fun i hi => absurd hi (Nat.not_lt_zero i)⟩
  have eM := enter_b22_s (x5' := x2) n1 hb hs k9 k18' k18 en hE (σ 18 n).toNat 0 (by omega)
  have l0 : ((kpL (stB σ n) 0).length : Int) = 0 := rfl
  have a0 : anI (kpL (stB σ n) 0) (mtB σ n x3 x4 x5) = 0 := rfl
  have c0 : ((0 : Nat) : Int) = 0 := rfl
  rw [l0, a0, c0] at eC eM
  rw [Int.add_zero] at eM
  rw [eC, eM]
  have hl := kpL_len (st := stB σ n) (σ 18 n).toNat
  have hg := kpL_get (st := stB σ n) (σ 18 n).toNat
  have ha := kpL_all (st := stB σ n) (σ 18 n).toNat
  have hany : anI (kpL (stB σ n) (σ 18 n).toNat) (mtB σ n x3 x4 x5) ≠ 0 → ∃ i, i ∈ kpL (stB σ n) (σ 18 n).toNat ∧ mtB σ n x3 x4 x5 i = true := fun q => by
    unfold anI at q
    by_cases y : (kpL (stB σ n) (σ 18 n).toNat).any (mtB σ n x3 x4 x5) = true
    · exact List.any_eq_true.mp y
    · rw [if_neg y] at q
      exact absurd rfl q
  have hmem : ∀ i, i ∈ kpL (stB σ n) (σ 18 n).toNat → i < (σ 18 n).toNat := fun i q => by
    obtain ⟨j, hj, e⟩ := List.getElem_of_mem q
    have := (hg j hj).2
    rw [List.getD_eq_getElem?_getD, List.getElem?_eq_getElem hj] at this
    have e2 : (some (kpL (stB σ n) (σ 18 n).toNat)[j]).getD 0 = i := e
    omega
  have lp : ∀ (T1 : gM) (x7 : Int), chM τ T1 n r → ∃ V, md_enter_b137 T1 n y2 y3 y4 x2 (kpL (stB σ n) (σ 18 n).toNat).length x7 (3 * n) (3 * n) = md_enter_b137 V n y2 y3 y4 x2 (kpL (stB σ n) (σ 18 n).toNat).length x7 (3 * n + (kpL (stB σ n) (σ 18 n).toNat).length) (3 * n + σ 18 n) ∧ stJ T1 V n (kpL (stB σ n) (σ 18 n).toNat) ∧ V 181 n = σ 18 n := fun T1 x7 hM => by
    obtain ⟨d1, -⟩ := hM
    have e181 : T1 181 n = σ 18 n := by rw [d1 181 n (by decide) (by decide) (by decide) (by decide) (by decide) (by decide) (by decide) (by decide) (by decide)]; exact k18
    obtain ⟨V, eV, v⟩ := enter_b137_s (T := T1) (x5' := x2) (x6 := ((kpL (stB σ n) (σ 18 n).toNat).length : Int)) (x7 := x7) (y2 := y2) (y3 := y3) (y4 := y4) n1 hb hs k9 k18' e181 en (fun a j q => d1 a j (by omega) (by omega) (by omega) (by omega) (by omega) (by omega) (by omega) (by omega) (by omega)) (σ 18 n).toNat 0 T1 (by omega) ⟨fun _ _ _ => rfl, fun _ _ _ _ _ => rfl, fun _ _ _ i hi => absurd hi (Nat.not_lt_zero i)⟩
    rw [l0, c0, Int.add_zero] at eV
    exact ⟨V, eV, v, by rw [v.1 181 n (by decide), e181]⟩
  generalize kpL (stB σ n) (σ 18 n).toNat = L at *
  have gw : ∀ i : Nat, i < L.length → (L.getD i 0 : Int) < σ 18 n := fun i hi => by have := (hg i hi).2; omega
  obtain ⟨w1, w2, w3⟩ := sI
  have e2n : ∀ V : gM, V 181 n = σ 18 n → ¬ (3 * n + σ 18 n < w32 (3 * n + V 181 n)) := fun V q => by rw [w32_e (by omega) (by omega), q]; omega
  rcases anI_01 (L := L) (p := mtB σ n x3 x4 x5) with an | an
  · -- it isn't there
    rw [an, if_neg (show ¬ ((0 : Int) ≠ 0 ∧ (L.length : Int) = σ 18 n) from fun q => q.1 rfl), mc_settles_b202_e, if_pos n1, if_pos rfl, md_enter_b122_e]
    by_cases f : (L.length : Int) = x2
    · rw [if_pos f, if_pos n1, if_pos n1, mc_settles_b319_e, if_neg (by decide)]
      obtain ⟨S, T1, e1, e2, hM, fin⟩ := settles_fin (c := 0) (v := 1) (W := gW (gW (gW W 18 n L.length) 18 n 0) 11 n 1) P A er r4 hn hE L gw (by omega) (by omega) (Or.inr rfl) (fun a i q1 q2 q3 => by rw [gW_c q1, gW_c q2, gW_c q2, w1 a i q3]) ⟨gW_at .., fun i q => by rw [gW_i q, gW_c (by decide), gW_c (by decide), w1 11 i (by decide)]⟩ ⟨by rw [gW_c (by decide), gW_at], fun i q => by rw [gW_c (by decide), gW_i q, gW_i q, w1 18 i (by decide)]⟩ (fun i q => by rw [gW_c (by decide), gW_c (by decide), gW_c (by decide), w2 i (by omega)]) (fun i hi q => by omega) (fun q => by omega)
      obtain ⟨V, eV, ⟨v1, v2, v3⟩, v4⟩ := lp T1 0 hM
      rw [e1, e2]
      simp only [Option.bind_some]
      rw [w32_e (x := 3 * n) (by omega) (by omega), eV, md_enter_b137_e, if_pos n2, w32_e (x := 3 * n) (by omega) (by omega), if_neg (e2n V v4), if_pos n2, if_pos rfl, if_pos f, if_pos n2, if_pos n2]
      obtain ⟨g1, g2, g3, g4, g5, g6, g7, g8⟩ := fin (gW (gW (gW V 181 n L.length) 181 n 0) 178 n 1) (fun a i q1 q2 => by rw [gW_c q1, gW_c (by omega), gW_c (by omega), v1 a i (by omega)]) ⟨gW_at .., fun i q => by rw [gW_i q, gW_c (by decide), gW_c (by decide), v1 178 i (by decide)]⟩ ⟨by rw [gW_c (by decide), gW_at], fun i q => by rw [gW_c (by decide), gW_i q, gW_i q, v1 181 i (by decide)]⟩ (fun a i q1 q2 q => by rw [gW_c (by omega), gW_c (by omega), gW_c (by omega), v2 a i q1 q2 (by omega)]) (fun a _ _ i hi q => by omega) (fun q => by omega)
      exact ⟨S, _, rfl, rfl, g1, g2, g3, g4, Or.inr g5, g6, Or.inr ⟨g7, g8⟩, by omega⟩
    · have b0 : 0 ≤ 9 * n + 3 * (L.length : Int) ∧ 9 * n + 3 * (L.length : Int) < 144000 := by omega
      have b1 : 0 ≤ 9 * n + 3 * (L.length : Int) + 1 ∧ 9 * n + 3 * (L.length : Int) + 1 < 144000 := by omega
      have b2 : 0 ≤ 9 * n + 3 * (L.length : Int) + 2 ∧ 9 * n + 3 * (L.length : Int) + 2 < 144000 := by omega
      have b3 : 0 ≤ 3 * n + (L.length : Int) ∧ 3 * n + (L.length : Int) < 60000 := by omega
      rw [if_neg f, w32_e (x := 3 * (L.length : Int)) (by omega) (by omega), w32_e (x := 9 * n + 3 * (L.length : Int)) (by omega) (by omega), w32_e (x := 9 * n + 3 * (L.length : Int) + 1) (by omega) (by omega), w32_e (x := 9 * n + 3 * (L.length : Int) + 2) (by omega) (by omega), gW_at, w32_e (x := (L.length : Int) + 1) (by omega) (by omega)]
      simp only [b0, b1, b2, n1, and_self, if_true, mc_settles_b319_e]
      rw [if_neg (by decide)]
      obtain ⟨S, T1, e1, e2, hM, fin⟩ := settles_fin (c := (L.length : Int) + 1) (v := 0) (W := gW (gW (gW (gW (gW W 18 n L.length) 19 (9 * n + 3 * (L.length : Int)) x3) 19 (9 * n + 3 * (L.length : Int) + 1) x4) 19 (9 * n + 3 * (L.length : Int) + 2) x5) 18 n ((L.length : Int) + 1)) P A er r4 hn hE L gw (by omega) (by omega) (Or.inl rfl) (fun a i q1 q2 q3 => by rw [gW_c q2, gW_c q3, gW_c q3, gW_c q3, gW_c q2, w1 a i q3]) ⟨by rw [gW_c (by decide), gW_c (by decide), gW_c (by decide), gW_c (by decide), gW_c (by decide), w1 11 n (by decide), z0], fun i q => by rw [gW_c (by decide), gW_c (by decide), gW_c (by decide), gW_c (by decide), gW_c (by decide), w1 11 i (by decide)]⟩ ⟨gW_at .., fun i q => by rw [gW_i q, gW_c (by decide), gW_c (by decide), gW_c (by decide), gW_i q, w1 18 i (by decide)]⟩ (fun i q => by rw [gW_c (by decide), gW_i (by omega), gW_i (by omega), gW_i (by omega), gW_c (by decide), w2 i (by omega)]) (fun i hi q t t0 t1 => by rw [gW_c (by decide), gW_i (by omega), gW_i (by omega), gW_i (by omega), gW_c (by decide), w3 i hi t t0 t1]) (fun _ => ⟨by rw [gW_c (by decide), gW_i (by omega), gW_i (by omega), gW_at], by rw [gW_c (by decide), gW_i (by omega), gW_at], by rw [gW_c (by decide), gW_at]⟩)
      obtain ⟨V, eV, ⟨v1, v2, v3⟩, v4⟩ := lp T1 0 hM
      rw [e1, e2]
      simp only [Option.bind_some]
      rw [w32_e (x := 3 * n) (by omega) (by omega), eV, md_enter_b137_e, if_pos n2, w32_e (x := 3 * n) (by omega) (by omega), if_neg (e2n V v4), if_pos n2, if_pos rfl, if_neg f, gW_at, w32_e (x := (L.length : Int) + 1) (by omega) (by omega)]
      simp only [b3, n2, and_self, if_true]
      obtain ⟨g1, g2, g3, g4, g5, g6, g7, g8⟩ := fin (gW (gW (gW (gW (gW V 181 n L.length) 182 (3 * n + (L.length : Int)) y2) 183 (3 * n + (L.length : Int)) y3) 184 (3 * n + (L.length : Int)) y4) 181 n ((L.length : Int) + 1)) (fun a i q1 q2 => by rw [gW_c (by omega), gW_c (by omega), gW_c (by omega), gW_c (by omega), gW_c (by omega), v1 a i (by omega)]) ⟨by rw [gW_c (by decide), gW_c (by decide), gW_c (by decide), gW_c (by decide), gW_c (by decide), v1 178 n (by decide), hM.1 178 n (by decide) (by decide) (by decide) (by decide) (by decide) (by decide) (by decide) (by decide) (by decide), k11, z0], fun i q => by rw [gW_c (by decide), gW_c (by decide), gW_c (by decide), gW_c (by decide), gW_c (by decide), v1 178 i (by decide)]⟩ ⟨gW_at .., fun i q => by rw [gW_i q, gW_c (by decide), gW_c (by decide), gW_c (by decide), gW_i q, v1 181 i (by decide)]⟩ (fun a i q1 q2 q => by rw [gW_c (by omega), gW_j (by omega), gW_j (by omega), gW_j (by omega), gW_c (by omega), v2 a i q1 q2 (by omega)]) (fun a q1 q2 i hi q => by rw [gW_c (by omega), gW_j (by omega), gW_j (by omega), gW_j (by omega), gW_c (by omega), v3 a q1 q2 i hi]) (fun _ => ⟨by rw [gW_c (by decide), gW_c (by decide), gW_c (by decide), gW_at], by rw [gW_c (by decide), gW_c (by decide), gW_at], by rw [gW_c (by decide), gW_at]⟩)
      exact ⟨S, _, rfl, rfl, g1, g2, g3, g4, Or.inr g5, g6, Or.inl g7, by omega⟩
  · -- it is there
    rw [an, mc_settles_b202_e, if_pos n1, if_neg (by decide), mc_settles_b319_e]
    by_cases f : (L.length : Int) < σ 18 n
    · rw [if_pos f, if_neg (by decide), if_neg (by intro q; omega), md_enter_b122_e]
      obtain ⟨S, T1, e1, e2, hM, fin⟩ := settles_fin (c := (L.length : Int)) (v := 0) (W := gW W 18 n L.length) P A er r4 hn hE L gw (by omega) (by omega) (Or.inl rfl) (fun a i q1 q2 q3 => by rw [gW_c q2, w1 a i q3]) ⟨by rw [gW_c (by decide), w1 11 n (by decide), z0], fun i q => by rw [gW_c (by decide), w1 11 i (by decide)]⟩ ⟨gW_at .., fun i q => by rw [gW_i q, w1 18 i (by decide)]⟩ (fun i q => by rw [gW_c (by decide), w2 i (by omega)]) (fun i hi q t t0 t1 => by rw [gW_c (by decide), w3 i hi t t0 t1]) (fun q => by omega)
      obtain ⟨V, eV, ⟨v1, v2, v3⟩, v4⟩ := lp T1 1 hM
      rw [e1, e2]
      simp only [Option.bind_some]
      rw [w32_e (x := 3 * n) (by omega) (by omega), eV, md_enter_b137_e, if_pos n2, w32_e (x := 3 * n) (by omega) (by omega), if_neg (e2n V v4), if_pos n2, if_neg (by decide)]
      obtain ⟨g1, g2, g3, g4, g5, g6, g7, g8⟩ := fin (gW V 181 n L.length) (fun a i q1 q2 => by rw [gW_c (by omega), v1 a i (by omega)]) ⟨by rw [gW_c (by decide), v1 178 n (by decide), hM.1 178 n (by decide) (by decide) (by decide) (by decide) (by decide) (by decide) (by decide) (by decide) (by decide), k11, z0], fun i q => by rw [gW_c (by decide), v1 178 i (by decide)]⟩ ⟨gW_at .., fun i q => by rw [gW_i q, v1 181 i (by decide)]⟩ (fun a i q1 q2 q => by rw [gW_c (by omega), v2 a i q1 q2 (by omega)]) (fun a q1 q2 i hi q => by rw [gW_c (by omega), v3 a q1 q2 i hi]) (fun q => by omega)
      exact ⟨S, _, rfl, rfl, g1, g2, g3, g4, Or.inr g5, g6, Or.inl g7, by omega⟩
    · have f' : L.length = (σ 18 n).toNat := by omega
      rw [if_neg f, if_pos rfl, if_pos ⟨by decide, by omega⟩]
      have eW : W = σ := stI_same ⟨w1, w2, w3⟩ fun i hi => ha f' i (by omega)
      rw [eW, gW_same (by omega)]
      refine ⟨σ, τ, rfl, rfl, same (Or.inr ⟨z0, fun e18 => ?_⟩)⟩
      obtain ⟨i, i1, i2⟩ := hany (by rw [an]; decide)
      have i3 := hmem i i1
      have i4 : i = 0 := by omega
      rw [i4] at i2
      unfold mtB at i2
      simp only [Bool.and_eq_true, decide_eq_true_eq] at i2
      have := i2.1.1
      rw [c0, Int.mul_zero, Int.add_zero] at this
      exact this
end SN
