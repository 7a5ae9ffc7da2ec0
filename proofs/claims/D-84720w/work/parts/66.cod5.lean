/-! codes that rest on a function end: both sides -/
section DF
variable {σ τ : gM}
/-- an entry of the node is a root of the function -/
def enF (σ : gM) (f n i : Int) : Prop := σ 25 (σ 19 (9 * n + 3 * i)) = f
def hasF (σ : gM) (f r n : Int) : Prop := ∃ m i, n ≤ m ∧ m < σ 26 r + σ 27 r ∧ σ 9 m = 23 ∧ 0 ≤ i ∧ i < σ 18 m ∧ enF σ f m i
/-- one function on both sides -/
def sameF (σ τ : gM) (f g : Int) : Prop := ∀ r, 0 ≤ r → r < σ 8 31 → (σ 25 r = f ↔ τ 157 r = g)
theorem cd_calls_b53_s (h : rNd σ τ) (h60 : σ 8 31 ≤ 60) {f r n : Int} (hn : 0 ≤ n ∧ n < σ 8 12) (hk : σ 9 n = 23) : ∀ (d : Nat) (i : Int), 0 ≤ i → i + d = σ 18 n →
    ((∃ j, i ≤ j ∧ j < σ 18 n ∧ enF σ f n j) → cd_calls_b53 σ r f n i = some (σ, 1)) ∧ ((¬ ∃ j, i ≤ j ∧ j < σ 18 n ∧ enF σ f n j) → cd_calls_b53 σ r f n i = cd_calls_b104 σ r f n)
  | 0, i, i0, hi => by
    have hb : 0 ≤ n ∧ n < 16000 := by have := h.1; omega
    constructor
    · intro ⟨j, a, b, _⟩; omega
    · intro _
      rw [cd_calls_b53_e]
      simp only [hb, and_self, if_true]
      rw [if_neg (by omega)]
  | d + 1, i, i0, hi => by
    have hb : 0 ≤ n ∧ n < 16000 := by have := h.1; omega
    have gn := h.2.2 n hn.1 hn.2
    have g := gn.2.2.2.2.2.1
    have hlt : i < σ 18 n := by omega
    have ge := gn.2.2.2.2.2.2 i i0 hlt
    have rr : 0 ≤ σ 19 (9 * n + 3 * i) ∧ σ 19 (9 * n + 3 * i) < 60 := by
      rcases ge.2 with z | z | z <;> omega
    have ih := cd_calls_b53_s h h60 (f := f) (r := r) hn hk d (i + 1) (by omega) (by omega)
    have e : cd_calls_b53 σ r f n i = if σ 25 (σ 19 (9 * n + 3 * i)) = f then some (σ, 1) else cd_calls_b53 σ r f n (i + 1) := by
      rw [cd_calls_b53_e, w32_e (x := 9 * n) (by omega) (by omega), w32_e (x := 3 * i) (by omega) (by omega), w32_e (x := 9 * n + 3 * i) (by omega) (by omega), w32_e (x := i + 1) (by omega) (by omega)]
      have b1 : 0 ≤ 9 * n + 3 * i ∧ 9 * n + 3 * i < 144000 := by omega
      simp only [hb, hlt, b1, rr, and_self, if_true]
    rw [e]
    by_cases q1 : σ 25 (σ 19 (9 * n + 3 * i)) = f
    · rw [if_pos q1]
      exact ⟨fun _ => rfl, fun q => absurd ⟨i, by omega, hlt, q1⟩ q⟩
    · rw [if_neg q1]
      constructor
      · intro ⟨j, a, b, c⟩
        refine ih.1 ⟨j, ?_, b, c⟩
        by_cases z : j = i
        · subst z; exact absurd c q1
        · omega
      · intro q
        exact ih.2 (fun ⟨j, a, b, c⟩ => q ⟨j, by omega, b, c⟩)
theorem hasF_later {f r n : Int} (hlt : n < σ 26 r + σ 27 r) : hasF σ f r n ↔ (σ 9 n = 23 ∧ ∃ j, 0 ≤ j ∧ j < σ 18 n ∧ enF σ f n j) ∨ hasF σ f r (n + 1) := by
  constructor
  · intro ⟨m, i, a, b, c, d1, d2, d3⟩
    by_cases z : m = n
    · subst z; exact Or.inl ⟨c, i, d1, d2, d3⟩
    · exact Or.inr ⟨m, i, by omega, b, c, d1, d2, d3⟩
  · intro q
    rcases q with ⟨c, j, d1, d2, d3⟩ | ⟨m, i, a, b, c, d1, d2, d3⟩
    · exact ⟨n, j, by omega, hlt, c, d1, d2, d3⟩
    · exact ⟨m, i, by omega, b, c, d1, d2, d3⟩
theorem cd_calls_b10_s (h : rNd σ τ) {f r : Int} (hr : 4 ≤ r ∧ r < σ 8 31) (h60 : σ 8 31 ≤ 60) : ∀ (d : Nat) (n : Int), σ 26 r ≤ n → n + d = σ 26 r + σ 27 r → (hasF σ f r n → cd_calls_b10 σ r f n = some (σ, 1)) ∧ (¬ hasF σ f r n → cd_calls_b10 σ r f n = some (σ, 0))
  | 0, n, n0, hn => by
    have hb : 0 ≤ r ∧ r < 60 := by omega
    have gr := h.2.1 r hr.1 hr.2
    have hh := h.1
    have e : cd_calls_b10 σ r f n = some (σ, 0) := by
      rw [cd_calls_b10_e, w32_e (by omega) (by omega)]
      simp only [hb, and_self, if_true]
      rw [if_neg (by omega)]
    rw [e]
    refine ⟨fun ⟨m, i, a, b, _⟩ => ?_, fun _ => rfl⟩
    omega
  | d + 1, n, n0, hn => by
    have hb : 0 ≤ r ∧ r < 60 := by omega
    have gr := h.2.1 r hr.1 hr.2
    have hh := h.1
    have hbn : 0 ≤ n ∧ n < 16000 := by omega
    have hlt : n < σ 26 r + σ 27 r := by omega
    have gn := h.2.2 n (by omega) (by omega)
    have ih := cd_calls_b10_s h (f := f) hr h60 d (n + 1) (by omega) (by omega)
    have e104 : cd_calls_b104 σ r f n = cd_calls_b10 σ r f (n + 1) := by rw [cd_calls_b104_e, w32_e (by omega) (by omega)]
    have e : cd_calls_b10 σ r f n = if σ 9 n = 23 then cd_calls_b53 σ r f n 0 else cd_calls_b10 σ r f (n + 1) := by
      rw [cd_calls_b10_e, w32_e (by omega) (by omega)]
      simp only [hb, hbn, hlt, and_self, if_true, e104]
    rw [e, hasF_later hlt]
    by_cases k : σ 9 n = 23
    · rw [if_pos k]
      have g53 := cd_calls_b53_s h h60 (f := f) (r := r) (n := n) (by omega) k (σ 18 n).toNat 0 (by omega) (by have := gn.2.2.2.2.2.1; omega)
      by_cases z : ∃ j, 0 ≤ j ∧ j < σ 18 n ∧ enF σ f n j
      · rw [g53.1 z]
        exact ⟨fun _ => rfl, fun q => absurd (Or.inl ⟨k, z⟩) q⟩
      · rw [g53.2 z, e104]
        refine ⟨fun q => ?_, fun q => ih.2 (fun w => q (Or.inr w))⟩
        rcases q with q | q
        · exact absurd q.2 z
        · exact ih.1 q
    · rw [if_neg k]
      refine ⟨fun q => ?_, fun q => ih.2 (fun w => q (Or.inr w))⟩
      rcases q with q | q
      · exact absurd q.1 k
      · exact ih.1 q
theorem md_ecf_b106_s (h : rNd σ τ) (h60 : σ 8 31 ≤ 60) {f g c u r n : Int} (hf : sameF σ τ f g) (hn : 0 ≤ n ∧ n < σ 8 12) (hk : σ 9 n = 23) : ∀ (d : Nat) (i w : Int), 0 ≤ i → i + d = σ 18 n → (w = 0 ∨ w = 1) →
    ∃ w', (w' = 0 ∨ w' = 1) ∧ (w' = 1 ↔ w = 1 ∨ ∃ j, i ≤ j ∧ j < σ 18 n ∧ enF σ f n j) ∧ md_endCodesOfFunction_b106 τ g c w u r n i = md_endCodesOfFunction_b167 τ g c w' u r n
  | 0, i, w, i0, hi, hw => by
    have hb : 0 ≤ n ∧ n < 20000 := by have := h.1; omega
    have gn := h.2.2 n hn.1 hn.2
    refine ⟨w, hw, ⟨fun q => Or.inl q, fun q => ?_⟩, ?_⟩
    · rcases q with q | ⟨j, a, b, _⟩
      · exact q
      · omega
    · rw [md_endCodesOfFunction_b106_e, gn.1, gn.2.2.2.2.2.1.1]
      simp only [hb, hk, and_self, if_true]
      rw [if_neg (by omega)]
  | d + 1, i, w, i0, hi, hw => by
    have hb : 0 ≤ n ∧ n < 20000 := by have := h.1; omega
    have hh := h.1
    have gn := h.2.2 n hn.1 hn.2
    have g6 := gn.2.2.2.2.2.1
    have hlt : i < σ 18 n := by omega
    have ge := gn.2.2.2.2.2.2 i i0 hlt
    have r1 : 0 ≤ σ 19 (9 * n + 3 * i) ∧ σ 19 (9 * n + 3 * i) < σ 8 31 := by
      rcases ge.2 with z | z | z
      · exact z.2.1
      · omega
      · omega
    have r2 : 0 ≤ σ 19 (9 * n + 3 * i) ∧ σ 19 (9 * n + 3 * i) < 60 := by omega
    have e : ∃ w1, (w1 = 0 ∨ w1 = 1) ∧ (w1 = 1 ↔ w = 1 ∨ enF σ f n i) ∧ md_endCodesOfFunction_b106 τ g c w u r n i = md_endCodesOfFunction_b106 τ g c w1 u r n (i + 1) := by
      rw [md_endCodesOfFunction_b106_e, gn.1, g6.1, w32_e (x := 3 * n) (by omega) (by omega), w32_e (x := 3 * n + i) (by omega) (by omega)]
      have b1 : 0 ≤ 3 * n + i ∧ 3 * n + i < 60000 := by omega
      simp only [hb, hk, hlt, b1, r2, and_self, if_true, md_endCodesOfFunction_b155_e, md_endCodesOfFunction_b160_e, ge.1]
      rw [w32_e (x := i + 1) (by omega) (by omega)]
      rcases hw with hw | hw <;> subst hw
      · simp only [if_true]
        by_cases q1 : τ 157 (σ 19 (9 * n + 3 * i)) = g
        · rw [if_pos q1]
          exact ⟨1, Or.inr rfl, ⟨fun _ => Or.inr ((hf _ r1.1 r1.2).mpr q1), fun _ => rfl⟩, rfl⟩
        · rw [if_neg q1]
          refine ⟨0, Or.inl rfl, ⟨fun q => absurd q (by decide), fun q => ?_⟩, rfl⟩
          rcases q with q | q
          · exact absurd q (by decide)
          · exact absurd ((hf _ r1.1 r1.2).mp q) q1
      · simp only [show ¬ ((1 : Int) = 0) by decide, if_false]
        exact ⟨1, Or.inr rfl, ⟨fun _ => Or.inl trivial, fun _ => rfl⟩, rfl⟩
    obtain ⟨w1, a1, a2, a3⟩ := e
    obtain ⟨w', b1, b2, b3⟩ := md_ecf_b106_s h h60 hf hn hk d (i + 1) w1 (by omega) (by omega) a1 (c := c) (u := u) (r := r)
    refine ⟨w', b1, b2.trans ?_, by rw [a3, b3]⟩
    rw [a2]
    constructor
    · intro q
      rcases q with (q | q) | ⟨j, x, y, z⟩
      · exact Or.inl q
      · exact Or.inr ⟨i, by omega, hlt, q⟩
      · exact Or.inr ⟨j, by omega, y, z⟩
    · intro q
      rcases q with q | ⟨j, x, y, z⟩
      · exact Or.inl (Or.inl q)
      · by_cases ww : j = i
        · subst ww; exact Or.inl (Or.inr z)
        · exact Or.inr ⟨j, by omega, y, z⟩
theorem md_ecf_b79_s (h : rNd σ τ) {f g c u r : Int} (hf : sameF σ τ f g) (hr : 4 ≤ r ∧ r < σ 8 31) (h60 : σ 8 31 ≤ 60) (hu : 0 ≤ u ∧ u < 200) : ∀ (d : Nat) (n w : Int), σ 26 r ≤ n → n + d = σ 26 r + σ 27 r → (w = 0 ∨ w = 1) →
    ∃ w', (w' = 0 ∨ w' = 1) ∧ (w' = 1 ↔ w = 1 ∨ hasF σ f r n) ∧ md_endCodesOfFunction_b79 τ g c w u r n = md_endCodesOfFunction_b15 τ g c w' (u + 1)
  | 0, n, w, n0, hn, hw => by
    have hb : 0 ≤ r ∧ r < 60 := by omega
    have gr := h.2.1 r hr.1 hr.2
    have hh := h.1
    refine ⟨w, hw, ⟨fun q => Or.inl q, fun q => ?_⟩, ?_⟩
    · rcases q with q | ⟨m, i, a, b, _⟩
      · exact q
      · omega
    · rw [md_endCodesOfFunction_b79_e, gr.1, gr.2.1, w32_e (x := σ 26 r + σ 27 r) (by omega) (by omega)]
      simp only [hb, and_self, if_true]
      rw [if_neg (by omega), md_endCodesOfFunction_b173_e, w32_e (by omega) (by omega)]
  | d + 1, n, w, n0, hn, hw => by
    have hb : 0 ≤ r ∧ r < 60 := by omega
    have gr := h.2.1 r hr.1 hr.2
    have hh := h.1
    have hbn : 0 ≤ n ∧ n < 20000 := by omega
    have hlt : n < σ 26 r + σ 27 r := by omega
    have gn := h.2.2 n (by omega) (by omega)
    rcases hw with hw | hw <;> subst hw
    · have e167 : ∀ x, md_endCodesOfFunction_b167 τ g c x u r n = md_endCodesOfFunction_b79 τ g c x u r (n + 1) := fun x => by rw [md_endCodesOfFunction_b167_e, w32_e (by omega) (by omega)]
      have e : md_endCodesOfFunction_b79 τ g c 0 u r n = md_endCodesOfFunction_b106 τ g c 0 u r n 0 := by
        rw [md_endCodesOfFunction_b79_e, gr.1, gr.2.1, w32_e (x := σ 26 r + σ 27 r) (by omega) (by omega)]
        simp only [hb, hlt, and_self, if_true]
      rw [e, hasF_later hlt]
      by_cases k : σ 9 n = 23
      · obtain ⟨w1, a1, a2, a3⟩ := md_ecf_b106_s (c := c) (u := u) (r := r) h h60 hf (n := n) (by omega) k (σ 18 n).toNat 0 0 (by omega) (by have := gn.2.2.2.2.2.1; omega) (Or.inl rfl)
        obtain ⟨w', b1, b2, b3⟩ := md_ecf_b79_s (c := c) h hf hr h60 hu d (n + 1) w1 (by omega) (by omega) a1
        refine ⟨w', b1, b2.trans ?_, by rw [a3, e167, b3]⟩
        rw [a2]
        constructor
        · intro q
          rcases q with (q | q) | q
          · exact Or.inl q
          · exact Or.inr (Or.inl ⟨k, q⟩)
          · exact Or.inr (Or.inr q)
        · intro q
          rcases q with q | ⟨_, q⟩ | q
          · exact Or.inl (Or.inl q)
          · exact Or.inl (Or.inr q)
          · exact Or.inr q
      · have e2 : md_endCodesOfFunction_b106 τ g c 0 u r n 0 = md_endCodesOfFunction_b79 τ g c 0 u r (n + 1) := by
          rw [md_endCodesOfFunction_b106_e, gn.1]
          simp only [hbn, and_self, if_true]
          rw [if_neg k, e167]
        obtain ⟨w', b1, b2, b3⟩ := md_ecf_b79_s (c := c) h hf hr h60 hu d (n + 1) 0 (by omega) (by omega) (Or.inl rfl)
        refine ⟨w', b1, b2.trans ?_, by rw [e2, b3]⟩
        constructor
        · intro q
          rcases q with q | q
          · exact Or.inl q
          · exact Or.inr (Or.inr q)
        · intro q
          rcases q with q | q | q
          · exact Or.inl q
          · exact absurd q.1 k
          · exact Or.inr q
    · have e : md_endCodesOfFunction_b79 τ g c 1 u r n = md_endCodesOfFunction_b15 τ g c 1 (u + 1) := by
        rw [md_endCodesOfFunction_b79_e, gr.1, gr.2.1, w32_e (x := σ 26 r + σ 27 r) (by omega) (by omega)]
        simp only [hb, hlt, and_self, if_true, show ¬ ((1 : Int) = 0) by decide, if_false]
        rw [md_endCodesOfFunction_b173_e, w32_e (by omega) (by omega)]
      exact ⟨1, Or.inr rfl, ⟨fun _ => Or.inl rfl, fun _ => rfl⟩, e⟩
theorem cd_defined_b27_s (hb : rBk σ τ) (h : rNd σ τ) {f g c : Int} (hf : sameF σ τ f g) (h0 : 0 ≤ c) (hc : c < σ 52 10) (hv : σ 61 c = 1) : ∀ (d : Nat) (u w : Int), 0 ≤ u → u + d = σ 55 c → (w = 0 ∨ w = 1) →
    ∃ w', (w' = 0 ∨ w' = 1) ∧ cd_defined_b27 σ f c w u = cd_defined_b102 σ f c w' ∧ md_endCodesOfFunction_b15 τ g c w u = md_endCodesOfFunction_b179 τ g c w'
  | 0, u, w, u0, hu, hw => by
    have gg := hb.2.2.2 c h0 hc
    have b1 : 0 ≤ c ∧ c < 100 := by have := hb.2.1; omega
    rw [cd_defined_b27_e, md_endCodesOfFunction_b15_e, gg.2.1.1]
    simp only [b1, and_self, if_true]
    rw [if_neg (by omega), if_neg (by omega)]
    exact ⟨w, hw, rfl, rfl⟩
  | d + 1, u, w, u0, hu, hw => by
    have gg := hb.2.2.2 c h0 hc
    have b1 : 0 ≤ c ∧ c < 100 := by have := hb.2.1; omega
    have gu := gg.2.2.2.2.2.2.2.2.2 u u0 (by omega)
    have hlt : u < σ 55 c := by omega
    have v1 : ¬ τ 203 c = 0 := by rw [gg.2.2.2.2.2.2.2.1.1, hv]; decide
    have bb := gg.2.2.2.2.2.2.2.2.1
    have h60 : σ 8 31 ≤ 60 := by have := hb.1.1; omega
    have b2 : 0 ≤ σ 54 c + u ∧ σ 54 c + u < 16000 := by have := hb.2.1; have := hb.2.2.1; omega
    have b3 : 0 ≤ 152 * c + u ∧ 152 * c + u < 15200 := by omega
    have b4 : 0 ≤ σ 62 (σ 54 c + u) ∧ σ 62 (σ 54 c + u) < 60 := by omega
    rw [cd_defined_b27_e, md_endCodesOfFunction_b15_e, gg.2.1.1]
    simp only [b1, hlt, and_self, if_true, if_neg v1]
    rw [w32_e (x := σ 54 c + u) (by omega) (by omega), md_unit_s (by omega)]
    simp only [Option.bind_some, b2, b3, and_self, if_true, gu.1.1, b4, cd_defined_b90_e, cd_defined_b95_e, md_endCodesOfFunction_b69_e]
    rw [w32_e (x := u + 1) (by omega) (by omega)]
    have gr := h.2.1 (σ 62 (σ 54 c + u)) gu.1.2.1 gu.1.2.2
    have hfr := hf (σ 62 (σ 54 c + u)) (by omega) gu.1.2.2
    rcases hw with hw | hw <;> subst hw
    · simp only [if_true]
      rw [gr.1, cd_calls_e]
      simp only [b4, and_self, if_true]
      have ca := cd_calls_b10_s h (f := f) (r := σ 62 (σ 54 c + u)) ⟨gu.1.2.1, gu.1.2.2⟩ h60 (σ 27 (σ 62 (σ 54 c + u))).toNat (σ 26 (σ 62 (σ 54 c + u))) (by omega) (by omega)
      by_cases q : σ 25 (σ 62 (σ 54 c + u)) = f
      · rw [if_pos q, if_pos (hfr.mp q)]
        obtain ⟨w1, a1, a2, a3⟩ := md_ecf_b79_s (c := c) h hf (r := σ 62 (σ 54 c + u)) ⟨gu.1.2.1, gu.1.2.2⟩ h60 (u := u) (by omega) (σ 27 (σ 62 (σ 54 c + u))).toNat (σ 26 (σ 62 (σ 54 c + u))) 1 (by omega) (by omega) (Or.inr rfl)
        have : w1 = 1 := a2.mpr (Or.inl rfl)
        subst this
        rw [a3]
        exact cd_defined_b27_s hb h hf h0 hc hv d (u + 1) 1 (by omega) (by omega) (Or.inr rfl)
      · rw [if_neg q, if_neg (fun z => q (hfr.mpr z))]
        obtain ⟨w1, a1, a2, a3⟩ := md_ecf_b79_s (c := c) h hf (r := σ 62 (σ 54 c + u)) ⟨gu.1.2.1, gu.1.2.2⟩ h60 (u := u) (by omega) (σ 27 (σ 62 (σ 54 c + u))).toNat (σ 26 (σ 62 (σ 54 c + u))) 0 (by omega) (by omega) (Or.inl rfl)
        rw [a3]
        rcases a1 with a1 | a1
        · subst a1
          rw [ca.2 (fun q => by have := a2.mpr (Or.inr q); omega)]
          simp only [Option.bind_some, if_true]
          exact cd_defined_b27_s hb h hf h0 hc hv d (u + 1) 0 (by omega) (by omega) (Or.inl rfl)
        · subst a1
          have hh : hasF σ f (σ 62 (σ 54 c + u)) (σ 26 (σ 62 (σ 54 c + u))) := by
            rcases a2.mp rfl with q | q
            · omega
            · exact q
          rw [ca.1 hh]
          simp only [Option.bind_some, show ¬ ((1 : Int) = 0) by decide, if_false]
          exact cd_defined_b27_s hb h hf h0 hc hv d (u + 1) 1 (by omega) (by omega) (Or.inr rfl)
    · simp only [show ¬ ((1 : Int) = 0) by decide, if_false]
      exact ⟨1, Or.inr rfl, rfl, rfl⟩
theorem sameF.ef {σ' τ' : gM} {f g : Int} (h : sameF σ τ f g) (e1 : eFr σ σ') (e2 : eFm τ τ') : sameF σ' τ' f g := by
  intro r r0 r1
  rw [e1 8 31 (by decide) (by decide) (by decide)] at r1
  rw [e1 25 r (by decide) (by decide) (by decide), e2 157 r (by decide) (by decide) (by decide)]
  exact h r r0 r1
theorem cd_defined_s {f g : Int} : ∀ (d : Nat) (σ τ : gM) (c : Int), rBk σ τ → rNd σ τ → sameF σ τ f g → 0 ≤ c → c + d = σ 52 10 →
    ∃ σ' τ', cd_defined_b2 σ f c = some (σ', 0) ∧ md_endCodesOfFunction_b2 τ g c = some (τ', 0) ∧ rBk σ' τ' ∧ eFr σ σ' ∧ eFm τ τ' ∧ (∀ i, σ' 61 i = σ 61 i ∨ σ' 61 i = 0)
  | 0, σ, τ, c, h, hn, hf, h0, hc => by
    rw [cd_defined_b2_e, if_neg (by omega), md_endCodesOfFunction_b2_e, h.2.1.2.2, if_neg (by omega)]
    exact ⟨σ, τ, rfl, rfl, h, fun _ _ _ _ _ => rfl, fun _ _ _ _ _ => rfl, fun _ => Or.inl rfl⟩
  | d + 1, σ, τ, c, h, hn, hf, h0, hc => by
    have b1 : 0 ≤ c ∧ c < 100 := by have := h.2.1; omega
    have gg := h.2.2.2 c h0 (by omega)
    have hlt : c < σ 52 10 := by omega
    rw [cd_defined_b2_e, md_endCodesOfFunction_b2_e, h.2.1.2.2]
    simp only [b1, hlt, and_self, if_true]
    have next : ∀ (σ1 τ1 : gM), rBk σ1 τ1 → eFr σ σ1 → eFm τ τ1 → (∀ i, σ1 61 i = σ 61 i ∨ σ1 61 i = 0) → ∃ σ' τ', cd_defined_b111 σ1 f c = some (σ', 0) ∧ md_endCodesOfFunction_b188 τ1 g c = some (τ', 0) ∧ rBk σ' τ' ∧ eFr σ σ' ∧ eFm τ τ' ∧ (∀ i, σ' 61 i = σ 61 i ∨ σ' 61 i = 0) := by
      intro σ1 τ1 hb f1 f2 f3
      rw [cd_defined_b111_e, md_endCodesOfFunction_b188_e, w32_e (by omega) (by omega)]
      obtain ⟨σ', τ', i1, i2, i3, i4, i5, i6⟩ := cd_defined_s (f := f) (g := g) d σ1 τ1 (c + 1) hb (hn.ef f1 f2) (hf.ef f1 f2) (by omega) (by rw [f1 52 10 (by decide) (by decide) (by decide)]; omega)
      refine ⟨σ', τ', i1, i2, i3, f1.tr i4, f2.tr i5, fun i => ?_⟩
      rcases i6 i with q | q
      · rw [q]; exact f3 i
      · exact Or.inr q
    have v := gg.2.2.2.2.2.2.2.1
    by_cases hv : σ 61 c = 0
    · rw [if_pos hv]
      have e : md_endCodesOfFunction_b15 τ g c 0 0 = md_endCodesOfFunction_b188 τ g c := by
        rw [md_endCodesOfFunction_b15_e, gg.2.1.1]
        have hlt : (0 : Int) < σ 55 c := by omega
        have : τ 203 c = 0 := by rw [v.1]; exact hv
        simp only [b1, hlt, and_self, if_true, this, md_endCodesOfFunction_b179_e]
      rw [e]
      exact next σ τ h (fun _ _ _ _ _ => rfl) (fun _ _ _ _ _ => rfl) (fun _ => Or.inl rfl)
    · rw [if_neg hv]
      obtain ⟨w', hw, e1, e2⟩ := cd_defined_b27_s h hn hf h0 hlt (by omega) (σ 55 c).toNat 0 0 (by omega) (by omega) (Or.inl rfl)
      rw [e1, e2, cd_defined_b102_e, md_endCodesOfFunction_b179_e]
      rcases hw with hw | hw <;> subst hw
      · simp only [if_true]
        exact next σ τ h (fun _ _ _ _ _ => rfl) (fun _ _ _ _ _ => rfl) (fun _ => Or.inl rfl)
      · simp only [show ¬ ((1 : Int) = 0) by decide, if_false]
        obtain ⟨σ1, τ1, a1, a2, a3, a4, a5, a6, a7⟩ := cd_ends_s h h0 (c := c) hlt
        rw [a1, a2]
        simp only [Option.bind_some]
        exact next σ1 τ1 a3 a4 a5 (fun i => by
          by_cases e : i = c
          · subst e; exact Or.inr a6
          · exact Or.inl (a7 i e))
end DF
