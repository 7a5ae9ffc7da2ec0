/-! one activation more: what is related of a run -/
section PU
variable {σ τ S T : gM} {pT hT : Int → Int} {m : Nat} {br co θ n : Int}
theorem RQ.push {r W P0 P1 h1 : Int} (R : RQ σ τ pT hT) (m58 : σ 87 19 ≤ 58)
    (c : ∀ a, (0 ≤ a ∧ a ≤ 31) ∨ (33 ≤ a ∧ a ≤ 35) ∨ a = 40 ∨ (42 ≤ a ∧ a ≤ 51) ∨ (53 ≤ a ∧ a ≤ 57) ∨ (59 ≤ a ∧ a ≤ 66) ∨ (100 ≤ a ∧ a ≤ 103) → S a = σ a) (c52 : ∀ i, i ≠ 19 → S 52 i = σ 52 i) (c87 : ∀ i, i = 5 ∨ i = 23 ∨ i = 24 ∨ i = 31 ∨ i = 34 → S 87 i = σ 87 i) (s19 : S 87 19 = σ 87 19 + 1) (s21 : S 87 21 = σ 87 19) (s22 : S 87 22 = W)
    (cr : ∀ a j, 90 ≤ a → a ≤ 96 → a ≠ 91 → j < σ 87 19 → S a j = σ a j) (c91 : ∀ j, j < σ 87 21 → S 91 j = σ 91 j) (s91 : S 91 (σ 87 21) = σ 87 22 + 1) (s90 : S 90 (σ 87 19) = r) (hrow : aR1 S T (σ 87 19)) (cl : ∀ a j, 97 ≤ a → a ≤ 99 → j < 12 * σ 87 19 → S a j = σ a j) (lk : ∀ l, 0 ≤ l → l < σ 31 r → T 215 (12 * σ 87 19 + l) = S 98 (12 * σ 87 19 + l) ∧ (1 ≤ S 98 (12 * σ 87 19 + l) ∧ S 98 (12 * σ 87 19 + l) ≤ 3) ∧ rVal S T (S 97 (12 * σ 87 19 + l)) (S 99 (12 * σ 87 19 + l)) (T 216 (12 * σ 87 19 + l)) (T 217 (12 * σ 87 19 + l)))
    (d : ∀ a, (121 ≤ a ∧ a ≤ 128) ∨ a = 134 ∨ (155 ≤ a ∧ a ≤ 162) ∨ (164 ≤ a ∧ a ≤ 184) ∨ (186 ≤ a ∧ a ≤ 199) ∨ (201 ≤ a ∧ a ≤ 206) ∨ (218 ≤ a ∧ a ≤ 220) ∨ a = 223 → T a = τ a) (d119 : ∀ i, i ≠ 89 → i ≠ 121 → i ≠ 122 → i ≠ 123 → T 119 i = τ 119 i) (t121 : T 119 121 = σ 87 19 + 1) (t122 : T 119 122 = S 87 20) (t123 : τ 119 123 ≤ T 119 123) (dr : ∀ a j, 208 ≤ a → a ≤ 214 → j < σ 87 19 → T a j = τ a j) (dl : ∀ a j, 215 ≤ a → a ≤ 217 → j < 12 * σ 87 19 → T a j = τ a j)
    (HB : rBk S T) (HQ : rQu S T) (HT : rTo S T) (pcw : pcT S (σ 87 19) W P0) (pcc : pcT σ (σ 87 21) (σ 87 22 + 1) P1) (cc : T 119 123 + ccN S (σ 87 19 + 1).toNat ≤ 2146000000) (F : rFa S)
    (low : ∃ (m : Nat) (br co : Int), aX S T (σ 87 21) m P1 h1 br co ∧ T 212 (σ 87 19) = T 212 (σ 87 21) + m + 2 ∧ S 92 (σ 87 19) + 1 = S 92 (σ 87 21) + h1) : RQ S T (updF (updF pT (σ 87 21) P1) (σ 87 19) P0) (updF hT (σ 87 21) h1) ∧ ∀ k x t y, rVal σ τ k x t y → rVal S T k x t y := by
  obtain ⟨⟨⟨P, P2⟩, N, M, B⟩, A, ⟨V2, V3⟩, K1, C, -⟩ := R
  obtain ⟨hb, ha, hcp, hap, ht, ⟨hm, hc⟩, hf⟩ := A
  have m59 := ha.1
  have e1 : stlC σ S := by
    refine ⟨fun a q => c a (by omega), ?_⟩
    rw [c 0 (by decide), c 8 (by decide), c 42 (by decide)]
    exact ⟨rfl, rfl, rfl, rfl, rfl, rfl, rfl, rfl, rfl, rfl, rfl, rfl, rfl, rfl, c52 10 (by decide), c52 11 (by decide), c52 12 (by decide), c87 31 (by decide)⟩
  have e2 : stlT τ T := ⟨fun a q => d a (by omega), d119 9 (by decide) (by decide) (by decide) (by decide), d119 10 (by decide) (by decide) (by decide) (by decide), d119 12 (by decide) (by decide) (by decide) (by decide), d119 13 (by decide) (by decide) (by decide) (by decide), d119 15 (by decide) (by decide) (by decide) (by decide), d119 16 (by decide) (by decide) (by decide) (by decide), d119 55 (by decide) (by decide) (by decide) (by decide), d119 56 (by decide) (by decide) (by decide) (by decide), d119 57 (by decide) (by decide) (by decide) (by decide), d119 92 (by decide) (by decide) (by decide) (by decide), d119 93 (by decide) (by decide) (by decide) (by decide), d119 94 (by decide) (by decide) (by decide) (by decide), d119 104 (by decide) (by decide) (by decide) (by decide)⟩
  have rv := (rVal_up e1 e2).1
  have hN := P.2.2.2.2.2.2.2.2.1
  have hV := P.2.2.2.2.2.2.2.2.2.2.2.1.2.2
  have hS := P.2.2.2.2.2.2.2.2.2.2.2.2.2.2.2.1
  have hC := P.2.2.2.2.2.2.2.2.2.2.2.2.2.2.2.2
  have P3 : rPg S T := by
    refine P.up e1 e2 HB ?_ ?_ HQ ?_ ?_
    · have pl : ∀ s n, plc S s n = plc σ s n := fun s n => plc_mv (c 43 (by decide)) (c 44 (by decide)) (c 47 (by decide))
      unfold rNd rN1 rEn at hN ⊢
      simp only [pl, d119 57 (by decide) (by decide) (by decide) (by decide)]
      rw [c 8 (by decide), c 9 (by decide), c 10 (by decide), c 11 (by decide), c 12 (by decide), c 13 (by decide), c 18 (by decide), c 19 (by decide), c 26 (by decide), c 27 (by decide), c 42 (by decide), d 158 (by decide), d 159 (by decide), d 168 (by decide), d 169 (by decide), d 174 (by decide), d 175 (by decide), d 178 (by decide), d 180 (by decide), d 181 (by decide), d 182 (by decide), d 183 (by decide), d 184 (by decide)]
      exact hN
    · unfold rVc cFa at hV ⊢
      simp only [c52 10 (by decide)]
      rw [c 9 (by decide), c 11 (by decide), c 18 (by decide), c 19 (by decide), c 20 (by decide), c 22 (by decide), c 29 (by decide), c 54 (by decide), c 55 (by decide), c 61 (by decide), c 62 (by decide), c 64 (by decide), c 65 (by decide)]
      exact hV
    · unfold rSo at hS ⊢
      rw [c 8 (by decide), c 35 (by decide), d 167 (by decide)]
      exact hS
    · intro r' q0 q1
      rw [c 8 (by decide)] at q1
      rw [d 166 (by decide), c 26 (by decide), c 27 (by decide), hC r' q0 q1]
      exact (congrArg w32 (chN_mv _ fun i _ => by rw [c 12 (by decide)])).symm
  have fsI : ∀ P Q, sI σ S P Q := fun P Q p _ _ => ⟨by rw [c 20 (by decide)], by rw [c 21 (by decide)], by rw [c 22 (by decide)]⟩
  refine ⟨⟨⟨⟨P3, ?_⟩, N.mv (fun a q => c a (by omega)) (d 179 (by decide)), ?_, ?_⟩, ⟨HB, ⟨⟨by omega, by omega, by omega⟩, by have := ha.2.1; omega, fun k q1 q2 => ?_⟩, hcp.mv' (fun a q => c a (by omega)) (c52 10 (by decide)) (c52 12 (by decide)), fun k q1 q2 => ?_, HT, ⟨by omega, by omega⟩, by rw [s19]; exact cc⟩, ⟨fun k l k0 k1 l0 l1 => ?_, ?_⟩, ?_, ?_, F⟩, fun k x t y q => (rv k x t y).mpr q⟩
  · unfold rRp at P2 ⊢
    rw [c 8 (by decide), c 24 (by decide), c 25 (by decide)]
    exact P2
  · unfold rRm cRm mRm at M ⊢
    rw [c 0 (by decide), c 8 (by decide), c 42 (by decide), d119 9 (by decide) (by decide) (by decide) (by decide), d119 10 (by decide) (by decide) (by decide) (by decide), d119 15 (by decide) (by decide) (by decide) (by decide), d119 56 (by decide) (by decide) (by decide) (by decide)]
    exact M
  · exact ⟨by rw [c 1 (by decide)]; exact B.1, by rw [d 134 (by decide)]; exact B.2.1, B.2.2.mv (fun a q => d a (by omega)) (d119 56 (by decide) (by decide) (by decide) (by decide))⟩
  · by_cases z : k = σ 87 19
    · rw [z]; exact hrow
    · have kl : k < σ 87 19 := by omega
      have o := ha.2.2 k q1 kl
      unfold aR1 acC at o ⊢
      rw [cr 90 k (by decide) (by decide) (by decide) kl, cr 92 k (by decide) (by decide) (by decide) kl, cr 93 k (by decide) (by decide) (by decide) kl, cr 94 k (by decide) (by decide) (by decide) kl, cr 95 k (by decide) (by decide) (by decide) kl, cr 96 k (by decide) (by decide) (by decide) kl, cr 95 (k - 1) (by decide) (by decide) (by decide) (by omega), cr 93 (k - 1) (by decide) (by decide) (by decide) (by omega), c 8 (by decide), c 54 (by decide), c 55 (by decide), c 62 (by decide), c52 10 (by decide), dr 208 k (by decide) (by decide) kl, dr 209 k (by decide) (by decide) kl, dr 210 k (by decide) (by decide) kl, dr 211 k (by decide) (by decide) kl, dr 213 k (by decide) (by decide) kl, dr 214 k (by decide) (by decide) kl, dr 211 (k - 1) (by decide) (by decide) (by omega)]
      obtain ⟨o1, o2, o3, o4, o5, o6⟩ := o
      exact ⟨o1, o2, o3, by omega, o5, o6⟩
  · unfold pcA
    by_cases z : k = σ 87 19
    · rw [z, s21, if_pos rfl, s22, updF_at]
      exact pcw
    · rw [s21, if_neg z, updF_ne z]
      have kl : k < σ 87 19 := by omega
      have go : ∀ pc P, pcT σ k pc P → pcT S k pc P := fun pc P q => by
        unfold pcT at q ⊢
        rw [cr 90 k (by decide) (by decide) (by decide) kl, cr 93 k (by decide) (by decide) (by decide) kl, cr 94 k (by decide) (by decide) (by decide) kl, c 28 (by decide), c 29 (by decide), c 54 (by decide), c 65 (by decide)]
        exact q
      by_cases y : k = σ 87 21
      · rw [y, updF_at, s91, ← y]
        rw [← y] at pcc
        exact go _ _ pcc
      · rw [updF_ne y, c91 k (by omega)]
        have := hap k q1 kl
        unfold pcA at this
        rw [if_neg y] at this
        exact go _ _ this
  · rw [s19] at k1
    by_cases z : k = σ 87 19
    · rw [z, s90, c 31 (by decide)] at l1
      rw [z]
      exact lk l l0 l1
    · have kl : k < σ 87 19 := by omega
      rw [cr 90 k (by decide) (by decide) (by decide) kl, c 31 (by decide)] at l1
      have r4 := (ha.2.2 k k0 kl).2.1
      have hR := P.2.2.2.2.2.2.2.2.2.2.2.2.2.1
      have l12 := (hR _ r4.1 r4.2).1.2.2.2.1
      rw [cl 97 _ (by decide) (by decide) (by omega), cl 98 _ (by decide) (by decide) (by omega), cl 99 _ (by decide) (by decide) (by omega), dl 215 _ (by decide) (by decide) (by omega), dl 216 _ (by decide) (by decide) (by omega), dl 217 _ (by decide) (by decide) (by omega), rv]
      exact V2 k l k0 kl l0 l1
  · unfold rOb at V3 ⊢
    rw [c87 31 (by decide), d119 95 (by decide) (by decide) (by decide) (by decide), c 100 (by decide), c 101 (by decide), c 102 (by decide), c 42 (by decide), c 47 (by decide), d 193 (by decide), d 194 (by decide), d 195 (by decide)]
    simp only [rv]
    exact V3
  · rw [s21]
    intro k k0 k1
    by_cases z : k = σ 87 21
    · obtain ⟨m', b', c', l1, l2, l3⟩ := low
      refine ⟨m', b', c', ?_, ?_, ?_⟩
      · rw [z, updF_ne (show σ 87 21 ≠ σ 87 19 by omega), updF_at, updF_at]; exact l1
      · rw [z, show σ 87 21 + 1 = σ 87 19 by omega]; exact l2
      · rw [z, show σ 87 21 + 1 = σ 87 19 by omega, updF_at]; exact l3
    · have K2 : rSl S T (updF (updF pT (σ 87 21) P1) (σ 87 19) P0) (updF hT (σ 87 21) h1) (σ 87 21) := K1.fr (fun k q1 q2 => (ha.2.2 k q1 (by omega)).2.1) (fun k q1 q2 => ⟨by rw [updF_ne (by omega), updF_ne (by omega)], updF_ne (by omega)⟩) (fun k q1 q2 => cr 90 k (by decide) (by decide) (by decide) (by omega)) (fun k q1 q2 => cr 92 k (by decide) (by decide) (by decide) (by omega)) (fun k q1 q2 => dr 212 k (by decide) (by decide) (by omega)) (fun a r q1 q2 _ _ => by rw [c a (by omega)]) (fun r _ _ => ⟨fun a n q _ _ => by rw [d a (by omega)], fun n _ _ => by rw [c 14 (by decide)], fsI _ _⟩) (fun a i q1 q2 _ => by rw [d a (by omega)]) K1.mon
      exact K2 k k0 (by omega)
  · obtain ⟨C1, C2, C3, C4, C5, C6, C7, C8⟩ := C
    exact ⟨by rw [c87 23 (by decide), d119 117 (by decide) (by decide) (by decide) (by decide)]; exact C1, by rw [c87 24 (by decide), d119 118 (by decide) (by decide) (by decide) (by decide)]; exact C2, t122, by rw [c87 34 (by decide), d119 126 (by decide) (by decide) (by decide) (by decide)]; exact C4, by rw [c87 34 (by decide), c 103 (by decide), d 223 (by decide)]; exact C5, by rw [c 0 (by decide), d119 11 (by decide) (by decide) (by decide) (by decide), d119 12 (by decide) (by decide) (by decide) (by decide), d119 13 (by decide) (by decide) (by decide) (by decide)]; exact C6, by rw [c87 5 (by decide), d119 1 (by decide) (by decide) (by decide) (by decide)]; exact C7, by rw [d119 127 (by decide) (by decide) (by decide) (by decide)]; exact C8⟩
end PU
