/-! a new activation: what is related then -/
section AF
variable {σ τ S T : gM} {pT hT : Int → Int} {m : Nat} {br co θ n : Int}
theorem act_fin {r W P1 h1 a0 a1 ar : Int} (R : RQ σ τ pT hT) (m58 : σ 87 19 ≤ 58) (hr : 4 ≤ r ∧ r < σ 8 31)
    (c : ∀ a, (0 ≤ a ∧ a ≤ 31) ∨ (33 ≤ a ∧ a ≤ 35) ∨ a = 40 ∨ (42 ≤ a ∧ a ≤ 51) ∨ (53 ≤ a ∧ a ≤ 57) ∨ (59 ≤ a ∧ a ≤ 66) ∨ (100 ≤ a ∧ a ≤ 103) → S a = σ a) (c52 : ∀ i, i ≠ 19 → S 52 i = σ 52 i) (c87 : ∀ i, i = 5 ∨ i = 23 ∨ i = 24 ∨ i = 31 ∨ i = 34 → S 87 i = σ 87 i) (s19 : S 87 19 = σ 87 19 + 1) (s21 : S 87 21 = σ 87 19) (s22 : S 87 22 = W)
    (cr : ∀ a j, 90 ≤ a → a ≤ 96 → a ≠ 91 → j < σ 87 19 → S a j = σ a j) (c91 : ∀ j, j < σ 87 21 → S 91 j = σ 91 j) (s91 : S 91 (σ 87 21) = σ 87 22 + 1) (s90 : S 90 (σ 87 19) = r) (s92 : S 92 (σ 87 19) = a0) (hrow : aR1 S T (σ 87 19)) (cl : ∀ a j, 97 ≤ a → a ≤ 99 → j < 12 * σ 87 19 → S a j = σ a j) (lk : ∀ l, 0 ≤ l → l < σ 31 r → S 97 (12 * σ 87 19 + l) = 4 ∧ S 99 (12 * σ 87 19 + l) = 0 ∧ S 98 (12 * σ 87 19 + l) = 3)
    (d : ∀ a, (121 ≤ a ∧ a ≤ 128) ∨ a = 134 ∨ (155 ≤ a ∧ a ≤ 162) ∨ (164 ≤ a ∧ a ≤ 184) ∨ (186 ≤ a ∧ a ≤ 199) ∨ (201 ≤ a ∧ a ≤ 206) ∨ (215 ≤ a ∧ a ≤ 223) → T a = τ a) (d119 : ∀ i, i ≠ 89 → i ≠ 121 → i ≠ 122 → i ≠ 123 → T 119 i = τ 119 i) (t121 : T 119 121 = σ 87 19 + 1) (t122 : T 119 122 = S 87 20) (t123 : τ 119 123 ≤ T 119 123) (dr : ∀ a j, 208 ≤ a → a ≤ 214 → j < σ 87 19 → T a j = τ a j) (t212 : T 212 (σ 87 19) = τ 119 124)
    (HB : rBk S T) (HQ : rQu S T) (HT : rTo S T) (pcw : pcT S (σ 87 19) W (σ 28 r)) (pcc : pcT σ (σ 87 21) (σ 87 22 + 1) P1) (cc : T 119 123 + ccN S (σ 87 19 + 1).toNat ≤ 2146000000) (F : rFa S)
    (low : ∃ (m : Nat) (br co : Int), aX σ τ (σ 87 21) m P1 h1 br co ∧ τ 119 124 = τ 212 (σ 87 21) + m + 2 ∧ a0 + 1 = σ 92 (σ 87 21) + h1) : ∃ T2, md_activate_b255 T r a1 ar (σ 87 19) 0 = md_activate_b317 T2 r a1 ar 0 ∧ RQ S T2 (updF (updF pT (σ 87 21) P1) (σ 87 19) (σ 28 r)) (updF hT (σ 87 21) h1) ∧ (∀ k x t y, rVal σ τ k x t y → rVal S T2 k x t y) ∧ ∀ a, (a < 215 ∨ 217 < a) → T2 a = T a := by
  obtain ⟨c1, c2, c3, c4, c5, c6⟩ := R.cu
  have hm := R.2.1.2.2.2.2.2.1
  have hR := R.1.1.1.2.2.2.2.2.2.2.2.2.2.2.2.2.1
  have rr := (hR r hr.1 hr.2).1
  have e161 : T 161 r = σ 31 r := by rw [d 161 (by decide)]; omega
  have b31 : 0 ≤ σ 31 r ∧ σ 31 r ≤ 12 := by omega
  obtain ⟨T2, l1, l2, l3, l4⟩ := locM (a0 := a1) (ar := ar) (k := σ 87 19) (r := r) (by omega) (by omega) (σ 31 r).toNat T 0 (by decide) (by omega) (by omega)
  rw [e161] at l3 l4
  have yT : ∀ a, (a < 215 ∨ 217 < a) → T2 a = T a := fun a q => funext fun i => l2 a i q
  have y119 : T2 119 = T 119 := yT 119 (by decide)
  obtain ⟨m', b', c', ⟨x1, x2, x3, x4⟩, x5, x6⟩ := low
  have hl := St.le _ _ _ _ _ x1
  have e90 : S 90 (σ 87 21) = σ 90 (σ 87 21) := cr 90 _ (by decide) (by decide) (by decide) (by omega)
  have e92 : S 92 (σ 87 21) = σ 92 (σ 87 21) := cr 92 _ (by decide) (by decide) (by decide) (by omega)
  have e212 : T2 212 (σ 87 21) = τ 212 (σ 87 21) := by rw [yT 212 (by decide)]; exact dr 212 _ (by decide) (by decide) (by omega)
  obtain ⟨Q, rv⟩ := R.push (S := S) (T := T2) (r := r) (W := W) (P0 := σ 28 r) (P1 := P1) (h1 := h1) m58 c c52 c87 s19 s21 s22 cr c91 s91 s90 (by
      unfold aR1 at hrow ⊢
      rw [y119, yT 208 (by decide), yT 209 (by decide), yT 210 (by decide), yT 211 (by decide), yT 213 (by decide), yT 214 (by decide)]
      exact hrow) cl (fun l q1 q2 => by
      obtain ⟨v1, v2, v3⟩ := lk l q1 q2
      obtain ⟨w1, w2, w3⟩ := l4 l q1 q2
      rw [v1, v2, v3, w1, w2, w3]
      exact ⟨rfl, by decide, Or.inr (Or.inr (Or.inr (Or.inr (Or.inl ⟨rfl, rfl, rfl, rfl⟩))))⟩) (fun a q => by rw [yT a (by omega), d a (by omega)]) (fun i q1 q2 q3 q4 => by rw [y119, d119 i q1 q2 q3 q4]) (by rw [y119]; exact t121) (by rw [y119]; exact t122) (by rw [y119]; exact t123) (fun a j q1 q2 q3 => by rw [yT a (by omega), dr a j q1 q2 q3]) (fun a j q1 q2 q3 => by rw [l3 a j (by omega), d a (by omega)])
    (HB.up (fun a _ => rfl) rfl rfl rfl (fun a q => yT a (by omega)) (by rw [y119]) (by rw [y119]) fun i i0 i1 => by
      have gi := HB.2.2.2 i i0 i1
      rw [yT 200 (by decide), yT 201 (by decide), yT 202 (by decide)]
      exact ⟨gi.2.2.2.2.1, gi.2.2.2.2.2.1, gi.2.2.2.2.2.2.1⟩) (by
      unfold rQu at HQ ⊢
      rw [y119, yT 185 (by decide)]
      exact HQ) (by
      unfold rTo at HT ⊢
      rw [yT 224 (by decide)]
      exact HT) pcw pcc (by rw [y119]; exact cc) F ⟨m', b', c', ⟨by
        rw [e90, e212, c 26 (by decide), c 27 (by decide), c 28 (by decide), c 29 (by decide)]
        exact St.fr (fun a n q _ _ => by rw [yT a (by omega), d a (by omega)]) (fun n _ _ => by rw [c 14 (by decide)]) (fun p _ _ => ⟨by rw [c 20 (by decide)], by rw [c 21 (by decide)], by rw [c 22 (by decide)]⟩) m' _ _ _ _ (fun a i q1 q2 _ _ => by rw [yT a (by omega), d a (by omega)]) x1, by rw [e212]; exact x2, by rw [e92]; exact x3, x4⟩, by rw [e212, yT 212 (by decide), t212]; exact x5, by rw [s92, e92]; exact x6⟩
  exact ⟨T2, l1, Q, rv, yT⟩
end AF
