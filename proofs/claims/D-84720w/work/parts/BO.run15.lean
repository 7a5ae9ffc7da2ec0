/-! a task is done: the run goes on with the one below -/
section AS
variable {σ τ S T : gM} {pT hT : Int → Int} {m : Nat} {br co θ : Int}
/-- what instructions keep of trees, places and counts -/
def kpX (σ τ S T : gM) : Prop := (∀ a, a = 14 ∨ (20 ≤ a ∧ a ≤ 22) ∨ (26 ≤ a ∧ a ≤ 29) ∨ a = 90 ∨ a = 92 → S a = σ a) ∧ (∀ i, i = 19 ∨ i = 21 ∨ i = 24 ∨ i = 34 → S 87 i = σ 87 i) ∧ (∀ a, a = 168 ∨ (170 ≤ a ∧ a ≤ 173) ∨ (212 ≤ a ∧ a ≤ 213) → T a = τ a) ∧ T 119 123 + ccN S (σ 87 19).toNat = τ 119 123 + ccN σ (σ 87 19).toNat
theorem wT_le {k P : Int} (h : P ≤ σ 28 (σ 90 k) + σ 29 (σ 90 k) - 1) : 0 ≤ wT σ k P ∧ wT σ k P ≤ 8 * (σ 28 (σ 90 k) + σ 29 (σ 90 k) - 1 - P) := by
  unfold wT
  split <;> omega
theorem wT_eq {k P : Int} (h : σ 20 P ≠ 10 ∧ σ 20 P ≠ 13) : wT σ k P = 8 * (σ 28 (σ 90 k) + σ 29 (σ 90 k) - 1 - P) := by
  unfold wT
  rw [if_neg (by omega)]
theorem kpX.rx (h : kpX σ τ S T) {lo hi br co n q P E : Int} {m : Nat} (r : RX σ τ lo hi br co m n q P E) : RX S T lo hi br co m n q P E := by
  obtain ⟨h1, -, h3, -⟩ := h
  obtain ⟨d, r⟩ := r
  exact ⟨d, RT_fr (fun a n q _ _ => by rw [h3 a (by omega)]) (fun n _ _ => by rw [h1 14 (by decide)]) d _ _ _ _ _ _ _ (fun x _ _ => ⟨by rw [h1 20 (by decide)], by rw [h1 21 (by decide)], by rw [h1 22 (by decide)]⟩) r⟩
theorem kpX.ci (h : kpX σ τ S T) {P o t n : Int} (r : cI σ P o t n) : cI S P o t n := by
  obtain ⟨h1, -⟩ := h
  unfold cI at r ⊢
  rw [h1 20 (by decide), h1 21 (by decide), h1 22 (by decide)]
  exact r
theorem kpX.st (h : kpX σ τ S T) {lo hi be la fl P x br co : Int} {m : Nat} (ct : ∀ a i, 218 ≤ a → a ≤ 220 → i ≤ fl + m → T a i = τ a i) (k : St σ τ lo hi be la fl m P x br co) : St S T lo hi be la fl m P x br co := by
  obtain ⟨h1, -, h3, -⟩ := h
  exact St.fr (fun a n q _ _ => by rw [h3 a (by omega)]) (fun n _ _ => by rw [h1 14 (by decide)]) (fun x _ _ => ⟨by rw [h1 20 (by decide)], by rw [h1 21 (by decide)], by rw [h1 22 (by decide)]⟩) m _ _ _ _ (fun a i q1 q2 _ q4 => ct a i q1 q2 q4) k
/-- the pile, the newest activation's part alone being new -/
theorem RR.pk2 {o : Int} (R : RR σ τ pT hT m br co θ) (p1 : τ 119 125 = σ 87 8 + o) (K : kpX σ τ S T) (rv : ∀ k x t y, rVal σ τ k x t y → rVal S T k x t y) (c88 : ∀ a j, a = 88 ∨ a = 89 → j < σ 92 (σ 87 21) → S a j = σ a j) (d221 : ∀ a j, a = 221 ∨ a = 222 → j < σ 92 (σ 87 21) + o → T a j = τ a j) (en : T 119 125 = S 87 8 + o) (new : ∀ i, σ 92 (σ 87 21) ≤ i → i < S 87 8 → rVal S T (S 88 i) (S 89 i) (T 221 (i + o)) (T 222 (i + o))) : rPi S T := by
  have hm := R.1.2.1.2.2.2.2.2.1
  exact R.2.1.mk' p1 (by omega) (K.2.1 21 (by decide)) (fun j _ => by rw [K.1 92 (by decide)]) (fun j _ => by rw [K.2.2.1 213 (by decide)]) c88 d221 rv en new
/-- a run after an instruction -/
theorem RR.asm {E h' br' co' : Int} {m' : Nat} {f : Int → Int} (R : RR σ τ pT hT m br co θ) (Q : RQ S T (updF pT (σ 87 21) E) f) (hf : f (σ 87 21) = h') (K : kpX σ τ S T) (pi : rPi S T) (st : St S T (σ 26 (σ 90 (σ 87 21))) (σ 26 (σ 90 (σ 87 21)) + σ 27 (σ 90 (σ 87 21))) (σ 28 (σ 90 (σ 87 21))) (σ 28 (σ 90 (σ 87 21)) + σ 29 (σ 90 (σ 87 21)) - 2) (τ 212 (σ 87 21)) m' E h' br' co') (tk : T 119 124 = τ 212 (σ 87 21) + m' + 1) (ht : S 87 8 = σ 92 (σ 87 21) + h') (h0 : 0 ≤ h') (op : σ 20 (pT (σ 87 21)) ≠ 10 ∧ σ 20 (pT (σ 87 21)) ≠ 13) (hE : pT (σ 87 21) < E) (h7 : S 87 8 ≤ σ 87 8 + 1) : RR S T (updF pT (σ 87 21) E) f m' br' co' (θ - 1) := by
  obtain ⟨-, -, ⟨⟨-, a2, a3, -⟩, -⟩, H⟩ := R
  have hl := St.le _ _ _ _ _ st
  obtain ⟨k1, k2, k3, k4⟩ := K
  have e21 := k2 21 (by decide)
  have e19 := k2 19 (by decide)
  refine ⟨Q, pi, ⟨⟨?_, ?_, ?_, ?_⟩, ?_, ?_⟩, ?_, ?_, ?_⟩
  · rw [e21, k1 26 (by decide), k1 27 (by decide), k1 28 (by decide), k1 29 (by decide), k1 90 (by decide), k3 212 (by decide), updF_at, hf]
    exact st
  · rw [e21, k3 212 (by decide)]; exact a2
  · rw [e21, k1 92 (by decide)]; exact a3
  · rw [e21, hf]; exact h0
  · rw [e21, k3 212 (by decide)]; exact tk
  · rw [e21, k1 92 (by decide), hf]; exact ht
  · have := H.1
    rw [e21, e19, k2 24 (by decide), updF_at, wSs_eq (S := S) (σ := σ) (pT := pT) _ fun k q1 q2 => ⟨updF_ne (by omega), by rw [k1 28 (by decide), k1 29 (by decide), k1 90 (by decide)]⟩]
    have w : wT S (σ 87 21) E = wT σ (σ 87 21) E := by
      unfold wT
      rw [k1 20 (by decide), k1 28 (by decide), k1 29 (by decide), k1 90 (by decide)]
    have w1 := wT_le (σ := σ) (k := σ 87 21) (P := E) (by omega)
    have w2 := wT_eq (k := σ 87 21) op
    rw [w]
    omega
  · have := H.2.1
    rw [k2 34 (by decide)]
    omega
  · have := H.2.2
    rw [e19]
    omega
end AS
