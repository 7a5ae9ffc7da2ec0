/-! a frame is left: both sides -/
section LV
variable {σ τ : gM}
/-- the component's activations from k on go on in their trees -/
def lvC (σ S : gM) (k : Int) : Prop := (∀ a i, a ≠ 87 → a ≠ 91 → (a < 93 ∨ 96 < a) → S a i = σ a i) ∧ (∀ i, i ≠ 22 → S 87 i = σ 87 i) ∧ (∀ a i, (a = 91 ∨ (93 ≤ a ∧ a ≤ 96)) → (i < k ∨ σ 87 19 ≤ i) → S a i = σ a i) ∧ (∀ j, k ≤ j → j < σ 87 19 → S 93 j = -1 ∧ S 94 j = -1 ∧ S 96 j = 0 ∧ S 95 j = j) ∧ (k < σ 87 19 → S 87 22 = σ 66 (σ 87 22 - 64000)) ∧ (∀ j, k ≤ j → j + 1 < σ 87 19 → S 91 j = σ 66 (σ 91 j - 64000))
theorem lv1 (σ : gM) (k : Int) : (∀ a i, (a < 93 ∨ 96 < a) → gW (gW (gW (gW σ 93 k (-1)) 94 k (-1)) 96 k 0) 95 k k a i = σ a i) ∧ (∀ a i, i ≠ k → gW (gW (gW (gW σ 93 k (-1)) 94 k (-1)) 96 k 0) 95 k k a i = σ a i) ∧ gW (gW (gW (gW σ 93 k (-1)) 94 k (-1)) 96 k 0) 95 k k 93 k = -1 ∧ gW (gW (gW (gW σ 93 k (-1)) 94 k (-1)) 96 k 0) 95 k k 94 k = -1 ∧ gW (gW (gW (gW σ 93 k (-1)) 94 k (-1)) 96 k 0) 95 k k 96 k = 0 ∧ gW (gW (gW (gW σ 93 k (-1)) 94 k (-1)) 96 k 0) 95 k k 95 k = k := by
  refine ⟨fun a i h => ?_, fun a i h => ?_, ?_, ?_, ?_, ?_⟩
  · rw [gW_c (by omega), gW_c (by omega), gW_c (by omega), gW_c (by omega)]
  · rw [gW_j h, gW_j h, gW_j h, gW_j h]
  · rw [gW_c (by decide), gW_c (by decide), gW_c (by decide), gW_at]
  · rw [gW_c (by decide), gW_c (by decide), gW_at]
  · rw [gW_c (by decide), gW_at]
  · rw [gW_at]
theorem leaves_s : ∀ (c : Nat) (σ : gM) (k : Int), k + c = σ 87 19 → 0 ≤ k → σ 87 19 ≤ 60 → σ 87 21 = σ 87 19 - 1 → (1 ≤ c → 64000 ≤ σ 87 22 ∧ σ 87 22 < 164000) → (∀ j, k ≤ j → j + 1 < σ 87 19 → 64000 ≤ σ 91 j ∧ σ 91 j < 164000) → ∃ S, mc_leaves_b12 σ k = some (S, 0) ∧ lvC σ S k
  | 0, σ, k, hk, k0, h60, hc, _, _ => by
    rw [mc_leaves_b12_e, if_neg (by omega)]
    exact ⟨σ, rfl, fun _ _ _ _ _ => rfl, fun _ _ => rfl, fun _ _ _ _ => rfl, fun j q1 q2 => by omega, fun q => by omega, fun j q1 q2 => by omega⟩
  | c + 1, σ, k, hk, k0, h60, hc, hp, hq => by
    have kb : 0 ≤ k ∧ k < 60 := by omega
    have hp := hp (by omega)
    rw [mc_leaves_b12_e, if_pos (by omega)]
    by_cases z : k = σ 87 21
    · rw [if_pos z, w32_e (by omega) (by omega), if_pos (by omega), mc_leaves_b75_e]
      simp only [kb, and_self, if_true]
      rw [w32_e (by omega) (by omega)]
      obtain ⟨u1, u2, u3, u4, u5, u6⟩ := lv1 (gW σ 87 22 (σ 66 (σ 87 22 - 64000))) k
      rw [mc_leaves_b12_e, u1 87 19 (by decide), gW_i (by decide), if_neg (by omega)]
      refine ⟨_, rfl, fun a i q1 q2 q3 => ?_, fun i q => ?_, fun a i q1 q2 => ?_, fun j q1 q2 => ?_, fun _ => ?_, fun j q1 q2 => by omega⟩
      · rw [u1 a i q3, gW_c q1]
      · rw [u1 87 i (by decide), gW_i q]
      · rw [u2 a i (by omega), gW_c (by omega)]
      · have : j = k := by omega
        rw [this]
        exact ⟨u3, u4, u5, u6⟩
      · rw [u1 87 22 (by decide), gW_at]
    · have hj := hq k (by omega) (by omega)
      rw [if_neg z, w32_e (by omega) (by omega), mc_leaves_b75_e]
      have wb : 0 ≤ σ 91 k - 64000 ∧ σ 91 k - 64000 < 100000 := by omega
      simp only [kb, wb, and_self, if_true]
      rw [w32_e (by omega) (by omega)]
      obtain ⟨u1, u2, u3, u4, u5, u6⟩ := lv1 (gW σ 91 k (σ 66 (σ 91 k - 64000))) k
      generalize gW (gW (gW (gW (gW σ 91 k (σ 66 (σ 91 k - 64000))) 93 k (-1)) 94 k (-1)) 96 k 0) 95 k k = W at *
      have w87 : ∀ i, W 87 i = σ 87 i := fun i => by rw [u1 87 i (by decide), gW_c (by decide)]
      have w91 : ∀ i, i ≠ k → W 91 i = σ 91 i := fun i q => by rw [u1 91 i (by decide), gW_i q]
      have w66 : W 66 = σ 66 := funext fun i => by rw [u1 66 i (by decide), gW_c (by decide)]
      obtain ⟨S, e, v1, v2, v3, v4, v5, v6⟩ := leaves_s c W (k + 1) (by rw [w87]; omega) (by omega) (by rw [w87]; exact h60) (by rw [w87, w87]; exact hc) (fun _ => by rw [w87]; exact hp) (fun j q1 q2 => by rw [w87] at q2; rw [w91 j (by omega)]; exact hq j (by omega) q2)
      rw [w87] at v3 v4 v5 v6
      refine ⟨S, e, fun a i q1 q2 q3 => ?_, fun i q => ?_, fun a i q1 q2 => ?_, fun j q1 q2 => ?_, fun _ => ?_, fun j q1 q2 => ?_⟩
      · rw [v1 a i q1 q2 q3, u1 a i q3, gW_c q2]
      · rw [v2 i q, w87]
      · rw [v3 a i q1 (by omega), u2 a i (by omega), gW_j (by omega)]
      · by_cases y : j = k
        · rw [y, v3 93 k (by decide) (by omega), v3 94 k (by decide) (by omega), v3 95 k (by decide) (by omega), v3 96 k (by decide) (by omega)]
          exact ⟨u3, u4, u5, u6⟩
        · exact v4 j (by omega) q2
      · rw [v5 (by omega), w66, w87]
      · by_cases y : j = k
        · rw [y, v3 91 k (by decide) (by omega), u1 91 k (by decide), gW_at]
        · rw [v6 j (by omega) q2, w66, w91 j y]
/-- the model's activations from k on are left -/
def lvM (τ T : gM) (k : Int) : Prop := (∀ a i, a ≠ 119 → (a < 209 ∨ 211 < a) → a ≠ 214 → T a i = τ a i) ∧ (∀ i, i ≠ 123 → T 119 i = τ 119 i) ∧ (∀ a i, (i < k ∨ τ 119 121 ≤ i) → a ≠ 119 → T a i = τ a i) ∧ (∀ j, k ≤ j → j < τ 119 121 → T 209 j = -1 ∧ T 210 j = -1 ∧ T 214 j = 0 ∧ T 211 j = τ 119 123 + (j - k) + 1) ∧ T 119 123 = τ 119 123 + (τ 119 121 - k)
theorem lv2 (τ : gM) (k f : Int) : (∀ a i, a ≠ 119 → (a < 209 ∨ 211 < a) → a ≠ 214 → gW (gW (gW (gW (gW τ 209 k (-1)) 210 k (-1)) 214 k 0) 119 123 f) 211 k f a i = τ a i) ∧ (∀ a i, i ≠ k → a ≠ 119 → gW (gW (gW (gW (gW τ 209 k (-1)) 210 k (-1)) 214 k 0) 119 123 f) 211 k f a i = τ a i) ∧ (∀ i, i ≠ 123 → gW (gW (gW (gW (gW τ 209 k (-1)) 210 k (-1)) 214 k 0) 119 123 f) 211 k f 119 i = τ 119 i) ∧ gW (gW (gW (gW (gW τ 209 k (-1)) 210 k (-1)) 214 k 0) 119 123 f) 211 k f 119 123 = f ∧ gW (gW (gW (gW (gW τ 209 k (-1)) 210 k (-1)) 214 k 0) 119 123 f) 211 k f 209 k = -1 ∧ gW (gW (gW (gW (gW τ 209 k (-1)) 210 k (-1)) 214 k 0) 119 123 f) 211 k f 210 k = -1 ∧ gW (gW (gW (gW (gW τ 209 k (-1)) 210 k (-1)) 214 k 0) 119 123 f) 211 k f 214 k = 0 ∧ gW (gW (gW (gW (gW τ 209 k (-1)) 210 k (-1)) 214 k 0) 119 123 f) 211 k f 211 k = f := by
  refine ⟨fun a i h1 h2 h3 => ?_, fun a i h h1 => ?_, fun i h => ?_, ?_, ?_, ?_, ?_, ?_⟩
  · rw [gW_c (by omega), gW_c h1, gW_c h3, gW_c (by omega), gW_c (by omega)]
  · rw [gW_j h, gW_c h1, gW_j h, gW_j h, gW_j h]
  · rw [gW_c (by decide), gW_i h, gW_c (by decide), gW_c (by decide), gW_c (by decide)]
  · rw [gW_c (by decide), gW_at]
  · rw [gW_c (by decide), gW_c (by decide), gW_c (by decide), gW_c (by decide), gW_at]
  · rw [gW_c (by decide), gW_c (by decide), gW_c (by decide), gW_at]
  · rw [gW_c (by decide), gW_c (by decide), gW_at]
  · rw [gW_at]
theorem leave_m : ∀ (c : Nat) (τ : gM) (x k : Int), k + c = τ 119 121 → 0 ≤ k → τ 119 121 ≤ 60 → (∀ j, k ≤ j → j < τ 119 121 → τ 211 j = x) → 0 ≤ τ 119 123 → τ 119 123 ≤ 2147480000 + k → ∃ T, md_leave_b2 τ x k = some (T, 0) ∧ lvM τ T k
  | 0, τ, x, k, hk, k0, h60, hx, f0, f1 => by
    rw [md_leave_b2_e, if_neg (by omega)]
    exact ⟨τ, rfl, fun _ _ _ _ _ => rfl, fun _ _ => rfl, fun _ _ _ _ => rfl, fun j q1 q2 => by omega, by omega⟩
  | c + 1, τ, x, k, hk, k0, h60, hx, f0, f1 => by
    have kb : 0 ≤ k ∧ k < 60 := by omega
    rw [md_leave_b2_e, if_pos (by omega)]
    simp only [kb, and_self, if_true, if_pos (hx k (by omega) (by omega)), md_leave_b64_e]
    rw [w32_e (x := k + 1) (by omega) (by omega), w32_e (x := τ 119 123 + 1) (by omega) (by omega)]
    obtain ⟨u1, u2, u3, u4, u5, u6, u7, u8⟩ := lv2 τ k (τ 119 123 + 1)
    generalize gW (gW (gW (gW (gW τ 209 k (-1)) 210 k (-1)) 214 k 0) 119 123 (τ 119 123 + 1)) 211 k (τ 119 123 + 1) = W at *
    have w121 := u3 121 (by decide)
    obtain ⟨T, e, v1, v2, v3, v4, v5⟩ := leave_m c W x (k + 1) (by omega) (by omega) (by omega) (fun j q1 q2 => by rw [u2 211 j (by omega) (by decide)]; exact hx j (by omega) (by omega)) (by omega) (by omega)
    rw [w121] at v3 v4 v5
    rw [u4] at v4 v5
    refine ⟨T, e, fun a i q1 q2 q3 => ?_, fun i q => ?_, fun a i q1 q2 => ?_, fun j q1 q2 => ?_, by omega⟩
    · rw [v1 a i q1 q2 q3, u1 a i q1 q2 q3]
    · rw [v2 i q, u3 i q]
    · rw [v3 a i (by omega) q2, u2 a i (by omega) q2]
    · by_cases y : j = k
      · rw [y, v3 209 k (by omega) (by decide), v3 210 k (by omega) (by decide), v3 211 k (by omega) (by decide), v3 214 k (by omega) (by decide)]
        exact ⟨u5, u6, u7, by omega⟩
      · have := v4 j (by omega) q2
        exact ⟨this.1, this.2.1, this.2.2.1, by omega⟩
theorem leave_m0 (f x : Int) (h : f ≤ τ 119 121) (h60 : τ 119 121 ≤ 60) (hx : ∀ j, 0 ≤ j → j < f → τ 211 j ≠ x) : ∀ (c : Nat) (k : Int), k + c = f → 0 ≤ k → md_leave_b2 τ x k = md_leave_b2 τ x f
  | 0, k, hk, k0 => by rw [show k = f by omega]
  | c + 1, k, hk, k0 => by
    have kb : 0 ≤ k ∧ k < 60 := by omega
    rw [md_leave_b2_e, if_pos (by omega)]
    simp only [kb, and_self, if_true, if_neg (hx k k0 (by omega)), md_leave_b64_e]
    rw [w32_e (x := k + 1) (by omega) (by omega)]
    exact leave_m0 f x h h60 hx c (k + 1) (by omega) (by omega)
end LV
