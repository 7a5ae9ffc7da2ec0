/-! a new activation's row: both sides -/
section AC
variable {σ τ S T : gM} {pT hT : Int → Int} {m : Nat} {br co θ n : Int}
def acF (σ S : gM) (k r a0 : Int) : Prop := (∀ a, a ≠ 87 → (a < 90 ∨ 99 < a) → S a = σ a) ∧ S 91 = σ 91 ∧ (∀ i, i ≠ 19 → i ≠ 20 → i ≠ 21 → i ≠ 22 → S 87 i = σ 87 i) ∧ (S 87 19 = k + 1 ∧ S 87 20 = (if σ 87 20 < k + 1 then k + 1 else σ 87 20) ∧ S 87 21 = k ∧ S 87 22 = σ 28 r) ∧ (∀ a j, 90 ≤ a → a ≤ 96 → j ≠ k → S a j = σ a j) ∧ (S 90 k = r ∧ S 92 k = a0 ∧ S 93 k = -1 ∧ S 94 k = -1 ∧ S 95 k = k ∧ S 96 k = 0) ∧ (∀ a j, 97 ≤ a → a ≤ 99 → j < 12 * k → S a j = σ a j) ∧ ∀ l, 0 ≤ l → l < σ 31 r → S 97 (12 * k + l) = 4 ∧ S 99 (12 * k + l) = 0 ∧ S 98 (12 * k + l) = 3
def amF (τ T : gM) (k r a0 : Int) : Prop := (∀ a, a ≠ 119 → (a < 208 ∨ a = 211 ∨ 214 < a) → a ≠ 224 → T a = τ a) ∧ (∀ i, i ≠ 121 → i ≠ 122 → T 119 i = τ 119 i) ∧ (T 119 121 = k + 1 ∧ T 119 122 = (if τ 119 122 < k + 1 then k + 1 else τ 119 122)) ∧ (∀ i, i ≠ 14 → T 224 i = τ 224 i) ∧ T 224 14 = (if τ 224 14 < 1000000000 then τ 224 14 + 1 else τ 224 14) ∧ (∀ a j, 208 ≤ a → a ≤ 214 → j ≠ k → T a j = τ a j) ∧ (T 208 k = r ∧ T 212 k = τ 119 124 ∧ T 213 k = a0 ∧ T 209 k = -1 ∧ T 210 k = -1 ∧ T 214 k = 0)
theorem jmax_s {s : gM} {x y : Int} : jm_max s x y = some (s, if x < y then y else x) := by
  rw [jm_max_e]
  split <;> rfl
theorem actC {r a0 ar u k cu : Int} (hr : 0 ≤ r ∧ r < 60) (hk : σ 87 19 = k) (k60 : 0 ≤ k ∧ k < 60) (hc : σ 87 21 = cu) (cu60 : 0 ≤ cu ∧ cu < k) (l12 : 0 ≤ σ 31 r ∧ σ 31 r ≤ 12) : ∃ S, mc_activate σ r a0 ar u = (if u < 0 then ((cd_heats S r (S 87 5)).bind fun p1 => if 0 ≤ r ∧ r < 60 then (if p1.1 34 r < 0 then (mc_activate_b310 p1.1 r a0 ar) else (if 0 ≤ r ∧ r < 60 then ((mc_enters p1.1 (p1.1 34 r)).bind fun p2 => if 0 ≤ k ∧ k < 60 then ((cd_start p2.1 (p2.1 93 k) 0).bind fun p3 => mc_activate_b310 (gW p3.1 87 22 p3.2) r a0 ar) else none) else none)) else none) else ((cd_more (gW (gW (gW (gW S 93 k (σ 93 cu)) 94 k u) 95 k (σ 95 cu)) 96 k 1) (σ 87 42)).bind fun p4 => if 0 ≤ k ∧ k < 60 then ((cd_start (gW p4.1 87 42 p4.2) (p4.1 93 k) u).bind fun p5 => mc_activate_b310 (gW p5.1 87 22 p5.2) r a0 ar) else none)) ∧ acF σ S k r a0 := by
  have cuk : 0 ≤ cu ∧ cu < 60 := by omega
  rw [mc_activate_e, hk, hc, w32_e (x := k + 1) (by omega) (by omega), jmax_s]
  simp only [Option.bind_some]
  simp only [k60, and_self, if_true]
  generalize emx : (if σ 87 20 < k + 1 then k + 1 else σ 87 20) = mx
  generalize eX : gW (gW (gW (gW (gW (gW (gW (gW σ 87 19 (k + 1)) 87 20 mx) 90 k r) 92 k a0) 93 k (-1)) 94 k (-1)) 95 k k) 96 k 0 = X
  have x1 : ∀ a, a ≠ 87 → (a < 90 ∨ 96 < a ∨ a = 91) → X a = σ a := fun a q1 q2 => funext fun i => by rw [← eX, gW_c (by omega), gW_c (by omega), gW_c (by omega), gW_c (by omega), gW_c (by omega), gW_c (by omega), gW_c (by omega), gW_c (by omega)]
  have x2 : ∀ i, i ≠ 19 → i ≠ 20 → X 87 i = σ 87 i := fun i q1 q2 => by rw [← eX, gW_c (by decide), gW_c (by decide), gW_c (by decide), gW_c (by decide), gW_c (by decide), gW_c (by decide), gW_i q2, gW_i q1]
  have x3 : X 87 19 = k + 1 ∧ X 87 20 = mx := by
    rw [← eX]
    exact ⟨by rw [gW_c (by decide), gW_c (by decide), gW_c (by decide), gW_c (by decide), gW_c (by decide), gW_c (by decide), gW_i (by decide), gW_at], by rw [gW_c (by decide), gW_c (by decide), gW_c (by decide), gW_c (by decide), gW_c (by decide), gW_c (by decide), gW_at]⟩
  have x4 : ∀ a j, 90 ≤ a → a ≤ 96 → j ≠ k → X a j = σ a j := fun a j q1 q2 q3 => by rw [← eX, gW_j q3, gW_j q3, gW_j q3, gW_j q3, gW_j q3, gW_j q3, gW_c (by omega), gW_c (by omega)]
  have x5 : X 90 k = r ∧ X 92 k = a0 ∧ X 93 k = -1 ∧ X 94 k = -1 ∧ X 95 k = k ∧ X 96 k = 0 := by
    rw [← eX]
    exact ⟨by rw [gW_c (by decide), gW_c (by decide), gW_c (by decide), gW_c (by decide), gW_c (by decide), gW_at], by rw [gW_c (by decide), gW_c (by decide), gW_c (by decide), gW_c (by decide), gW_at], by rw [gW_c (by decide), gW_c (by decide), gW_c (by decide), gW_at], by rw [gW_c (by decide), gW_c (by decide), gW_at], by rw [gW_c (by decide), gW_at], by rw [gW_at]⟩
  clear eX
  have e31 : X 31 r = σ 31 r := by rw [x1 31 (by decide) (by decide)]
  obtain ⟨L, l1, l2, l3, l4⟩ := locC (a0 := a0) (ar := ar) (un := u) (ca := cu) hr k60 (σ 31 r).toNat X 0 (by decide) (by omega) (by omega)
  rw [e31] at l1 l3 l4
  have yL : ∀ a, (a < 97 ∨ 99 < a) → L a = X a := fun a q => funext fun i => l2 a i q
  have y31 : L 31 r = σ 31 r := by rw [l2 31 r (by decide), e31]
  have y93 : L 93 cu = σ 93 cu := by rw [l2 93 _ (by decide), x4 93 _ (by decide) (by decide) (by omega)]
  have y95 : L 95 cu = σ 95 cu := by rw [l2 95 _ (by decide), x4 95 _ (by decide) (by decide) (by omega)]
  have y42 : L 87 42 = σ 87 42 := by rw [l2 87 _ (by decide), x2 42 (by decide) (by decide)]
  have y28 : L 28 r = σ 28 r := by rw [l2 28 _ (by decide), x1 28 (by decide) (by decide)]
  generalize eS : gW (gW L 87 21 k) 87 22 (σ 28 r) = S
  have z1 : ∀ a, a ≠ 87 → S a = L a := fun a q => funext fun i => by rw [← eS, gW_c q, gW_c q]
  have z2 : ∀ i, i ≠ 21 → i ≠ 22 → S 87 i = L 87 i := fun i q1 q2 => by rw [← eS, gW_i q2, gW_i q1]
  have z3 : S 87 21 = k ∧ S 87 22 = σ 28 r := by
    rw [← eS]
    exact ⟨by rw [gW_i (by decide), gW_at], by rw [gW_at]⟩
  refine ⟨S, ?_, fun a q1 q2 => by rw [z1 a q1, yL a (by omega), x1 a q1 (by omega)], by rw [z1 91 (by decide), yL 91 (by decide), x1 91 (by decide) (by decide)], fun i q1 q2 q3 q4 => by rw [z2 i q3 q4, yL 87 (by decide), x2 i q1 q2], ⟨by rw [z2 19 (by decide) (by decide), yL 87 (by decide), x3.1], by rw [z2 20 (by decide) (by decide), yL 87 (by decide), x3.2, emx], z3⟩, fun a j q1 q2 q3 => by rw [z1 a (by omega), yL a (by omega), x4 a j q1 q2 q3], ?_, fun a j q1 q2 q3 => by rw [z1 a (by omega), l3 a j (by omega), x1 a (by omega) (by omega)], fun l q1 q2 => ?_⟩
  · have e5 : S 87 5 = L 87 5 := z2 5 (by decide) (by decide)
    rw [l1, mc_activate_b89_e, if_pos hr, y31, if_neg (by omega), if_pos hr, y28, y93, y95, y42, eS, e5]
    simp only [cuk, k60, and_self, if_true]
  · rw [z1 90 (by decide), z1 92 (by decide), z1 93 (by decide), z1 94 (by decide), z1 95 (by decide), z1 96 (by decide), yL 90 (by decide), yL 92 (by decide), yL 93 (by decide), yL 94 (by decide), yL 95 (by decide), yL 96 (by decide)]
    exact x5
  · rw [z1 97 (by decide), z1 98 (by decide), z1 99 (by decide)]
    exact l4 l q1 q2
theorem actM {r a0 ar u k : Int} (hk : τ 119 121 = k) (k1 : 1 ≤ k ∧ k < 60) (h14 : 0 ≤ τ 224 14 ∧ τ 224 14 ≤ 1000000000) (hu : ∀ T, amF τ T k r a0 → (τ 209 (k - 1) < 0 ∧ u = -1) ∨ (0 ≤ τ 209 (k - 1) ∧ md_unitAt T (τ 209 (k - 1)) (τ 210 (k - 1)) n = some (T, u))) : ∃ T, md_activate τ r a0 ar n = md_activate_b144 T r a0 ar k u ∧ amF τ T k r a0 := by
  have t14 : (0 : Int) ≤ 14 ∧ (14 : Int) < 16 := by decide
  have k60 : 0 ≤ k ∧ k < 60 := by omega
  have kp : 0 ≤ k - 1 ∧ k - 1 < 60 := by omega
  have k0 : ¬ k = 0 := by omega
  rw [md_activate_e, if_pos t14, hk, w32_e (x := k + 1) (by omega) (by omega), w32_e (x := k - 1) (by omega) (by omega), more_m h14]
  simp only [Option.bind_some]
  rw [if_pos t14, jmax_s]
  simp only [Option.bind_some]
  simp only [k60, kp, k0, and_self, if_true, if_false, gW_at, gW_i (show (122 : Int) ≠ 121 by decide), gW_i (show (124 : Int) ≠ 121 by decide), gW_c (show (119 : Int) ≠ 224 by decide)]
  generalize emx : (if τ 119 122 < k + 1 then k + 1 else τ 119 122) = mx
  generalize ex : (if τ 224 14 < 1000000000 then τ 224 14 + 1 else τ 224 14) = x
  generalize eX : gW (gW (gW (gW (gW (gW (gW τ 119 121 (k + 1)) 224 14 x) 119 122 mx) 208 k r) 212 k (τ 119 124)) 213 k a0) 209 k (-1) = X
  generalize eT : gW (gW X 210 k (-1)) 214 k 0 = T
  have p9 : X 209 (k - 1) = τ 209 (k - 1) := by rw [← eX, gW_j (by omega), gW_c (by decide), gW_c (by decide), gW_c (by decide), gW_c (by decide), gW_c (by decide), gW_c (by decide)]
  have p10 : X 210 (k - 1) = τ 210 (k - 1) := by rw [← eX, gW_c (by decide), gW_c (by decide), gW_c (by decide), gW_c (by decide), gW_c (by decide), gW_c (by decide), gW_c (by decide)]
  have p10' : gW X 210 k (-1) 210 (k - 1) = τ 210 (k - 1) := by rw [gW_j (by omega), p10]
  have F : amF τ T k r a0 := by
    have f : ∀ a i, T a i = gW (gW (gW (gW (gW (gW (gW (gW (gW τ 119 121 (k + 1)) 224 14 x) 119 122 mx) 208 k r) 212 k (τ 119 124)) 213 k a0) 209 k (-1)) 210 k (-1)) 214 k 0 a i := fun a i => by rw [← eT, ← eX]
    clear eT eX p9 p10 p10' hu
    refine ⟨fun a q1 q2 q3 => funext fun i => ?_, fun i q1 q2 => ?_, ⟨?_, ?_⟩, fun i q => ?_, ?_, fun a j q1 q2 q3 => ?_, ?_, ?_, ?_, ?_, ?_, ?_⟩
    · rw [f, gW_c (by omega), gW_c (by omega), gW_c (by omega), gW_c (by omega), gW_c (by omega), gW_c (by omega), gW_c (by omega), gW_c (by omega), gW_c (by omega)]
    · rw [f, gW_c (by decide), gW_c (by decide), gW_c (by decide), gW_c (by decide), gW_c (by decide), gW_c (by decide), gW_i q2, gW_c (by decide), gW_i q1]
    · rw [f, gW_c (by decide), gW_c (by decide), gW_c (by decide), gW_c (by decide), gW_c (by decide), gW_c (by decide), gW_i (by decide), gW_c (by decide), gW_at]
    · rw [f, gW_c (by decide), gW_c (by decide), gW_c (by decide), gW_c (by decide), gW_c (by decide), gW_c (by decide), gW_at, emx]
    · rw [f, gW_c (by decide), gW_c (by decide), gW_c (by decide), gW_c (by decide), gW_c (by decide), gW_c (by decide), gW_c (by decide), gW_i q, gW_c (by decide)]
    · rw [f, gW_c (by decide), gW_c (by decide), gW_c (by decide), gW_c (by decide), gW_c (by decide), gW_c (by decide), gW_c (by decide), gW_at, ex]
    · rw [f, gW_j q3, gW_j q3, gW_j q3, gW_j q3, gW_j q3, gW_j q3, gW_c (by omega), gW_c (by omega), gW_c (by omega)]
    · rw [f, gW_c (by decide), gW_c (by decide), gW_c (by decide), gW_c (by decide), gW_c (by decide), gW_at]
    · rw [f, gW_c (by decide), gW_c (by decide), gW_c (by decide), gW_c (by decide), gW_at]
    · rw [f, gW_c (by decide), gW_c (by decide), gW_c (by decide), gW_at]
    · rw [f, gW_c (by decide), gW_c (by decide), gW_at]
    · rw [f, gW_c (by decide), gW_at]
    · rw [f, gW_at]
  rcases hu T F with ⟨u1, u2⟩ | ⟨u1, u2⟩
  · refine ⟨T, ?_, F⟩
    rw [p9, if_pos u1, md_activate_b116_e, u2]
  · refine ⟨T, ?_, F⟩
    rw [p9, if_neg (by omega), p10', u2]
    rfl
end AC
