/-! a text is read: where it lies; define copies it -/
section RU
variable {σ τ S T : gM} {f g a b : Int}
/-- the row of functions -/
theorem read_l2 : ∀ (mm : Nat) (σ τ : gM), fG σ τ → FA σ τ → (Gq σ ≤ σ 69 5 ∧ J1 τ) → σ 69 2 - σ 69 5 ≤ mm →
    (∃ S T, ps_read_b23 σ 1 = some (S, 1) ∧ md_readText_b24 τ = some (T, some 0) ∧ fG S T ∧ FA S T ∧ 1 ≤ S 68 19 ∧ (Gq S ≤ S 69 5 ∧ J1 T) ∧ ∀ i, i < 3 → S 69 i = σ 69 i) ∨ (∃ S T, ps_read_b23 σ 1 = some (S, 0) ∧ md_readText_b24 τ = some (T, none) ∧ bx S T)
  | mm, σ, τ, G, A, hq, hm => by
    have g8 := G.2.2.1
    have b59 : ∀ X : gM, X 69 8 ≠ 0 → ps_read_b59 X = some (X, 0) := fun X h => by
      rw [ps_read_b59_e, ps_good_b h]
      rfl
    rw [ps_read_b23_e, if_neg (by decide), ps_good_g g8, md_readText_b24_e]
    simp only [Option.bind_some]
    rw [if_neg (by decide)]
    rcases function_s G with ⟨S, T, e1, e2, e3, p, h50⟩ | ⟨S, T, e1, e2, b⟩
    · obtain ⟨A1, G1⟩ := A.step G e3 h50
      have hq1 : Gq S ≤ S 69 5 ∧ J1 T := ⟨by
        have := lp_function e1 (fun _ => ⟨⟨τ, G.1, G.2.1⟩, G.2.2.2.1.1⟩) G1.2.2.1
        have := hq.1
        omega, e3.2.1.2.2.2.2.2.2.2.2.2.2.2 hq.2⟩
      have kk := G1.2.1.2.k
      have kp := G1.2.1.1
      unfold tKp at kp
      have s2 : S 69 2 = σ 69 2 := e3.2.1.2.2.2.1 2 (by decide)
      have n19 := e3.2.2.1.2.2.2.2.2.2.1
      have n0 := G.2.2.2.2.2.2.1
      rw [e1, e2]
      simp only [Option.bind_some, gtry]
      by_cases q : S 69 4 = 0
      · left
        rw [if_pos q, if_pos (show T 119 25 = 0 by omega), ps_read_b54_e, ps_read_b23_e, if_pos (by trivial), ps_read_b59_e, ps_good_g G1.2.2.1]
        exact ⟨S, T, rfl, rfl, G1, A1, by omega, hq1, e3.2.1.2.2.2.1⟩
      · rw [if_neg q, if_neg (show ¬ T 119 25 = 0 by omega), ps_read_b54_e]
        cases mm with
        | zero => omega
        | succ mm =>
          rcases read_l2 mm S T G1 A1 hq1 (by omega) with ⟨S', T', q1, q2, q3, q4, q5, q7, q6⟩ | q
          · exact Or.inl ⟨S', T', q1, q2, q3, q4, q5, q7, fun i hi => by rw [q6 i hi, e3.2.1.2.2.2.1 i hi]⟩
          · exact Or.inr q
    · right
      rw [e1, e2]
      simp only [Option.bind_some]
      refine ⟨S, T, ?_, rfl, b⟩
      have f : ∀ y, ps_read_b23 S y = some (S, 0) := fun y => by
        rw [ps_read_b23_e, ps_good_b b.1]
        simp only [Option.bind_some]
        by_cases q : y = 0
        · rw [if_pos q, b59 S b.1]
        · rw [if_neg q, if_pos (by trivial), b59 S b.1]
      by_cases q : S 69 4 = 0
      · rw [if_pos q, ps_read_b54_e, f]
      · rw [if_neg q, ps_read_b54_e, f]
/-- a text: the component's reading and the model's -/
theorem read_al2 {c p n : Int} (c0 : 0 ≤ c) (hX : tX (gW (gW (gW (gW (gW (gW (gW σ 68 10 0) 68 19 0) 69 0 c) 69 1 p) 69 2 n) 69 3 0) 69 8 0) (gW (gW (gW (gW τ 119 24 0) 119 28 0) 119 54 0) 119 43 0)) :
    (∃ S T, ps_read σ c p n = some (S, 1) ∧ md_readText τ = some (T, some 0) ∧ fG S T ∧ FA S T ∧ 1 ≤ S 68 19 ∧ (Gq S ≤ S 69 5 ∧ J1 T) ∧ S 69 0 = c ∧ S 69 1 = p ∧ S 69 2 = n) ∨ (∃ S T, ps_read σ c p n = some (S, 0) ∧ md_readText τ = some (T, none) ∧ bx S T) := by
  rw [ps_read_e, tk_begin_e, if_pos c0, md_readText_e]
  have hl := hX.2.1
  generalize eA : gW (gW (gW (gW (gW (gW (gW σ 68 10 0) 68 19 0) 69 0 c) 69 1 p) 69 2 n) 69 3 0) 69 8 0 = A at *
  generalize eB : gW (gW (gW (gW τ 119 24 0) 119 28 0) 119 54 0) 119 43 0 = B at *
  have a3 : A 69 3 = 0 := by rw [← eA]; simp [gW]
  have a8 : A 69 8 = 0 := by rw [← eA]; simp [gW]
  have a10 : A 68 10 = 0 := by rw [← eA]; simp [gW]
  have a19 : A 68 19 = 0 := by rw [← eA]; simp [gW]
  have b24 : B 119 24 = 0 := by rw [← eB]; simp [gW]
  have b28 : B 119 28 = 0 := by rw [← eB]; simp [gW]
  have b54 : B 119 54 = 0 := by rw [← eB]; simp [gW]
  have b43 : B 119 43 = 0 := by rw [← eB]; simp [gW]
  obtain ⟨x, hx, S, T, e, F, r⟩ := read_s hX a8 (by omega) (by omega) (by omega)
  rw [e]
  simp only [Option.bind_some]
  have s10 : S 68 10 = 0 := by rw [F.1 68 (by decide), a10]
  have s19 : S 68 19 = 0 := by rw [F.1 68 (by decide), a19]
  rcases r with ⟨r1, r2, r3, r4, r5⟩ | ⟨r1, r2, r3, r4⟩
  · rw [r1]
    simp only [Option.bind_some, gtry]
    have G : fG S T := ⟨F.tx hX, r2, r3, by omega, by rw [s10, F.2.2.2 43 (by omega) (by decide) (by decide), b43]; rfl, by rw [F.2.2.2 28 (by omega) (by decide) (by decide), b28], ⟨by omega, by omega, by rw [F.2.2.2 54 (by omega) (by decide) (by decide), b54, s19]⟩, fun g g0 g1 => by omega⟩
    have fr := F.2.1
    have a0 : A 69 0 = c := by rw [← eA]; simp [gW]
    have a1 : A 69 1 = p := by rw [← eA]; simp [gW]
    have a2 : A 69 2 = n := by rw [← eA]; simp [gW]
    have hq : Gq S ≤ S 69 5 ∧ J1 T := by
      have k := r2.1
      have t43 : T 119 43 = 0 := by rw [F.2.2.2 43 (by omega) (by decide) (by decide), b43]
      refine ⟨?_, fun j j0 j1 => by omega⟩
      unfold tKp at k
      unfold Gq Fq
      rw [s10, s19]
      show (0 : Int) + 0 ≤ _
      omega
    rcases read_l2 (S 69 2 - S 69 5).toNat S T G (fun g g0 g1 => by omega) hq (by omega) with ⟨S', T', q1, q2, q3, q4, q5, q7, q6⟩ | q
    · exact Or.inl ⟨S', T', q1, q2, q3, q4, q5, q7, by rw [q6 0 (by decide), fr 0 (by decide), a0], by rw [q6 1 (by decide), fr 1 (by decide), a1], by rw [q6 2 (by decide), fr 2 (by decide), a2]⟩
    · exact Or.inr q
  · right
    rw [r1]
    simp only [Option.bind_some]
    have b : S 69 8 ≠ 0 := by omega
    refine ⟨S, T, ?_, rfl, b, by omega, r4⟩
    rw [ps_read_b23_e, if_neg (by decide), ps_good_b b]
    simp only [Option.bind_some]
    rw [if_pos (by trivial), ps_read_b59_e, ps_good_b b]
    rfl
end RU
section DL
variable {τ : gM} {p y : Int}
theorem defines_l (hI' : mI τ) (h8 : ∀ i, i8 (τ 121 i)) (hy : vM τ y) (h23 : τ 119 23 = τ 123 y) (hn : τ 123 y ≤ 4000) : ∀ (m : Nat) (k : Int) (S : gM), 0 ≤ k → k + m = τ 123 y → (∀ a, a ≠ 134 → S a = τ a) → (∀ i, 0 ≤ i → i < k → S 134 i = τ 121 (τ 122 y + i)) → (∀ i, i < 0 ∨ k ≤ i → S 134 i = τ 134 i) →
    ∃ T, md_defines_b25 S p y k = ((md_readText T).bind fun p1 => gtry p1.2 (fun _ => md_defines_b70 p1.1 p 1) (md_defines_b70 p1.1 p 0)) ∧ (∀ a, a ≠ 134 → T a = τ a) ∧ (∀ i, 0 ≤ i → i < τ 123 y → T 134 i = τ 121 (τ 122 y + i)) ∧ (∀ i, i < 0 ∨ τ 123 y ≤ i → T 134 i = τ 134 i)
  | 0, k, S, k0, hk, e1, e2, e3 => by
    have s23 : S 119 23 = τ 123 y := by rw [e1 119 (by decide), h23]
    rw [md_defines_b25_e, if_neg (by omega)]
    exact ⟨S, rfl, e1, fun i q1 q2 => e2 i q1 (by omega), fun i q => e3 i (by omega)⟩
  | m + 1, k, S, k0, hk, e1, e2, e3 => by
    have s23 : S 119 23 = τ 123 y := by rw [e1 119 (by decide), h23]
    have mS' : mI S := mI_mv hI' (by rw [e1 119 (by decide)]) (by rw [e1 119 (by decide)]) (by rw [e1 119 (by decide)]) (by rw [e1 119 (by decide)]) fun a q1 q2 => e1 a (by omega)
    have vS' : vM S y := by unfold vM at hy ⊢; rw [e1 119 (by decide)]; exact hy
    have i8' := h8 (τ 122 y + k)
    unfold i8 at i8'
    rw [md_defines_b25_e, if_pos (by omega), md_letter_s mS' vS' (by unfold i32; omega)]
    simp only [Option.bind_some]
    rw [if_pos (by omega), e1 123 (by decide), e1 122 (by decide), e1 121 (by decide), if_pos (by omega), w8_e (x := τ 121 (τ 122 y + k)) (by omega) (by omega), w8_e (x := τ 121 (τ 122 y + k)) (by omega) (by omega), w32_e (by omega) (by omega)]
    refine defines_l hI' h8 hy h23 hn m (k + 1) _ (by omega) (by omega) (fun a q => ?_) (fun i q1 q2 => ?_) (fun i q => ?_)
    · funext j
      rw [gW_c q, e1 a q]
    · by_cases z : i = k
      · rw [z, gW_at]
      · rw [gW_i z]; exact e2 i q1 (by omega)
    · rw [gW_i (by omega)]; exact e3 i (by omega)
end DL
