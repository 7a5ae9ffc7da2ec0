/-! functions: up to the name -/
/-- a name of a function on both sides -/
def fN (σ τ : gM) (g : Int) : Prop := (0 ≤ σ 79 g ∧ 1 ≤ σ 80 g ∧ σ 80 g ≤ 12 ∧ σ 79 g + σ 80 g ≤ σ 69 2) ∧ τ 146 g = σ 79 g ∧ τ 147 g = σ 79 g + σ 80 g
/-- between functions -/
def fG (σ τ : gM) : Prop := tX σ τ ∧ tK σ τ ∧ σ 69 8 = 0 ∧ (0 ≤ σ 68 10 ∧ σ 68 10 ≤ σ 69 5) ∧ τ 119 43 = nd σ (σ 68 10) ∧ τ 119 28 = 0 ∧ (0 ≤ σ 68 19 ∧ σ 68 19 ≤ 50 ∧ τ 119 54 = σ 68 19) ∧ ∀ g, 0 ≤ g → g < σ 68 19 → fN σ τ g
/-- a fault on both sides -/
def bx (σ τ : gM) : Prop := σ 69 8 ≠ 0 ∧ σ 69 8 = τ 119 30 ∧ σ 69 9 = τ 119 31
def fC (σ : gM) : gM := gW (gW (gW (gW (gW (gW (gW (gW (gW σ 68 19 (σ 68 19 + 1)) 79 (σ 68 19) (σ 69 5)) 80 (σ 68 19) (σ 69 6)) 81 (σ 68 19) (σ 68 10)) 83 (σ 68 19) 0) 84 (σ 68 19) 0) 68 20 0) 68 21 0) 68 22 0
def fM (τ : gM) : gM := gW (gW (gW (gW (gW (gW τ 146 (τ 119 54) (τ 119 26)) 147 (τ 119 54) (τ 119 27)) 152 (τ 119 54) 0) 148 (τ 119 54) (τ 119 43)) 119 44 (τ 119 43)) 119 29 0
section FU
variable {σ τ S T : gM}
theorem bd.x {k : Int} (b : bd k S T) : bx S T := ⟨b.1, b.2.1, b.2.2.1⟩
theorem fC_o {a i : Int} (h : a ≠ 68 ∨ (i ≠ 19 ∧ i ≠ 20 ∧ i ≠ 21 ∧ i ≠ 22)) (h2 : (a < 79 ∨ 84 < a ∨ a = 82) ∨ i ≠ σ 68 19) : fC σ a i = σ a i := by
  simp only [fC, gW]
  rw [if_neg (by omega), if_neg (by omega), if_neg (by omega), if_neg (by omega), if_neg (by omega), if_neg (by omega), if_neg (by omega), if_neg (by omega), if_neg (by omega)]
theorem fC_n : fC σ 68 19 = σ 68 19 + 1 ∧ fC σ 79 (σ 68 19) = σ 69 5 ∧ fC σ 80 (σ 68 19) = σ 69 6 ∧ fC σ 81 (σ 68 19) = σ 68 10 ∧ fC σ 83 (σ 68 19) = 0 ∧ fC σ 84 (σ 68 19) = 0 ∧ fC σ 68 20 = 0 ∧ fC σ 68 21 = 0 ∧ fC σ 68 22 = 0 := by
  simp [fC, gW]
theorem fM_o {a i : Int} (h : a ≠ 119 ∨ (i ≠ 44 ∧ i ≠ 29)) (h2 : (a < 146 ∨ (148 < a ∧ a ≠ 152)) ∨ i ≠ τ 119 54) : fM τ a i = τ a i := by
  simp only [fM, gW]
  rw [if_neg (by omega), if_neg (by omega), if_neg (by omega), if_neg (by omega), if_neg (by omega), if_neg (by omega)]
theorem fM_n : fM τ 146 (τ 119 54) = τ 119 26 ∧ fM τ 147 (τ 119 54) = τ 119 27 ∧ fM τ 152 (τ 119 54) = 0 ∧ fM τ 148 (τ 119 54) = τ 119 43 ∧ fM τ 119 44 = τ 119 43 ∧ fM τ 119 29 = 0 := by
  simp [fM, gW]
theorem b181_b (b : S 69 8 ≠ 0) : ps_function_b181 S = some (S, 0) := by
  rw [ps_function_b181_e, ps_good_b b]
  simp only [Option.bind_some]
  rw [if_pos (by trivial)]
theorem b110_b (b : S 69 8 ≠ 0) {x : Int} : ps_function_b110 S x = some (S, 0) := by
  rw [ps_function_b110_e, ps_good_b b]
  simp only [Option.bind_some]
  by_cases q : x < S 68 19
  · rw [if_pos q, if_pos (by trivial), b181_b b]
  · rw [if_neg q, b181_b b]
theorem b76_b (b : S 69 8 ≠ 0) : ps_function_b76 S = some (S, 0) := by
  rw [ps_function_b76_e, ps_good_b b]
  simp only [Option.bind_some]
  rw [if_pos (by trivial), ps_function_b108_e, b110_b b]
theorem b42_b (b : S 69 8 ≠ 0) : ps_function_b42 S = some (S, 0) := by
  rw [ps_function_b42_e, ps_good_b b]
  simp only [Option.bind_some]
  rw [if_pos (by trivial), b76_b b]
theorem b28_b (b : S 69 8 ≠ 0) : ps_function_b28 S = some (S, 0) := by
  rw [ps_function_b28_e, ps_good_b b]
  simp only [Option.bind_some]
  rw [if_pos (by trivial), b42_b b]
/-- behind the name -/
noncomputable def fbC (p : gM × Int) (f : Int) : Option (gM × Int) := (ps_opens p.1 40).bind fun p3 => (ps_good p3.1).bind fun p4 => if p4.2 = 0 then ps_function_b305 p4.1 f else ((tk_is p4.1 41).bind fun p5 => if p5.2 = 0 then ps_function_b306 p5.1 f 1 else ps_function_b305 p5.1 f)
noncomputable def fbM (T : gM) : Option (gM × Option Int) := (md_pass T 30).bind fun p3 => gtry p3.2 (fun v4 => if p3.1 119 25 = 31 then (md_function_b170 p3.1 0) else (md_function_b170 p3.1 1)) (some (p3.1, none))
theorem b181_g (g : σ 69 8 = 0) (h : 0 ≤ σ 68 19 ∧ σ 68 19 < 50) : ps_function_b181 σ = (tk_read (fC σ)).bind fun p2 => fbC p2 (σ 68 19) := by
  rw [ps_function_b181_e, ps_good_g g]
  simp only [Option.bind_some]
  rw [if_neg (by decide), if_pos h, if_pos h, if_pos h, if_pos h, if_pos h, w32_e (by omega) (by omega)]
  rfl
theorem b32_g (h : 0 ≤ τ 119 54 ∧ τ 119 54 < 50) : md_function_b32 τ (τ 119 54) = (md_take (fM τ)).bind fun p1 => gtry p1.2 (fun _ => fbM p1.1) (some (p1.1, none)) := by
  have h' : 0 ≤ τ 119 54 ∧ τ 119 54 < 51 := by omega
  rw [md_function_b32_e, if_neg (by omega), if_pos h', if_pos h', if_pos h', if_pos h']
  rfl
/-- the names so far -/
theorem names_s (G : fG σ τ) (h1 : τ 119 25 = 1) (h50 : σ 68 19 < 50) : ∀ (m : Nat) (k : Int), 0 ≤ k → k + m = σ 68 19 →
    (ps_function_b110 σ k = ps_function_b181 σ ∧ md_function_b32 τ k = md_function_b32 τ (τ 119 54) ∧ ∀ g, k ≤ g → g < σ 68 19 → ¬ tE τ (σ 79 g) (σ 80 g) (σ 69 5) (σ 69 6)) ∨ (∃ S T, ps_function_b110 σ k = some (S, 0) ∧ md_function_b32 τ k = some (T, none) ∧ bx S T)
  | 0, k, k0, e => by
    left
    refine ⟨?_, ?_, fun g g0 g1 => by omega⟩
    · rw [ps_function_b110_e, if_neg (by omega)]
    · rw [G.2.2.2.2.2.2.1.2.2, show k = σ 68 19 by omega]
  | m + 1, k, k0, e => by
    obtain ⟨hX, hK, g8, hm, g43, o28, ⟨n0, n1, n2⟩, fn⟩ := G
    have kp := hK.1
    unfold tKp at kp
    obtain ⟨f1, f2, f3⟩ := fn k k0 (by omega)
    obtain ⟨r, hr, s1, s2, s3⟩ := isSame_s hX (p := σ 79 k) (n := σ 80 k) (q := σ 69 5) (m := σ 69 6) (by omega) (by omega)
    rw [ps_function_b110_e, if_pos (show k < σ 68 19 by omega), ps_good_g g8]
    simp only [Option.bind_some]
    rw [if_neg (by decide), if_pos (show 0 ≤ k ∧ k < 50 by omega), if_pos (show 0 ≤ k ∧ k < 50 by omega), s1]
    rw [md_function_b32_e, if_pos (show k < τ 119 54 by omega), if_pos (show 0 ≤ k ∧ k < 51 by omega), if_pos (show 0 ≤ k ∧ k < 51 by omega), f2, f3, show τ 119 26 = σ 69 5 from kp.1.symm, show τ 119 27 = σ 69 5 + σ 69 6 by omega, s2]
    simp only [Option.bind_some]
    by_cases z : r = 0
    · rw [if_pos z, if_pos z, ps_function_b175_e, w32_e (by omega) (by omega)]
      rcases names_s ⟨hX, hK, g8, hm, g43, o28, ⟨n0, n1, n2⟩, fn⟩ h1 h50 m (k + 1) (by omega) (by omega) with ⟨a1, a2, a3⟩ | h
      · left
        refine ⟨a1, a2, fun g g0 g1 w => ?_⟩
        by_cases q : g = k
        · rw [q] at w
          have := s3.mpr w
          omega
        · exact a3 g (by omega) g1 w
      · exact Or.inr h
    · right
      rw [if_neg z, if_neg z, tk_fails_g g8, md_fails_s]
      simp only [Option.bind_some, gthr_s]
      have b : bx (gW (gW σ 69 8 6) 69 9 (σ 69 5)) (gW (gW τ 119 30 6) 119 31 (τ 119 26)) := by
        refine ⟨?_, ?_, ?_⟩ <;> simp [gW]
        exact kp.1
      rw [ps_function_b175_e, b110_b b.1]
      exact ⟨_, _, rfl, rfl, by rw [kp.1]; rw [kp.1] at b; exact b⟩
/-- a function begins -/
theorem fC_g (G : fG σ τ) (h50 : σ 68 19 < 50) : pG 0 (fC σ) (fM τ) := by
  obtain ⟨hX, hK, g8, hm, g43, o28, ⟨n0, n1, n2⟩, fn⟩ := G
  have kp := hK.1
  unfold tKp at kp
  have c : ∀ a, (a < 68 ∨ (68 < a ∧ a < 79) ∨ 84 < a ∨ a = 82) → fC σ a = σ a := fun a q => funext fun i => fC_o (by omega) (by omega)
  have n := @fC_n σ
  have m := @fM_n τ
  have s10 : fC σ 68 10 = σ 68 10 := fC_o (by omega) (by omega)
  have e54 : fM τ 119 54 = τ 119 54 := fM_o (by omega) (by omega)
  have e43 : fM τ 119 43 = τ 119 43 := fM_o (by omega) (by omega)
  have e28 : fM τ 119 28 = τ 119 28 := fM_o (by omega) (by omega)
  have c134 : fM τ 134 = τ 134 := funext fun i => fM_o (by omega) (by omega)
  have c69 := c 69 (by omega)
  refine ⟨hX.mv (by rw [c69]) (by rw [c69]) (by rw [c69]) (c 1 (by omega)) (c 118 (by omega)) (fM_o (by omega) (by omega)) c134, hK.mv c69 (fun i q1 q2 => fM_o (by omega) (by omega)) c134, by rw [c69]; exact g8, by rw [s10, c69]; omega, ?_, ?_, ?_, ?_, ?_, ?_⟩
  · rw [s10, e43, g43]
    exact (nd_congr fun j _ _ => by rw [c 70 (by omega)]).symm
  · rw [n.2.2.2.2.2.2.1, e43, m.2.2.2.2.1]; omega
  · rw [n.2.2.2.2.2.2.2.1, e28]; omega
  · rw [n.2.2.2.2.2.2.2.2, m.2.2.2.2.2, c69]; omega
  · rw [n.1, e54]; omega
  · rw [n.1, show σ 68 19 + 1 - 1 = σ 68 19 by omega]
    have m3 := m.2.2.1
    rw [n2] at m3
    refine ⟨by rw [n.2.2.2.2.2.1]; decide, by rw [m3, n.2.2.2.2.2.1], fun l l0 l1 => ?_, fun l l' l0 l1 l2 => ?_⟩
    · rw [n.2.2.2.2.2.1] at l1; omega
    · rw [n.2.2.2.2.2.1] at l2; omega
end FU
