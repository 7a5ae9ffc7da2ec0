/-! a whole text -/
/-- where the nodes of a function end -/
def eG (σ : gM) (g : Int) : Int := if g + 1 < σ 68 19 then σ 81 (g + 1) else σ 68 10
/-- all functions -/
def FA (σ τ : gM) : Prop := ∀ g, 0 ≤ g → g < σ 68 19 → FN σ τ g (eG σ g) ∧ eG σ g ≤ σ 68 10
section RT
variable {σ τ S T : gM} {f g a b : Int}
theorem FN.fr (h : FN σ τ g b) (k : kF f a (nd σ a) σ S τ T) (hg : 0 ≤ g ∧ g < f) (hb : b ≤ a) : FN S T g b := by
  obtain ⟨fn, ⟨r1, r2, r3, r4, r5⟩, hL, ⟨t148, t149, t150, t151, t300⟩, px, nb, ip⟩ := h
  obtain ⟨k1, k2, k3, k4, k5, k6, k7, k8, k9, k10, k11, kj⟩ := id k
  have c : ∀ e, 79 ≤ e → e ≤ 84 → S e g = σ e g := fun e q1 q2 => k5 e g q1 q2 (by omega)
  have t : ∀ e, 146 ≤ e → e ≤ 152 → T e g = τ e g := fun e q1 q2 => k9 e g q1 q2 (by omega)
  have s2 : S 69 2 = σ 69 2 := k4 2 (by decide)
  have t134 : T 134 = τ 134 := k7 134 (by decide) (by omega)
  have ndS : ∀ i, i ≤ a → nd S i = nd σ i := fun i q => k.nd q
  have d84 := hL.1
  have c85 : ∀ e l, (e = 85 ∨ e = 86) → l < σ 84 g → S e (12 * g + l) = σ e (12 * g + l) := fun e l q1 q2 => k6 e _ q1 (by omega)
  have c153 : ∀ e l, (e = 153 ∨ e = 154) → l < σ 84 g → T e (12 * g + l) = τ e (12 * g + l) := fun e l q1 q2 => k10 e _ q1 (by omega)
  have mono := nd_r (σ := σ) (i := b) (j := a) (by omega) hb
  have lr := pL_r px
  have phS : ph S (σ 82 g) = ph σ (σ 82 g) := by
    rcases lr.2 with q | q
    · rw [q]; rfl
    · unfold ph ps
      rw [k2 70 _ (by decide) (by decide) (by omega), k2 72 _ (by decide) (by decide) (by omega)]
      by_cases z : σ 70 (σ 82 g) = 30
      · have := (nb (σ 82 g) (by omega) q.2.2).2 z
        rw [if_pos z, if_pos z, ndS (σ 72 (σ 82 g)) (by omega)]
      · rw [if_neg z, if_neg z, ndS (σ 82 g) (by omega)]
  refine ⟨?_, by rw [c 81 (by decide) (by decide), c 83 (by decide) (by decide), c 84 (by decide) (by decide)]; omega, ?_, ⟨by rw [t 148 (by decide) (by decide), c 81 (by decide) (by decide), ndS _ (by omega), t148], by rw [t 149 (by decide) (by decide), ndS _ hb, t149], by rw [t 150 (by decide) (by decide), c 83 (by decide) (by decide), t150], by rw [t 151 (by decide) (by decide), c 82 (by decide) (by decide), phS, t151], by rw [c 81 (by decide) (by decide), ndS b hb, ndS (σ 81 g) (by omega)]; exact t300⟩, ?_, ?_, ?_⟩
  · unfold fN at *
    rw [c 79 (by decide) (by decide), c 80 (by decide) (by decide), s2, t 146 (by decide) (by decide), t 147 (by decide) (by decide)]
    exact fn
  · obtain ⟨l1, l2, l3, l4⟩ := hL
    refine ⟨by rw [c 84 (by decide) (by decide)]; exact l1, by rw [t 152 (by decide) (by decide), c 84 (by decide) (by decide), l2], fun l q1 q2 => ?_, fun l l' q1 q2 q3 => ?_⟩
    · rw [c 84 (by decide) (by decide)] at q2
      rw [c85 85 l (by decide) q2, c85 86 l (by decide) q2, c153 153 l (by decide) q2, c153 154 l (by decide) q2, s2]
      exact l3 l q1 q2
    · rw [c 84 (by decide) (by decide)] at q3
      rw [c85 85 l (by decide) (by omega), c85 86 l (by decide) (by omega), c85 85 l' (by decide) q3, c85 86 l' (by decide) q3, tE.mv t134]
      exact l4 l l' q1 q2 q3
  · rw [c 81 (by decide) (by decide), c 83 (by decide) (by decide), c 82 (by decide) (by decide)]
    obtain ⟨d, p⟩ := px
    exact ⟨d, PT_fr _ _ _ _ _ _ (by omega) (fun i i0 i1 => ⟨Or.inl (k2 70 i (by decide) (by decide) (by omega)), k2 72 i (by decide) (by decide) (by omega), k2 73 i (by decide) (by decide) (by omega), k2 74 i (by decide) (by decide) (by omega), fun _ => k2 76 i (by decide) (by decide) (by omega)⟩) (fun i _ i1 _ => k2 75 i (by decide) (by decide) (by omega)) (fun i _ i1 => ndS i (by omega)) (fun i _ i1 _ _ => k8 141 i (by decide) (by decide) (by omega)) p⟩
  · rw [c 81 (by decide) (by decide)]
    refine NB.fr nb r1 (fun e i e0 e1 e2 i0 i1 => k2 e i e0 (by omega) (by omega)) (fun i _ i1 => ndS i (by omega)) (fun e j e0 e1 e2 j0 j1 => k8 e j e0 (by omega) (by omega)) t134 s2 (fun l p e u => ?_)
    unfold isLoc at *
    rw [c 84 (by decide) (by decide), c85 85 l (by decide) u.1.2, c85 86 l (by decide) u.1.2, s2, tE.mv t134]
    exact u
  · rw [c 81 (by decide) (by decide), c 83 (by decide) (by decide)]
    intro i i0 i1
    rw [k2 70 i (by decide) (by decide) (by omega), k2 76 i (by decide) (by decide) (by omega), k2 72 i (by decide) (by decide) (by omega), k2 73 i (by decide) (by decide) (by omega), k2 74 i (by decide) (by decide) (by omega)]
    exact ip i i0 i1
/-- one function more -/
theorem FA.step (h : FA σ τ) (G : fG σ τ) (e : fE σ τ S T (σ 68 19) (σ 68 10)) (h50 : σ 68 19 < 50) : FA S T ∧ fG S T := by
  obtain ⟨e1, e2, ⟨hX, hK, g8, hm, g43, o28, n1, n2⟩, e81⟩ := e
  have g7 := G.2.2.2.2.2.2.1
  have A : FA S T := by
    intro g g0 g1
    rw [n1] at g1
    by_cases q : g = σ 68 19
    · have : eG S g = S 68 10 := by unfold eG; rw [if_neg (by omega)]
      rw [this, q]
      exact ⟨e1, Int.le_refl _⟩
    · have hh := h g g0 (by omega)
      have ee : eG S g = eG σ g := by
        unfold eG
        rw [if_pos (by omega)]
        by_cases z : g + 1 < σ 68 19
        · rw [if_pos z, e2.2.2.2.2.1 81 (g + 1) (by decide) (by decide) (by omega)]
        · rw [if_neg z, show g + 1 = σ 68 19 by omega, e81]
      have lt := e1.2.1
      rw [e81] at lt
      rw [ee]
      exact ⟨hh.1.fr e2 (by omega) hh.2, by omega⟩
  exact ⟨A, hX, hK, g8, hm, g43, o28, by omega, fun g g0 g1 => (A g g0 g1).1.1⟩
/-- the row of functions -/
theorem read_l : ∀ (mm : Nat) (σ τ : gM), fG σ τ → FA σ τ → σ 69 2 - σ 69 5 ≤ mm →
    (∃ S T, ps_read_b23 σ 1 = some (S, 1) ∧ md_readText_b24 τ = some (T, some 0) ∧ fG S T ∧ FA S T ∧ 1 ≤ S 68 19) ∨ (∃ S T, ps_read_b23 σ 1 = some (S, 0) ∧ md_readText_b24 τ = some (T, none) ∧ bx S T)
  | mm, σ, τ, G, A, hm => by
    have g8 := G.2.2.1
    have b59 : ∀ X : gM, X 69 8 ≠ 0 → ps_read_b59 X = some (X, 0) := fun X h => by
      rw [ps_read_b59_e, ps_good_b h]
      rfl
    rw [ps_read_b23_e, if_neg (by decide), ps_good_g g8, md_readText_b24_e]
    simp only [Option.bind_some]
    rw [if_neg (by decide)]
    rcases function_s G with ⟨S, T, e1, e2, e3, p, h50⟩ | ⟨S, T, e1, e2, b⟩
    · obtain ⟨A1, G1⟩ := A.step G e3 h50
      have kk := G1.2.1.2.k
      have kp := G1.2.1.1
      unfold tKp at kp
      have s2 : S 69 2 = σ 69 2 := e3.2.1.2.2.2.1 2 (by decide)
      have n19 := e3.2.2.1.2.2.2.2.2.2.1
      have n0 := G.2.2.2.2.2.2.1
      rw [e1, e2]
      simp only [Option.bind_some, gtry]
      by_cases q : S 69 4 = 0
      · left
        rw [if_pos q, if_pos (show T 119 25 = 0 by omega), ps_read_b54_e, ps_read_b23_e, if_pos (by trivial), ps_read_b59_e, ps_good_g G1.2.2.1]
        exact ⟨S, T, rfl, rfl, G1, A1, by omega⟩
      · rw [if_neg q, if_neg (show ¬ T 119 25 = 0 by omega), ps_read_b54_e]
        cases mm with
        | zero => omega
        | succ mm => exact read_l mm S T G1 A1 (by omega)
    · right
      rw [e1, e2]
      simp only [Option.bind_some]
      refine ⟨S, T, ?_, rfl, b⟩
      have f : ∀ y, ps_read_b23 S y = some (S, 0) := fun y => by
        rw [ps_read_b23_e, ps_good_b b.1]
        simp only [Option.bind_some]
        by_cases q : y = 0
        · rw [if_pos q, b59 S b.1]
        · rw [if_neg q, if_pos (by trivial), b59 S b.1]
      by_cases q : S 69 4 = 0
      · rw [if_pos q, ps_read_b54_e, f]
      · rw [if_neg q, ps_read_b54_e, f]
/-- a text: the component's reading and the model's -/
theorem read_all {c p n : Int} (c0 : 0 ≤ c) (hX : tX (gW (gW (gW (gW (gW (gW (gW σ 68 10 0) 68 19 0) 69 0 c) 69 1 p) 69 2 n) 69 3 0) 69 8 0) (gW (gW (gW (gW τ 119 24 0) 119 28 0) 119 54 0) 119 43 0)) :
    (∃ S T, ps_read σ c p n = some (S, 1) ∧ md_readText τ = some (T, some 0) ∧ fG S T ∧ FA S T ∧ 1 ≤ S 68 19) ∨ (∃ S T, ps_read σ c p n = some (S, 0) ∧ md_readText τ = some (T, none) ∧ bx S T) := by
  rw [ps_read_e, tk_begin_e, if_pos c0, md_readText_e]
  have hl := hX.2.1
  generalize eA : gW (gW (gW (gW (gW (gW (gW σ 68 10 0) 68 19 0) 69 0 c) 69 1 p) 69 2 n) 69 3 0) 69 8 0 = A at *
  generalize eB : gW (gW (gW (gW τ 119 24 0) 119 28 0) 119 54 0) 119 43 0 = B at *
  have a3 : A 69 3 = 0 := by rw [← eA]; simp [gW]
  have a8 : A 69 8 = 0 := by rw [← eA]; simp [gW]
  have a10 : A 68 10 = 0 := by rw [← eA]; simp [gW]
  have a19 : A 68 19 = 0 := by rw [← eA]; simp [gW]
  have b24 : B 119 24 = 0 := by rw [← eB]; simp [gW]
  have b28 : B 119 28 = 0 := by rw [← eB]; simp [gW]
  have b54 : B 119 54 = 0 := by rw [← eB]; simp [gW]
  have b43 : B 119 43 = 0 := by rw [← eB]; simp [gW]
  obtain ⟨x, hx, S, T, e, F, r⟩ := read_s hX a8 (by omega) (by omega) (by omega)
  rw [e]
  simp only [Option.bind_some]
  have s10 : S 68 10 = 0 := by rw [F.1 68 (by decide), a10]
  have s19 : S 68 19 = 0 := by rw [F.1 68 (by decide), a19]
  rcases r with ⟨r1, r2, r3, r4, r5⟩ | ⟨r1, r2, r3, r4⟩
  · rw [r1]
    simp only [Option.bind_some, gtry]
    have G : fG S T := ⟨F.tx hX, r2, r3, by omega, by rw [s10, F.2.2.2 43 (by omega) (by decide) (by decide), b43]; rfl, by rw [F.2.2.2 28 (by omega) (by decide) (by decide), b28], ⟨by omega, by omega, by rw [F.2.2.2 54 (by omega) (by decide) (by decide), b54, s19]⟩, fun g g0 g1 => by omega⟩
    exact read_l (S 69 2 - S 69 5).toNat S T G (fun g g0 g1 => by omega) (by omega)
  · right
    rw [r1]
    simp only [Option.bind_some]
    have b : S 69 8 ≠ 0 := by omega
    refine ⟨S, T, ?_, rfl, b, by omega, r4⟩
    rw [ps_read_b23_e, if_neg (by decide), ps_good_b b]
    simp only [Option.bind_some]
    rw [if_pos (by trivial), ps_read_b59_e, ps_good_b b]
    rfl
end RT
