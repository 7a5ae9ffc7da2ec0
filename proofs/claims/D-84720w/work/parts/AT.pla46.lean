/-! functions are defined one by one: both sides -/
/-- what was read stays readable -/
def dG (σ τ : gM) : Prop := FA σ τ ∧ tX σ τ ∧ (∀ i, i8 (τ 134 i)) ∧ (σ 69 0 = 1 → 24000 ≤ σ 69 1 ∨ σ 69 1 + σ 69 2 ≤ σ 0 8) ∧ (0 ≤ σ 68 19 ∧ σ 68 19 ≤ 50 ∧ τ 119 54 = σ 68 19) ∧ σ 68 10 ≤ 4000 ∧ J1 τ ∧ τ 119 43 = nd σ (σ 68 10)
/-- room that functions from f on take; their nodes -/
def wSu (σ : gM) : Nat → Int → Int
  | 0, _ => 0
  | m + 1, f => (σ 80 f + 1 + (wq σ (eG σ f) - wq σ (σ 81 f))) + wSu σ m (f + 1)
def nCu (σ : gM) : Nat → Int → Int
  | 0, _ => 0
  | m + 1, f => (nd σ (eG σ f) - nd σ (σ 81 f)) + nCu σ m (f + 1)
section SO
variable {σ τ S T Z X : gM} {f g b w n : Int}
theorem FN.mv (h : FN σ τ g b) (cc : ∀ e, 68 ≤ e → e ≤ 86 → S e = σ e) (tt : ∀ e, 134 ≤ e → e ≤ 154 → e ≠ 144 → T e = τ e) : FN S T g b := by
  obtain ⟨fn, ⟨r1, r2, r3, r4, r5⟩, hL, ⟨t148, t149, t150, t151, t300⟩, px, nb, ip⟩ := h
  have c : ∀ e, 79 ≤ e → e ≤ 84 → S e g = σ e g := fun e q1 q2 => by rw [cc e (by omega) (by omega)]
  have k2 : ∀ e i, 70 ≤ e → e ≤ 78 → S e i = σ e i := fun e i q1 q2 => by rw [cc e (by omega) (by omega)]
  have t : ∀ e, 146 ≤ e → e ≤ 152 → T e g = τ e g := fun e q1 q2 => by rw [tt e (by omega) (by omega) (by omega)]
  have s2 : S 69 2 = σ 69 2 := by rw [cc 69 (by decide) (by decide)]
  have t134 : T 134 = τ 134 := tt 134 (by decide) (by decide) (by decide)
  have ndS : ∀ i, nd S i = nd σ i := fun i => nd_congr fun j _ _ => by rw [cc 70 (by decide) (by decide)]
  have c85 : ∀ e l, (e = 85 ∨ e = 86) → S e (12 * g + l) = σ e (12 * g + l) := fun e l q1 => by rw [cc e (by omega) (by omega)]
  have c153 : ∀ e l, (e = 153 ∨ e = 154) → T e (12 * g + l) = τ e (12 * g + l) := fun e l q1 => by rw [tt e (by omega) (by omega) (by omega)]
  have phS : ∀ x, ph S x = ph σ x := fun x => by
    unfold ph ps
    rw [cc 70 (by decide) (by decide), cc 72 (by decide) (by decide), ndS, ndS]
  refine ⟨?_, by rw [c 81 (by decide) (by decide), c 83 (by decide) (by decide), c 84 (by decide) (by decide)]; omega, ?_, ⟨by rw [t 148 (by decide) (by decide), c 81 (by decide) (by decide), ndS, t148], by rw [t 149 (by decide) (by decide), ndS, t149], by rw [t 150 (by decide) (by decide), c 83 (by decide) (by decide), t150], by rw [t 151 (by decide) (by decide), c 82 (by decide) (by decide), phS, t151], by rw [c 81 (by decide) (by decide), ndS, ndS]; exact t300⟩, ?_, ?_, ?_⟩
  · unfold fN at *
    rw [c 79 (by decide) (by decide), c 80 (by decide) (by decide), s2, t 146 (by decide) (by decide), t 147 (by decide) (by decide)]
    exact fn
  · obtain ⟨l1, l2, l3, l4⟩ := hL
    refine ⟨by rw [c 84 (by decide) (by decide)]; exact l1, by rw [t 152 (by decide) (by decide), c 84 (by decide) (by decide), l2], fun l q1 q2 => ?_, fun l l' q1 q2 q3 => ?_⟩
    · rw [c 84 (by decide) (by decide)] at q2
      rw [c85 85 l (by decide), c85 86 l (by decide), c153 153 l (by decide), c153 154 l (by decide), s2]
      exact l3 l q1 q2
    · rw [c 84 (by decide) (by decide)] at q3
      rw [c85 85 l (by decide), c85 86 l (by decide), c85 85 l' (by decide), c85 86 l' (by decide), tE.mv t134]
      exact l4 l l' q1 q2 q3
  · rw [c 81 (by decide) (by decide), c 83 (by decide) (by decide), c 82 (by decide) (by decide)]
    obtain ⟨d, p⟩ := px
    exact ⟨d, PT_fr _ _ _ _ _ _ (by omega) (fun i i0 i1 => ⟨Or.inl (k2 70 i (by decide) (by decide)), k2 72 i (by decide) (by decide), k2 73 i (by decide) (by decide), k2 74 i (by decide) (by decide), fun _ => k2 76 i (by decide) (by decide)⟩) (fun i _ i1 _ => k2 75 i (by decide) (by decide)) (fun i _ i1 => ndS i) (fun i _ i1 _ _ => by rw [tt 141 (by decide) (by decide) (by decide)]) p⟩
  · rw [c 81 (by decide) (by decide)]
    refine NB.fr nb r1 (fun e i e0 e1 e2 i0 i1 => k2 e i e0 (by omega)) (fun i _ i1 => ndS i) (fun e j e0 e1 e2 j0 j1 => by rw [tt e (by omega) (by omega) (by omega)]) t134 s2 (fun l p e u => ?_)
    unfold isLoc at *
    rw [c 84 (by decide) (by decide), c85 85 l (by decide), c85 86 l (by decide), s2, tE.mv t134]
    exact u
  · rw [c 81 (by decide) (by decide), c 83 (by decide) (by decide)]
    intro i i0 i1
    rw [k2 70 i (by decide) (by decide), k2 76 i (by decide) (by decide), k2 72 i (by decide) (by decide), k2 73 i (by decide) (by decide), k2 74 i (by decide) (by decide)]
    exact ip i i0 i1
theorem dG.mv (h : dG σ τ) (F : dFr w n σ τ Z X) : dG Z X := by
  obtain ⟨-, ⟨b1, b2, b3, b4, b5, b6, b7, b8, b9, b10, b11, b12, b13, b14, b15⟩, ⟨c1, c2, c3, c4, c5, c6, c7, c8, c9, c10, c11⟩⟩ := F
  obtain ⟨h1, ⟨x1, x2, x3, x4⟩, h3, h4, h5, h6, h7⟩ := h
  have cc : ∀ e, 68 ≤ e → e ≤ 86 → Z e = σ e := fun e q1 q2 => b1 e (by omega) (by omega)
  have tt : ∀ e, 134 ≤ e → e ≤ 154 → e ≠ 144 → X e = τ e := fun e q1 q2 q3 => c1 e (by omega)
  have eg : ∀ f, eG Z f = eG σ f := fun f => by unfold eG; rw [cc 68 (by decide) (by decide), cc 81 (by decide) (by decide)]
  have c69 := cc 69 (by decide) (by decide)
  have c68 := cc 68 (by decide) (by decide)
  refine ⟨fun f f0 f1 => ?_, ⟨?_, ?_, ?_, ?_⟩, ?_, ?_, ?_, ?_, ?_⟩
  · rw [c68] at f1
    rw [eg, c68]
    exact ⟨(h1 f f0 f1).1.mv cc tt, (h1 f f0 f1).2⟩
  · rw [c69]; exact x1
  · rw [c69]; exact x2
  · rw [c69, c2 23 (by decide) (by decide) (by decide) (by decide) (by decide) (by decide)]; exact x3
  · rw [c69, tt 134 (by decide) (by decide) (by decide)]
    intro k k0 k1
    refine ⟨?_, (x4 k k0 k1).2⟩
    rw [← (x4 k k0 k1).1]
    rcases x1 with ⟨z, _⟩ | ⟨z, _⟩
    · rw [z]
      exact b10 _ (by have := h4 z; omega)
    · rw [z, b1 118 (by decide) (by decide)]
  · rw [tt 134 (by decide) (by decide) (by decide)]; exact h3
  · rw [c69]; intro z; have := h4 z; omega
  · rw [c68, c2 54 (by decide) (by decide) (by decide) (by decide) (by decide) (by decide)]; exact h5
  · rw [c68]; exact h6
  · have e43 := c2 43 (by decide) (by decide) (by decide) (by decide) (by decide) (by decide)
    have ndS : ∀ i, nd Z i = nd σ i := fun i => nd_congr fun j _ _ => by rw [cc 70 (by decide) (by decide)]
    refine ⟨fun j j0 j1 => ?_, by rw [e43, c68, ndS]; exact h7.2⟩
    rw [e43] at j1
    rw [tt 141 (by decide) (by decide) (by decide)]
    exact h7.1 j j0 j1
theorem wSu_mv (cc : ∀ e, 68 ≤ e → e ≤ 86 → Z e = σ e) : ∀ (m : Nat) (f : Int), wSu Z m f = wSu σ m f
  | 0, _ => rfl
  | m + 1, f => by
    have eg : eG Z f = eG σ f := by unfold eG; rw [cc 68 (by decide) (by decide), cc 81 (by decide) (by decide)]
    unfold wSu
    rw [wSu_mv cc m, eg, cc 80 (by decide) (by decide), cc 81 (by decide) (by decide), wq_mv fun e q1 q2 => cc e (by omega) (by omega), wq_mv fun e q1 q2 => cc e (by omega) (by omega)]
theorem nCu_mv (cc : ∀ e, 68 ≤ e → e ≤ 86 → Z e = σ e) : ∀ (m : Nat) (f : Int), nCu Z m f = nCu σ m f
  | 0, _ => rfl
  | m + 1, f => by
    have eg : eG Z f = eG σ f := by unfold eG; rw [cc 68 (by decide) (by decide), cc 81 (by decide) (by decide)]
    have ndS : ∀ i, nd Z i = nd σ i := fun i => nd_congr fun j _ _ => by rw [cc 70 (by decide) (by decide)]
    unfold nCu
    rw [nCu_mv cc m, eg, cc 81 (by decide) (by decide), ndS, ndS]
theorem FN.w0 (h : FN σ τ f b) : 0 ≤ σ 80 f + 1 + (wq σ b - wq σ (σ 81 f)) ∧ 0 ≤ nd σ b - nd σ (σ 81 f) := by
  obtain ⟨fn, ⟨r1, r2, r3, r4, r5⟩, hL, -, px, nb, ip⟩ := h
  have n1 := nd_r (σ := σ) (i := σ 81 f) (j := b) r1 (by omega)
  have w1 := wq_r (σ := σ) (i := σ 81 f) (j := b) r1 (by omega) fun x x0 x1 => by
    by_cases z : σ 70 x = 1 ∨ σ 70 x = 2 ∨ σ 70 x = 7 ∨ ((σ 70 x = 21 ∨ σ 70 x = 22) ∧ σ 73 x = -1)
    · rw [wt_1 z]
      have := ((nb x x0 x1).1 (by omega)).2.2.2.2.2.2.2.1 (by omega)
      omega
    · unfold wt
      rw [if_neg z]
      decide
  have := fn.1
  omega
theorem wSu_0 (h : FA σ τ) : ∀ (m : Nat) (f : Int), 0 ≤ f → f + m ≤ σ 68 19 → 0 ≤ wSu σ m f ∧ 0 ≤ nCu σ m f
  | 0, _, _, _ => ⟨Int.le_refl _, Int.le_refl _⟩
  | m + 1, f, f0, f1 => by
    have a := wSu_0 h m (f + 1) (by omega) (by omega)
    have b := (h f f0 (by omega)).1.w0
    unfold wSu nCu
    omega
end SO
