/-! what is related stays related: functions, roots, nodes -/
section SG
variable {σ τ Z W X : gM} {f b fn g w : Int}
/-- functions of one name are one function -/
theorem rFn_inj {f1 f2 g1 g2 : Int} (hZ : hI Z) (h1 : fI Z) (mX : mI X) (h2 : fJ X) (p : rFn Z X f1 g1) (q : rFn Z X f2 g2) : f1 = f2 ↔ g1 = g2 := by
  obtain ⟨p1, p2, p3⟩ := p
  obtain ⟨q1, q2, q3⟩ := q
  have s1 := (h1.2.1 f1 p1.1 p1.2).1
  have s2 := (h1.2.1 f2 q1.1 q1.2).1
  have t1 := h2.2.1 g1 p2.1 p2.2
  have t2 := h2.2.1 g2 q2.1 q2.2
  constructor
  · intro e
    rw [e] at p3
    have : X 155 g1 = X 155 g2 := mX.2.2.2.2.2.2.1 _ _ t1.1.1 t1.1.2 t2.1.1 t2.1.2 (by rw [← p3, ← q3])
    rw [← t1.2, ← t2.2, this]
  · intro e
    rw [e] at p3
    have : Z 23 f1 = Z 23 f2 := hZ.2.2.2.1 _ _ s1.1 s1.2 s2.1 s2.2 (by rw [p3, q3])
    exact h1.2.2.1 f1 f2 p1.1 p1.2 q1.1 q1.2 this
theorem rFv.fr (F : sFr σ τ Z X fn g) (h : rFv σ τ) (hn : rFn Z X fn g) (e24 : Z 24 fn = σ 8 31) (e156 : X 156 g = σ 8 31) : rFv Z X := by
  obtain ⟨h1, h2, h3, h4, h5⟩ := h
  have up := fun {f' g' : Int} (q : rFn σ τ f' g') => q.fr F h1 h2
  have F' := F
  obtain ⟨hZ, mX, fZ, jX, -, ⟨-, -, -, -, -, -, -, -, a9, a10, -⟩, ⟨-, -, -, b4, b5, -⟩⟩ := F'
  have inj := fun {f1 f2 g1 g2 : Int} (p : rFn Z X f1 g1) (q : rFn Z X f2 g2) => rFn_inj hZ fZ mX jX p q
  -- the newest root of a function that is not the planted one
  have zf : ∀ f', 0 ≤ f' → f' < Z 8 19 → f' ≠ fn → (f' < σ 8 19 ∧ Z 24 f' = σ 24 f') ∨ (σ 8 19 ≤ f' ∧ Z 24 f' = -1) := fun f' q0 q1 q2 => by
    by_cases z : f' < σ 8 19
    · exact Or.inl ⟨z, (a9 f' z).2 q2⟩
    · exact Or.inr ⟨by omega, a10 f' (by omega) q1 q2⟩
  have xg : ∀ g', 0 ≤ g' → g' < X 119 56 → g' ≠ g → (g' < τ 119 56 ∧ X 156 g' = τ 156 g') ∨ (τ 119 56 ≤ g' ∧ X 156 g' = -1) := fun g' q0 q1 q2 => by
    by_cases z : g' < τ 119 56
    · exact Or.inl ⟨z, (b4 g' z).2 q2⟩
    · exact Or.inr ⟨by omega, b5 g' (by omega) q1 q2⟩
  refine ⟨fZ, jX, fun f' g' q => ?_, fun g' q0 q1 q => ?_, fun f' q0 q1 q => ?_⟩
  · by_cases z : f' = fn
    · have zg := (inj q hn).mp z
      rw [z, zg, e24, e156]
    · have zg : g' ≠ g := fun w => z ((inj q hn).mpr w)
      rcases zf f' q.1.1 q.1.2 z with ⟨u, u'⟩ | ⟨u, u'⟩ <;> rcases xg g' q.2.1.1 q.2.1.2 zg with ⟨v, v'⟩ | ⟨v, v'⟩
      · -- both were there
        by_cases ex : ∃ g0, rFn σ τ f' g0
        · obtain ⟨g0, r0⟩ := ex
          have := (inj q (up r0)).mp rfl
          rw [u', v', this, h3 f' g0 r0]
        · have e1 := h5 f' q.1.1 u fun g0 r0 => ex ⟨g0, r0⟩
          by_cases ey : ∃ f0, rFn σ τ f0 g'
          · obtain ⟨f0, r0⟩ := ey
            have := (inj (up r0) q).mpr rfl
            rw [this] at r0
            exact (ex ⟨g', r0⟩).elim
          · rw [u', v', e1, h4 g' q.2.1.1 v fun f0 r0 => ey ⟨f0, r0⟩]
      · by_cases ex : ∃ g0, rFn σ τ f' g0
        · obtain ⟨g0, r0⟩ := ex
          have := (inj q (up r0)).mp rfl
          have := r0.2.1.2
          omega
        · rw [u', v', h5 f' q.1.1 u fun g0 r0 => ex ⟨g0, r0⟩]
      · by_cases ey : ∃ f0, rFn σ τ f0 g'
        · obtain ⟨f0, r0⟩ := ey
          have := (inj (up r0) q).mpr rfl
          have := r0.1.2
          omega
        · rw [u', v', h4 g' q.2.1.1 v fun f0 r0 => ey ⟨f0, r0⟩]
      · rw [u', v']
  · have zg : g' ≠ g := fun w => q fn (by rw [w]; exact hn)
    rcases xg g' q0 q1 zg with ⟨v, v'⟩ | ⟨v, v'⟩
    · rw [v', h4 g' q0 v fun f0 r0 => q f0 (up r0)]
    · exact v'
  · have zf' : f' ≠ fn := fun w => q g (by rw [w]; exact hn)
    rcases zf f' q0 q1 zf' with ⟨u, u'⟩ | ⟨u, u'⟩
    · rw [u', h5 f' q0 u fun g0 r0 => q g0 (up r0)]
    · exact u'
theorem rRn.fr (F : sFr σ τ Z X fn g) (hv : rFv σ τ) (h : rRn σ τ) (hn : rFn Z X fn g) (e25 : Z 25 (σ 8 31) = fn) (e157 : X 157 (σ 8 31) = g) : rRn Z X := fun r r0 r1 => by
  have F' := F
  obtain ⟨-, -, -, -, -, ⟨-, -, -, ⟨-, -, a4⟩, -, -, -, -, -, -, -, a12, -⟩, ⟨-, -, -, -, -, -, -, b8, -⟩⟩ := F'
  by_cases z : r = σ 8 31
  · rw [z, e25, e157]; exact hn
  · rw [a12 25 r (by decide) (by decide) (by omega), b8 157 r (by decide) (by decide) z]
    exact (h r r0 (by omega)).fr F hv.1 hv.2.1
/-- roots' books -/
theorem rRt.fr (F : sFr σ τ Z X fn g) (h : rRt σ τ) (h60 : σ 8 31 < 60) (hv : rFv Z X) (hr : rRn Z X) (e : Z 32 (σ 8 31) = 0 ∧ Z 33 (σ 8 31) = 0 ∧ Z 34 (σ 8 31) = -1) (x : X 163 (σ 8 31) = 0 ∧ X 164 (σ 8 31) = -1 ∧ X 165 (σ 8 31) = 0) (c0 : 0 ≤ σ 52 10) : rRt Z X := by
  have F' := F
  obtain ⟨-, -, -, -, -, ⟨a1, -, -, ⟨-, -, a4⟩, -, -, -, -, -, -, -, a12, -⟩, ⟨-, -, -, -, -, ⟨-, -, -, b6⟩, -, b8, -⟩⟩ := F'
  obtain ⟨⟨h1, h2, h3⟩, h4⟩ := h
  have e52 := a1 52 (by decide)
  refine ⟨by omega, fun r r0 r1 => ?_⟩
  have nm := hr r r0 r1
  have nw := hv.2.2.1 _ _ nm
  have f9 := hv.1.1
  have g9 := hv.2.1.1
  have u25 : 0 ≤ Z 25 r ∧ Z 25 r < 9000 := by have := nm.1; omega
  have u157 : 0 ≤ X 157 r ∧ X 157 r < 9000 := by
    have := nm.2.1
    unfold fJ at *
    omega
  by_cases z : r = σ 8 31
  · rw [z] at u25 u157 nw ⊢
    rw [e.1, e.2.1, e.2.2, x.1, x.2.1, x.2.2, e52]
    exact ⟨by omega, ⟨rfl, by omega, by omega, fun w => by omega⟩, ⟨rfl, by omega, by omega⟩, u25, u157, nw⟩
  · obtain ⟨k1, k2, k3, -⟩ := h4 r r0 (by omega)
    rw [a12 32 r (by decide) (by decide) (by omega), a12 33 r (by decide) (by decide) (by omega), a12 34 r (by decide) (by decide) (by omega), b8 163 r (by decide) (by decide) z, b8 164 r (by decide) (by decide) z, b8 165 r (by decide) (by decide) z, e52, a1 53 (by decide), a1 61 (by decide)]
    exact ⟨k1, k2, k3, u25, u157, nw⟩
theorem rCo.fr (F : sFr σ τ Z X fn g) (h : rCo σ τ) : rCo Z X := by
  obtain ⟨-, -, -, -, -, ⟨a1, -, -, ⟨-, -, a4⟩, -⟩, ⟨b1, b2, -⟩⟩ := F
  unfold rCo at h ⊢
  rw [a1 52 (by decide), a1 53 (by decide), a1 54 (by decide), a1 55 (by decide), a1 56 (by decide), a1 57 (by decide), a1 58 (by decide), a1 59 (by decide), a1 60 (by decide), a1 61 (by decide), a1 62 (by decide), a1 63 (by decide), a1 64 (by decide), b1 196 (by decide), b1 197 (by decide), b1 198 (by decide), b1 199 (by decide), b1 200 (by decide), b1 201 (by decide), b1 202 (by decide), b1 203 (by decide), b1 204 (by decide), b1 205 (by decide), b1 206 (by decide), b2 104 (by decide) (by decide) (by decide) (by decide) (by decide) (by decide)]
  obtain ⟨h1, h2, h3⟩ := h
  refine ⟨h1, h2, fun c c0 c1 => ?_⟩
  obtain ⟨k1, k2, k3, k4, k5, k6, k7, k8, k9, k10⟩ := h3 c c0 c1
  refine ⟨⟨k1.1, k1.2.1, by omega⟩, k2, k3, k4, k5, k6, k7, k8, k9, fun u u0 u1 => ?_⟩
  obtain ⟨l1, l2⟩ := k10 u u0 u1
  exact ⟨⟨l1.1, l1.2.1, by omega⟩, l2⟩
theorem rQu.fr (F : sFr σ τ Z X fn g) (h : rQu σ τ) : rQu Z X := by
  obtain ⟨-, -, -, -, -, ⟨a1, -, -, ⟨-, -, a4⟩, -⟩, ⟨b1, b2, -⟩⟩ := F
  unfold rQu at h ⊢
  rw [a1 52 (by decide), a1 67 (by decide), b1 185 (by decide), b2 89 (by decide) (by decide) (by decide) (by decide) (by decide) (by decide)]
  obtain ⟨h1, h2, h3⟩ := h
  exact ⟨h1, fun k k0 k1 => by have := h2 k k0 k1; exact ⟨this.1, this.2.1, by omega⟩, h3⟩
/-- places of names depend on the shapes' rows alone -/
theorem plF_mv (c43 : Z 43 = σ 43) (c44 : Z 44 = σ 44) (c47 : Z 47 = σ 47) : ∀ (d : Nat) (s n : Int), plF d Z s n = plF d σ s n
  | 0, _, _ => rfl
  | d + 1, s, n => by
    unfold plF
    rw [c43, c44, c47, plF_mv c43 c44 c47 d]
theorem plc_mv (c43 : Z 43 = σ 43) (c44 : Z 44 = σ 44) (c47 : Z 47 = σ 47) {s n : Int} : plc Z s n = plc σ s n := plF_mv c43 c44 c47 _ _ _
theorem rN1.fr {n : Int} (F : sFr σ τ Z X fn g) (hn : n < σ 8 12) (h : rN1 σ τ n) : rN1 Z X n := by
  obtain ⟨-, -, -, -, -, ⟨a1, a2, -, ⟨-, -, a4⟩, -⟩, ⟨b1, -, -, -, -, -, -, -, -, b10⟩⟩ := F
  obtain ⟨h1, h2, h3, h4, h5, h6, h7⟩ := h
  unfold rN1
  rw [a2 9 n (by decide) (by decide) hn, a2 10 n (by decide) (by decide) hn, a2 11 n (by decide) (by decide) hn, a2 12 n (by decide) (by decide) hn, a2 13 n (by decide) (by decide) hn, a2 18 n (by decide) (by decide) hn, b10 168 n (by decide) (by decide) hn, b10 169 n (by decide) (by decide) hn, b10 175 n (by decide) (by decide) hn, b10 178 n (by decide) (by decide) hn, b10 180 n (by decide) (by decide) hn, b10 181 n (by decide) (by decide) hn]
  refine ⟨h1, h2, h3, h4, h5, h6, fun i i0 i1 => ?_⟩
  have k := h7 i i0 i1
  unfold rEn at k ⊢
  rw [a1 19 (by decide), a1 42 (by decide), plc_mv (a1 43 (by decide)) (a1 44 (by decide)) (a1 47 (by decide)), plc_mv (a1 43 (by decide)) (a1 44 (by decide)) (a1 47 (by decide)), b1 182 (by decide), b1 183 (by decide), b1 184 (by decide), a2 9 n (by decide) (by decide) hn]
  refine ⟨k.1, ?_⟩
  rcases k.2 with ⟨x1, x2, x3⟩ | x | x
  · exact Or.inl ⟨x1, ⟨x2.1, by omega⟩, x3⟩
  · exact Or.inr (Or.inl x)
  · exact Or.inr (Or.inr x)
end SG
