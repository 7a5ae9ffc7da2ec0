/-! the numbers of a tree's nodes: each once, none left out -/
def bij (σ : gM) (N : Int → Int) (a b k : Int) : Prop := (∀ i, a ≤ i → i < b → σ 70 i ≠ 30 → k ≤ N i ∧ N i < k + (nd σ b - nd σ a)) ∧ (∀ i i', a ≤ i → i < b → σ 70 i ≠ 30 → a ≤ i' → i' < b → σ 70 i' ≠ 30 → N i = N i' → i = i') ∧ (∀ x, k ≤ x → x < k + (nd σ b - nd σ a) → ∃ i, a ≤ i ∧ i < b ∧ σ 70 i ≠ 30 ∧ N i = x)
section BJ
variable {σ : gM} {N : Int → Int} {a b n k x : Int}
theorem bij.nil : bij σ N a a k := ⟨fun i _ _ => by omega, fun i _ _ _ => by omega, fun x _ _ => by omega⟩
theorem bij.cat (a0 : 0 ≤ a) (ax : a ≤ x) (xb : x ≤ b) (h : bij σ N a x k) (h2 : bij σ N x b (k + (nd σ x - nd σ a))) : bij σ N a b k := by
  have m1 := nd_r (σ := σ) (i := a) (j := x) a0 ax
  have m2 := nd_r (σ := σ) (i := x) (j := b) (by omega) xb
  obtain ⟨h1, h3, h5⟩ := h
  obtain ⟨g1, g3, g5⟩ := h2
  refine ⟨fun i i0 i1 q => ?_, fun i i' i0 i1 q j0 j1 q' e => ?_, fun y y0 y1 => ?_⟩
  · by_cases z : i < x
    · have := h1 i i0 z q; omega
    · have := g1 i (by omega) i1 q; omega
  · by_cases z : i < x
    · by_cases z' : i' < x
      · exact h3 i i' i0 z q j0 z' q' e
      · have := h1 i i0 z q
        have := g1 i' (by omega) j1 q'
        omega
    · by_cases z' : i' < x
      · have := g1 i (by omega) i1 q
        have := h1 i' j0 z' q'
        omega
      · exact g3 i i' (by omega) i1 q (by omega) j1 q' e
  · by_cases z : y < k + (nd σ x - nd σ a)
    · obtain ⟨i, i0, i1, i2, i3⟩ := h5 y y0 z
      exact ⟨i, i0, by omega, i2, i3⟩
    · obtain ⟨i, i0, i1, i2, i3⟩ := g5 y (by omega) (by omega)
      exact ⟨i, by omega, i1, i2, i3⟩
/-- a node with parts ahead of it and behind it -/
theorem bij.mid (a0 : 0 ≤ a) (an : a ≤ n) (nb : n < b) (k30 : σ 70 n ≠ 30) (e : N n = k) (h : bij σ N a n (k + 1)) (h2 : bij σ N (n + 1) b (k + 1 + (nd σ n - nd σ a))) : bij σ N a b k := by
  have m1 := nd_r (σ := σ) (i := a) (j := n) a0 an
  have m0 := nd_S (σ := σ) (i := n) (by omega) k30
  have m2 := nd_r (σ := σ) (i := n + 1) (j := b) (by omega) (by omega)
  obtain ⟨h1, h3, h5⟩ := h
  obtain ⟨g1, g3, g5⟩ := h2
  have one : ∀ i, a ≤ i → i < b → σ 70 i ≠ 30 → (i < n ∧ k + 1 ≤ N i ∧ N i < k + 1 + (nd σ n - nd σ a)) ∨ i = n ∨ (n < i ∧ k + 1 + (nd σ n - nd σ a) ≤ N i ∧ N i < k + (nd σ b - nd σ a)) := fun i i0 i1 q => by
    rcases Int.lt_trichotomy i n with z | z | z
    · have := h1 i i0 z q; exact Or.inl ⟨z, by omega⟩
    · exact Or.inr (Or.inl z)
    · have := g1 i (by omega) i1 q; exact Or.inr (Or.inr ⟨z, by omega⟩)
  refine ⟨fun i i0 i1 q => ?_, fun i i' i0 i1 q j0 j1 q' w => ?_, fun y y0 y1 => ?_⟩
  · rcases one i i0 i1 q with z | z | z
    · omega
    · rw [z, e]; omega
    · omega
  · rcases one i i0 i1 q with z | z | z <;> rcases one i' j0 j1 q' with z' | z' | z'
    · exact h3 i i' i0 z.1 q j0 z'.1 q' w
    · rw [z', e] at w; omega
    · omega
    · rw [z, e] at w; omega
    · omega
    · rw [z, e] at w; omega
    · omega
    · rw [z', e] at w; omega
    · exact g3 i i' (by omega) i1 q (by omega) j1 q' w
  · by_cases z : y = k
    · exact ⟨n, an, nb, k30, by rw [e, z]⟩
    · by_cases z' : y < k + 1 + (nd σ n - nd σ a)
      · obtain ⟨i, i0, i1, i2, i3⟩ := h5 y (by omega) z'
        exact ⟨i, i0, by omega, i2, i3⟩
      · obtain ⟨i, i0, i1, i2, i3⟩ := g5 y (by omega) (by omega)
        exact ⟨i, by omega, i1, i2, i3⟩
theorem bij.fst (a0 : 0 ≤ n) (nb : n < b) (k30 : σ 70 n ≠ 30) (e : N n = k) (h : bij σ N (n + 1) b (k + 1)) : bij σ N n b k :=
  bij.mid a0 (Int.le_refl _) nb k30 e bij.nil (by rw [show k + 1 + (nd σ n - nd σ n) = k + 1 by omega]; exact h)
theorem bij.does (a0 : 0 ≤ n) (nb : n < b) (k30 : σ 70 n = 30) (h : bij σ N (n + 1) b k) : bij σ N n b k := by
  have e : nd σ (n + 1) = nd σ n := by rw [nd_s a0, if_pos k30]; omega
  obtain ⟨h1, h3, h5⟩ := h
  rw [e] at h1 h5
  have ne : ∀ i, n ≤ i → σ 70 i ≠ 30 → n + 1 ≤ i := fun i i0 q => by
    by_cases z : i = n
    · rw [z] at q; exact (q k30).elim
    · omega
  refine ⟨fun i i0 i1 q => h1 i (ne i i0 q) i1 q, fun i i' i0 i1 q j0 j1 q' w => h3 i i' (ne i i0 q) i1 q (ne i' j0 q') j1 q' w, fun y y0 y1 => ?_⟩
  obtain ⟨i, i0, i1, i2, i3⟩ := h5 y y0 y1
  exact ⟨i, by omega, i1, i2, i3⟩
theorem QT_bij : ∀ (d m : Nat) (a b n k : Int), 0 ≤ a → QT σ N d m a b n k → bij σ N a b k
  | 0, _, _, _, _, _, _, h => h.elim
  | d + 1, 0, a, b, n, k, a0, h => by
    have hn := QT0_N h
    obtain ⟨e, h1, h2⟩ := h
    have k30 := hn.2.1
    have nS := nd_S (σ := σ) (i := n) (by omega) k30
    rcases h2 with ⟨_, rfl, rfl, _⟩ | ⟨_, rfl, _, _, t⟩ | ⟨_, t, t', _⟩ | ⟨_, rfl, t, _⟩ | ⟨_, t, q, t', t''⟩ | ⟨_, t, t', _⟩
    · exact bij.fst a0 (by omega) k30 e bij.nil
    · exact bij.fst a0 h1.2.2 k30 e (QT_bij d _ _ _ _ _ (by omega) t)
    · exact bij.mid a0 h1.2.1 h1.2.2 k30 e (QT_bij d _ _ _ _ _ a0 t) (QT_bij d _ _ _ _ _ (by omega) t')
    · exact bij.fst a0 h1.2.2 k30 e (QT_bij d _ _ _ _ _ (by omega) t)
    · refine bij.mid a0 h1.2.1 h1.2.2 k30 e (QT_bij d _ _ _ _ _ a0 t) ?_
      have nq : n + 1 ≤ q := by
        rcases t' with ⟨_, z⟩ | ⟨_, z⟩
        · omega
        · exact (QT_ab _ _ _ _ _ _ z).1
      have qb : q ≤ b := by
        rcases t'' with ⟨_, _, z⟩ | ⟨_, z⟩
        · omega
        · exact (QT_ab _ _ _ _ _ _ z).1
      refine bij.cat (x := q) (by omega) nq qb ?_ ?_
      · rcases t' with ⟨_, z⟩ | ⟨_, z⟩
        · rw [z]; exact bij.nil
        · exact QT_bij d _ _ _ _ _ (by omega) z
      · rcases t'' with ⟨_, _, z⟩ | ⟨_, z⟩
        · rw [z]; exact bij.nil
        · exact QT_bij d _ _ _ _ _ (by omega) z
    · exact bij.mid a0 h1.2.1 h1.2.2 k30 e (QT_bij d _ _ _ _ _ a0 t) (QT_bij d _ _ _ _ _ (by omega) t')
  | d + 1, 1, a, b, n, k, a0, h => by
    rcases h with ⟨_, rfl⟩ | ⟨_, x, t, t'⟩
    · exact bij.nil
    · have q1 := (QT_ab _ _ _ _ _ _ t).1
      have q2 := (QT_ab _ _ _ _ _ _ t').1
      exact bij.cat a0 q1 q2 (QT_bij d _ _ _ _ _ a0 t) (QT_bij d _ _ _ _ _ (by omega) t')
  | d + 1, 2, a, b, n, k, a0, h => by
    rcases h with ⟨_, rfl⟩ | ⟨_, x, t, t'⟩
    · exact bij.nil
    · have q1 := (QT_ab _ _ _ _ _ _ t).1
      have q2 := (QT_ab _ _ _ _ _ _ t').1
      exact bij.cat a0 q1 q2 (QT_bij d _ _ _ _ _ a0 t) (QT_bij d _ _ _ _ _ (by omega) t')
  | d + 1, m + 3, a, b, n, k, a0, h => by
    obtain ⟨⟨r1, rfl, r2⟩, e, h2⟩ := h
    rcases h2 with ⟨z, c, g, t, t', t''⟩ | ⟨z, c, t, t', _⟩ | ⟨z, t, _⟩ | ⟨z, rfl, _⟩ | ⟨z, t⟩
    · have q1 := (QT_ab _ _ _ _ _ _ t).1
      have q2 := (QT_ab _ _ _ _ _ _ t').1
      have q3 := (QT_ab _ _ _ _ _ _ t'').1
      refine bij.fst a0 r2 (by omega) (e (by omega)) (bij.cat (x := c) (by omega) q1 (by omega) (QT_bij d _ _ _ _ _ (by omega) t) (bij.cat (x := g) (by omega) q2 q3 (QT_bij d _ _ _ _ _ (by omega) t') ?_))
      rw [show k + 1 + (nd σ c - nd σ (a + 1)) + (nd σ g - nd σ c) = k + 1 + (nd σ g - nd σ (a + 1)) by omega]
      exact QT_bij d _ _ _ _ _ (by omega) t''
    · have q1 := (QT_ab _ _ _ _ _ _ t).1
      have q2 := (QT_ab _ _ _ _ _ _ t').1
      exact bij.fst a0 r2 (by omega) (e (by omega)) (bij.cat (x := c) (by omega) q1 q2 (QT_bij d _ _ _ _ _ (by omega) t) (QT_bij d _ _ _ _ _ (by omega) t'))
    · refine bij.fst a0 r2 (by omega) (e (by omega)) ?_
      rcases t with ⟨_, rfl⟩ | ⟨_, t⟩
      · exact bij.nil
      · exact QT_bij d _ _ _ _ _ (by omega) t
    · exact bij.fst a0 (by omega) (by omega) (e (by omega)) bij.nil
    · exact bij.does a0 r2 z (QT_bij d _ _ _ _ _ (by omega) t)
/-- things given: their numbers -/
theorem bij.row : ∀ (m : Nat) (a k : Int), 0 ≤ a → (∀ i, a ≤ i → i < a + m → σ 70 i = 0 ∧ N i = k + (i - a)) → bij σ N a (a + m) k
  | 0, a, k, a0, h => by rw [show a + ((0 : Nat) : Int) = a by omega]; exact bij.nil
  | m + 1, a, k, a0, h => by
    have h0 := h a (Int.le_refl _) (by omega)
    refine bij.fst a0 (by omega) (by omega) (by rw [h0.2]; omega) ?_
    rw [show a + ((m + 1 : Nat) : Int) = a + 1 + m by omega]
    exact bij.row m (a + 1) (k + 1) (by omega) fun i i0 i1 => by
      have := h i (by omega) (by omega)
      exact ⟨this.1, by rw [this.2]; omega⟩
end BJ
/-! the model lays all nodes of a function -/
section LA
variable {σ τ T U : gM} {f b k r A : Int}
theorem lV.mv {i j : Int} (h : lV σ τ f i j) (c : ∀ a, 131 < a → a < 155 → T a = τ a) : lV σ T f i j := by
  unfold lV isLoc at h ⊢
  rw [c 134 (by decide) (by decide), c 135 (by decide) (by decide), c 138 (by decide) (by decide), c 139 (by decide) (by decide), c 140 (by decide) (by decide), c 141 (by decide) (by decide), c 142 (by decide) (by decide), c 143 (by decide) (by decide), c 144 (by decide) (by decide)]
  unfold tE at h ⊢
  rw [c 134 (by decide) (by decide)]
  exact h
/-- the local of a node -/
def lcN (σ : gM) (i : Int) : Int := if σ 70 i = 0 ∨ σ 70 i = 5 ∨ σ 70 i = 6 then σ 76 i else -1
/-- nodes up to i are laid -/
def lA (σ τ T : gM) (A i r : Int) : Prop := mFr (wq σ i - wq σ A) τ T ∧ (∀ x, A ≤ x → x < i → σ 70 x ≠ 30 → mN1 T (nd σ x) (τ 144 (nd σ x)) r (lcN σ x)) ∧ (∀ a y, 168 ≤ a → a ≤ 181 → (∀ x, A ≤ x → x < i → σ 70 x ≠ 30 → τ 144 (nd σ x) ≠ y) → T a y = τ a y)
theorem b146_s {u w : Int} (hX : tX σ τ) (hL : pL σ τ f) (hf : 0 ≤ f ∧ f < 51) (t8 : ∀ i, i8 (τ 134 i)) (A0 : 0 ≤ A) (e149 : τ 149 f = nd σ b) (b4 : nd σ b ≤ 4004) (v : ∀ i, A ≤ i → i < b → σ 70 i ≠ 30 → lV σ τ f i (nd σ i)) (inj : ∀ i i', A ≤ i → i < b → σ 70 i ≠ 30 → A ≤ i' → i' < b → σ 70 i' ≠ 30 → τ 144 (nd σ i) = τ 144 (nd σ i') → i = i') (hr : mRm τ (wq σ b - wq σ A)) (w30 : ∀ i, A ≤ i → i < b → σ 70 i = 30 → wt σ i = 0) :
    ∀ (m : Nat) (i : Int) (T : gM), A ≤ i → i + m = b → lA σ τ T A i u → ∃ U, md_define_b146 T f u w (nd σ i) = md_define_b146 U f u w (nd σ b) ∧ lA σ τ U A b u
  | 0, i, T, hi, hm, h => by
    have : i = b := by omega
    rw [this] at h ⊢
    exact ⟨T, rfl, h⟩
  | m + 1, i, T, hi, hm, h => by
    have wS := wq_s (σ := σ) (i := i) (by omega)
    by_cases z : σ 70 i = 30
    · have e : nd σ (i + 1) = nd σ i := by rw [nd_s (by omega), if_pos z]; omega
      have w0 := w30 i hi (by omega) z
      rw [← e]
      refine b146_s hX hL hf t8 A0 e149 b4 v inj hr w30 m (i + 1) T (by omega) (by omega) ?_
      obtain ⟨h1, h2, h3⟩ := h
      refine ⟨by rw [show wq σ (i + 1) - wq σ A = wq σ i - wq σ A by omega]; exact h1, fun x x0 x1 q => h2 x x0 ?_ q, fun a y q1 q2 q => h3 a y q1 q2 fun x x0 x1 => q x x0 (by omega)⟩
      by_cases zz : x = i
      · rw [zz] at q; exact (q z).elim
      · omega
    · have nS := nd_S (σ := σ) (i := i) (by omega) z
      have mm := nd_r (σ := σ) (i := i + 1) (j := b) (by omega) (by omega)
      have np := nd_pos (σ := σ) (i := i) (by omega)
      obtain ⟨F, h2, h3⟩ := h
      have c : ∀ a, 131 < a → a < 155 → T a = τ a := fun a q1 q2 => F.2.2.2.1 a (by omega)
      have c119 : ∀ i, i ≠ 9 → i ≠ 10 → i ≠ 15 → i ≠ 56 → T 119 i = τ 119 i := F.2.2.2.2.1
      have vi := v i hi (by omega) z
      have w0 : 0 ≤ wt σ i := vi.2.2.2.2.2.2.2.2.1
      have wr : ∀ x, i + 1 ≤ x → x < b → 0 ≤ wt σ x := fun x x0 x1 => by
        by_cases q : σ 70 x = 30
        · rw [w30 x (by omega) x1 q]; omega
        · exact (v x (by omega) x1 q).2.2.2.2.2.2.2.2.1
      have wle := wq_r (σ := σ) (i := i + 1) (j := b) (by omega) (by omega) wr
      have hXT : tX σ T := by
        unfold tX at hX ⊢
        rw [c119 23 (by decide) (by decide) (by decide) (by decide), c 134 (by decide) (by decide)]
        exact hX
      have hLT : pL σ T f := by
        obtain ⟨p1, p2, p3, p4⟩ := hL
        refine ⟨p1, by rw [c 152 (by decide) (by decide)]; exact p2, by rw [c 153 (by decide) (by decide), c 154 (by decide) (by decide)]; exact p3, fun l l' q1 q2 q3 => ?_⟩
        rw [tE.mv (c 134 (by decide) (by decide))]
        exact p4 l l' q1 q2 q3
      have rmT : mRm T (wt σ i) := by
        refine mRm.fr (w := wq σ i - wq σ A) ?_ F
        obtain ⟨r1, r2, r3, r4, r5⟩ := hr
        exact ⟨by omega, by omega, by omega, by omega, r5⟩
      have e144 : T 144 (nd σ i) = τ 144 (nd σ i) := by rw [c 144 (by decide) (by decide)]
      obtain ⟨U, e1, F1, o1, n1⟩ := md_lay_s (r := u) hXT hLT hf F.1 F.2.1 F.2.2.1 (by rw [c 134 (by decide) (by decide)]; exact t8) (vi.mv c) rmT
      rw [e144] at o1 n1
      have F2 := F.tr F1
      have step : md_define_b146 T f u w (nd σ i) = md_define_b146 U f u w (nd σ (i + 1)) := by
        rw [md_define_b146_e, if_pos hf, c 149 (by decide) (by decide), e149, if_pos (by omega), e1]
        simp only [Option.bind_some]
        rw [w32_e (by omega) (by omega), nS]
      rw [step]
      refine b146_s hX hL hf t8 A0 e149 b4 v inj hr w30 m (i + 1) U (by omega) (by omega) ⟨by rw [show wq σ (i + 1) - wq σ A = wq σ i - wq σ A + wt σ i by omega]; exact F2, fun x x0 x1 q => ?_, fun a y q1 q2 q => ?_⟩
      · by_cases zz : x = i
        · rw [zz]; exact n1
        · exact (h2 x x0 (by omega) q).fr F1 F.2.1 fun a q1 q2 => o1 a _ q1 q2 fun w => zz (inj x i x0 (by omega) q hi (by omega) z w)
      · rw [o1 a y q1 q2 fun w => q i hi (by omega) z w.symm]
        exact h3 a y q1 q2 fun x x0 x1 => q x x0 (by omega)
end LA
