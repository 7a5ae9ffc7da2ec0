/-! from planted code to run-time trees: statements -/
section CW
variable {σ Z W : gM} {N : Int → Int} {A B lo hi : Int}
theorem conv2 (cz : ∀ e, 70 ≤ e → e ≤ 78 → Z e = σ e) (cel : ∀ x, A ≤ x → x < B → σ 70 x ≠ 30 → cell σ Z W N lo hi x) (k0 : 0 ≤ lo) : ∀ (d d1 d2 m : Nat) (br co a b n c k P E : Int), PT σ W d (m + 2) a b n c → QT σ N d1 (m + 2) a b n k → CT Z N br co d2 (m + 2) n P E → A ≤ a → b ≤ B → 0 ≤ P → (c % 2 = 1 → br ≠ -1) → (m = 0 → RX Z W lo hi br co 2 (Np σ N n) 0 P E) ∧ (m = 1 → RX Z W lo hi br co 3 (Ns σ N n) 0 P E)
  | 0, _, _, _, _, _, _, _, _, _, _, _, _, h, _, _, _, _, _, _ => h.elim
  | _ + 1, 0, _, _, _, _, _, _, _, _, _, _, _, _, h, _, _, _, _, _ => h.elim
  | _ + 1, _ + 1, 0, _, _, _, _, _, _, _, _, _, _, _, _, h, _, _, _, _ => h.elim
  | d + 1, d1 + 1, d2 + 1, 0, br, co, a, b, n, c, k, P, E, h, g, t, hA, hB, hP, hc => by
    refine ⟨fun _ => ?_, fun z => by omega⟩
    rcases h with ⟨h0, h1⟩ | ⟨h0, x, p, p', lk⟩
    · rcases t with ⟨t0, t1⟩ | ⟨t0, -⟩
      · rw [h0]
        exact ⟨1, Or.inl ⟨rfl, t1⟩⟩
      · omega
    · rcases g with ⟨g0, -⟩ | ⟨g0, y, s, s'⟩
      · omega
      · rcases t with ⟨t0, -⟩ | ⟨t0, M, u, u'⟩
        · omega
        · have e := ((PT_QT d d1 3 _ _ _ _ _ _ _ p s).1 (Or.inr (Nat.le_refl _))).2
          subst e
          obtain ⟨qn, m0, an, nx⟩ := QT3_N s
          have xb := (QT_ab _ _ _ _ _ _ s').1
          have pm := CT_ab _ _ _ _ _ _ _ u
          rw [cz 75 (by decide) (by decide)] at u'
          have r0 := (conv2 cz cel k0 d d1 d2 1 _ _ _ _ _ _ _ _ _ p s u hA (by omega) hP hc).2 rfl
          have r1 := (conv2 cz cel k0 d d1 d2 0 _ _ _ _ _ _ _ _ _ p' s' u' (by omega) hB (by omega) hc).1 rfl
          have c173 : W 173 (Ns σ N n) = Np σ N (σ 75 n) := by
            unfold Ns
            unfold ps at lk
            by_cases z : σ 70 n = 30
            · rw [if_pos z] at lk ⊢
              have : σ 70 (σ 72 n) ≠ 30 ∧ A ≤ σ 72 n ∧ σ 72 n < B := by
                cases d1 with
                | zero => exact s.elim
                | succ d1 =>
                  obtain ⟨-, -, s2⟩ := s
                  rcases s2 with ⟨f, -⟩ | ⟨f, -⟩ | ⟨f, -⟩ | ⟨f, -⟩ | ⟨f, s2⟩
                  · omega
                  · omega
                  · omega
                  · omega
                  · have := QT0_N s2
                    exact ⟨this.2.1, by omega, by omega⟩
              exact (cel (σ 72 n) this.2.1 this.2.2 this.1).2.2.2.2.2.2.2 _ lk
            · rw [if_neg z] at lk ⊢
              exact (cel n (by omega) (by omega) z).2.2.2.2.2.2.2 _ lk
          obtain ⟨d', z0, z1⟩ := r0.two r1
          have nn : 0 ≤ Ns σ N n := by
            cases d' with
            | zero => exact z0.elim
            | succ d' => have := z0.1; omega
          rw [Np_p h0]
          refine ⟨d' + 1, Or.inr ⟨nn, ?_, M, z0, by rw [c173]; exact z1⟩⟩
          rcases QT2_N s' with ⟨v, -⟩ | ⟨v, v', -⟩
          · rw [c173, v]; exact Or.inl rfl
          · rw [c173]; exact Or.inr (by omega)
  | d + 1, d1 + 1, d2 + 1, m + 1, br, co, a, b, n, c, k, P, E, h, g, t, hA, hB, hP, hc => by
    refine ⟨fun z => by omega, fun _ => ?_⟩
    obtain ⟨h1, h2⟩ := h
    obtain ⟨g1, gN, g2⟩ := g
    obtain ⟨t1, t0, t2⟩ := t
    rw [cz 70 (by decide) (by decide), cz 72 (by decide) (by decide)] at t0
    rw [cz 70 (by decide) (by decide), cz 72 (by decide) (by decide), cz 73 (by decide) (by decide), cz 74 (by decide) (by decide)] at t2
    have go0 : ∀ {x u v w y p e b' c' : Int}, PT σ W d 0 u v x w → QT σ N d1 0 u v x y → CT Z N b' c' d2 0 x p e → A ≤ u → v ≤ B → RX Z W lo hi b' c' 0 (N x) 0 p e := fun q1 q2 q3 q4 q5 => (conv0 cz cel k0 d d1 d2 0 _ _ _ _ _ _ _ (by decide) q1 q2 q3 q4 q5).1 rfl
    have go2 : ∀ {x u v w y p e b' c' : Int}, PT σ W d 2 u v x w → QT σ N d1 2 u v x y → CT Z N b' c' d2 2 x p e → A ≤ u → v ≤ B → 0 ≤ p → (w % 2 = 1 → b' ≠ -1) → RX Z W lo hi b' c' 2 (Np σ N x) 0 p e := fun q1 q2 q3 q4 q5 q6 q7 => (conv2 cz cel k0 d d1 d2 0 _ _ _ _ _ _ _ _ _ q1 q2 q3 q4 q5 q6 q7).1 rfl
    have un : ∀ {x u v w u' v' y : Int}, PT σ W d 0 u v x w → QT σ N d1 0 u' v' x y → u = u' ∧ v = v' := fun p q => (PT_QT d d1 0 _ _ _ _ _ _ _ p q).1 (Or.inl rfl)
    have un2 : ∀ {x u v w v' y : Int}, PT σ W d 2 u v x w → QT σ N d1 2 u v' x y → v = v' := fun p q => (PT_QT d d1 2 _ _ _ _ _ _ _ p q).2 (Or.inr rfl) rfl
    have an : a = n := h1.2.1
    by_cases k30 : σ 70 n = 30
    · -- what is only worked out
      rcases h2 with ⟨e, -⟩ | ⟨e, -⟩ | ⟨e, -⟩ | ⟨e, -⟩ | ⟨e, p⟩
      · omega
      · omega
      · omega
      · omega
      · rcases g2 with ⟨f, -⟩ | ⟨f, -⟩ | ⟨f, -⟩ | ⟨f, -⟩ | ⟨f, s⟩
        · omega
        · omega
        · omega
        · omega
        · rcases t2 with ⟨f, -⟩ | ⟨f, -⟩ | ⟨f, -⟩ | ⟨f, -⟩ | ⟨f, -⟩ | ⟨-, x, i⟩
          rotate_left 5
          · have qn := QT0_N s
            obtain ⟨c168, c170, c171, c172, crg, c14, cl1, cl2⟩ := cel (σ 72 n) (by omega) (by omega) qn.2.1
            have kk := PT0_k p
            obtain ⟨d', z⟩ := go0 p s x (by omega) hB
            unfold Ns
            rw [if_pos k30] at t0 ⊢
            exact ⟨d' + 1, ⟨t1, crg⟩, t0, Or.inr (Or.inr (Or.inr (Or.inr (Or.inr ⟨by omega, z, i⟩))))⟩
          all_goals omega
    · obtain ⟨c168, c170, c171, c172, crg, c14, cl1, cl2⟩ := cel n (by omega) (by omega) k30
      have gN := gN k30
      have nS1 := nd_S (σ := σ) (i := n) (by omega) k30
      unfold Ns
      rw [if_neg k30] at t0 ⊢
      rcases h2 with ⟨e, x, y, p, p', p''⟩ | ⟨e, x, p, p', e1⟩ | ⟨e, p, e1⟩ | ⟨e, e1, e2, e3, e4, e5⟩ | ⟨e, p⟩
      · -- if
        rcases g2 with ⟨-, x', y', s, s', s''⟩ | ⟨f, -⟩ | ⟨f, -⟩ | ⟨f, -⟩ | ⟨f, -⟩
        · have ex := (un p s).2
          subst ex
          have ey := un2 p' s'
          subst ey
          have x0 : 0 ≤ σ 72 n := by have := (PT_ab _ _ _ _ _ _ p).2.1 (Or.inl rfl); omega
          have q0 := (QT0_N s).1
          have m0 := QT0_nd s
          have a1 := (QT_ab _ _ _ _ _ _ s).1
          have a2 := (QT_ab _ _ _ _ _ _ s').1
          have a3 := (QT_ab _ _ _ _ _ _ s'').1
          have m2 := nd_r (σ := σ) (i := x) (j := y) (by omega) a2
          have c171 := c171 (by omega)
          rw [if_neg (by omega), Nh_p x0] at c170
          rw [if_pos (Or.inl e)] at c171
          rw [if_neg (by omega), if_pos e] at c172
          rcases t2 with ⟨-, M, M', u, i, u', i', u''⟩ | ⟨f, -⟩ | ⟨f, -⟩ | ⟨f, -⟩ | ⟨f, -⟩ | ⟨f, -⟩
          · have b1 := CT_ab _ _ _ _ _ _ _ u
            have b2 := CT_ab _ _ _ _ _ _ _ u'
            obtain ⟨d', z0, z1, z2⟩ := (go0 p s u (by omega) (by omega)).three (go2 p' s' u' (by omega) (by omega) (by omega) (fun w => hc (by omega))) (go2 p'' s'' u'' (by omega) hB (by omega) (fun w => hc (by omega)))
            refine ⟨d' + 1, ⟨t1, crg⟩, t0, Or.inl ⟨by omega, by omega, ?_, ?_, M, M', by rw [c170]; exact z0, i, by rw [c171]; exact z1, i', by rw [c172]; exact z2⟩⟩
            · rcases QT2_N s' with ⟨v, -⟩ | ⟨v, v', -⟩
              · rw [c171, v]; exact Or.inl rfl
              · rw [c171]; exact Or.inr (by omega)
            · rcases QT2_N s'' with ⟨v, -⟩ | ⟨v, v', -⟩
              · rw [c172, v]; exact Or.inl rfl
              · refine Or.inr ⟨by omega, ?_⟩
                rcases QT2_N s' with ⟨w, w1⟩ | ⟨w, w', w2⟩
                · rw [c171, w, Np_m]; omega
                · omega
          all_goals omega
        all_goals omega
      · -- while
        rcases g2 with ⟨f, -⟩ | ⟨-, x', s, s', -⟩ | ⟨f, -⟩ | ⟨f, -⟩ | ⟨f, -⟩
        rotate_left
        · have ex := (un p s).2
          subst ex
          have x0 : 0 ≤ σ 72 n := by have := (PT_ab _ _ _ _ _ _ p).2.1 (Or.inl rfl); omega
          have q0 := (QT0_N s).1
          have m0 := QT0_nd s
          have a1 := (QT_ab _ _ _ _ _ _ s).1
          have a2 := (QT_ab _ _ _ _ _ _ s').1
          have c171 := c171 (by omega)
          rw [if_neg (by omega), Nh_p x0] at c170
          rw [if_pos (Or.inr e)] at c171
          rcases t2 with ⟨f, -⟩ | ⟨-, M, u, i, u', i'⟩ | ⟨f, -⟩ | ⟨f, -⟩ | ⟨f, -⟩ | ⟨f, -⟩
          rotate_left
          · have b1 := CT_ab _ _ _ _ _ _ _ u
            have b2 := CT_ab _ _ _ _ _ _ _ u'
            obtain ⟨d', z0, z1⟩ := (go0 p s u (by omega) (by omega)).two (go2 p' s' u' (by omega) hB (by omega) (fun w => by omega))
            refine ⟨d' + 1, ⟨t1, crg⟩, t0, Or.inr (Or.inl ⟨by omega, by omega, ?_, M, by rw [c170]; exact z0, i, by rw [c171]; exact z1, i'⟩)⟩
            rcases QT2_N s' with ⟨v, -⟩ | ⟨v, v', -⟩
            · rw [c171, v]; exact Or.inl rfl
            · rw [c171]; exact Or.inr (by omega)
          all_goals omega
        all_goals omega
      · -- return
        rcases g2 with ⟨f, -⟩ | ⟨f, -⟩ | ⟨-, s, -⟩ | ⟨f, -⟩ | ⟨f, -⟩
        rotate_left 2
        · rcases t2 with ⟨f, -⟩ | ⟨f, -⟩ | ⟨-, u, i⟩ | ⟨f, -⟩ | ⟨f, -⟩ | ⟨f, -⟩
          rotate_left 2
          · rw [if_neg (by omega)] at c170
            rcases p with ⟨v, v'⟩ | ⟨v, p⟩
            · rcases u with ⟨w, w1, w2⟩ | ⟨w, -⟩
              · exact ⟨1, ⟨t1, crg⟩, t0, Or.inr (Or.inr (Or.inl ⟨by omega, Or.inl ⟨by rw [c170, v]; rfl, w1, w2⟩, i⟩))⟩
              · omega
            · rcases s with ⟨w, -⟩ | ⟨w, s⟩
              · omega
              · rcases u with ⟨u, -⟩ | ⟨-, u⟩
                · omega
                · rw [Nh_p v] at c170
                  have q0 := (QT0_N s).1
                  obtain ⟨d', z⟩ := go0 p s u (by omega) hB
                  exact ⟨d' + 1, ⟨t1, crg⟩, t0, Or.inr (Or.inr (Or.inl ⟨by omega, Or.inr ⟨by omega, by rw [c170]; exact z⟩, i⟩))⟩
          all_goals omega
        all_goals omega
      · -- break, continue
        rcases t2 with ⟨f, -⟩ | ⟨f, -⟩ | ⟨f, -⟩ | ⟨f, f1, i⟩ | ⟨f, f1, i⟩ | ⟨f, -⟩
        · omega
        · omega
        · omega
        · exact ⟨1, ⟨t1, crg⟩, t0, Or.inr (Or.inr (Or.inr (Or.inl ⟨by omega, hc e5, f1, i⟩)))⟩
        · exact ⟨1, ⟨t1, crg⟩, t0, Or.inr (Or.inr (Or.inr (Or.inr (Or.inl ⟨by omega, hc e5, f1, i⟩))))⟩
        · omega
      · omega
end CW
