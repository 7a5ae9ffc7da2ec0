/-! from planted code to run-time trees: whole -/
/-- a node's rows on both sides -/
def cell (σ Z W : gM) (N : Int → Int) (lo hi x : Int) : Prop := W 168 (N x) = σ 70 x ∧ W 170 (N x) = (if σ 70 x = 6 then Nh N (σ 74 x) else Nh N (σ 72 x)) ∧ (σ 70 x ≠ 3 → W 171 (N x) = if σ 70 x = 24 ∨ σ 70 x = 25 then Np σ N (σ 73 x) else Nh N (σ 73 x)) ∧ W 172 (N x) = (if σ 70 x = 6 then -1 else if σ 70 x = 24 then Np σ N (σ 74 x) else Nh N (σ 74 x)) ∧ (lo ≤ N x ∧ N x < hi) ∧ (σ 70 x = 23 → Z 14 (N x) = σ 76 x) ∧ (∀ y, W 141 (nd σ x) = nh σ y → W 173 (N x) = Nh N y) ∧ (∀ y, W 141 (nd σ x) = ph σ y → W 173 (N x) = Np σ N y)
section CV
variable {σ Z W : gM} {N : Int → Int} {A B lo hi : Int}
theorem Nh_p {y : Int} (h : 0 ≤ y) : Nh N y = N y := by unfold Nh; rw [if_neg (by omega)]
theorem Nh_m : Nh N (-1) = -1 := rfl
theorem Np_p {y : Int} (h : 0 ≤ y) : Np σ N y = Ns σ N y := by unfold Np; rw [if_neg (by omega)]
theorem Np_m : Np σ N (-1) = -1 := rfl
/-- what is worked out, things given -/
theorem conv0 (cz : ∀ e, 70 ≤ e → e ≤ 78 → Z e = σ e) (cel : ∀ x, A ≤ x → x < B → σ 70 x ≠ 30 → cell σ Z W N lo hi x) (k0 : 0 ≤ lo) {br co : Int} : ∀ (d d1 d2 m : Nat) (a b n c k P E : Int), m ≤ 1 → PT σ W d m a b n c → QT σ N d1 m a b n k → CT Z N br co d2 m n P E → A ≤ a → b ≤ B → (m = 0 → RX Z W lo hi br co 0 (N n) 0 P E) ∧ (m = 1 → RX Z W lo hi br co 1 (Nh N n) c P E)
  | 0, _, _, _, _, _, _, _, _, _, _, _, h, _, _, _, _ => h.elim
  | _ + 1, 0, _, _, _, _, _, _, _, _, _, _, _, h, _, _, _ => h.elim
  | _ + 1, _ + 1, 0, _, _, _, _, _, _, _, _, _, _, _, h, _, _ => h.elim
  | d + 1, d1 + 1, d2 + 1, 0, a, b, n, c, k, P, E, hm, h, g, t, hA, hB => by
    refine ⟨fun _ => ?_, fun z => by omega⟩
    have qn := QT0_N g
    obtain ⟨h1, h2⟩ := h
    obtain ⟨gN, -, g2⟩ := g
    obtain ⟨t1, t2⟩ := t
    obtain ⟨c168, c170, c171, c172, crg, c14, cl1, cl2⟩ := cel n (by omega) (by omega) qn.2.1
    rw [cz 70 (by decide) (by decide), cz 72 (by decide) (by decide), cz 73 (by decide) (by decide), cz 74 (by decide) (by decide)] at t2
    have go : ∀ {x u v w y p e : Int}, PT σ W d 0 u v x w → QT σ N d1 0 u v x y → CT Z N br co d2 0 x p e → A ≤ u → v ≤ B → RX Z W lo hi br co 0 (N x) 0 p e := fun q1 q2 q3 q4 q5 => (conv0 cz cel k0 d d1 d2 0 _ _ _ _ _ _ _ (by decide) q1 q2 q3 q4 q5).1 rfl
    have un : ∀ {x u v w u' v' y : Int}, PT σ W d 0 u v x w → QT σ N d1 0 u' v' x y → u = u' ∧ v = v' := fun p q => (PT_QT d d1 0 _ _ _ _ _ _ _ p q).1 (Or.inl rfl)
    rcases h2 with ⟨e, e1, e2, -⟩ | ⟨e, e1, -, -, p⟩ | ⟨e, p, p', -⟩ | ⟨e, e1, p, -⟩ | ⟨e, p, q, p', p''⟩ | ⟨e, p, p', -⟩
    · -- leaves
      rcases t2 with ⟨f, f1, i⟩ | ⟨f, f1, i⟩ | ⟨f, -⟩ | ⟨f, -⟩ | ⟨f, -⟩ | ⟨f, -⟩ | ⟨f, -⟩ | ⟨f, -⟩
      · exact ⟨1, ⟨t1, crg⟩, Or.inl ⟨by omega, f1, i⟩⟩
      · exact ⟨1, ⟨t1, crg⟩, Or.inr (Or.inl ⟨by omega, f1, i⟩)⟩
      all_goals omega
    · -- write
      have x0 : 0 ≤ σ 74 n := by have := (PT_ab _ _ _ _ _ _ p).2.1 (Or.inl rfl); omega
      rcases g2 with ⟨f, -⟩ | ⟨-, -, -, -, s⟩ | ⟨f, -⟩ | ⟨f, -⟩ | ⟨f, -⟩ | ⟨f, -⟩
      rotate_left
      · rcases t2 with ⟨f, -⟩ | ⟨f, -⟩ | ⟨f, x, i⟩ | ⟨f, -⟩ | ⟨f, -⟩ | ⟨f, -⟩ | ⟨f, -⟩ | ⟨f, -⟩
        rotate_left 2
        · obtain ⟨d', z⟩ := go p s x (by omega) hB
          rw [if_pos e, Nh_p x0] at c170
          have q0 := (QT0_N s).1
          exact ⟨d' + 1, ⟨t1, crg⟩, Or.inr (Or.inr (Or.inl ⟨by omega, by omega, by rw [c170]; exact z, i⟩))⟩
        all_goals omega
      all_goals omega
    · -- two sides
      have x0 : 0 ≤ σ 72 n := by have := (PT_ab _ _ _ _ _ _ p).2.1 (Or.inl rfl); omega
      have x1 : 0 ≤ σ 73 n := by have := (PT_ab _ _ _ _ _ _ p').2.1 (Or.inl rfl); omega
      rcases g2 with ⟨f, -⟩ | ⟨f, -⟩ | ⟨-, s, s', -⟩ | ⟨f, -⟩ | ⟨f, -⟩ | ⟨f, -⟩
      rotate_left 2
      · have q0 := (QT0_N s).1
        have q1 := (QT0_N s').1
        have m0 := QT0_nd s
        have c171 := c171 (by omega)
        rw [if_neg (by omega), Nh_p x0] at c170
        rw [if_neg (by omega), Nh_p x1] at c171
        rcases t2 with ⟨f, -⟩ | ⟨f, -⟩ | ⟨f, -⟩ | ⟨f, ⟨M, x, x'⟩, i⟩ | ⟨f, ⟨M, x, j, x'⟩, i⟩ | ⟨f, -⟩ | ⟨f, -⟩ | ⟨f, -⟩
        rotate_left 3
        · obtain ⟨d', z, z'⟩ := (go p s x hA (by omega)).two (go p' s' x' (by omega) hB)
          exact ⟨d' + 1, ⟨t1, crg⟩, Or.inr (Or.inr (Or.inr (Or.inl ⟨by omega, by omega, ⟨M, by rw [c170]; exact z, by rw [c171]; exact z'⟩, i⟩)))⟩
        · obtain ⟨d', z, z'⟩ := (go p s x hA (by omega)).two (go p' s' x' (by omega) hB)
          exact ⟨d' + 1, ⟨t1, crg⟩, Or.inr (Or.inr (Or.inr (Or.inr (Or.inl ⟨by omega, by omega, ⟨M, by rw [c170]; exact z, j, by rw [c171]; exact z'⟩, i⟩))))⟩
        all_goals omega
      all_goals omega
    · -- not
      have x0 : 0 ≤ σ 72 n := by have := (PT_ab _ _ _ _ _ _ p).2.1 (Or.inl rfl); omega
      rcases g2 with ⟨f, -⟩ | ⟨f, -⟩ | ⟨f, -⟩ | ⟨-, -, s, -⟩ | ⟨f, -⟩ | ⟨f, -⟩
      rotate_left 3
      · rcases t2 with ⟨f, -⟩ | ⟨f, -⟩ | ⟨f, -⟩ | ⟨f, -⟩ | ⟨f, -⟩ | ⟨f, x, i⟩ | ⟨f, -⟩ | ⟨f, -⟩
        rotate_left 5
        · obtain ⟨d', z⟩ := go p s x (by omega) hB
          rw [if_neg (by omega), Nh_p x0] at c170
          have q0 := (QT0_N s).1
          exact ⟨d' + 1, ⟨t1, crg⟩, Or.inr (Or.inr (Or.inr (Or.inr (Or.inr (Or.inl ⟨by omega, by omega, by rw [c170]; exact z, i⟩)))))⟩
        all_goals omega
      all_goals omega
    · -- a property
      have x0 : 0 ≤ σ 72 n := by have := (PT_ab _ _ _ _ _ _ p).2.1 (Or.inl rfl); omega
      rcases g2 with ⟨f, -⟩ | ⟨f, -⟩ | ⟨f, -⟩ | ⟨f, -⟩ | ⟨-, s, q', s', s''⟩ | ⟨f, -⟩
      rotate_left 4
      · have q0 := (QT0_N s).1
        have m0 := QT0_nd s
        have c171 := c171 (by omega)
        rw [if_neg (by omega), Nh_p x0] at c170
        rw [if_neg (by omega)] at c171
        rw [if_neg (by omega), if_neg (by omega)] at c172
        have nS1 := nd_S (σ := σ) (i := n) (by omega) qn.2.1
        have eq : q = q' ∧ n + 1 ≤ q := by
          rcases p' with ⟨z, z'⟩ | ⟨z, p'⟩ <;> rcases s' with ⟨y, y'⟩ | ⟨y, s'⟩
          · omega
          · omega
          · omega
          · exact ⟨(un p' s').2, (PT_ab _ _ _ _ _ _ p').1⟩
        obtain ⟨rfl, nq⟩ := eq
        have qb : q ≤ b := by
          rcases p'' with ⟨z, z1, z2⟩ | ⟨z, p''⟩
          · omega
          · exact (PT_ab _ _ _ _ _ _ p'').1
        have mq := nd_r (σ := σ) (i := n + 1) (j := q) (by omega) nq
        rcases t2 with ⟨f, -⟩ | ⟨f, -⟩ | ⟨f, -⟩ | ⟨f, -⟩ | ⟨f, -⟩ | ⟨f, -⟩ | ⟨f, ⟨M, M', x, x', x''⟩, i⟩ | ⟨f, -⟩
        rotate_left 6
        · have r0 := go p s x hA (by omega)
          -- its name
          have mid : (W 171 (N n) = -1 ∧ M' = M) ∨ (N (σ 72 n) < W 171 (N n) ∧ (W 171 (N n) < k + 1 + (nd σ n - nd σ a) + (nd σ q - nd σ (n + 1))) ∧ RX Z W lo hi br co 0 (W 171 (N n)) 0 M M') := by
            rcases p' with ⟨z, z'⟩ | ⟨z, p'⟩ <;> rcases s' with ⟨y, y'⟩ | ⟨y, s'⟩
            · rcases x' with ⟨w, w'⟩ | ⟨w, w'⟩
              · exact Or.inl ⟨by rw [c171, z]; rfl, w'⟩
              · omega
            · omega
            · omega
            · rcases x' with ⟨w, w'⟩ | ⟨w, w'⟩
              · omega
              · have q1 := (QT0_N s').1
                have m1 := QT0_nd s'
                rw [c171, Nh_p z]
                exact Or.inr ⟨by omega, by omega, go p' s' w' (by omega) (by omega)⟩
          have lst : (σ 70 n = 21 ∧ E = M' + 1) ∨ (σ 70 n = 22 ∧ W 172 (N n) = k + 1 + (nd σ n - nd σ a) + (nd σ q - nd σ (n + 1)) ∧ RX Z W lo hi br co 0 (W 172 (N n)) 0 M' (E - 1)) := by
            rcases p'' with ⟨z, z1, z2⟩ | ⟨z, p''⟩
            · rcases x'' with w | ⟨w, w'⟩
              · exact Or.inl w
              · omega
            · rcases s'' with ⟨y, -⟩ | ⟨y, s''⟩
              · omega
              · rcases x'' with ⟨w, -⟩ | ⟨w, w'⟩
                · omega
                · have y0 : 0 ≤ σ 74 n := by have := (PT_ab _ _ _ _ _ _ p'').2.1 (Or.inl rfl); omega
                  rw [c172, Nh_p y0]
                  exact Or.inr ⟨w, (QT0_N s'').1, go p'' s'' w' (by omega) hB⟩
          rw [← c170] at r0
          have key : ∃ d', RT Z W lo hi br co d' 0 (W 170 (N n)) 0 P M ∧ ((W 171 (N n) = -1 ∧ M' = M) ∨ (W 170 (N n) < W 171 (N n) ∧ RT Z W lo hi br co d' 0 (W 171 (N n)) 0 M M')) ∧ ((W 168 (N n) = 21 ∧ E = M' + 1) ∨ (W 168 (N n) = 22 ∧ (W 170 (N n) < W 172 (N n) ∧ W 171 (N n) < W 172 (N n)) ∧ RT Z W lo hi br co d' 0 (W 172 (N n)) 0 M' (E - 1))) := by
            rcases mid with v | ⟨v, v', r1⟩
            · rcases lst with u | ⟨u, u', r2⟩
              · obtain ⟨d', r0⟩ := r0
                exact ⟨d', r0, Or.inl v, Or.inl ⟨by omega, u.2⟩⟩
              · obtain ⟨d', r0, r2⟩ := r0.two r2
                exact ⟨d', r0, Or.inl v, Or.inr ⟨by omega, by omega, r2⟩⟩
            · rcases lst with u | ⟨u, u', r2⟩
              · obtain ⟨d', r0, r1⟩ := r0.two r1
                exact ⟨d', r0, Or.inr ⟨by omega, r1⟩, Or.inl ⟨by omega, u.2⟩⟩
              · obtain ⟨d', r0, r1, r2⟩ := r0.three r1 r2
                exact ⟨d', r0, Or.inr ⟨by omega, r1⟩, Or.inr ⟨by omega, by omega, r2⟩⟩
          obtain ⟨d', z0, z1, z2⟩ := key
          exact ⟨d' + 1, ⟨t1, crg⟩, Or.inr (Or.inr (Or.inr (Or.inr (Or.inr (Or.inr (Or.inl ⟨by omega, by omega, ⟨M, M', z0, z1, z2⟩, by rw [c168]; exact i⟩))))))⟩
        all_goals omega
      all_goals omega
    · -- a call
      have x0 : 0 ≤ σ 72 n := by have := (PT_ab _ _ _ _ _ _ p).2.1 (Or.inl rfl); omega
      rcases g2 with ⟨f, -⟩ | ⟨f, -⟩ | ⟨f, -⟩ | ⟨f, -⟩ | ⟨f, -⟩ | ⟨-, s, s', -⟩
      rotate_left 5
      · have q0 := (QT0_N s).1
        have m0 := QT0_nd s
        have c171 := c171 (by omega)
        rw [if_neg (by omega), Nh_p x0] at c170
        rw [if_neg (by omega)] at c171
        rcases t2 with ⟨f, -⟩ | ⟨f, -⟩ | ⟨f, -⟩ | ⟨f, -⟩ | ⟨f, -⟩ | ⟨f, -⟩ | ⟨f, -⟩ | ⟨f, ⟨M, x, x'⟩, i⟩
        rotate_left 7
        · have r0 := go p s x hA (by omega)
          have r1 := (conv0 cz cel k0 d d1 d2 1 _ _ _ _ _ _ _ (by decide) p' s' x' (by omega) hB).2 rfl
          obtain ⟨d', z0, z1⟩ := r0.two r1
          have o : W 171 (N n) = -1 ∨ W 170 (N n) < W 171 (N n) := by
            rcases QT1_N s' with ⟨v, -⟩ | ⟨v, v'⟩
            · rw [c171, v]; exact Or.inl rfl
            · rw [c171, Nh_p v]; exact Or.inr (by omega)
          exact ⟨d' + 1, ⟨t1, crg⟩, Or.inr (Or.inr (Or.inr (Or.inr (Or.inr (Or.inr (Or.inr ⟨by omega, by omega, o, ⟨M, by rw [c170]; exact z0, by rw [c171, c14 e]; exact z1⟩, i⟩))))))⟩
        all_goals omega
      all_goals omega
  | d + 1, d1 + 1, d2 + 1, 1, a, b, n, c, k, P, E, hm, h, g, t, hA, hB => by
    refine ⟨fun z => by omega, fun _ => ?_⟩
    rcases h with ⟨h0, h1, h2⟩ | ⟨h0, x, p, p', lk⟩
    · rcases t with ⟨t0, t1⟩ | ⟨t0, -⟩
      · rw [h0]
        exact ⟨1, Or.inl ⟨rfl, h2, t1⟩⟩
      · omega
    · rcases g with ⟨g0, -⟩ | ⟨g0, y, s, s'⟩
      · omega
      · rcases t with ⟨t0, -⟩ | ⟨t0, M, u, u'⟩
        · omega
        · have e := ((PT_QT d d1 0 _ _ _ _ _ _ _ p s).1 (Or.inl rfl)).2
          subst e
          have qn := QT0_N s
          have m0 := QT0_nd s
          have xb := (QT_ab _ _ _ _ _ _ s').1
          rw [cz 75 (by decide) (by decide)] at u'
          obtain ⟨c168, c170, c171, c172, crg, c14, cl1, cl2⟩ := cel n (by omega) (by omega) qn.2.1
          have c173 := cl1 _ lk
          have r0 := (conv0 cz cel k0 d d1 d2 0 _ _ _ _ _ _ _ (by decide) p s u hA (by omega)).1 rfl
          have r1 := (conv0 cz cel k0 d d1 d2 1 _ _ _ _ _ _ _ (by decide) p' s' u' (by omega) hB).2 rfl
          obtain ⟨d', z0, z1⟩ := r0.two r1
          rw [Nh_p h0]
          refine ⟨d' + 1, Or.inr ⟨by omega, ?_, M, z0, by rw [c173]; exact z1⟩⟩
          rcases QT1_N s' with ⟨v, -⟩ | ⟨v, v'⟩
          · rw [c173, v]; exact Or.inl rfl
          · rw [c173, Nh_p v]; exact Or.inr (by omega)
  | _ + 1, _ + 1, _ + 1, m + 2, _, _, _, _, _, _, _, hm, _, _, _, _, _ => by omega
end CV
