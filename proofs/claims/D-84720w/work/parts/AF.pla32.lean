/-! from planted code to run-time trees -/
section PQ
variable {σ τ : gM} {N : Int → Int}
/-- two readings of one tree have one range -/
theorem PT_QT : ∀ (d d' m : Nat) (a b n c a' b' k : Int), PT σ τ d m a b n c → QT σ N d' m a' b' n k → ((m = 0 ∨ 3 ≤ m) → a = a' ∧ b = b') ∧ ((m = 1 ∨ m = 2) → a = a' → b = b')
  | 0, _, _, _, _, _, _, _, _, _, h, _ => h.elim
  | _ + 1, 0, _, _, _, _, _, _, _, _, _, h => h.elim
  | d + 1, d' + 1, 0, a, b, n, c, a', b', k, h, g => by
    refine ⟨fun _ => ?_, fun z => by omega⟩
    obtain ⟨h1, h2⟩ := h
    obtain ⟨-, g1, g2⟩ := g
    have go0 : ∀ {x a b c a' b' k : Int}, PT σ τ d 0 a b x c → QT σ N d' 0 a' b' x k → a = a' ∧ b = b' := fun p q => (PT_QT d d' 0 _ _ _ _ _ _ _ p q).1 (Or.inl rfl)
    rcases h2 with ⟨e, e1, e2, -⟩ | ⟨e, e1, -, -, t⟩ | ⟨e, t, t', -⟩ | ⟨e, e1, t, -⟩ | ⟨e, t, q, t', t''⟩ | ⟨e, t, t', -⟩
    · rcases g2 with ⟨-, f1, f2, -⟩ | ⟨f, -⟩ | ⟨f, -⟩ | ⟨f, -⟩ | ⟨f, -⟩ | ⟨f, -⟩
      · omega
      all_goals omega
    · rcases g2 with ⟨f, -⟩ | ⟨-, f1, -, -, s⟩ | ⟨f, -⟩ | ⟨f, -⟩ | ⟨f, -⟩ | ⟨f, -⟩
      · omega
      · have := go0 t s; omega
      all_goals omega
    · rcases g2 with ⟨f, -⟩ | ⟨f, -⟩ | ⟨-, s, s', -⟩ | ⟨f, -⟩ | ⟨f, -⟩ | ⟨f, -⟩
      · omega
      · omega
      · have := go0 t s; have := go0 t' s'; omega
      all_goals omega
    · rcases g2 with ⟨f, -⟩ | ⟨f, -⟩ | ⟨f, -⟩ | ⟨-, f1, s, -⟩ | ⟨f, -⟩ | ⟨f, -⟩
      · omega
      · omega
      · omega
      · have := go0 t s; omega
      all_goals omega
    · rcases g2 with ⟨f, -⟩ | ⟨f, -⟩ | ⟨f, -⟩ | ⟨f, -⟩ | ⟨-, s, q', s', s''⟩ | ⟨f, -⟩
      · omega
      · omega
      · omega
      · omega
      · have e0 := go0 t s
        have eq : q = q' := by
          rcases t' with ⟨z, z'⟩ | ⟨z, t'⟩ <;> rcases s' with ⟨y, y'⟩ | ⟨y, s'⟩
          · omega
          · omega
          · omega
          · exact (go0 t' s').2
        rcases t'' with ⟨z, z1, z2⟩ | ⟨z, t''⟩ <;> rcases s'' with ⟨y, y1, y2⟩ | ⟨y, s''⟩
        · omega
        · omega
        · omega
        · have := go0 t'' s''; omega
      · omega
    · rcases g2 with ⟨f, -⟩ | ⟨f, -⟩ | ⟨f, -⟩ | ⟨f, -⟩ | ⟨f, -⟩ | ⟨-, s, s', -⟩
      · omega
      · omega
      · omega
      · omega
      · omega
      · have := go0 t s
        have := (PT_QT d d' 1 _ _ _ _ _ _ _ t' s').2 (Or.inl rfl) rfl
        omega
  | d + 1, d' + 1, 1, a, b, n, c, a', b', k, h, g => by
    refine ⟨fun z => by omega, fun _ ea => ?_⟩
    rcases h with ⟨h0, h1, -⟩ | ⟨h0, x, t, t', -⟩ <;> rcases g with ⟨g0, g1⟩ | ⟨g0, y, s, s'⟩
    · omega
    · omega
    · omega
    · have := (PT_QT d d' 0 _ _ _ _ _ _ _ t s).1 (Or.inl rfl)
      exact (PT_QT d d' 1 _ _ _ _ _ _ _ t' s').2 (Or.inl rfl) this.2
  | d + 1, d' + 1, 2, a, b, n, c, a', b', k, h, g => by
    refine ⟨fun z => by omega, fun _ ea => ?_⟩
    rcases h with ⟨h0, h1⟩ | ⟨h0, x, t, t', -⟩ <;> rcases g with ⟨g0, g1⟩ | ⟨g0, y, s, s'⟩
    · omega
    · omega
    · omega
    · have := (PT_QT d d' 3 _ _ _ _ _ _ _ t s).1 (Or.inr (Nat.le_refl _))
      exact (PT_QT d d' 2 _ _ _ _ _ _ _ t' s').2 (Or.inr rfl) this.2
  | d + 1, d' + 1, m + 3, a, b, n, c, a', b', k, h, g => by
    refine ⟨fun _ => ?_, fun z => by omega⟩
    obtain ⟨h1, h2⟩ := h
    obtain ⟨g1, -, g2⟩ := g
    have go0 : ∀ {x a b c a' b' k : Int}, PT σ τ d 0 a b x c → QT σ N d' 0 a' b' x k → a = a' ∧ b = b' := fun p q => (PT_QT d d' 0 _ _ _ _ _ _ _ p q).1 (Or.inl rfl)
    have go2 : ∀ {x a b c b' k : Int}, PT σ τ d 2 a b x c → QT σ N d' 2 a b' x k → b = b' := fun p q => (PT_QT d d' 2 _ _ _ _ _ _ _ p q).2 (Or.inr rfl) rfl
    have an : a = a' := by omega
    refine ⟨an, ?_⟩
    rcases h2 with ⟨e, x, y, t, t', t''⟩ | ⟨e, x, t, t', -⟩ | ⟨e, t, -⟩ | ⟨e, e1, -⟩ | ⟨e, t⟩
    · rcases g2 with ⟨f, x', y', s, s', s''⟩ | ⟨f, -⟩ | ⟨f, -⟩ | ⟨f, -⟩ | ⟨f, -⟩
      · have ex := (go0 t s).2
        subst ex
        have ey := go2 t' s'
        subst ey
        exact go2 t'' s''
      all_goals omega
    · rcases g2 with ⟨f, -⟩ | ⟨f, x', s, s', -⟩ | ⟨f, -⟩ | ⟨f, -⟩ | ⟨f, -⟩
      · omega
      · have ex := (go0 t s).2
        subst ex
        exact go2 t' s'
      all_goals omega
    · rcases g2 with ⟨f, -⟩ | ⟨f, -⟩ | ⟨f, s, -⟩ | ⟨f, -⟩ | ⟨f, -⟩
      · omega
      · omega
      · rcases t with ⟨z, z'⟩ | ⟨z, t⟩ <;> rcases s with ⟨y, y'⟩ | ⟨y, s⟩
        · omega
        · omega
        · omega
        · exact (go0 t s).2
      all_goals omega
    · rcases g2 with ⟨f, -⟩ | ⟨f, -⟩ | ⟨f, -⟩ | ⟨f, f1, -⟩ | ⟨f, -⟩
      · omega
      · omega
      · omega
      · omega
      · omega
    · rcases g2 with ⟨f, -⟩ | ⟨f, -⟩ | ⟨f, -⟩ | ⟨f, -⟩ | ⟨f, s⟩
      · omega
      · omega
      · omega
      · omega
      · exact (go0 t s).2
theorem nd_nn (i : Int) : 0 ≤ nd σ i := by
  by_cases z : 0 ≤ i
  · exact (nd_pos z).1
  · unfold nd
    rw [show i.toNat = 0 by omega]
    exact Int.le_refl _
/-- numbers of parts -/
def Nh (N : Int → Int) (y : Int) : Int := if y < 0 then -1 else N y
def Ns (σ : gM) (N : Int → Int) (y : Int) : Int := if σ 70 y = 30 then N (σ 72 y) else N y
def Np (σ : gM) (N : Int → Int) (y : Int) : Int := if y < 0 then -1 else Ns σ N y
theorem nO_nh {W : gM} (hN : ∀ i, N i = W 144 (nd σ i)) {y : Int} : nO W (nh σ y) = Nh N y := by
  unfold nO nh Nh
  by_cases z : y < 0
  · rw [if_pos z, if_pos z, if_pos rfl]
  · have := nd_nn (σ := σ) y
    rw [if_neg z, if_neg z, if_neg (by omega), hN]
theorem nO_ph {W : gM} (hN : ∀ i, N i = W 144 (nd σ i)) {y : Int} : nO W (ph σ y) = Np σ N y := by
  unfold nO ph ps Np Ns
  by_cases z : y < 0
  · rw [if_pos z, if_pos z, if_pos rfl]
  · rw [if_neg z, if_neg z]
    by_cases w : σ 70 y = 30
    · have := nd_nn (σ := σ) (σ 72 y)
      rw [if_pos w, if_pos w, if_neg (by omega), hN]
    · have := nd_nn (σ := σ) y
      rw [if_neg w, if_neg w, if_neg (by omega), hN]
theorem QT3_N {d : Nat} {a b n k : Int} (h : QT σ N d 3 a b n k) : Ns σ N n = k ∧ nd σ a + 1 ≤ nd σ b ∧ a = n ∧ n < b := by
  cases d with
  | zero => exact h.elim
  | succ d =>
    obtain ⟨⟨r1, r2, r3⟩, e, h2⟩ := h
    unfold Ns
    by_cases z : σ 70 n = 30
    · rw [if_pos z]
      rcases h2 with ⟨f, -⟩ | ⟨f, -⟩ | ⟨f, -⟩ | ⟨f, -⟩ | ⟨f, s⟩
      · omega
      · omega
      · omega
      · omega
      · have := QT0_nd s
        have e0 : nd σ (n + 1) = nd σ n := by rw [nd_s (by omega), if_pos z]; omega
        exact ⟨(QT0_N s).1, by rw [r2]; omega, r2, r3⟩
    · rw [if_neg z]
      have := nd_lt (σ := σ) (i := n) (j := b) (by omega) r3 z
      exact ⟨e z, by rw [r2]; omega, r2, r3⟩
theorem QT2_N {d : Nat} {a b n k : Int} (h : QT σ N d 2 a b n k) : (n = -1 ∧ a = b) ∨ (0 ≤ n ∧ Np σ N n = k ∧ nd σ a + 1 ≤ nd σ b) := by
  cases d with
  | zero => exact h.elim
  | succ d =>
    rcases h with h | ⟨h0, x, h1, h2⟩
    · exact Or.inl h
    · obtain ⟨e, m, an, nx⟩ := QT3_N h1
      have ab := (QT_ab _ _ _ _ _ _ h1).2 (Or.inr (by decide))
      have := nd_r (σ := σ) (i := x) (j := b) (by omega) (QT_ab _ _ _ _ _ _ h2).1
      refine Or.inr ⟨h0, ?_, by omega⟩
      unfold Np
      rw [if_neg (by omega)]
      exact e
theorem QT1_N {d : Nat} {a b n k : Int} (h : QT σ N d 1 a b n k) : (n = -1 ∧ a = b) ∨ (0 ≤ n ∧ N n = k) := by
  cases d with
  | zero => exact h.elim
  | succ d =>
    rcases h with h | ⟨h0, x, h1, h2⟩
    · exact Or.inl h
    · exact Or.inr ⟨h0, (QT0_N h1).1⟩
end PQ
