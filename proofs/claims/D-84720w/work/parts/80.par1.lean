/-! trees as they are read: numbers of nodes, trees over the rows of nodes -/
def ndN (σ : gM) : Nat → Int
  | 0 => 0
  | i + 1 => ndN σ i + (if σ 70 i = 30 then 0 else 1)
/-- how many nodes ahead of a place the model has too -/
def nd (σ : gM) (i : Int) : Int := ndN σ i.toNat
/-- the model's node of a statement -/
def ps (σ : gM) (s : Int) : Int := if σ 70 s = 30 then nd σ (σ 72 s) else nd σ s
def nh (σ : gM) (x : Int) : Int := if x < 0 then -1 else nd σ x
def ph (σ : gM) (x : Int) : Int := if x < 0 then -1 else ps σ x
section ND
variable {σ σ' : gM} {i j : Int}
theorem nd_0 : nd σ 0 = 0 := rfl
theorem nd_s (h : 0 ≤ i) : nd σ (i + 1) = nd σ i + if σ 70 i = 30 then 0 else 1 := by
  unfold nd
  rw [show (i + 1).toNat = i.toNat + 1 by omega]
  show ndN σ i.toNat + (if σ 70 i.toNat = 30 then 0 else 1) = _
  rw [show ((i.toNat : Nat) : Int) = i by omega]
theorem ndN_congr : ∀ n : Nat, (∀ j : Nat, j < n → (σ' 70 j = 30 ↔ σ 70 j = 30)) → ndN σ' n = ndN σ n
  | 0, _ => rfl
  | n + 1, h => by
    show ndN σ' n + (if σ' 70 n = 30 then 0 else 1) = ndN σ n + (if σ 70 n = 30 then 0 else 1)
    rw [ndN_congr n fun j hj => h j (by omega)]
    have := h n (by omega)
    by_cases q : σ 70 n = 30
    · rw [if_pos q, if_pos (this.mpr q)]
    · rw [if_neg q, if_neg (fun w => q (this.mp w))]
theorem nd_congr (h : ∀ j, 0 ≤ j → j < i → (σ' 70 j = 30 ↔ σ 70 j = 30)) : nd σ' i = nd σ i := ndN_congr _ fun j hj => h j (by omega) (by omega)
theorem ndN_r : ∀ n m : Nat, ndN σ n ≤ ndN σ (n + m) ∧ ndN σ (n + m) ≤ ndN σ n + m
  | n, 0 => by simp
  | n, m + 1 => by
    have := ndN_r n m
    show ndN σ n ≤ ndN σ (n + m) + (if σ 70 (n + m : Nat) = 30 then 0 else 1) ∧ ndN σ (n + m) + (if σ 70 (n + m : Nat) = 30 then 0 else 1) ≤ _
    split <;> omega
theorem nd_r (h : 0 ≤ i) (h2 : i ≤ j) : nd σ i ≤ nd σ j ∧ nd σ j ≤ nd σ i + (j - i) := by
  have := ndN_r (σ := σ) i.toNat (j.toNat - i.toNat)
  rw [show i.toNat + (j.toNat - i.toNat) = j.toNat by omega] at this
  unfold nd
  omega
theorem nd_pos (h : 0 ≤ i) : 0 ≤ nd σ i ∧ nd σ i ≤ i := by
  have := nd_r (σ := σ) (i := 0) (j := i) (by decide) h
  rw [nd_0] at this
  omega
theorem nd_lt (h : 0 ≤ i) (h2 : i < j) (h3 : σ 70 i ≠ 30) : nd σ i < nd σ j := by
  have := nd_s (σ := σ) h
  rw [if_neg h3] at this
  have := nd_r (σ := σ) (i := i + 1) (j := j) (by omega) (by omega)
  omega
theorem nd_S (h : 0 ≤ i) (h3 : σ 70 i ≠ 30) : nd σ (i + 1) = nd σ i + 1 := by rw [nd_s h, if_neg h3]
end ND
/-- trees over the rows: mode 0 what is worked out (its first node, behind its last one, itself), 1 things that are given (how many), 2 statements, 3 one statement (twice how deep they may go, odd within a while) -/
def PT (σ τ : gM) : Nat → Nat → Int → Int → Int → Int → Prop
  | 0, _, _, _, _, _ => False
  | d + 1, 0, a, b, n, _ => (0 ≤ a ∧ a ≤ n ∧ n < b) ∧
      (((σ 70 n = 1 ∨ σ 70 n = 2 ∨ σ 70 n = 3 ∨ σ 70 n = 4 ∨ σ 70 n = 5 ∨ σ 70 n = 7) ∧ a = n ∧ b = n + 1 ∧ σ 72 n = -1 ∧ σ 73 n = -1 ∧ σ 74 n = -1) ∨
       (σ 70 n = 6 ∧ a = n ∧ σ 72 n = -1 ∧ σ 73 n = -1 ∧ PT σ τ d 0 (n + 1) b (σ 74 n) 0) ∨
       ((8 ≤ σ 70 n ∧ σ 70 n ≤ 19) ∧ PT σ τ d 0 a n (σ 72 n) 0 ∧ PT σ τ d 0 (n + 1) b (σ 73 n) 0 ∧ σ 74 n = -1) ∨
       (σ 70 n = 20 ∧ a = n ∧ PT σ τ d 0 (n + 1) b (σ 72 n) 0 ∧ σ 73 n = -1 ∧ σ 74 n = -1) ∨
       ((σ 70 n = 21 ∨ σ 70 n = 22) ∧ PT σ τ d 0 a n (σ 72 n) 0 ∧ ∃ q, ((σ 73 n = -1 ∧ q = n + 1) ∨ (0 ≤ σ 73 n ∧ PT σ τ d 0 (n + 1) q (σ 73 n) 0)) ∧ ((σ 70 n = 21 ∧ σ 74 n = -1 ∧ q = b) ∨ (σ 70 n = 22 ∧ PT σ τ d 0 q b (σ 74 n) 0))) ∨
       (σ 70 n = 23 ∧ PT σ τ d 0 a n (σ 72 n) 0 ∧ PT σ τ d 1 (n + 1) b (σ 73 n) (σ 76 n) ∧ σ 74 n = -1))
  | d + 1, 1, a, b, n, c => (n = -1 ∧ a = b ∧ c = 0) ∨ (0 ≤ n ∧ ∃ x, PT σ τ d 0 a x n 0 ∧ PT σ τ d 1 x b (σ 75 n) (c - 1) ∧ τ 141 (nd σ n) = nh σ (σ 75 n))
  | d + 1, 2, a, b, n, k => (n = -1 ∧ a = b) ∨ (0 ≤ n ∧ ∃ x, PT σ τ d 3 a x n k ∧ PT σ τ d 2 x b (σ 75 n) k ∧ τ 141 (ps σ n) = ph σ (σ 75 n))
  | d + 1, _ + 3, a, b, n, k => (0 ≤ a ∧ a = n ∧ n < b ∧ 0 ≤ k) ∧
      ((σ 70 n = 24 ∧ ∃ c e, PT σ τ d 0 (n + 1) c (σ 72 n) 0 ∧ PT σ τ d 2 c e (σ 73 n) (k - 2) ∧ PT σ τ d 2 e b (σ 74 n) (k - 2)) ∨
       (σ 70 n = 25 ∧ ∃ c, PT σ τ d 0 (n + 1) c (σ 72 n) 0 ∧ PT σ τ d 2 c b (σ 73 n) (2 * (k / 2) - 1) ∧ σ 74 n = -1) ∨
       (σ 70 n = 26 ∧ ((σ 72 n = -1 ∧ b = n + 1) ∨ (0 ≤ σ 72 n ∧ PT σ τ d 0 (n + 1) b (σ 72 n) 0)) ∧ σ 73 n = -1 ∧ σ 74 n = -1) ∨
       ((σ 70 n = 27 ∨ σ 70 n = 28) ∧ b = n + 1 ∧ σ 72 n = -1 ∧ σ 73 n = -1 ∧ σ 74 n = -1 ∧ k % 2 = 1) ∨
       (σ 70 n = 30 ∧ PT σ τ d 0 (n + 1) b (σ 72 n) 0))
section PT1
variable {σ τ σ' τ' : gM}
theorem PT_up : ∀ (d m : Nat) (a b n c : Int), PT σ τ d m a b n c → PT σ τ (d + 1) m a b n c
  | 0, _, _, _, _, _, h => h.elim
  | d + 1, 0, a, b, n, c, h => by
    obtain ⟨h1, h2⟩ := h
    refine ⟨h1, ?_⟩
    rcases h2 with h | ⟨e, e1, e2, e3, h⟩ | ⟨e, h, h', e1⟩ | ⟨e, e1, h, e2⟩ | ⟨e, h, q, h2, h3⟩ | ⟨e, h, h', e1⟩
    · exact Or.inl h
    · exact Or.inr (Or.inl ⟨e, e1, e2, e3, PT_up d _ _ _ _ _ h⟩)
    · exact Or.inr (Or.inr (Or.inl ⟨e, PT_up d _ _ _ _ _ h, PT_up d _ _ _ _ _ h', e1⟩))
    · exact Or.inr (Or.inr (Or.inr (Or.inl ⟨e, e1, PT_up d _ _ _ _ _ h, e2⟩)))
    · refine Or.inr (Or.inr (Or.inr (Or.inr (Or.inl ⟨e, PT_up d _ _ _ _ _ h, q, ?_, ?_⟩))))
      · rcases h2 with h2 | ⟨g, h2⟩
        · exact Or.inl h2
        · exact Or.inr ⟨g, PT_up d _ _ _ _ _ h2⟩
      · rcases h3 with h3 | ⟨g, h3⟩
        · exact Or.inl h3
        · exact Or.inr ⟨g, PT_up d _ _ _ _ _ h3⟩
    · exact Or.inr (Or.inr (Or.inr (Or.inr (Or.inr ⟨e, PT_up d _ _ _ _ _ h, PT_up d _ _ _ _ _ h', e1⟩))))
  | d + 1, 1, a, b, n, c, h => by
    rcases h with h | ⟨h1, x, h, h', e⟩
    · exact Or.inl h
    · exact Or.inr ⟨h1, x, PT_up d _ _ _ _ _ h, PT_up d _ _ _ _ _ h', e⟩
  | d + 1, 2, a, b, n, c, h => by
    rcases h with h | ⟨h1, x, h, h', e⟩
    · exact Or.inl h
    · exact Or.inr ⟨h1, x, PT_up d _ _ _ _ _ h, PT_up d _ _ _ _ _ h', e⟩
  | d + 1, m + 3, a, b, n, c, h => by
    obtain ⟨h1, h2⟩ := h
    refine ⟨h1, ?_⟩
    rcases h2 with ⟨e, c, f, h, h', h''⟩ | ⟨e, c, h, h', e1⟩ | ⟨e, h, e1⟩ | h | ⟨e, h⟩
    · exact Or.inl ⟨e, c, f, PT_up d _ _ _ _ _ h, PT_up d _ _ _ _ _ h', PT_up d _ _ _ _ _ h''⟩
    · exact Or.inr (Or.inl ⟨e, c, PT_up d _ _ _ _ _ h, PT_up d _ _ _ _ _ h', e1⟩)
    · refine Or.inr (Or.inr (Or.inl ⟨e, ?_, e1⟩))
      rcases h with h | ⟨g, h⟩
      · exact Or.inl h
      · exact Or.inr ⟨g, PT_up d _ _ _ _ _ h⟩
    · exact Or.inr (Or.inr (Or.inr (Or.inl h)))
    · exact Or.inr (Or.inr (Or.inr (Or.inr ⟨e, PT_up d _ _ _ _ _ h⟩)))
theorem PT_le {m : Nat} {a b n c : Int} : ∀ (k d : Nat), PT σ τ d m a b n c → PT σ τ (d + k) m a b n c
  | 0, _, h => h
  | k + 1, d, h => PT_up _ _ _ _ _ _ (PT_le k d h)
/-- a tree of some depth -/
def PX (σ τ : gM) (m : Nat) (a b n c : Int) : Prop := ∃ d, PT σ τ d m a b n c
theorem PX.two {m m' : Nat} {a b n c a' b' n' c' : Int} (h : PX σ τ m a b n c) (h' : PX σ τ m' a' b' n' c') : ∃ d, PT σ τ d m a b n c ∧ PT σ τ d m' a' b' n' c' := by
  obtain ⟨d, h⟩ := h
  obtain ⟨d', h'⟩ := h'
  refine ⟨d + d', PT_le d' d h, ?_⟩
  rw [Nat.add_comm]
  exact PT_le d d' h'
theorem PX.three {m m' m'' : Nat} {a b n c a' b' n' c' a'' b'' n'' c'' : Int} (h : PX σ τ m a b n c) (h' : PX σ τ m' a' b' n' c') (h'' : PX σ τ m'' a'' b'' n'' c'') : ∃ d, PT σ τ d m a b n c ∧ PT σ τ d m' a' b' n' c' ∧ PT σ τ d m'' a'' b'' n'' c'' := by
  obtain ⟨d, h, h'⟩ := h.two h'
  obtain ⟨d', h''⟩ := h''
  refine ⟨d + d', PT_le d' d h, PT_le d' d h', ?_⟩
  rw [Nat.add_comm]
  exact PT_le d d' h''
theorem PT_ab : ∀ (d m : Nat) (a b n c : Int), PT σ τ d m a b n c → a ≤ b ∧ ((m = 0 ∨ 3 ≤ m) → 0 ≤ a ∧ a ≤ n ∧ n < b) ∧ (n = -1 ∨ (0 ≤ a ∧ a ≤ n ∧ n < b))
  | 0, _, _, _, _, _, h => h.elim
  | d + 1, 0, a, b, n, c, h => by
    obtain ⟨h1, -⟩ := h
    omega
  | d + 1, 1, a, b, n, c, h => by
    rcases h with h | ⟨h1, x, h, h', e⟩
    · omega
    · have := PT_ab d _ _ _ _ _ h
      have := PT_ab d _ _ _ _ _ h'
      omega
  | d + 1, 2, a, b, n, c, h => by
    rcases h with h | ⟨h1, x, h, h', e⟩
    · omega
    · have := PT_ab d _ _ _ _ _ h
      have := PT_ab d _ _ _ _ _ h'
      omega
  | d + 1, m + 3, a, b, n, c, h => by
    obtain ⟨h1, -⟩ := h
    omega
theorem PT0_k {d : Nat} {a b n c : Int} (h : PT σ τ d 0 a b n c) : σ 70 n ≠ 30 ∧ 1 ≤ σ 70 n ∧ σ 70 n ≤ 23 := by
  cases d with
  | zero => exact h.elim
  | succ d =>
    obtain ⟨-, h2⟩ := h
    rcases h2 with ⟨e, -⟩ | ⟨e, -⟩ | ⟨e, -⟩ | ⟨e, -⟩ | ⟨e, -⟩ | ⟨e, -⟩ <;> omega
theorem PT3_n {d : Nat} {a b n c : Int} (h : PT σ τ d 3 a b n c) : a = n := by
  cases d with
  | zero => exact h.elim
  | succ d => exact h.1.2.1
theorem PT3_1 {d : Nat} {a b n c : Int} (h : PT σ τ d 3 a b n c) (q : σ 70 n = 30) : ∃ d', PT σ τ d' 0 (n + 1) b (σ 72 n) 0 := by
  cases d with
  | zero => exact h.elim
  | succ d =>
    obtain ⟨-, h2⟩ := h
    rcases h2 with ⟨e, -⟩ | ⟨e, -⟩ | ⟨e, -⟩ | ⟨e, -⟩ | ⟨_, g⟩
    · omega
    · omega
    · omega
    · omega
    · exact ⟨d, g⟩
theorem PT3_ps {d : Nat} {a b n c : Int} (h : PT σ τ d 3 a b n c) : nd σ a ≤ ps σ n ∧ ps σ n < nd σ b ∧ (σ 70 n = 30 → n < σ 72 n ∧ σ 72 n < b) := by
  have v1 := (PT_ab _ _ _ _ _ _ h).2.1 (Or.inr (by omega))
  have e := PT3_n h
  unfold ps
  by_cases q : σ 70 n = 30
  · obtain ⟨d', g⟩ := PT3_1 h q
    have v2 := (PT_ab _ _ _ _ _ _ g).2.1 (Or.inl rfl)
    rw [if_pos q]
    have := nd_r (σ := σ) (i := a) (j := σ 72 n) (by omega) (by omega)
    have := nd_lt (σ := σ) (i := σ 72 n) (j := b) (by omega) (by omega) (PT0_k g).1
    omega
  · rw [if_neg q]
    have := nd_lt (σ := σ) (i := n) (j := b) (by omega) (by omega) q
    rw [e]
    omega
/-- trees stay where their rows stay -/
theorem PT_fr : ∀ (d m : Nat) (a b n c : Int), 0 ≤ a → (∀ i, a ≤ i → i < b → (σ' 70 i = σ 70 i ∨ (σ 70 i = 5 ∧ σ' 70 i = 7)) ∧ σ' 72 i = σ 72 i ∧ σ' 73 i = σ 73 i ∧ σ' 74 i = σ 74 i ∧ (σ 70 i = 23 → σ' 76 i = σ 76 i)) →
    (∀ i, a ≤ i → i < b → (m = 0 ∨ 3 ≤ m → i ≠ n) → σ' 75 i = σ 75 i) → (∀ i, 0 ≤ i → i ≤ b → nd σ' i = nd σ i) →
    (∀ i, nd σ a ≤ i → i < nd σ b → (m = 0 → i ≠ nd σ n) → (3 ≤ m → i ≠ ps σ n) → τ' 141 i = τ 141 i) → PT σ τ d m a b n c → PT σ' τ' d m a b n c
  | 0, _, _, _, _, _, _, _, _, _, _, h => h.elim
  | d + 1, 0, a, b, n, c, a0, f1, f2, f3, f4, h => by
    obtain ⟨h1, h2⟩ := h
    obtain ⟨k1, k2, k3, k4, k5⟩ := f1 n (by omega) (by omega)
    refine ⟨h1, ?_⟩
    -- ahead of the node, behind it
    have lo : ∀ (m : Nat) (u x y : Int), u ≤ n → a ≤ u → σ 70 n ≠ 30 → PT σ τ d m a u x y → PT σ' τ' d m a u x y := fun m u x y q1 q2 q3 g =>
      PT_fr d m a u x y a0 (fun i i0 i1 => f1 i i0 (by omega)) (fun i i0 i1 _ => f2 i i0 (by omega) (fun _ => by omega)) (fun i i0 i1 => f3 i i0 (by omega))
        (fun i i0 i1 _ _ => f4 i i0 (by have := nd_r (σ := σ) (i := u) (j := b) (by omega) (by omega); omega) (fun _ => by have := nd_r (σ := σ) (i := u) (j := n) (by omega) q1; omega) (fun w => by omega)) g
    have hi : ∀ (m : Nat) (u v x y : Int), n + 1 ≤ u → u ≤ v → v ≤ b → σ 70 n ≠ 30 → PT σ τ d m u v x y → PT σ' τ' d m u v x y := fun m u v x y q1 q2 q3 q4 g =>
      PT_fr d m u v x y (by omega) (fun i i0 i1 => f1 i (by omega) (by omega)) (fun i i0 i1 _ => f2 i (by omega) (by omega) (fun _ => by omega)) (fun i i0 i1 => f3 i i0 (by omega))
        (fun i i0 i1 _ _ => f4 i (by have := nd_r (σ := σ) (i := a) (j := u) (by omega) (by omega); omega) (by have := nd_r (σ := σ) (i := v) (j := b) (by omega) (by omega); omega) (fun _ => by have := nd_lt (σ := σ) (i := n) (j := u) (by omega) (by omega) q4; omega) (fun w => by omega)) g
    rcases h2 with ⟨e, e1, e2, e3, e4, e5⟩ | ⟨e, e1, e2, e3, h⟩ | ⟨e, h, h', e1⟩ | ⟨e, e1, h, e2, e3⟩ | ⟨e, h, q, h2, h3⟩ | ⟨e, h, h', e1⟩
    · exact Or.inl ⟨by omega, e1, e2, k2.trans e3, k3.trans e4, k4.trans e5⟩
    · refine Or.inr (Or.inl ⟨by omega, e1, k2.trans e2, k3.trans e3, ?_⟩)
      rw [k4]
      exact hi 0 _ _ _ _ (by omega) (PT_ab _ _ _ _ _ _ h).1 (by omega) (by omega) h
    · refine Or.inr (Or.inr (Or.inl ⟨by omega, ?_, ?_, k4.trans e1⟩))
      · rw [k2]; exact lo 0 _ _ _ (by omega) (by omega) (by omega) h
      · rw [k3]; exact hi 0 _ _ _ _ (by omega) (PT_ab _ _ _ _ _ _ h').1 (by omega) (by omega) h'
    · refine Or.inr (Or.inr (Or.inr (Or.inl ⟨by omega, e1, ?_, k3.trans e2, k4.trans e3⟩)))
      rw [k2]; exact hi 0 _ _ _ _ (by omega) (PT_ab _ _ _ _ _ _ h).1 (by omega) (by omega) h
    · have qb : n + 1 ≤ q ∧ q ≤ b := by
        constructor
        · rcases h2 with ⟨_, h2⟩ | ⟨_, h2⟩
          · omega
          · exact (PT_ab _ _ _ _ _ _ h2).1
        · rcases h3 with ⟨_, _, h3⟩ | ⟨_, h3⟩
          · omega
          · exact (PT_ab _ _ _ _ _ _ h3).1
      refine Or.inr (Or.inr (Or.inr (Or.inr (Or.inl ⟨by omega, ?_, q, ?_, ?_⟩))))
      · rw [k2]; exact lo 0 _ _ _ (by omega) (by omega) (by omega) h
      · rw [k3]
        rcases h2 with h2 | ⟨g, h2⟩
        · exact Or.inl h2
        · exact Or.inr ⟨g, hi 0 _ _ _ _ (by omega) (by omega) (by omega) (by omega) h2⟩
      · rw [k4]
        rcases h3 with ⟨g1, g2⟩ | ⟨g, h3⟩
        · exact Or.inl ⟨by omega, g2⟩
        · exact Or.inr ⟨by omega, hi 0 _ _ _ _ (by omega) (by omega) (by omega) (by omega) h3⟩
    · refine Or.inr (Or.inr (Or.inr (Or.inr (Or.inr ⟨by omega, ?_, ?_, k4.trans e1⟩))))
      · rw [k2]; exact lo 0 _ _ _ (by omega) (by omega) (by omega) h
      · rw [k3, k5 e]; exact hi 1 _ _ _ _ (by omega) (PT_ab _ _ _ _ _ _ h').1 (by omega) (by omega) h'
  | d + 1, 1, a, b, n, c, a0, f1, f2, f3, f4, h => by
    rcases h with h | ⟨h1, x, h, h', e⟩
    · exact Or.inl h
    · have u1 := (PT_ab _ _ _ _ _ _ h).2.1 (Or.inl rfl)
      have u2 := (PT_ab _ _ _ _ _ _ h').1
      have u3 := (PT_ab _ _ _ _ _ _ h').2.2
      have m1 := nd_r (σ := σ) (i := a) (j := x) a0 (by omega)
      have m2 := nd_r (σ := σ) (i := x) (j := b) (by omega) u2
      have m3 := nd_r (σ := σ) (i := a) (j := n) a0 (by omega)
      have nk := (PT0_k h).1
      have m4 := nd_lt (σ := σ) (i := n) (j := x) (by omega) (by omega) nk
      have e75 := f2 n (by omega) (by omega) (fun w => by omega)
      refine Or.inr ⟨h1, x, ?_, ?_, ?_⟩
      · exact PT_fr d 0 a x n 0 a0 (fun i i0 i1 => f1 i i0 (by omega)) (fun i i0 i1 _ => f2 i i0 (by omega) (fun w => by omega)) (fun i i0 i1 => f3 i i0 (by omega)) (fun i i0 i1 _ _ => f4 i i0 (by omega) (fun w => by omega) (fun w => by omega)) h
      · rw [e75]
        exact PT_fr d 1 x b _ _ (by omega) (fun i i0 i1 => f1 i (by omega) i1) (fun i i0 i1 _ => f2 i (by omega) i1 (fun w => by omega)) f3 (fun i i0 i1 _ _ => f4 i (by omega) i1 (fun w => by omega) (fun w => by omega)) h'
      · rw [e75, f3 n (by omega) (by omega), f4 (nd σ n) (by omega) (by omega) (fun w => by omega) (fun w => by omega), e]
        unfold nh
        by_cases q : σ 75 n < 0
        · rw [if_pos q, if_pos q]
        · rw [if_neg q, if_neg q, f3 _ (by omega) (by omega)]
  | d + 1, 2, a, b, n, c, a0, f1, f2, f3, f4, h => by
    rcases h with h | ⟨h1, x, h, h', e⟩
    · exact Or.inl h
    · have u1 := (PT_ab _ _ _ _ _ _ h).2.1 (Or.inr (by omega))
      have u2 := (PT_ab _ _ _ _ _ _ h').1
      have u3 := (PT_ab _ _ _ _ _ _ h').2.2
      have m1 := nd_r (σ := σ) (i := a) (j := x) a0 (by omega)
      have m2 := nd_r (σ := σ) (i := x) (j := b) (by omega) u2
      have e75 := f2 n (by omega) (by omega) (fun w => by omega)
      have s1 := PT3_ps h
      have sn := PT3_n h
      have pc : ∀ s, a ≤ s → s < b → (σ 70 s = 30 → 0 ≤ σ 72 s ∧ σ 72 s ≤ b) → ps σ' s = ps σ s := fun s s0 s1 s2 => by
        obtain ⟨k1, k2, -⟩ := f1 s s0 s1
        unfold ps
        by_cases q : σ 70 s = 30
        · rw [if_pos q, if_pos (by omega), k2, f3 _ (s2 q).1 (s2 q).2]
        · rw [if_neg q, if_neg (by omega), f3 _ (by omega) (by omega)]
      have pn := pc n (by omega) (by omega) (fun q => by have := s1.2.2 q; omega)
      refine Or.inr ⟨h1, x, ?_, ?_, ?_⟩
      · exact PT_fr d 3 a x n c a0 (fun i i0 i1 => f1 i i0 (by omega)) (fun i i0 i1 _ => f2 i i0 (by omega) (fun w => by omega)) (fun i i0 i1 => f3 i i0 (by omega)) (fun i i0 i1 _ _ => f4 i i0 (by omega) (fun w => by omega) (fun w => by omega)) h
      · rw [e75]
        exact PT_fr d 2 x b _ _ (by omega) (fun i i0 i1 => f1 i (by omega) i1) (fun i i0 i1 _ => f2 i (by omega) i1 (fun w => by omega)) f3 (fun i i0 i1 _ _ => f4 i (by omega) i1 (fun w => by omega) (fun w => by omega)) h'
      · rw [e75, pn, f4 (ps σ n) (by omega) (by omega) (fun w => by omega) (fun w => by omega), e]
        unfold ph
        by_cases q : σ 75 n < 0
        · rw [if_pos q, if_pos q]
        · rw [if_neg q, if_neg q, pc _ (by omega) (by omega)]
          intro w
          cases d with
          | zero => exact h'.elim
          | succ d =>
            rcases h' with ⟨g, _⟩ | ⟨_, y, g, g', _⟩
            · omega
            · have := (PT3_ps g).2.2 w
              have := (PT_ab _ _ _ _ _ _ g').1
              omega
  | d + 1, m + 3, a, b, n, c, a0, f1, f2, f3, f4, h => by
    obtain ⟨h1, h2⟩ := h
    obtain ⟨k1, k2, k3, k4, k5⟩ := f1 n (by omega) (by omega)
    refine ⟨h1, ?_⟩
    have hi : ∀ (m : Nat) (u v x y : Int), n + 1 ≤ u → u ≤ v → v ≤ b → σ 70 n ≠ 30 → PT σ τ d m u v x y → PT σ' τ' d m u v x y := fun m u v x y q1 q2 q3 q4 g =>
      PT_fr d m u v x y (by omega) (fun i i0 i1 => f1 i (by omega) (by omega)) (fun i i0 i1 _ => f2 i (by omega) (by omega) (fun _ => by omega)) (fun i i0 i1 => f3 i i0 (by omega))
        (fun i i0 i1 _ _ => f4 i (by have := nd_r (σ := σ) (i := a) (j := u) (by omega) (by omega); omega) (by have := nd_r (σ := σ) (i := v) (j := b) (by omega) (by omega); omega) (fun w => by omega) (fun _ => by have := nd_lt (σ := σ) (i := n) (j := u) (by omega) (by omega) q4; unfold ps; rw [if_neg q4]; omega)) g
    rcases h2 with ⟨e, c, f, h, h', h''⟩ | ⟨e, c, h, h', e1⟩ | ⟨e, h, e1, e2⟩ | ⟨e, e1, e2, e3, e4, e5⟩ | ⟨e, h⟩
    · have u1 := (PT_ab _ _ _ _ _ _ h).1
      have u2 := (PT_ab _ _ _ _ _ _ h').1
      have u3 := (PT_ab _ _ _ _ _ _ h'').1
      refine Or.inl ⟨by omega, c, f, ?_, ?_, ?_⟩
      · rw [k2]; exact hi 0 _ _ _ _ (by omega) (by omega) (by omega) (by omega) h
      · rw [k3]; exact hi 2 _ _ _ _ (by omega) (by omega) (by omega) (by omega) h'
      · rw [k4]; exact hi 2 _ _ _ _ (by omega) (by omega) (by omega) (by omega) h''
    · have u1 := (PT_ab _ _ _ _ _ _ h).1
      have u2 := (PT_ab _ _ _ _ _ _ h').1
      refine Or.inr (Or.inl ⟨by omega, c, ?_, ?_, k4.trans e1⟩)
      · rw [k2]; exact hi 0 _ _ _ _ (by omega) (by omega) (by omega) (by omega) h
      · rw [k3]; exact hi 2 _ _ _ _ (by omega) (by omega) (by omega) (by omega) h'
    · refine Or.inr (Or.inr (Or.inl ⟨by omega, ?_, k3.trans e1, k4.trans e2⟩))
      rw [k2]
      rcases h with h | ⟨g, h⟩
      · exact Or.inl h
      · exact Or.inr ⟨g, hi 0 _ _ _ _ (by omega) (PT_ab _ _ _ _ _ _ h).1 (by omega) (by omega) h⟩
    · exact Or.inr (Or.inr (Or.inr (Or.inl ⟨by omega, e1, k2.trans e2, k3.trans e3, k4.trans e4, e5⟩)))
    · refine Or.inr (Or.inr (Or.inr (Or.inr ⟨by omega, ?_⟩)))
      rw [k2]
      have m1 := nd_r (σ := σ) (i := a) (j := n + 1) a0 (by omega)
      exact PT_fr d 0 (n + 1) b _ 0 (by omega) (fun i i0 i1 => f1 i (by omega) i1) (fun i i0 i1 _ => f2 i (by omega) i1 (fun w => by omega)) f3 (fun i i0 i1 i2 _ => f4 i (by omega) i1 (fun w => by omega) (fun _ => by unfold ps; rw [if_pos e]; exact i2 rfl)) h
end PT1
