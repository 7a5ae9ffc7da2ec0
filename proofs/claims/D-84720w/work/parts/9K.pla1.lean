/-! numbers of nodes, in the order both sides lay them -/
/-- a tree with the numbers of its nodes: N gives them, k is the first; like PT -/
def QT (σ : gM) (N : Int → Int) : Nat → Nat → Int → Int → Int → Int → Prop
  | 0, _, _, _, _, _ => False
  | d + 1, 0, a, b, n, k => N n = k ∧ (0 ≤ a ∧ a ≤ n ∧ n < b) ∧
      (((σ 70 n = 1 ∨ σ 70 n = 2 ∨ σ 70 n = 3 ∨ σ 70 n = 4 ∨ σ 70 n = 5 ∨ σ 70 n = 7) ∧ a = n ∧ b = n + 1 ∧ σ 72 n = -1 ∧ σ 73 n = -1 ∧ σ 74 n = -1) ∨
       (σ 70 n = 6 ∧ a = n ∧ σ 72 n = -1 ∧ σ 73 n = -1 ∧ QT σ N d 0 (n + 1) b (σ 74 n) (k + 1)) ∨
       ((8 ≤ σ 70 n ∧ σ 70 n ≤ 19) ∧ QT σ N d 0 a n (σ 72 n) (k + 1) ∧ QT σ N d 0 (n + 1) b (σ 73 n) (k + 1 + (nd σ n - nd σ a)) ∧ σ 74 n = -1) ∨
       (σ 70 n = 20 ∧ a = n ∧ QT σ N d 0 (n + 1) b (σ 72 n) (k + 1) ∧ σ 73 n = -1 ∧ σ 74 n = -1) ∨
       ((σ 70 n = 21 ∨ σ 70 n = 22) ∧ QT σ N d 0 a n (σ 72 n) (k + 1) ∧ ∃ q, ((σ 73 n = -1 ∧ q = n + 1) ∨ (0 ≤ σ 73 n ∧ QT σ N d 0 (n + 1) q (σ 73 n) (k + 1 + (nd σ n - nd σ a)))) ∧ ((σ 70 n = 21 ∧ σ 74 n = -1 ∧ q = b) ∨ (σ 70 n = 22 ∧ QT σ N d 0 q b (σ 74 n) (k + 1 + (nd σ n - nd σ a) + (nd σ q - nd σ (n + 1)))))) ∨
       (σ 70 n = 23 ∧ QT σ N d 0 a n (σ 72 n) (k + 1) ∧ QT σ N d 1 (n + 1) b (σ 73 n) (k + 1 + (nd σ n - nd σ a)) ∧ σ 74 n = -1))
  | d + 1, 1, a, b, n, k => (n = -1 ∧ a = b) ∨ (0 ≤ n ∧ ∃ x, QT σ N d 0 a x n k ∧ QT σ N d 1 x b (σ 75 n) (k + (nd σ x - nd σ a)))
  | d + 1, 2, a, b, n, k => (n = -1 ∧ a = b) ∨ (0 ≤ n ∧ ∃ x, QT σ N d 3 a x n k ∧ QT σ N d 2 x b (σ 75 n) (k + (nd σ x - nd σ a)))
  | d + 1, _ + 3, a, b, n, k => (0 ≤ a ∧ a = n ∧ n < b) ∧ (σ 70 n ≠ 30 → N n = k) ∧
      ((σ 70 n = 24 ∧ ∃ c e, QT σ N d 0 (n + 1) c (σ 72 n) (k + 1) ∧ QT σ N d 2 c e (σ 73 n) (k + 1 + (nd σ c - nd σ (n + 1))) ∧ QT σ N d 2 e b (σ 74 n) (k + 1 + (nd σ e - nd σ (n + 1)))) ∨
       (σ 70 n = 25 ∧ ∃ c, QT σ N d 0 (n + 1) c (σ 72 n) (k + 1) ∧ QT σ N d 2 c b (σ 73 n) (k + 1 + (nd σ c - nd σ (n + 1))) ∧ σ 74 n = -1) ∨
       (σ 70 n = 26 ∧ ((σ 72 n = -1 ∧ b = n + 1) ∨ (0 ≤ σ 72 n ∧ QT σ N d 0 (n + 1) b (σ 72 n) (k + 1))) ∧ σ 73 n = -1 ∧ σ 74 n = -1) ∨
       ((σ 70 n = 27 ∨ σ 70 n = 28) ∧ b = n + 1 ∧ σ 72 n = -1 ∧ σ 73 n = -1 ∧ σ 74 n = -1) ∨
       (σ 70 n = 30 ∧ QT σ N d 0 (n + 1) b (σ 72 n) k))
section QN
variable {σ τ : gM} {N N' : Int → Int}
theorem QT_ab : ∀ (d m : Nat) (a b n k : Int), QT σ N d m a b n k → a ≤ b ∧ ((m = 0 ∨ 3 ≤ m) → 0 ≤ a ∧ a ≤ n ∧ n < b)
  | 0, _, _, _, _, _, h => h.elim
  | d + 1, 0, a, b, n, k, h => by
    obtain ⟨-, h1, -⟩ := h
    omega
  | d + 1, 1, a, b, n, k, h => by
    rcases h with h | ⟨h1, x, h, h'⟩
    · omega
    · have := QT_ab d _ _ _ _ _ h
      have := QT_ab d _ _ _ _ _ h'
      omega
  | d + 1, 2, a, b, n, k, h => by
    rcases h with h | ⟨h1, x, h, h'⟩
    · omega
    · have := QT_ab d _ _ _ _ _ h
      have := QT_ab d _ _ _ _ _ h'
      omega
  | d + 1, m + 3, a, b, n, k, h => by
    obtain ⟨h1, -⟩ := h
    omega
/-- only the numbers of its own nodes count -/
theorem QT_N : ∀ (d m : Nat) (a b n k : Int), (∀ i, a ≤ i → i < b → σ 70 i ≠ 30 → N' i = N i) → QT σ N d m a b n k → QT σ N' d m a b n k
  | 0, _, _, _, _, _, _, h => h.elim
  | d + 1, 0, a, b, n, k, f, h => by
    obtain ⟨h0, h1, h2⟩ := h
    have k30 : σ 70 n ≠ 30 := by
      rcases h2 with ⟨h, -⟩ | ⟨h, -⟩ | ⟨h, -⟩ | ⟨h, -⟩ | ⟨h, -⟩ | ⟨h, -⟩ <;> omega
    refine ⟨by rw [f n (by omega) (by omega) k30]; exact h0, h1, ?_⟩
    rcases h2 with h | ⟨e, e1, e2, e3, h⟩ | ⟨e, h, h', e1⟩ | ⟨e, e1, h, e2⟩ | ⟨e, h, q, h2, h3⟩ | ⟨e, h, h', e1⟩
    · exact Or.inl h
    · exact Or.inr (Or.inl ⟨e, e1, e2, e3, QT_N d _ _ _ _ _ (fun i _ _ w => f i (by omega) (by omega) w) h⟩)
    · exact Or.inr (Or.inr (Or.inl ⟨e, QT_N d _ _ _ _ _ (fun i _ _ w => f i (by omega) (by omega) w) h, QT_N d _ _ _ _ _ (fun i _ _ w => f i (by omega) (by omega) w) h', e1⟩))
    · exact Or.inr (Or.inr (Or.inr (Or.inl ⟨e, e1, QT_N d _ _ _ _ _ (fun i _ _ w => f i (by omega) (by omega) w) h, e2⟩)))
    · refine Or.inr (Or.inr (Or.inr (Or.inr (Or.inl ⟨e, QT_N d _ _ _ _ _ (fun i _ _ w => f i (by omega) (by omega) w) h, q, ?_, ?_⟩))))
      · rcases h2 with h2 | ⟨g, h2⟩
        · exact Or.inl h2
        · refine Or.inr ⟨g, QT_N d _ _ _ _ _ (fun i _ _ w => f i (by omega) ?_ w) h2⟩
          rcases h3 with h3 | ⟨-, h3⟩
          · omega
          · have := QT_ab _ _ _ _ _ _ h3; omega
      · rcases h3 with h3 | ⟨g, h3⟩
        · exact Or.inl h3
        · refine Or.inr ⟨g, QT_N d _ _ _ _ _ (fun i _ _ w => f i ?_ (by omega) w) h3⟩
          rcases h2 with h2 | ⟨-, h2⟩
          · omega
          · have := QT_ab _ _ _ _ _ _ h2; omega
    · exact Or.inr (Or.inr (Or.inr (Or.inr (Or.inr ⟨e, QT_N d _ _ _ _ _ (fun i _ _ w => f i (by omega) (by omega) w) h, QT_N d _ _ _ _ _ (fun i _ _ w => f i (by omega) (by omega) w) h', e1⟩))))
  | d + 1, 1, a, b, n, k, f, h => by
    rcases h with h | ⟨h1, x, h, h'⟩
    · exact Or.inl h
    · have := QT_ab d _ _ _ _ _ h
      have := QT_ab d _ _ _ _ _ h'
      exact Or.inr ⟨h1, x, QT_N d _ _ _ _ _ (fun i _ _ w => f i (by omega) (by omega) w) h, QT_N d _ _ _ _ _ (fun i _ _ w => f i (by omega) (by omega) w) h'⟩
  | d + 1, 2, a, b, n, k, f, h => by
    rcases h with h | ⟨h1, x, h, h'⟩
    · exact Or.inl h
    · have := QT_ab d _ _ _ _ _ h
      have := QT_ab d _ _ _ _ _ h'
      exact Or.inr ⟨h1, x, QT_N d _ _ _ _ _ (fun i _ _ w => f i (by omega) (by omega) w) h, QT_N d _ _ _ _ _ (fun i _ _ w => f i (by omega) (by omega) w) h'⟩
  | d + 1, m + 3, a, b, n, k, f, h => by
    obtain ⟨h1, h0, h2⟩ := h
    refine ⟨h1, fun w => by rw [f n (by omega) (by omega) w]; exact h0 w, ?_⟩
    rcases h2 with ⟨e, c, g, h, h', h''⟩ | ⟨e, c, h, h', e1⟩ | ⟨e, h, e1⟩ | h | ⟨e, h⟩
    · have := QT_ab d _ _ _ _ _ h
      have := QT_ab d _ _ _ _ _ h'
      have := QT_ab d _ _ _ _ _ h''
      exact Or.inl ⟨e, c, g, QT_N d _ _ _ _ _ (fun i _ _ w => f i (by omega) (by omega) w) h, QT_N d _ _ _ _ _ (fun i _ _ w => f i (by omega) (by omega) w) h', QT_N d _ _ _ _ _ (fun i _ _ w => f i (by omega) (by omega) w) h''⟩
    · have := QT_ab d _ _ _ _ _ h
      have := QT_ab d _ _ _ _ _ h'
      exact Or.inr (Or.inl ⟨e, c, QT_N d _ _ _ _ _ (fun i _ _ w => f i (by omega) (by omega) w) h, QT_N d _ _ _ _ _ (fun i _ _ w => f i (by omega) (by omega) w) h', e1⟩)
    · refine Or.inr (Or.inr (Or.inl ⟨e, ?_, e1⟩))
      rcases h with h | ⟨g, h⟩
      · exact Or.inl h
      · exact Or.inr ⟨g, QT_N d _ _ _ _ _ (fun i _ _ w => f i (by omega) (by omega) w) h⟩
    · exact Or.inr (Or.inr (Or.inr (Or.inl h)))
    · exact Or.inr (Or.inr (Or.inr (Or.inr ⟨e, QT_N d _ _ _ _ _ (fun i _ _ w => f i (by omega) (by omega) w) h⟩)))
end QN
