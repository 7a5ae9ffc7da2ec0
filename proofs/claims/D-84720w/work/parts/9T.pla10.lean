/-! code stays where its instructions stay -/
section CF
variable {σ S : gM} {N : Int → Int}
theorem CT_ab : ∀ (d m : Nat) (br co n P E : Int), CT σ N br co d m n P E → P ≤ E
  | 0, _, _, _, _, _, _, h => h.elim
  | d + 1, 0, br, co, n, P, E, h => by
    have := h.1
    omega
  | d + 1, 1, br, co, n, P, E, h => by
    rcases h with h | ⟨-, M, h1, h2⟩
    · omega
    · have := CT_ab d _ _ _ _ _ _ h1
      have := CT_ab d _ _ _ _ _ _ h2
      omega
  | d + 1, 2, br, co, n, P, E, h => by
    rcases h with h | ⟨-, M, h1, h2⟩
    · omega
    · have := CT_ab d _ _ _ _ _ _ h1
      have := CT_ab d _ _ _ _ _ _ h2
      omega
  | d + 1, m + 3, br, co, n, P, E, h => by
    have := h.1
    omega
theorem cI.fr {p o t n P E : Int} (h : cI σ p o t n) (f : ∀ x, P ≤ x → x < E → S 20 x = σ 20 x ∧ S 21 x = σ 21 x ∧ S 22 x = σ 22 x) (p0 : P ≤ p) (p1 : p < E) : cI S p o t n := by
  obtain ⟨a, b, c⟩ := f p p0 p1
  exact ⟨by rw [a]; exact h.1, by rw [b]; exact h.2.1, by rw [c]; exact h.2.2⟩
/-- what is worked out, and things given -/
theorem CT_fr0 (c : ∀ e, 70 ≤ e → e ≤ 78 → S e = σ e) : ∀ (d m : Nat) (br co n P E : Int), m ≤ 1 → (∀ x, P ≤ x → x < E → S 20 x = σ 20 x ∧ S 21 x = σ 21 x ∧ S 22 x = σ 22 x) → CT σ N br co d m n P E → CT S N br co d m n P E
  | 0, _, _, _, _, _, _, _, _, h => h.elim
  | d + 1, 0, br, co, n, P, E, hm, f, h => by
    obtain ⟨h1, h2⟩ := h
    have go : ∀ {x u v : Int}, CT σ N br co d 0 x u v → P ≤ u → v ≤ E → CT S N br co d 0 x u v := fun t a b => CT_fr0 c d 0 br co _ _ _ (by decide) (fun y q1 q2 => f y (by omega) (by omega)) t
    refine ⟨h1, ?_⟩
    rw [c 70 (by decide) (by decide), c 72 (by decide) (by decide), c 73 (by decide) (by decide), c 74 (by decide) (by decide)]
    rcases h2 with ⟨e, e1, h⟩ | ⟨e, e1, h⟩ | ⟨e, t, h⟩ | ⟨e, ⟨M, t, t'⟩, h⟩ | ⟨e, ⟨M, t, i, t'⟩, h⟩ | ⟨e, t, h⟩ | ⟨e, ⟨M, M', t, t', t''⟩, h⟩ | ⟨e, ⟨M, t, t'⟩, h⟩
    · exact Or.inl ⟨e, e1, h.fr f (by omega) (by omega)⟩
    · exact Or.inr (Or.inl ⟨e, e1, h.fr f (by omega) (by omega)⟩)
    · exact Or.inr (Or.inr (Or.inl ⟨e, go t (by omega) (by omega), h.fr f (by omega) (by omega)⟩))
    · have a1 := CT_ab _ _ _ _ _ _ _ t
      have a2 := CT_ab _ _ _ _ _ _ _ t'
      exact Or.inr (Or.inr (Or.inr (Or.inl ⟨e, ⟨M, go t (by omega) (by omega), go t' (by omega) (by omega)⟩, h.fr f (by omega) (by omega)⟩)))
    · have a1 := CT_ab _ _ _ _ _ _ _ t
      have a2 := CT_ab _ _ _ _ _ _ _ t'
      exact Or.inr (Or.inr (Or.inr (Or.inr (Or.inl ⟨e, ⟨M, go t (by omega) (by omega), i.fr f (by omega) (by omega), go t' (by omega) (by omega)⟩, h.fr f (by omega) (by omega)⟩))))
    · exact Or.inr (Or.inr (Or.inr (Or.inr (Or.inr (Or.inl ⟨e, go t (by omega) (by omega), h.fr f (by omega) (by omega)⟩)))))
    · have a1 := CT_ab _ _ _ _ _ _ _ t
      have a2 : M ≤ M' := by
        rcases t' with x | ⟨-, x⟩
        · omega
        · exact CT_ab _ _ _ _ _ _ _ x
      have a3 : M' ≤ E := by
        rcases t'' with x | ⟨-, x⟩
        · omega
        · have := CT_ab _ _ _ _ _ _ _ x; omega
      refine Or.inr (Or.inr (Or.inr (Or.inr (Or.inr (Or.inr (Or.inl ⟨e, ⟨M, M', go t (by omega) (by omega), ?_, ?_⟩, h.fr f (by omega) (by omega)⟩))))))
      · rcases t' with x | ⟨y, x⟩
        · exact Or.inl x
        · exact Or.inr ⟨y, go x (by omega) (by omega)⟩
      · rcases t'' with x | ⟨y, x⟩
        · exact Or.inl x
        · exact Or.inr ⟨y, go x (by omega) (by omega)⟩
    · have a1 := CT_ab _ _ _ _ _ _ _ t
      have a2 := CT_ab _ _ _ _ _ _ _ t'
      exact Or.inr (Or.inr (Or.inr (Or.inr (Or.inr (Or.inr (Or.inr ⟨e, ⟨M, go t (by omega) (by omega), CT_fr0 c d 1 br co _ _ _ (by decide) (fun y q1 q2 => f y (by omega) (by omega)) t'⟩, h.fr f (by omega) (by omega)⟩))))))
  | d + 1, 1, br, co, n, P, E, hm, f, h => by
    rcases h with h | ⟨h0, M, h1, h2⟩
    · exact Or.inl h
    · have a1 := CT_ab d _ _ _ _ _ _ h1
      have a2 := CT_ab d _ _ _ _ _ _ h2
      exact Or.inr ⟨h0, M, CT_fr0 c d 0 br co _ _ _ (by decide) (fun y q1 q2 => f y (by omega) (by omega)) h1, by rw [c 75 (by decide) (by decide)]; exact CT_fr0 c d 1 br co _ _ _ (by decide) (fun y q1 q2 => f y (by omega) (by omega)) h2⟩
  | d + 1, m + 2, br, co, n, P, E, hm, f, h => by omega
end CF
