/-! trees as they run: the model's nodes, the component's code -/
/-- n is a node's number, from lo to hi; q counts things given (mode 1); the parts' numbers grow -/
def RT (s t : gM) (lo hi br co : Int) : Nat → Nat → Int → Int → Int → Int → Prop
  | 0, _, _, _, _, _ => False
  | d + 1, 0, n, _, P, E => (P < E ∧ lo ≤ n ∧ n < hi) ∧
      (((t 168 n = 1 ∨ t 168 n = 2 ∨ t 168 n = 3 ∨ t 168 n = 4 ∨ t 168 n = 7) ∧ E = P + 1 ∧ cI s P 0 0 n) ∨
       (t 168 n = 5 ∧ E = P + 1 ∧ cI s P 1 0 n) ∨
       (t 168 n = 6 ∧ n < t 170 n ∧ RT s t lo hi br co d 0 (t 170 n) 0 P (E - 1) ∧ cI s (E - 1) 2 0 n) ∨
       ((8 ≤ t 168 n ∧ t 168 n ≤ 17) ∧ (n < t 170 n ∧ t 170 n < t 171 n) ∧ (∃ M, RT s t lo hi br co d 0 (t 170 n) 0 P M ∧ RT s t lo hi br co d 0 (t 171 n) 0 M (E - 1)) ∧ cI s (E - 1) 3 0 n) ∨
       ((t 168 n = 18 ∨ t 168 n = 19) ∧ (n < t 170 n ∧ t 170 n < t 171 n) ∧ (∃ M, RT s t lo hi br co d 0 (t 170 n) 0 P M ∧ cI s M 4 E n ∧ RT s t lo hi br co d 0 (t 171 n) 0 (M + 1) (E - 1)) ∧ cI s (E - 1) 5 0 n) ∨
       (t 168 n = 20 ∧ n < t 170 n ∧ RT s t lo hi br co d 0 (t 170 n) 0 P (E - 1) ∧ cI s (E - 1) 6 0 n) ∨
       ((t 168 n = 21 ∨ t 168 n = 22) ∧ n < t 170 n ∧ (∃ M M', RT s t lo hi br co d 0 (t 170 n) 0 P M ∧ ((t 171 n = -1 ∧ M' = M) ∨ (t 170 n < t 171 n ∧ RT s t lo hi br co d 0 (t 171 n) 0 M M')) ∧ ((t 168 n = 21 ∧ E = M' + 1) ∨ (t 168 n = 22 ∧ (t 170 n < t 172 n ∧ t 171 n < t 172 n) ∧ RT s t lo hi br co d 0 (t 172 n) 0 M' (E - 1)))) ∧ cI s (E - 1) (if t 168 n = 22 then 8 else 7) 0 n) ∨
       (t 168 n = 23 ∧ n < t 170 n ∧ (t 171 n = -1 ∨ t 170 n < t 171 n) ∧ (∃ M, RT s t lo hi br co d 0 (t 170 n) 0 P M ∧ RT s t lo hi br co d 1 (t 171 n) (s 14 n) M (E - 1)) ∧ cI s (E - 1) 9 0 n))
  | d + 1, 1, n, q, P, E => (n = -1 ∧ q = 0 ∧ E = P) ∨ (0 ≤ n ∧ (t 173 n = -1 ∨ n < t 173 n) ∧ ∃ M, RT s t lo hi br co d 0 n 0 P M ∧ RT s t lo hi br co d 1 (t 173 n) (q - 1) M E)
  | d + 1, 2, n, _, P, E => (n = -1 ∧ E = P) ∨ (0 ≤ n ∧ (t 173 n = -1 ∨ n < t 173 n) ∧ ∃ M, RT s t lo hi br co d 3 n 0 P M ∧ RT s t lo hi br co d 2 (t 173 n) 0 M E)
  | d + 1, _ + 3, n, _, P, E => (P + 1 < E ∧ lo ≤ n ∧ n < hi) ∧ cI s P 10 0 n ∧
      ((t 168 n = 24 ∧ n < t 170 n ∧ (t 171 n = -1 ∨ t 170 n < t 171 n) ∧ (t 172 n = -1 ∨ (t 170 n < t 172 n ∧ t 171 n < t 172 n)) ∧ ∃ M M', RT s t lo hi br co d 0 (t 170 n) 0 (P + 1) M ∧ cI s M 11 (M' + 1) n ∧ RT s t lo hi br co d 2 (t 171 n) 0 (M + 1) M' ∧ cI s M' 14 E (-1) ∧ RT s t lo hi br co d 2 (t 172 n) 0 (M' + 1) E) ∨
       (t 168 n = 25 ∧ n < t 170 n ∧ (t 171 n = -1 ∨ t 170 n < t 171 n) ∧ ∃ M, RT s t lo hi br co d 0 (t 170 n) 0 (P + 1) M ∧ cI s M 12 E n ∧ RT s t lo hi E (E - 1) d 2 (t 171 n) 0 (M + 1) (E - 1) ∧ cI s (E - 1) 13 (P + 1) n) ∨
       (t 168 n = 26 ∧ ((t 170 n = -1 ∧ E = P + 3 ∧ cI s (P + 1) 17 0 (-1)) ∨ (n < t 170 n ∧ RT s t lo hi br co d 0 (t 170 n) 0 (P + 1) (E - 1))) ∧ cI s (E - 1) 16 0 n) ∨
       (t 168 n = 27 ∧ br ≠ -1 ∧ E = P + 2 ∧ cI s (P + 1) 14 br (-1)) ∨
       (t 168 n = 28 ∧ br ≠ -1 ∧ E = P + 2 ∧ cI s (P + 1) 14 co (-1)) ∨
       (t 168 n < 24 ∧ RT s t lo hi br co d 0 n 0 (P + 1) (E - 1) ∧ cI s (E - 1) 15 0 (-1)))
section RTs
variable {s t s' t' : gM} {lo hi : Int}
theorem RT_ab : ∀ (d m : Nat) (br co n q P E : Int), RT s t lo hi br co d m n q P E → P ≤ E
  | 0, _, _, _, _, _, _, _, h => h.elim
  | d + 1, 0, br, co, n, q, P, E, h => by
    have := h.1
    omega
  | d + 1, 1, br, co, n, q, P, E, h => by
    rcases h with h | ⟨-, -, M, h1, h2⟩
    · omega
    · have := RT_ab d _ _ _ _ _ _ _ h1
      have := RT_ab d _ _ _ _ _ _ _ h2
      omega
  | d + 1, 2, br, co, n, q, P, E, h => by
    rcases h with h | ⟨-, -, M, h1, h2⟩
    · omega
    · have := RT_ab d _ _ _ _ _ _ _ h1
      have := RT_ab d _ _ _ _ _ _ _ h2
      omega
  | d + 1, m + 3, br, co, n, q, P, E, h => by
    have := h.1
    omega
theorem RT_up : ∀ (d m : Nat) (br co n q P E : Int), RT s t lo hi br co d m n q P E → RT s t lo hi br co (d + 1) m n q P E
  | 0, _, _, _, _, _, _, _, h => h.elim
  | d + 1, 0, br, co, n, q, P, E, h => by
    obtain ⟨h1, h2⟩ := h
    refine ⟨h1, ?_⟩
    rcases h2 with h | h | ⟨e, o, x, h⟩ | ⟨e, o, ⟨M, x, x'⟩, h⟩ | ⟨e, o, ⟨M, x, i, x'⟩, h⟩ | ⟨e, o, x, h⟩ | ⟨e, o, ⟨M, M', x, x', x''⟩, h⟩ | ⟨e, o, o', ⟨M, x, x'⟩, h⟩
    · exact Or.inl h
    · exact Or.inr (Or.inl h)
    · exact Or.inr (Or.inr (Or.inl ⟨e, o, RT_up d _ _ _ _ _ _ _ x, h⟩))
    · exact Or.inr (Or.inr (Or.inr (Or.inl ⟨e, o, ⟨M, RT_up d _ _ _ _ _ _ _ x, RT_up d _ _ _ _ _ _ _ x'⟩, h⟩)))
    · exact Or.inr (Or.inr (Or.inr (Or.inr (Or.inl ⟨e, o, ⟨M, RT_up d _ _ _ _ _ _ _ x, i, RT_up d _ _ _ _ _ _ _ x'⟩, h⟩))))
    · exact Or.inr (Or.inr (Or.inr (Or.inr (Or.inr (Or.inl ⟨e, o, RT_up d _ _ _ _ _ _ _ x, h⟩)))))
    · refine Or.inr (Or.inr (Or.inr (Or.inr (Or.inr (Or.inr (Or.inl ⟨e, o, ⟨M, M', RT_up d _ _ _ _ _ _ _ x, ?_, ?_⟩, h⟩))))))
      · rcases x' with z | ⟨y, z⟩
        · exact Or.inl z
        · exact Or.inr ⟨y, RT_up d _ _ _ _ _ _ _ z⟩
      · rcases x'' with z | ⟨y, y', z⟩
        · exact Or.inl z
        · exact Or.inr ⟨y, y', RT_up d _ _ _ _ _ _ _ z⟩
    · exact Or.inr (Or.inr (Or.inr (Or.inr (Or.inr (Or.inr (Or.inr ⟨e, o, o', ⟨M, RT_up d _ _ _ _ _ _ _ x, RT_up d _ _ _ _ _ _ _ x'⟩, h⟩))))))
  | d + 1, 1, br, co, n, q, P, E, h => by
    rcases h with h | ⟨h0, o, M, h1, h2⟩
    · exact Or.inl h
    · exact Or.inr ⟨h0, o, M, RT_up d _ _ _ _ _ _ _ h1, RT_up d _ _ _ _ _ _ _ h2⟩
  | d + 1, 2, br, co, n, q, P, E, h => by
    rcases h with h | ⟨h0, o, M, h1, h2⟩
    · exact Or.inl h
    · exact Or.inr ⟨h0, o, M, RT_up d _ _ _ _ _ _ _ h1, RT_up d _ _ _ _ _ _ _ h2⟩
  | d + 1, m + 3, br, co, n, q, P, E, h => by
    obtain ⟨h1, h0, h2⟩ := h
    refine ⟨h1, h0, ?_⟩
    rcases h2 with ⟨e, o, o', o'', M, M', x, i, x', i', x''⟩ | ⟨e, o, o', M, x, i, x', i'⟩ | ⟨e, x, i⟩ | h | h | ⟨e, x, i⟩
    · exact Or.inl ⟨e, o, o', o'', M, M', RT_up d _ _ _ _ _ _ _ x, i, RT_up d _ _ _ _ _ _ _ x', i', RT_up d _ _ _ _ _ _ _ x''⟩
    · exact Or.inr (Or.inl ⟨e, o, o', M, RT_up d _ _ _ _ _ _ _ x, i, RT_up d _ _ _ _ _ _ _ x', i'⟩)
    · refine Or.inr (Or.inr (Or.inl ⟨e, ?_, i⟩))
      rcases x with z | ⟨y, z⟩
      · exact Or.inl z
      · exact Or.inr ⟨y, RT_up d _ _ _ _ _ _ _ z⟩
    · exact Or.inr (Or.inr (Or.inr (Or.inl h)))
    · exact Or.inr (Or.inr (Or.inr (Or.inr (Or.inl h))))
    · exact Or.inr (Or.inr (Or.inr (Or.inr (Or.inr ⟨e, RT_up d _ _ _ _ _ _ _ x, i⟩))))
theorem RT_le {m : Nat} {br co n q P E : Int} : ∀ (k d : Nat), RT s t lo hi br co d m n q P E → RT s t lo hi br co (d + k) m n q P E
  | 0, _, h => h
  | k + 1, d, h => RT_up _ _ _ _ _ _ _ _ (RT_le k d h)
/-- a tree of some depth -/
def RX (s t : gM) (lo hi br co : Int) (m : Nat) (n q P E : Int) : Prop := ∃ d, RT s t lo hi br co d m n q P E
theorem RX.two {br co br' co' n q P E n' q' P' E' : Int} {m m' : Nat} (h : RX s t lo hi br co m n q P E) (h' : RX s t lo hi br' co' m' n' q' P' E') : ∃ d, RT s t lo hi br co d m n q P E ∧ RT s t lo hi br' co' d m' n' q' P' E' := by
  obtain ⟨d, h⟩ := h
  obtain ⟨d', h'⟩ := h'
  refine ⟨d + d', RT_le d' d h, ?_⟩
  rw [Nat.add_comm]
  exact RT_le d d' h'
theorem RX.three {br co br' co' br'' co'' n q P E n' q' P' E' n'' q'' P'' E'' : Int} {m m' m'' : Nat} (h : RX s t lo hi br co m n q P E) (h' : RX s t lo hi br' co' m' n' q' P' E') (h'' : RX s t lo hi br'' co'' m'' n'' q'' P'' E'') : ∃ d, RT s t lo hi br co d m n q P E ∧ RT s t lo hi br' co' d m' n' q' P' E' ∧ RT s t lo hi br'' co'' d m'' n'' q'' P'' E'' := by
  obtain ⟨d, h, h'⟩ := h.two h'
  obtain ⟨d', h''⟩ := h''
  refine ⟨d + d', RT_le d' d h, RT_le d' d h', ?_⟩
  rw [Nat.add_comm]
  exact RT_le d d' h''
/-- trees stay where their code and their nodes stay -/
theorem RT_fr (c : ∀ a n, (a = 168 ∨ (170 ≤ a ∧ a ≤ 173)) → lo ≤ n → n < hi → t' a n = t a n) (c14 : ∀ n, lo ≤ n → n < hi → s' 14 n = s 14 n) : ∀ (d m : Nat) (br co n q P E : Int), sI s s' P E → RT s t lo hi br co d m n q P E → RT s' t' lo hi br co d m n q P E
  | 0, _, _, _, _, _, _, _, _, h => h.elim
  | d + 1, 0, br, co, n, q, P, E, f, h => by
    obtain ⟨h1, h2⟩ := h
    have go : ∀ {m : Nat} {x y u v : Int}, RT s t lo hi br co d m x y u v → P ≤ u → v ≤ E → RT s' t' lo hi br co d m x y u v := fun z a b => RT_fr c c14 d _ _ _ _ _ _ _ (f.sub a b) z
    refine ⟨h1, ?_⟩
    rw [c 168 n (Or.inl rfl) h1.2.1 h1.2.2, c 170 n (by omega) h1.2.1 h1.2.2, c 171 n (by omega) h1.2.1 h1.2.2, c 172 n (by omega) h1.2.1 h1.2.2, c14 n h1.2.1 h1.2.2]
    rcases h2 with ⟨e, e1, h⟩ | ⟨e, e1, h⟩ | ⟨e, o, x, h⟩ | ⟨e, o, ⟨M, x, x'⟩, h⟩ | ⟨e, o, ⟨M, x, i, x'⟩, h⟩ | ⟨e, o, x, h⟩ | ⟨e, o, ⟨M, M', x, x', x''⟩, h⟩ | ⟨e, o, o', ⟨M, x, x'⟩, h⟩
    · exact Or.inl ⟨e, e1, f.ci h (by omega) (by omega)⟩
    · exact Or.inr (Or.inl ⟨e, e1, f.ci h (by omega) (by omega)⟩)
    · exact Or.inr (Or.inr (Or.inl ⟨e, o, go x (by omega) (by omega), f.ci h (by omega) (by omega)⟩))
    · have a1 := RT_ab _ _ _ _ _ _ _ _ x
      have a2 := RT_ab _ _ _ _ _ _ _ _ x'
      exact Or.inr (Or.inr (Or.inr (Or.inl ⟨e, o, ⟨M, go x (by omega) (by omega), go x' (by omega) (by omega)⟩, f.ci h (by omega) (by omega)⟩)))
    · have a1 := RT_ab _ _ _ _ _ _ _ _ x
      have a2 := RT_ab _ _ _ _ _ _ _ _ x'
      exact Or.inr (Or.inr (Or.inr (Or.inr (Or.inl ⟨e, o, ⟨M, go x (by omega) (by omega), f.ci i (by omega) (by omega), go x' (by omega) (by omega)⟩, f.ci h (by omega) (by omega)⟩))))
    · exact Or.inr (Or.inr (Or.inr (Or.inr (Or.inr (Or.inl ⟨e, o, go x (by omega) (by omega), f.ci h (by omega) (by omega)⟩)))))
    · have a1 := RT_ab _ _ _ _ _ _ _ _ x
      have a2 : M ≤ M' := by
        rcases x' with z | ⟨-, z⟩
        · omega
        · exact RT_ab _ _ _ _ _ _ _ _ z
      have a3 : M' ≤ E := by
        rcases x'' with z | ⟨-, -, z⟩
        · omega
        · have := RT_ab _ _ _ _ _ _ _ _ z; omega
      refine Or.inr (Or.inr (Or.inr (Or.inr (Or.inr (Or.inr (Or.inl ⟨e, o, ⟨M, M', go x (by omega) (by omega), ?_, ?_⟩, f.ci h (by omega) (by omega)⟩))))))
      · rcases x' with z | ⟨y, z⟩
        · exact Or.inl z
        · exact Or.inr ⟨y, go z (by omega) (by omega)⟩
      · rcases x'' with z | ⟨y, y', z⟩
        · exact Or.inl z
        · exact Or.inr ⟨y, y', go z (by omega) (by omega)⟩
    · have a1 := RT_ab _ _ _ _ _ _ _ _ x
      have a2 := RT_ab _ _ _ _ _ _ _ _ x'
      exact Or.inr (Or.inr (Or.inr (Or.inr (Or.inr (Or.inr (Or.inr ⟨e, o, o', ⟨M, go x (by omega) (by omega), go x' (by omega) (by omega)⟩, f.ci h (by omega) (by omega)⟩))))))
  | d + 1, 1, br, co, n, q, P, E, f, h => by
    rcases h with h | ⟨h0, o, M, h1, h2⟩
    · exact Or.inl h
    · have a1 := RT_ab _ _ _ _ _ _ _ _ h1
      have a2 := RT_ab _ _ _ _ _ _ _ _ h2
      have hr : lo ≤ n ∧ n < hi := by
        cases d with
        | zero => exact h1.elim
        | succ d => exact h1.1.2
      refine Or.inr ⟨h0, by rw [c 173 n (by omega) hr.1 hr.2]; exact o, M, RT_fr c c14 d _ _ _ _ _ _ _ (f.sub (by omega) (by omega)) h1, ?_⟩
      rw [c 173 n (by omega) hr.1 hr.2]
      exact RT_fr c c14 d _ _ _ _ _ _ _ (f.sub (by omega) (by omega)) h2
  | d + 1, 2, br, co, n, q, P, E, f, h => by
    rcases h with h | ⟨h0, o, M, h1, h2⟩
    · exact Or.inl h
    · have a1 := RT_ab _ _ _ _ _ _ _ _ h1
      have a2 := RT_ab _ _ _ _ _ _ _ _ h2
      have hr : lo ≤ n ∧ n < hi := by
        cases d with
        | zero => exact h1.elim
        | succ d => exact h1.1.2
      refine Or.inr ⟨h0, by rw [c 173 n (by omega) hr.1 hr.2]; exact o, M, RT_fr c c14 d _ _ _ _ _ _ _ (f.sub (by omega) (by omega)) h1, ?_⟩
      rw [c 173 n (by omega) hr.1 hr.2]
      exact RT_fr c c14 d _ _ _ _ _ _ _ (f.sub (by omega) (by omega)) h2
  | d + 1, m + 3, br, co, n, q, P, E, f, h => by
    obtain ⟨h1, h0, h2⟩ := h
    have go : ∀ {m : Nat} {b k x y u v : Int}, RT s t lo hi b k d m x y u v → P ≤ u → v ≤ E → RT s' t' lo hi b k d m x y u v := fun z a b => RT_fr c c14 d _ _ _ _ _ _ _ (f.sub a b) z
    refine ⟨h1, f.ci h0 (by omega) (by omega), ?_⟩
    rw [c 168 n (Or.inl rfl) h1.2.1 h1.2.2, c 170 n (by omega) h1.2.1 h1.2.2, c 171 n (by omega) h1.2.1 h1.2.2, c 172 n (by omega) h1.2.1 h1.2.2]
    rcases h2 with ⟨e, o, o', o'', M, M', x, i, x', i', x''⟩ | ⟨e, o, o', M, x, i, x', i'⟩ | ⟨e, x, i⟩ | ⟨e, o, e1, i⟩ | ⟨e, o, e1, i⟩ | ⟨e, x, i⟩
    · have a1 := RT_ab _ _ _ _ _ _ _ _ x
      have a2 := RT_ab _ _ _ _ _ _ _ _ x'
      have a3 := RT_ab _ _ _ _ _ _ _ _ x''
      exact Or.inl ⟨e, o, o', o'', M, M', go x (by omega) (by omega), f.ci i (by omega) (by omega), go x' (by omega) (by omega), f.ci i' (by omega) (by omega), go x'' (by omega) (by omega)⟩
    · have a1 := RT_ab _ _ _ _ _ _ _ _ x
      have a2 := RT_ab _ _ _ _ _ _ _ _ x'
      exact Or.inr (Or.inl ⟨e, o, o', M, go x (by omega) (by omega), f.ci i (by omega) (by omega), go x' (by omega) (by omega), f.ci i' (by omega) (by omega)⟩)
    · refine Or.inr (Or.inr (Or.inl ⟨e, ?_, f.ci i (by omega) (by omega)⟩))
      rcases x with ⟨y1, y2, y3⟩ | ⟨y, z⟩
      · exact Or.inl ⟨y1, y2, f.ci y3 (by omega) (by omega)⟩
      · exact Or.inr ⟨y, go z (by omega) (by omega)⟩
    · exact Or.inr (Or.inr (Or.inr (Or.inl ⟨e, o, e1, f.ci i (by omega) (by omega)⟩)))
    · exact Or.inr (Or.inr (Or.inr (Or.inr (Or.inl ⟨e, o, e1, f.ci i (by omega) (by omega)⟩))))
    · exact Or.inr (Or.inr (Or.inr (Or.inr (Or.inr ⟨e, go x (by omega) (by omega), f.ci i (by omega) (by omega)⟩))))
end RTs
