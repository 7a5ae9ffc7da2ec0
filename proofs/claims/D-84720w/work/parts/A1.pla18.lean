/-! code of statements: while jumps are still open -/
section SC
variable {σ S : gM} {N : Int → Int}
/-- rows of instructions are the same between two places -/
def sI (σ S : gM) (P E : Int) : Prop := ∀ x, P ≤ x → x < E → S 20 x = σ 20 x ∧ S 21 x = σ 21 x ∧ S 22 x = σ 22 x
theorem sI.sub {P E P' E' : Int} (h : sI σ S P E) (p : P ≤ P') (e : E' ≤ E) : sI σ S P' E' := fun x a b => h x (by omega) (by omega)
theorem sI.ci {P E p o t n : Int} (h : sI σ S P E) (c : cI σ p o t n) (p0 : P ≤ p) (p1 : p < E) : cI S p o t n := by
  obtain ⟨a, b, d⟩ := h p p0 p1
  exact ⟨by rw [a]; exact c.1, by rw [b]; exact c.2.1, by rw [d]; exact c.2.2⟩
/-- code stays where its instructions stay -/
theorem CT_fr (c : ∀ e, 70 ≤ e → e ≤ 78 → S e = σ e) : ∀ (d m : Nat) (br co n P E : Int), sI σ S P E → CT σ N br co d m n P E → CT S N br co d m n P E
  | 0, _, _, _, _, _, _, _, h => h.elim
  | d + 1, 0, br, co, n, P, E, f, h => CT_fr0 c (d + 1) 0 br co n P E (by decide) f h
  | d + 1, 1, br, co, n, P, E, f, h => CT_fr0 c (d + 1) 1 br co n P E (by decide) f h
  | d + 1, 2, br, co, n, P, E, f, h => by
    rcases h with h | ⟨h0, M, h1, h2⟩
    · exact Or.inl h
    · have a1 := CT_ab d _ _ _ _ _ _ h1
      have a2 := CT_ab d _ _ _ _ _ _ h2
      exact Or.inr ⟨h0, M, CT_fr c d 3 br co _ _ _ (f.sub (by omega) (by omega)) h1, by rw [c 75 (by decide) (by decide)]; exact CT_fr c d 2 br co _ _ _ (f.sub (by omega) (by omega)) h2⟩
  | d + 1, m + 3, br, co, n, P, E, f, h => by
    obtain ⟨h1, h0, h2⟩ := h
    have go : ∀ {m : Nat} {b k x u v : Int}, CT σ N b k d m x u v → P ≤ u → v ≤ E → CT S N b k d m x u v := fun t p q => CT_fr c d _ _ _ _ _ _ (f.sub p q) t
    refine ⟨h1, ?_, ?_⟩
    · rw [c 70 (by decide) (by decide), c 72 (by decide) (by decide)]
      exact f.ci h0 (by omega) (by omega)
    · rw [c 70 (by decide) (by decide), c 72 (by decide) (by decide), c 73 (by decide) (by decide), c 74 (by decide) (by decide)]
      rcases h2 with ⟨e, M, M', t, i, t', i', t''⟩ | ⟨e, M, t, i, t', i'⟩ | ⟨e, t, i⟩ | ⟨e, e1, i⟩ | ⟨e, e1, i⟩ | ⟨e, t, i⟩
      · have a1 := CT_ab _ _ _ _ _ _ _ t
        have a2 := CT_ab _ _ _ _ _ _ _ t'
        have a3 := CT_ab _ _ _ _ _ _ _ t''
        exact Or.inl ⟨e, M, M', go t (by omega) (by omega), f.ci i (by omega) (by omega), go t' (by omega) (by omega), f.ci i' (by omega) (by omega), go t'' (by omega) (by omega)⟩
      · have a1 := CT_ab _ _ _ _ _ _ _ t
        have a2 := CT_ab _ _ _ _ _ _ _ t'
        exact Or.inr (Or.inl ⟨e, M, go t (by omega) (by omega), f.ci i (by omega) (by omega), go t' (by omega) (by omega), f.ci i' (by omega) (by omega)⟩)
      · refine Or.inr (Or.inr (Or.inl ⟨e, ?_, f.ci i (by omega) (by omega)⟩))
        rcases t with ⟨x1, x2, x3⟩ | ⟨y, x⟩
        · exact Or.inl ⟨x1, x2, f.ci x3 (by omega) (by omega)⟩
        · exact Or.inr ⟨y, go x (by omega) (by omega)⟩
      · exact Or.inr (Or.inr (Or.inr (Or.inl ⟨e, e1, f.ci i (by omega) (by omega)⟩)))
      · exact Or.inr (Or.inr (Or.inr (Or.inr (Or.inl ⟨e, e1, f.ci i (by omega) (by omega)⟩))))
      · exact Or.inr (Or.inr (Or.inr (Or.inr (Or.inr ⟨e, go t (by omega) (by omega), f.ci i (by omega) (by omega)⟩))))
/-- code whose breaks (B) and continues (K) lead nowhere yet: mode 0 statements, 1 one of them -/
def CO (σ : gM) (N : Int → Int) : Nat → Nat → Int → Int → Int → List Int → List Int → Prop
  | 0, _, _, _, _, _, _ => False
  | d + 1, 0, n, P, E, B, K => (n < 0 ∧ E = P ∧ B = [] ∧ K = []) ∨ (0 ≤ n ∧ ∃ M B1 K1 B2 K2, CO σ N d 1 n P M B1 K1 ∧ CO σ N d 0 (σ 75 n) M E B2 K2 ∧ B = B2 ++ B1 ∧ K = K2 ++ K1)
  | d + 1, _ + 1, n, P, E, B, K => P + 1 < E ∧ cI σ P 10 0 (if σ 70 n = 30 then N (σ 72 n) else N n) ∧
      ((σ 70 n = 24 ∧ ∃ M M' B1 K1 B2 K2, C0 σ N 0 (σ 72 n) (P + 1) M ∧ cI σ M 11 (M' + 1) (N n) ∧ CO σ N d 0 (σ 73 n) (M + 1) M' B1 K1 ∧ cI σ M' 14 E (-1) ∧ CO σ N d 0 (σ 74 n) (M' + 1) E B2 K2 ∧ B = B2 ++ B1 ∧ K = K2 ++ K1) ∨
       (σ 70 n = 25 ∧ (∃ M d', C0 σ N 0 (σ 72 n) (P + 1) M ∧ cI σ M 12 E (N n) ∧ CT σ N E (E - 1) d' 2 (σ 73 n) (M + 1) (E - 1) ∧ cI σ (E - 1) 13 (P + 1) (N n)) ∧ B = [] ∧ K = []) ∨
       (σ 70 n = 26 ∧ ((σ 72 n < 0 ∧ E = P + 3 ∧ cI σ (P + 1) 17 0 (-1)) ∨ (0 ≤ σ 72 n ∧ C0 σ N 0 (σ 72 n) (P + 1) (E - 1))) ∧ cI σ (E - 1) 16 0 (N n) ∧ B = [] ∧ K = []) ∨
       (σ 70 n = 27 ∧ E = P + 2 ∧ (σ 20 (P + 1) = 14 ∧ σ 22 (P + 1) = -1) ∧ B = [P + 1] ∧ K = []) ∨
       (σ 70 n = 28 ∧ E = P + 2 ∧ (σ 20 (P + 1) = 14 ∧ σ 22 (P + 1) = -1) ∧ B = [] ∧ K = [P + 1]) ∨
       (σ 70 n = 30 ∧ C0 σ N 0 (σ 72 n) (P + 1) (E - 1) ∧ cI σ (E - 1) 15 0 (-1) ∧ B = [] ∧ K = []))
theorem C0.ab {m : Nat} {n P E : Int} (h : C0 σ N m n P E) : P ≤ E := by
  obtain ⟨d, h⟩ := h
  exact CT_ab _ _ _ _ _ _ _ (h 0 0)
theorem C0.si {m : Nat} {n P E P' E' : Int} (h : C0 σ N m n P E) (hm : m ≤ 1) (c : ∀ e, 70 ≤ e → e ≤ 78 → S e = σ e) (f : sI σ S P' E') (p : P' ≤ P) (e : E ≤ E') : C0 S N m n P E := h.fr hm c (f.sub p e)
theorem CO_ab : ∀ (d m : Nat) (n P E : Int) (B K : List Int), CO σ N d m n P E B K → P ≤ E ∧ (∀ p, p ∈ B ∨ p ∈ K → P ≤ p ∧ p < E)
  | 0, _, _, _, _, _, _, h => h.elim
  | d + 1, 0, n, P, E, B, K, h => by
    rcases h with ⟨-, h, rfl, rfl⟩ | ⟨-, M, B1, K1, B2, K2, h1, h2, rfl, rfl⟩
    · exact ⟨by omega, fun p q => by simp at q⟩
    · have a1 := CO_ab d _ _ _ _ _ _ h1
      have a2 := CO_ab d _ _ _ _ _ _ h2
      refine ⟨by omega, fun p q => ?_⟩
      simp only [List.mem_append] at q
      rcases q with (q | q) | (q | q)
      · have := a2.2 p (Or.inl q); omega
      · have := a1.2 p (Or.inl q); omega
      · have := a2.2 p (Or.inr q); omega
      · have := a1.2 p (Or.inr q); omega
  | d + 1, m + 1, n, P, E, B, K, h => by
    obtain ⟨h1, h0, h2⟩ := h
    rcases h2 with ⟨e, M, M', B1, K1, B2, K2, t, i, t', i', t'', rfl, rfl⟩ | ⟨e, t, rfl, rfl⟩ | ⟨e, t, i, rfl, rfl⟩ | ⟨e, e1, i, rfl, rfl⟩ | ⟨e, e1, i, rfl, rfl⟩ | ⟨e, t, i, rfl, rfl⟩
    · have a0 := t.ab
      have a1 := CO_ab d _ _ _ _ _ _ t'
      have a2 := CO_ab d _ _ _ _ _ _ t''
      refine ⟨by omega, fun p q => ?_⟩
      simp only [List.mem_append] at q
      rcases q with (q | q) | (q | q)
      · have := a2.2 p (Or.inl q); omega
      · have := a1.2 p (Or.inl q); omega
      · have := a2.2 p (Or.inr q); omega
      · have := a1.2 p (Or.inr q); omega
    · exact ⟨by omega, fun p q => by simp at q⟩
    · exact ⟨by omega, fun p q => by simp at q⟩
    · refine ⟨by omega, fun p q => ?_⟩
      simp at q
      omega
    · refine ⟨by omega, fun p q => ?_⟩
      simp at q
      omega
    · exact ⟨by omega, fun p q => by simp at q⟩
theorem CO_dj : ∀ (d m : Nat) (n P E : Int) (B K : List Int), CO σ N d m n P E B K → ∀ p, p ∈ B → p ∉ K
  | 0, _, _, _, _, _, _, h => h.elim
  | d + 1, 0, n, P, E, B, K, h => by
    rcases h with ⟨-, h, rfl, rfl⟩ | ⟨-, M, B1, K1, B2, K2, h1, h2, rfl, rfl⟩
    · intro p q
      simp at q
    · have a1 := (CO_ab d _ _ _ _ _ _ h1).2
      have a2 := (CO_ab d _ _ _ _ _ _ h2).2
      have b1 := CO_dj d _ _ _ _ _ _ h1
      have b2 := CO_dj d _ _ _ _ _ _ h2
      intro p q w
      rcases List.mem_append.mp q with q | q <;> rcases List.mem_append.mp w with w | w
      · exact b2 p q w
      · have := a2 p (Or.inl q); have := a1 p (Or.inr w); omega
      · have := a1 p (Or.inl q); have := a2 p (Or.inr w); omega
      · exact b1 p q w
  | d + 1, m + 1, n, P, E, B, K, h => by
    obtain ⟨h1, h0, h2⟩ := h
    rcases h2 with ⟨e, M, M', B1, K1, B2, K2, t, i, t', i', t'', rfl, rfl⟩ | ⟨e, t, rfl, rfl⟩ | ⟨e, t, i, rfl, rfl⟩ | ⟨e, e1, i, rfl, rfl⟩ | ⟨e, e1, i, rfl, rfl⟩ | ⟨e, t, i, rfl, rfl⟩
    · have a1 := (CO_ab d _ _ _ _ _ _ t').2
      have a2 := (CO_ab d _ _ _ _ _ _ t'').2
      have b1 := CO_dj d _ _ _ _ _ _ t'
      have b2 := CO_dj d _ _ _ _ _ _ t''
      intro p q w
      rcases List.mem_append.mp q with q | q <;> rcases List.mem_append.mp w with w | w
      · exact b2 p q w
      · have := a2 p (Or.inl q); have := a1 p (Or.inr w); omega
      · have := a1 p (Or.inl q); have := a2 p (Or.inr w); omega
      · exact b1 p q w
    · intro p q; simp at q
    · intro p q; simp at q
    · intro p _ q; simp at q
    · intro p q; simp at q
    · intro p q; simp at q
theorem CO_up : ∀ (d m : Nat) (n P E : Int) (B K : List Int), CO σ N d m n P E B K → CO σ N (d + 1) m n P E B K
  | 0, _, _, _, _, _, _, h => h.elim
  | d + 1, 0, n, P, E, B, K, h => by
    rcases h with h | ⟨h0, M, B1, K1, B2, K2, h1, h2, h3⟩
    · exact Or.inl h
    · exact Or.inr ⟨h0, M, B1, K1, B2, K2, CO_up d _ _ _ _ _ _ h1, CO_up d _ _ _ _ _ _ h2, h3⟩
  | d + 1, m + 1, n, P, E, B, K, h => by
    obtain ⟨h1, h0, h2⟩ := h
    refine ⟨h1, h0, ?_⟩
    rcases h2 with ⟨e, M, M', B1, K1, B2, K2, t, i, t', i', t'', h3⟩ | h | h | h | h | h
    · exact Or.inl ⟨e, M, M', B1, K1, B2, K2, t, i, CO_up d _ _ _ _ _ _ t', i', CO_up d _ _ _ _ _ _ t'', h3⟩
    · exact Or.inr (Or.inl h)
    · exact Or.inr (Or.inr (Or.inl h))
    · exact Or.inr (Or.inr (Or.inr (Or.inl h)))
    · exact Or.inr (Or.inr (Or.inr (Or.inr (Or.inl h))))
    · exact Or.inr (Or.inr (Or.inr (Or.inr (Or.inr h))))
theorem CO_le {m : Nat} {n P E : Int} {B K : List Int} : ∀ (k d : Nat), CO σ N d m n P E B K → CO σ N (d + k) m n P E B K
  | 0, _, h => h
  | k + 1, d, h => CO_up _ _ _ _ _ _ _ (CO_le k d h)
theorem CO_two {m m' : Nat} {n P E n' P' E' : Int} {B K B' K' : List Int} {d d' : Nat} (h : CO σ N d m n P E B K) (h' : CO σ N d' m' n' P' E' B' K') : ∃ d, CO σ N d m n P E B K ∧ CO σ N d m' n' P' E' B' K' := by
  refine ⟨d + d', CO_le d' d h, ?_⟩
  rw [Nat.add_comm]
  exact CO_le d d' h'
theorem CO_fr (c : ∀ e, 70 ≤ e → e ≤ 78 → S e = σ e) : ∀ (d m : Nat) (n P E : Int) (B K : List Int), sI σ S P E → CO σ N d m n P E B K → CO S N d m n P E B K
  | 0, _, _, _, _, _, _, _, h => h.elim
  | d + 1, 0, n, P, E, B, K, f, h => by
    rcases h with h | ⟨h0, M, B1, K1, B2, K2, h1, h2, h3⟩
    · exact Or.inl h
    · have a1 := (CO_ab d _ _ _ _ _ _ h1).1
      have a2 := (CO_ab d _ _ _ _ _ _ h2).1
      exact Or.inr ⟨h0, M, B1, K1, B2, K2, CO_fr c d _ _ _ _ _ _ (f.sub (by omega) (by omega)) h1, by rw [c 75 (by decide) (by decide)]; exact CO_fr c d _ _ _ _ _ _ (f.sub (by omega) (by omega)) h2, h3⟩
  | d + 1, m + 1, n, P, E, B, K, f, h => by
    obtain ⟨h1, h0, h2⟩ := h
    refine ⟨h1, ?_, ?_⟩
    · rw [c 70 (by decide) (by decide), c 72 (by decide) (by decide)]
      exact f.ci h0 (by omega) (by omega)
    · rw [c 70 (by decide) (by decide), c 72 (by decide) (by decide), c 73 (by decide) (by decide), c 74 (by decide) (by decide)]
      rcases h2 with ⟨e, M, M', B1, K1, B2, K2, t, i, t', i', t'', h3⟩ | ⟨e, ⟨M, d', t, i, t', i'⟩, h3⟩ | ⟨e, t, i, h3⟩ | ⟨e, e1, i, h3⟩ | ⟨e, e1, i, h3⟩ | ⟨e, t, i, h3⟩
      · have a0 := t.ab
        have a1 := (CO_ab d _ _ _ _ _ _ t').1
        have a2 := (CO_ab d _ _ _ _ _ _ t'').1
        exact Or.inl ⟨e, M, M', B1, K1, B2, K2, t.si (by decide) c f (by omega) (by omega), f.ci i (by omega) (by omega), CO_fr c d _ _ _ _ _ _ (f.sub (by omega) (by omega)) t', f.ci i' (by omega) (by omega), CO_fr c d _ _ _ _ _ _ (f.sub (by omega) (by omega)) t'', h3⟩
      · have a0 := t.ab
        have a1 := CT_ab _ _ _ _ _ _ _ t'
        exact Or.inr (Or.inl ⟨e, ⟨M, d', t.si (by decide) c f (by omega) (by omega), f.ci i (by omega) (by omega), CT_fr c _ _ _ _ _ _ _ (f.sub (by omega) (by omega)) t', f.ci i' (by omega) (by omega)⟩, h3⟩)
      · refine Or.inr (Or.inr (Or.inl ⟨e, ?_, f.ci i (by omega) (by omega), h3⟩))
        rcases t with ⟨x1, x2, x3⟩ | ⟨y, x⟩
        · exact Or.inl ⟨x1, x2, f.ci x3 (by omega) (by omega)⟩
        · exact Or.inr ⟨y, x.si (by decide) c f (by omega) (by omega)⟩
      · obtain ⟨g1, g2, g3⟩ := f (P + 1) (by omega) (by omega)
        exact Or.inr (Or.inr (Or.inr (Or.inl ⟨e, e1, by rw [g1, g3]; exact i, h3⟩)))
      · obtain ⟨g1, g2, g3⟩ := f (P + 1) (by omega) (by omega)
        exact Or.inr (Or.inr (Or.inr (Or.inr (Or.inl ⟨e, e1, by rw [g1, g3]; exact i, h3⟩))))
      · exact Or.inr (Or.inr (Or.inr (Or.inr (Or.inr ⟨e, t.si (by decide) c f (by omega) (by omega), f.ci i (by omega) (by omega), h3⟩))))
/-- jumps are led where they go -/
def sL (σ S : gM) (br co P E : Int) (B K : List Int) : Prop := ∀ x, P ≤ x → x < E → S 20 x = σ 20 x ∧ S 22 x = σ 22 x ∧ (x ∈ B → S 21 x = br) ∧ (x ∈ K → S 21 x = co) ∧ (x ∉ B → x ∉ K → S 21 x = σ 21 x)
theorem sL.si {br co P E P' E' : Int} {B K : List Int} (h : sL σ S br co P E B K) (p : P ≤ P') (e : E' ≤ E) (q : ∀ x, x ∈ B ∨ x ∈ K → x < P' ∨ E' ≤ x) : sI σ S P' E' := fun x x0 x1 => by
  obtain ⟨h1, h2, h3, h4, h5⟩ := h x (by omega) (by omega)
  exact ⟨h1, h5 (fun w => by have := q x (Or.inl w); omega) (fun w => by have := q x (Or.inr w); omega), h2⟩
theorem sL.sub {br co P E P' E' : Int} {B K B' K' : List Int} (h : sL σ S br co P E B K) (p : P ≤ P') (e : E' ≤ E) (b : ∀ x, P' ≤ x → x < E' → (x ∈ B ↔ x ∈ B')) (k : ∀ x, P' ≤ x → x < E' → (x ∈ K ↔ x ∈ K')) : sL σ S br co P' E' B' K' := fun x x0 x1 => by
  obtain ⟨h1, h2, h3, h4, h5⟩ := h x (by omega) (by omega)
  exact ⟨h1, h2, fun w => h3 ((b x x0 x1).mpr w), fun w => h4 ((k x x0 x1).mpr w), fun w w' => h5 (fun z => w ((b x x0 x1).mp z)) (fun z => w' ((k x x0 x1).mp z))⟩
theorem CT_two {br co br' co' n P E n' P' E' : Int} {m m' d d' : Nat} (h : CT σ N br co d m n P E) (h' : CT σ N br' co' d' m' n' P' E') : ∃ d, CT σ N br co d m n P E ∧ CT σ N br' co' d m' n' P' E' := by
  refine ⟨d + d', CT_le d' d h, ?_⟩
  rw [Nat.add_comm]
  exact CT_le d d' h'
theorem CO_land (c : ∀ e, 70 ≤ e → e ≤ 78 → S e = σ e) {br co : Int} : ∀ (d m : Nat) (n P E : Int) (B K : List Int), sL σ S br co P E B K → CO σ N d m n P E B K → ∃ d', CT S N br co d' (m + 2) n P E
  | 0, _, _, _, _, _, _, _, h => h.elim
  | d + 1, 0, n, P, E, B, K, f, h => by
    rcases h with ⟨h1, h2, -⟩ | ⟨h0, M, B1, K1, B2, K2, h1, h2, rfl, rfl⟩
    · exact ⟨1, Or.inl ⟨h1, h2⟩⟩
    · have a1 := CO_ab d _ _ _ _ _ _ h1
      have a2 := CO_ab d _ _ _ _ _ _ h2
      obtain ⟨d1, t1⟩ := CO_land c d 1 n P M B1 K1 (f.sub (by omega) (by omega) (fun x _ x1 => ⟨fun w => (List.mem_append.mp w).elim (fun w => by have := (a2.2 x (Or.inl w)); omega) id, fun w => List.mem_append.mpr (Or.inr w)⟩) (fun x _ x1 => ⟨fun w => (List.mem_append.mp w).elim (fun w => by have := (a2.2 x (Or.inr w)); omega) id, fun w => List.mem_append.mpr (Or.inr w)⟩)) h1
      obtain ⟨d2, t2⟩ := CO_land c d 0 (σ 75 n) M E B2 K2 (f.sub (by omega) (by omega) (fun x x0 _ => ⟨fun w => (List.mem_append.mp w).elim id (fun w => by have := (a1.2 x (Or.inl w)); omega), fun w => List.mem_append.mpr (Or.inl w)⟩) (fun x x0 _ => ⟨fun w => (List.mem_append.mp w).elim id (fun w => by have := (a1.2 x (Or.inr w)); omega), fun w => List.mem_append.mpr (Or.inl w)⟩)) h2
      obtain ⟨d', t1, t2⟩ := CT_two t1 t2
      exact ⟨d' + 1, Or.inr ⟨h0, M, t1, by rw [c 75 (by decide) (by decide)]; exact t2⟩⟩
  | d + 1, m + 1, n, P, E, B, K, f, h => by
    obtain ⟨h1, h0, h2⟩ := h
    have sp : B = B ∧ K = K := ⟨rfl, rfl⟩
    rcases h2 with ⟨e, M, M', B1, K1, B2, K2, t, i, t', i', t'', rfl, rfl⟩ | ⟨e, ⟨M, d', t, i, t', i'⟩, rfl, rfl⟩ | ⟨e, t, i, rfl, rfl⟩ | ⟨e, e1, i, rfl, rfl⟩ | ⟨e, e1, i, rfl, rfl⟩ | ⟨e, t, i, rfl, rfl⟩
    · have a0 := t.ab
      have a1 := CO_ab d _ _ _ _ _ _ t'
      have a2 := CO_ab d _ _ _ _ _ _ t''
      have rg : ∀ x, x ∈ B2 ++ B1 ∨ x ∈ K2 ++ K1 → (M + 1 ≤ x ∧ x < M') ∨ (M' + 1 ≤ x ∧ x < E) := fun x w => by
        simp only [List.mem_append] at w
        rcases w with (w | w) | (w | w)
        · exact Or.inr (a2.2 x (Or.inl w))
        · exact Or.inl (a1.2 x (Or.inl w))
        · exact Or.inr (a2.2 x (Or.inr w))
        · exact Or.inl (a1.2 x (Or.inr w))
      have f0 : sI σ S P (M + 1) := f.si (Int.le_refl _) (by omega) fun x w => by have := rg x w; omega
      have f1 : sI σ S M' (M' + 1) := f.si (by omega) (by omega) fun x w => by have := rg x w; omega
      obtain ⟨d0, t0⟩ := t.si (by decide) c f0 (by omega) (by omega)
      obtain ⟨d1, t1⟩ := CO_land c d 0 (σ 73 n) (M + 1) M' B1 K1 (f.sub (by omega) (by omega) (fun x _ x1 => ⟨fun w => (List.mem_append.mp w).elim (fun w => by have := (a2.2 x (Or.inl w)); omega) id, fun w => List.mem_append.mpr (Or.inr w)⟩) (fun x _ x1 => ⟨fun w => (List.mem_append.mp w).elim (fun w => by have := (a2.2 x (Or.inr w)); omega) id, fun w => List.mem_append.mpr (Or.inr w)⟩)) t'
      obtain ⟨d2, t2⟩ := CO_land c d 0 (σ 74 n) (M' + 1) E B2 K2 (f.sub (by omega) (by omega) (fun x x0 _ => ⟨fun w => (List.mem_append.mp w).elim id (fun w => by have := (a1.2 x (Or.inl w)); omega), fun w => List.mem_append.mpr (Or.inl w)⟩) (fun x x0 _ => ⟨fun w => (List.mem_append.mp w).elim id (fun w => by have := (a1.2 x (Or.inr w)); omega), fun w => List.mem_append.mpr (Or.inl w)⟩)) t''
      obtain ⟨d3, t1, t2⟩ := CT_two t1 t2
      refine ⟨d3 + d0 + 1, h1, ?_, Or.inl ?_⟩
      · rw [c 70 (by decide) (by decide), c 72 (by decide) (by decide)]
        exact f0.ci h0 (Int.le_refl _) (by omega)
      · rw [c 70 (by decide) (by decide), c 72 (by decide) (by decide), c 73 (by decide) (by decide), c 74 (by decide) (by decide)]
        refine ⟨e, M, M', ?_, f0.ci i (by omega) (by omega), CT_le d0 d3 t1, f1.ci i' (Int.le_refl _) (by omega), CT_le d0 d3 t2⟩
        rw [Nat.add_comm]
        exact CT_le d3 d0 (t0 br co)
    · have a0 := t.ab
      have a1 := CT_ab _ _ _ _ _ _ _ t'
      have f0 : sI σ S P E := f.si (Int.le_refl _) (Int.le_refl _) fun x w => by simp at w
      obtain ⟨d0, t0⟩ := t.si (by decide) c f0 (by omega) (by omega)
      have t1 := CT_fr c _ _ _ _ _ _ _ (f0.sub (by omega) (by omega)) t'
      obtain ⟨d3, t0, t1⟩ := CT_two (t0 br co) t1
      refine ⟨d3 + 1, h1, ?_, Or.inr (Or.inl ?_)⟩
      · rw [c 70 (by decide) (by decide), c 72 (by decide) (by decide)]
        exact f0.ci h0 (Int.le_refl _) (by omega)
      · rw [c 70 (by decide) (by decide), c 72 (by decide) (by decide), c 73 (by decide) (by decide)]
        exact ⟨e, M, t0, f0.ci i (by omega) (by omega), t1, f0.ci i' (by omega) (by omega)⟩
    · have f0 : sI σ S P E := f.si (Int.le_refl _) (Int.le_refl _) fun x w => by simp at w
      have fin : ∃ d', (σ 72 n < 0 ∧ E = P + 3 ∧ cI S (P + 1) 17 0 (-1)) ∨ (0 ≤ σ 72 n ∧ CT S N br co d' 0 (σ 72 n) (P + 1) (E - 1)) := by
        rcases t with ⟨x1, x2, x3⟩ | ⟨y, x⟩
        · exact ⟨0, Or.inl ⟨x1, x2, f0.ci x3 (by omega) (by omega)⟩⟩
        · obtain ⟨d0, t0⟩ := x.si (by decide) c f0 (by omega) (by omega)
          exact ⟨d0, Or.inr ⟨y, t0 br co⟩⟩
      obtain ⟨d', fin⟩ := fin
      refine ⟨d' + 1, h1, ?_, Or.inr (Or.inr (Or.inl ?_))⟩
      · rw [c 70 (by decide) (by decide), c 72 (by decide) (by decide)]
        exact f0.ci h0 (Int.le_refl _) (by omega)
      · rw [c 70 (by decide) (by decide), c 72 (by decide) (by decide)]
        exact ⟨e, fin, f0.ci i (by omega) (by omega)⟩
    · have f0 : sI σ S P (P + 1) := f.si (Int.le_refl _) (by omega) fun x w => by simp at w; omega
      obtain ⟨g1, g2, g3, g4, g5⟩ := f (P + 1) (by omega) (by omega)
      refine ⟨1, h1, ?_, Or.inr (Or.inr (Or.inr (Or.inl ?_)))⟩
      · rw [c 70 (by decide) (by decide), c 72 (by decide) (by decide)]
        exact f0.ci h0 (Int.le_refl _) (by omega)
      · rw [c 70 (by decide) (by decide)]
        exact ⟨e, e1, by rw [g1]; exact i.1, g3 (List.mem_singleton.mpr rfl), by rw [g2]; exact i.2⟩
    · have f0 : sI σ S P (P + 1) := f.si (Int.le_refl _) (by omega) fun x w => by simp at w; omega
      obtain ⟨g1, g2, g3, g4, g5⟩ := f (P + 1) (by omega) (by omega)
      refine ⟨1, h1, ?_, Or.inr (Or.inr (Or.inr (Or.inr (Or.inl ?_))))⟩
      · rw [c 70 (by decide) (by decide), c 72 (by decide) (by decide)]
        exact f0.ci h0 (Int.le_refl _) (by omega)
      · rw [c 70 (by decide) (by decide)]
        exact ⟨e, e1, by rw [g1]; exact i.1, g4 (List.mem_singleton.mpr rfl), by rw [g2]; exact i.2⟩
    · have f0 : sI σ S P E := f.si (Int.le_refl _) (Int.le_refl _) fun x w => by simp at w
      obtain ⟨d0, t0⟩ := t.si (by decide) c f0 (by omega) (by omega)
      refine ⟨d0 + 1, h1, ?_, Or.inr (Or.inr (Or.inr (Or.inr (Or.inr ?_))))⟩
      · rw [c 70 (by decide) (by decide), c 72 (by decide) (by decide)]
        exact f0.ci h0 (Int.le_refl _) (by omega)
      · rw [c 70 (by decide) (by decide), c 72 (by decide) (by decide)]
        exact ⟨e, t0 br co, f0.ci i (by omega) (by omega)⟩
/-- jumps linked through where they lead: from h down to h0 -/
def ch (σ : gM) (h0 : Int) : Int → List Int → Prop
  | h, [] => h = h0
  | h, p :: L => h = p ∧ (h0 < p ∧ 0 ≤ p) ∧ (∀ x ∈ L, x < p) ∧ ch σ h0 (σ 21 p) L
theorem ch_app {h0 h1 : Int} : ∀ (h : Int) (L L' : List Int), (∀ x ∈ L, h0 < x) → (∀ x ∈ L, ∀ y ∈ L', y < x) → ch σ h1 h L → ch σ h0 h1 L' → ch σ h0 h (L ++ L')
  | h, [], L', _, _, a, b => by
    have e : h = h1 := a
    rw [e]
    exact b
  | h, p :: L, L', q, r, a, b => by
    obtain ⟨a1, a2, a3, a4⟩ := a
    refine ⟨a1, ⟨q p List.mem_cons_self, a2.2⟩, fun x hx => ?_, ch_app _ L L' (fun x hx => q x (List.mem_cons_of_mem _ hx)) (fun x hx => r x (List.mem_cons_of_mem _ hx)) a4 b⟩
    rcases List.mem_append.mp hx with w | w
    · exact a3 x w
    · exact r p List.mem_cons_self x w
theorem ch_fr {h0 : Int} : ∀ (h : Int) (L : List Int), (∀ x ∈ L, S 21 x = σ 21 x) → ch σ h0 h L → ch S h0 h L
  | h, [], _, a => a
  | h, p :: L, f, a => by
    obtain ⟨a1, a2, a3, a4⟩ := a
    exact ⟨a1, a2, a3, by rw [f p List.mem_cons_self]; exact ch_fr _ L (fun x hx => f x (List.mem_cons_of_mem _ hx)) a4⟩
/-- all jumps of a row are led to where the code ends -/
theorem fr_land_s : ∀ (L : List Int) (σ : gM) (h : Int), ch σ (-1) h L → (∀ x ∈ L, x < 164000) → ∃ S, fr_land_b2 σ h = some (S, 0) ∧ (∀ a i, a ≠ 21 → S a i = σ a i) ∧ (∀ x ∈ L, S 21 x = σ 8 16) ∧ (∀ x, x ∉ L → S 21 x = σ 21 x)
  | [], σ, h, c, _ => by
    have e : h = -1 := c
    exact ⟨σ, by rw [fr_land_b2_e, if_pos (by omega)], fun _ _ _ => rfl, fun x hx => by simp at hx, fun _ _ => rfl⟩
  | p :: L, σ, h, c, r => by
    obtain ⟨c1, c2, c3, c4⟩ := c
    have hp := r p List.mem_cons_self
    have g8 : gW σ 21 p (σ 8 16) 8 16 = σ 8 16 := gW_c (by decide)
    obtain ⟨S, s1, s2, s3, s4⟩ := fr_land_s L (gW σ 21 p (σ 8 16)) (σ 21 p) (ch_fr _ _ (fun x hx => gW_i (by have := c3 x hx; omega)) c4) (fun x hx => r x (List.mem_cons_of_mem _ hx))
    refine ⟨S, ?_, fun a i q => by rw [s2 a i q, gW_c q], fun x hx => ?_, fun x hx => ?_⟩
    · rw [c1, fr_land_b2_e, if_neg (by omega), if_pos (by omega), if_pos (by omega)]
      exact s1
    · by_cases z : x ∈ L
      · rw [s3 x z, g8]
      · have : x = p := by
          rcases List.mem_cons.mp hx with w | w
          · exact w
          · exact (z w).elim
        rw [s4 x z, this, gW_at]
    · have z1 : x ∉ L := fun w => hx (List.mem_cons_of_mem _ w)
      have z2 : x ≠ p := fun w => hx (by rw [w]; exact List.mem_cons_self)
      rw [s4 x z1, gW_i z2]
end SC
