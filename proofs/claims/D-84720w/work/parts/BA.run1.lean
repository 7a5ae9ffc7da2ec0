/-! a run: what has been begun, on both sides -/
/-- what is being worked out: node n at stage s (next x), at place P with height h, from height h0; then E -/
def Te (σ τ : gM) (lo hi br co n s x P h E h0 : Int) : Prop := (τ 168 n < 24 ∧ 0 ≤ h0 ∧ h0 ≤ n - lo ∧ P < E) ∧
  ((s = 0 ∧ h = h0 ∧ RX σ τ lo hi br co 0 n 0 P E) ∨
   (s = 1 ∧ h = h0 + 1 ∧ P = E - 1 ∧ ((τ 168 n = 6 ∧ cI σ (E - 1) 2 0 n) ∨ (τ 168 n = 20 ∧ cI σ (E - 1) 6 0 n))) ∨
   ((8 ≤ τ 168 n ∧ τ 168 n ≤ 17) ∧ cI σ (E - 1) 3 0 n ∧ ((s = 1 ∧ h = h0 + 1 ∧ n + 1 < τ 171 n ∧ RX σ τ lo hi br co 0 (τ 171 n) 0 P (E - 1)) ∨ (s = 2 ∧ h = h0 + 2 ∧ P = E - 1))) ∨
   ((τ 168 n = 18 ∨ τ 168 n = 19) ∧ cI σ (E - 1) 5 0 n ∧ ((s = 1 ∧ h = h0 + 1 ∧ n + 1 < τ 171 n ∧ cI σ P 4 E n ∧ RX σ τ lo hi br co 0 (τ 171 n) 0 (P + 1) (E - 1)) ∨ (s = 2 ∧ h = h0 + 1 ∧ P = E - 1))) ∨
   (τ 168 n = 21 ∧ cI σ (E - 1) 7 0 n ∧ ((s = 1 ∧ h = h0 + 1 ∧ ((τ 171 n = -1 ∧ P = E - 1) ∨ (n + 1 < τ 171 n ∧ RX σ τ lo hi br co 0 (τ 171 n) 0 P (E - 1)))) ∨ (s = 2 ∧ h = h0 + 2 ∧ n < τ 171 n ∧ P = E - 1))) ∨
   (τ 168 n = 22 ∧ cI σ (E - 1) 8 0 n ∧ ((s = 1 ∧ h = h0 + 1 ∧ (n + 1 < τ 172 n ∧ τ 171 n < τ 172 n) ∧ ∃ M, ((τ 171 n = -1 ∧ M = P) ∨ (n + 1 < τ 171 n ∧ RX σ τ lo hi br co 0 (τ 171 n) 0 P M)) ∧ RX σ τ lo hi br co 0 (τ 172 n) 0 M (E - 1)) ∨ (s = 2 ∧ (n + 1 < τ 172 n ∧ τ 171 n < τ 172 n) ∧ ((τ 171 n = -1 ∧ h = h0 + 1) ∨ (n + 1 < τ 171 n ∧ h = h0 + 2)) ∧ RX σ τ lo hi br co 0 (τ 172 n) 0 P (E - 1)) ∨ (s = 3 ∧ ((τ 171 n = -1 ∧ h = h0 + 2) ∨ (n + 1 < τ 171 n ∧ h = h0 + 3)) ∧ P = E - 1))) ∨
   (τ 168 n = 23 ∧ cI σ (E - 1) 9 0 n ∧ (1 ≤ s ∧ n + s ≤ hi) ∧ h = h0 + s ∧ (x = -1 ∨ n + s ≤ x) ∧ RX σ τ lo hi br co 1 x (σ 14 n - (s - 1)) P (E - 1)))
/-- an if, from its condition's end on -/
def tIf (σ τ : gM) (lo hi br co n M E : Int) : Prop := ((τ 171 n = -1 ∨ n + 1 < τ 171 n) ∧ (τ 172 n = -1 ∨ n + 1 < τ 172 n)) ∧ ∃ N, N < E ∧ cI σ M 11 (N + 1) n ∧ RX σ τ lo hi br co 2 (τ 171 n) 0 (M + 1) N ∧ cI σ N 14 E (-1) ∧ RX σ τ lo hi br co 2 (τ 172 n) 0 (N + 1) E
/-- a while: its condition from P, its end E -/
def tWh (σ τ : gM) (lo hi br co n P M E : Int) : Prop := (n < τ 170 n ∧ (τ 171 n = -1 ∨ n + 1 < τ 171 n)) ∧ RX σ τ lo hi br co 0 (τ 170 n) 0 P M ∧ cI σ M 12 E n ∧ RX σ τ lo hi E (E - 1) 2 (τ 171 n) 0 (M + 1) (E - 1) ∧ cI σ (E - 1) 13 P n
/-- a statement -/
def Ts (σ τ : gM) (lo hi be br co n s P h E br' co' : Int) : Prop :=
  (τ 168 n = 24 ∧ (br' = br ∧ co' = co) ∧ ((s = 0 ∧ h = 0 ∧ n < τ 170 n ∧ ∃ M, RX σ τ lo hi br co 0 (τ 170 n) 0 P M ∧ tIf σ τ lo hi br co n M E) ∨ (s = 1 ∧ h = 1 ∧ tIf σ τ lo hi br co n P E))) ∨
  (τ 168 n = 25 ∧ ((s = 0 ∧ h = 0 ∧ (br' = br ∧ co' = co) ∧ ∃ M, tWh σ τ lo hi br' co' n P M E) ∨ (s = 1 ∧ h = 1 ∧ (br' = br ∧ co' = co) ∧ ∃ A, be ≤ A ∧ tWh σ τ lo hi br' co' n A P E) ∨ (s = 2 ∧ h = 0 ∧ (br = E ∧ co = E - 1 ∧ P = E - 1) ∧ ∃ A M, be ≤ A ∧ tWh σ τ lo hi br' co' n A M E))) ∨
  (τ 168 n = 26 ∧ (br' = br ∧ co' = co) ∧ cI σ (E - 1) 16 0 n ∧ ((s = 0 ∧ h = 0 ∧ ((τ 170 n = -1 ∧ E = P + 2 ∧ cI σ P 17 0 (-1)) ∨ (n < τ 170 n ∧ RX σ τ lo hi br co 0 (τ 170 n) 0 P (E - 1)))) ∨ (s = 1 ∧ h = 1 ∧ n < τ 170 n ∧ P = E - 1))) ∨
  ((br' = br ∧ co' = co) ∧ s = 0 ∧ h = 0 ∧ br ≠ -1 ∧ E = P + 1 ∧ ((τ 168 n = 27 ∧ cI σ P 14 br (-1)) ∨ (τ 168 n = 28 ∧ cI σ P 14 co (-1))))
/-- one task; j is its place among those of its activation -/
def Tk (σ τ : gM) (lo hi be j br co n s x P h E h' br' co' : Int) : Prop :=
  (n = -1 ∧ h = 1 ∧ h' = 0 ∧ E = P + 1 ∧ cI σ P 15 0 (-1) ∧ br' = br ∧ co' = co) ∨
  (n = -2 ∧ s = 0 ∧ h = 0 ∧ h' = 0 ∧ (br' = br ∧ co' = co) ∧ (x = -1 ∨ j ≤ 2 * (x - lo)) ∧ ∃ F, RX σ τ lo hi br co 2 x 0 P F ∧ (E = F ∨ (F < E ∧ cI σ F 14 E (-1)))) ∨
  ((0 ≤ n ∧ lo ≤ n ∧ n < hi ∧ j ≤ 2 * (n - lo) + 2) ∧ ((Te σ τ lo hi br co n s x P h E (h' - 1) ∧ br' = br ∧ co' = co) ∨ (Ts σ τ lo hi be br co n s P h E br' co' ∧ h' = 0)))
/-- rows lie on rows or on a while -/
def rwO (τ : gM) (i : Int) : Prop := (τ 218 (i + 1) = -2 → τ 218 i = -2 ∨ (0 ≤ τ 218 i ∧ τ 168 (τ 218 i) = 25 ∧ τ 219 i = 2)) ∧ (0 ≤ τ 218 (i + 1) → 24 ≤ τ 168 (τ 218 (i + 1)) → τ 218 i = -2)
/-- the tasks of an activation, from the newest down -/
def St (σ τ : gM) (lo hi be la fl : Int) : Nat → Int → Int → Int → Int → Prop
  | 0, P, h, br, co => (be ≤ P ∧ τ 218 fl = -2 ∧ τ 219 fl = 1 ∧ h = 0 ∧ br = -1 ∧ co = -1) ∧ RX σ τ lo hi (-1) (-1) 2 (τ 220 fl) 0 P la
  | m + 1, P, h, br, co => (be ≤ P ∧ (m : Int) < 603) ∧ rwO τ (fl + m) ∧ ∃ E h' br' co', Tk σ τ lo hi be (m + 1) br co (τ 218 (fl + m + 1)) (τ 219 (fl + m + 1)) (τ 220 (fl + m + 1)) P h E h' br' co' ∧ St σ τ lo hi be la fl m E h' br' co'
section ST
variable {σ τ S T : gM} {lo hi be la fl : Int}
theorem RX.le {br co n q P E : Int} {m : Nat} (h : RX σ τ lo hi br co m n q P E) : P ≤ E := RT_ab _ _ _ _ _ _ _ _ h.choose_spec
theorem RX.pos {br co n q P E : Int} (h : RX σ τ lo hi br co 0 n q P E) : P < E ∧ lo ≤ n ∧ n < hi := by
  obtain ⟨d, h⟩ := h
  cases d with
  | zero => exact h.elim
  | succ d => exact h.1
theorem tIf.le {br co n M E : Int} (h : tIf σ τ lo hi br co n M E) : M < E := by
  obtain ⟨-, N, h1, -, h2, -⟩ := h
  have := h2.le
  omega
theorem tWh.le {br co n P M E : Int} (h : tWh σ τ lo hi br co n P M E) : P ≤ M ∧ M < E - 1 + 1 ∧ M + 1 ≤ E - 1 := by
  obtain ⟨-, h1, -, h2, -⟩ := h
  have := h1.le
  have := h2.le
  omega
theorem Ts.le {br co n s P h E br' co' : Int} (k : Ts σ τ lo hi be br co n s P h E br' co') : P < E := by
  rcases k with ⟨-, -, ⟨-, -, -, M, h1, h2⟩ | ⟨-, -, h2⟩⟩ | ⟨-, ⟨-, -, -, M, h1⟩ | ⟨-, -, -, A, -, h1⟩ | ⟨-, -, ⟨-, -, h1⟩, -⟩⟩ | ⟨-, -, -, ⟨-, -, ⟨-, h1, -⟩ | ⟨-, h1⟩⟩ | ⟨-, -, -, h1⟩⟩ | ⟨-, -, -, -, h1, -⟩
  · have := h1.le
    have := h2.le
    omega
  · exact h2.le
  · have := h1.le
    omega
  · have := h1.le
    omega
  · omega
  · omega
  · have := h1.pos
    omega
  · omega
  · omega
theorem Tk.le {j br co n s x P h E h' br' co' : Int} (k : Tk σ τ lo hi be j br co n s x P h E h' br' co') : P ≤ E := by
  rcases k with ⟨-, -, -, h1, -⟩ | ⟨-, -, -, -, -, -, F, h1, h2⟩ | ⟨-, ⟨h1, -⟩ | ⟨h1, -⟩⟩
  · omega
  · have := h1.le
    omega
  · have := h1.1
    omega
  · have := h1.le
    omega
theorem St.le : ∀ (m : Nat) (P h br co : Int), St σ τ lo hi be la fl m P h br co → be ≤ P ∧ P ≤ la
  | 0, P, h, br, co, k => ⟨k.1.1, k.2.le⟩
  | m + 1, P, h, br, co, k => by
    obtain ⟨h1, -, E, h', br', co', h2, h3⟩ := k
    have := h2.le
    have := St.le m _ _ _ _ h3
    exact ⟨h1.1, by omega⟩
/-- break and continue lead on -/
theorem St.br : ∀ (m : Nat) (P h br co : Int), St σ τ lo hi be la fl m P h br co → br ≠ -1 → P ≤ co ∧ co + 1 = br ∧ br ≤ la
  | 0, P, h, br, co, k, hb => (hb k.1.2.2.2.2.1).elim
  | m + 1, P, h, br, co, k, hb => by
    obtain ⟨h1, -, E, h', br', co', h2, h3⟩ := k
    have h4 := h2.le
    have h5 := St.le m _ _ _ _ h3
    have go : br' = br ∧ co' = co → P ≤ co ∧ co + 1 = br ∧ br ≤ la := fun e => by
      have := St.br m _ _ _ _ h3 (by rw [e.1]; exact hb)
      omega
    rcases h2 with ⟨-, -, -, -, -, e⟩ | ⟨-, -, -, -, e, -⟩ | ⟨-, ⟨-, e⟩ | ⟨k, -⟩⟩
    · exact go e
    · exact go e
    · exact go e
    · rcases k with ⟨-, e, -⟩ | ⟨-, ⟨-, -, e, -⟩ | ⟨-, -, e, -⟩ | ⟨-, -, ⟨e1, e2, e3⟩, -⟩⟩ | ⟨-, e, -⟩ | ⟨e, -⟩
      · exact go e
      · exact go e
      · exact go e
      · omega
      · exact go e
      · exact go e
section FR
variable {zz : Int}
theorem RX.st (c : ∀ a n, (a = 168 ∨ (170 ≤ a ∧ a ≤ 173)) → lo ≤ n → n < hi → T a n = τ a n) (c14 : ∀ n, lo ≤ n → n < hi → S 14 n = σ 14 n) (si : sI σ S be la) {br co n q P E : Int} {m : Nat} (h : RX σ τ lo hi br co m n q P E) (p : be ≤ P) (e : E ≤ la) : RX S T lo hi br co m n q P E := by
  obtain ⟨d, h⟩ := h
  exact ⟨d, RT_fr c c14 d _ _ _ _ _ _ _ (si.sub p e) h⟩
theorem Te.fr (c : ∀ a n, (a = 168 ∨ (170 ≤ a ∧ a ≤ 173)) → lo ≤ n → n < hi → T a n = τ a n) (c14 : ∀ n, lo ≤ n → n < hi → S 14 n = σ 14 n) (si : sI σ S be la) {br co n s x P h E h0 : Int} (k : Te σ τ lo hi br co n s x P h E h0) (n0 : lo ≤ n) (n1 : n < hi) (p : be ≤ P) (e : E ≤ la) : Te S T lo hi br co n s x P h E h0 := by
  obtain ⟨k1, k⟩ := k
  unfold Te
  rw [c 168 n (by omega) n0 n1, c 171 n (by omega) n0 n1, c 172 n (by omega) n0 n1, c14 n n0 n1]
  refine ⟨k1, ?_⟩
  have ci : ∀ {q o t y : Int}, cI σ q o t y → be ≤ q → q < la → cI S q o t y := fun z a b => si.ci z a b
  have rx : ∀ {br co n q P E : Int} {m : Nat}, RX σ τ lo hi br co m n q P E → be ≤ P → E ≤ la → RX S T lo hi br co m n q P E := fun z a b => RX.st c c14 si z a b
  rcases k with ⟨a1, a2, a3⟩ | ⟨a1, a2, a3, a4⟩ | ⟨a1, a2, a3⟩ | ⟨a1, a2, a3⟩ | ⟨a1, a2, a3⟩ | ⟨a1, a2, a3⟩ | ⟨a1, a2, a3, a4, a5, a6⟩
  · exact Or.inl ⟨a1, a2, rx a3 p e⟩
  · refine Or.inr (Or.inl ⟨a1, a2, a3, ?_⟩)
    rcases a4 with ⟨z1, z2⟩ | ⟨z1, z2⟩
    · exact Or.inl ⟨z1, ci z2 (by omega) (by omega)⟩
    · exact Or.inr ⟨z1, ci z2 (by omega) (by omega)⟩
  · refine Or.inr (Or.inr (Or.inl ⟨a1, ci a2 (by omega) (by omega), ?_⟩))
    rcases a3 with ⟨z1, z2, z3, z4⟩ | z
    · exact Or.inl ⟨z1, z2, z3, rx z4 p (by omega)⟩
    · exact Or.inr z
  · refine Or.inr (Or.inr (Or.inr (Or.inl ⟨a1, ci a2 (by omega) (by omega), ?_⟩)))
    rcases a3 with ⟨z1, z2, z3, z4, z5⟩ | z
    · exact Or.inl ⟨z1, z2, z3, ci z4 p (by omega), rx z5 (by omega) (by omega)⟩
    · exact Or.inr z
  · refine Or.inr (Or.inr (Or.inr (Or.inr (Or.inl ⟨a1, ci a2 (by omega) (by omega), ?_⟩))))
    rcases a3 with ⟨z1, z2, z3⟩ | z
    · refine Or.inl ⟨z1, z2, ?_⟩
      rcases z3 with z3 | ⟨z3, z4⟩
      · exact Or.inl z3
      · exact Or.inr ⟨z3, rx z4 p (by omega)⟩
    · exact Or.inr z
  · refine Or.inr (Or.inr (Or.inr (Or.inr (Or.inr (Or.inl ⟨a1, ci a2 (by omega) (by omega), ?_⟩)))))
    rcases a3 with ⟨z1, z2, z3, M, z4, z5⟩ | ⟨z1, z2, z3, z4⟩ | z
    · refine Or.inl ⟨z1, z2, z3, M, ?_, ?_⟩
      · rcases z4 with z4 | ⟨z4, z6⟩
        · exact Or.inl z4
        · exact Or.inr ⟨z4, rx z6 p (by have := z5.le; omega)⟩
      · refine rx z5 ?_ (by omega)
        rcases z4 with z4 | ⟨z4, z6⟩
        · omega
        · have := z6.le
          omega
    · exact Or.inr (Or.inl ⟨z1, z2, z3, rx z4 p (by omega)⟩)
    · exact Or.inr (Or.inr z)
  · exact Or.inr (Or.inr (Or.inr (Or.inr (Or.inr (Or.inr ⟨a1, ci a2 (by omega) (by omega), a3, a4, a5, rx a6 p (by omega)⟩)))))
theorem tIf.fr (c : ∀ a n, (a = 168 ∨ (170 ≤ a ∧ a ≤ 173)) → lo ≤ n → n < hi → T a n = τ a n) (c14 : ∀ n, lo ≤ n → n < hi → S 14 n = σ 14 n) (si : sI σ S be la) {br co n M E : Int} (k : tIf σ τ lo hi br co n M E) (n0 : lo ≤ n) (n1 : n < hi) (p : be ≤ M) (e : E ≤ la) : tIf S T lo hi br co n M E := by
  obtain ⟨k1, N, k2, k3, k4, k5, k6⟩ := k
  have := k4.le
  unfold tIf
  rw [c 171 n (by omega) n0 n1, c 172 n (by omega) n0 n1]
  exact ⟨k1, N, k2, si.ci k3 (by omega) (by omega), RX.st c c14 si k4 (by omega) (by omega), si.ci k5 (by omega) (by omega), RX.st c c14 si k6 (by omega) (by omega)⟩
theorem tWh.fr (c : ∀ a n, (a = 168 ∨ (170 ≤ a ∧ a ≤ 173)) → lo ≤ n → n < hi → T a n = τ a n) (c14 : ∀ n, lo ≤ n → n < hi → S 14 n = σ 14 n) (si : sI σ S be la) {br co n P M E : Int} (k : tWh σ τ lo hi br co n P M E) (n0 : lo ≤ n) (n1 : n < hi) (p : be ≤ P) (e : E ≤ la) : tWh S T lo hi br co n P M E := by
  have := k.le
  obtain ⟨k1, k2, k3, k4, k5⟩ := k
  unfold tWh
  rw [c 170 n (by omega) n0 n1, c 171 n (by omega) n0 n1]
  exact ⟨k1, RX.st c c14 si k2 (by omega) (by omega), si.ci k3 (by omega) (by omega), RX.st c c14 si k4 (by omega) (by omega), si.ci k5 (by omega) (by omega)⟩
theorem Ts.fr (c : ∀ a n, (a = 168 ∨ (170 ≤ a ∧ a ≤ 173)) → lo ≤ n → n < hi → T a n = τ a n) (c14 : ∀ n, lo ≤ n → n < hi → S 14 n = σ 14 n) (si : sI σ S be la) {br co n s P h E br' co' : Int} (k : Ts σ τ lo hi be br co n s P h E br' co') (n0 : lo ≤ n) (n1 : n < hi) (p : be ≤ P) (e : E ≤ la) : Ts S T lo hi be br co n s P h E br' co' := by
  have ke := k.le
  unfold Ts
  rw [c 168 n (by omega) n0 n1, c 170 n (by omega) n0 n1]
  rcases k with ⟨a1, a2, a3⟩ | ⟨a1, a3⟩ | ⟨a1, a2, a3, a4⟩ | ⟨a1, a2, a3, a4, a5, a6⟩
  · refine Or.inl ⟨a1, a2, ?_⟩
    rcases a3 with ⟨z1, z2, z3, M, z4, z5⟩ | ⟨z1, z2, z3⟩
    · have := z4.le
      have := z5.le
      exact Or.inl ⟨z1, z2, z3, M, RX.st c c14 si z4 p (by omega), tIf.fr c c14 si z5 n0 n1 (by omega) e⟩
    · exact Or.inr ⟨z1, z2, tIf.fr c c14 si z3 n0 n1 p e⟩
  · refine Or.inr (Or.inl ⟨a1, ?_⟩)
    rcases a3 with ⟨z1, z2, z3, M, z4⟩ | ⟨z1, z2, z3, A, z4, z5⟩ | ⟨z1, z2, z3, A, M, z4, z5⟩
    · exact Or.inl ⟨z1, z2, z3, M, tWh.fr c c14 si z4 n0 n1 p e⟩
    · exact Or.inr (Or.inl ⟨z1, z2, z3, A, z4, tWh.fr c c14 si z5 n0 n1 z4 e⟩)
    · exact Or.inr (Or.inr ⟨z1, z2, z3, A, M, z4, tWh.fr c c14 si z5 n0 n1 z4 e⟩)
  · refine Or.inr (Or.inr (Or.inl ⟨a1, a2, si.ci a3 (by omega) (by omega), ?_⟩))
    rcases a4 with ⟨z1, z2, z3⟩ | z
    · refine Or.inl ⟨z1, z2, ?_⟩
      rcases z3 with ⟨z3, z4, z5⟩ | ⟨z3, z4⟩
      · exact Or.inl ⟨z3, z4, si.ci z5 p (by omega)⟩
      · exact Or.inr ⟨z3, RX.st c c14 si z4 p (by omega)⟩
    · exact Or.inr z
  · refine Or.inr (Or.inr (Or.inr ⟨a1, a2, a3, a4, a5, ?_⟩))
    rcases a6 with ⟨z1, z2⟩ | ⟨z1, z2⟩
    · exact Or.inl ⟨z1, si.ci z2 p (by omega)⟩
    · exact Or.inr ⟨z1, si.ci z2 p (by omega)⟩
theorem Tk.fr (c : ∀ a n, (a = 168 ∨ (170 ≤ a ∧ a ≤ 173)) → lo ≤ n → n < hi → T a n = τ a n) (c14 : ∀ n, lo ≤ n → n < hi → S 14 n = σ 14 n) (si : sI σ S be la) {j br co n s x P h E h' br' co' : Int} (k : Tk σ τ lo hi be j br co n s x P h E h' br' co') (p : be ≤ P) (e : E ≤ la) : Tk S T lo hi be j br co n s x P h E h' br' co' := by
  rcases k with ⟨a1, a2, a3, a4, a5, a6⟩ | ⟨a1, a2, a3, a4, a5, a6, F, a7, a8⟩ | ⟨a1, ⟨a2, a3⟩ | ⟨a2, a3⟩⟩
  · exact Or.inl ⟨a1, a2, a3, a4, si.ci a5 p (by omega), a6⟩
  · have := a7.le
    refine Or.inr (Or.inl ⟨a1, a2, a3, a4, a5, a6, F, RX.st c c14 si a7 p (by omega), ?_⟩)
    rcases a8 with z | ⟨z1, z2⟩
    · exact Or.inl z
    · exact Or.inr ⟨z1, si.ci z2 (by omega) (by omega)⟩
  · exact Or.inr (Or.inr ⟨a1, Or.inl ⟨Te.fr c c14 si a2 a1.2.1 a1.2.2.1 p e, a3⟩⟩)
  · exact Or.inr (Or.inr ⟨a1, Or.inr ⟨Ts.fr c c14 si a2 a1.2.1 a1.2.2.1 p e, a3⟩⟩)
theorem Tk.rg {j br co n s x P h E h' br' co' : Int} (k : Tk σ τ lo hi be j br co n s x P h E h' br' co') : n = -1 ∨ n = -2 ∨ (0 ≤ n ∧ lo ≤ n ∧ n < hi ∧ j ≤ 2 * (n - lo) + 2) := by
  rcases k with ⟨a1, -⟩ | ⟨a1, -⟩ | ⟨a1, -⟩
  · exact Or.inl a1
  · exact Or.inr (Or.inl a1)
  · exact Or.inr (Or.inr a1)
/-- tasks stay where the trees and they themselves stay -/
theorem St.fr (c : ∀ a n, (a = 168 ∨ (170 ≤ a ∧ a ≤ 173)) → lo ≤ n → n < hi → T a n = τ a n) (c14 : ∀ n, lo ≤ n → n < hi → S 14 n = σ 14 n) (si : sI σ S be la) : ∀ (m : Nat) (P h br co : Int), (∀ a i, 218 ≤ a → a ≤ 220 → fl ≤ i → i ≤ fl + m → T a i = τ a i) → St σ τ lo hi be la fl m P h br co → St S T lo hi be la fl m P h br co
  | 0, P, h, br, co, ct, k => by
    unfold St
    rw [ct 218 fl (by decide) (by decide) (by omega) (by omega), ct 219 fl (by decide) (by decide) (by omega) (by omega), ct 220 fl (by decide) (by decide) (by omega) (by omega)]
    exact ⟨k.1, RX.st c c14 si k.2 k.1.1 (Int.le_refl _)⟩
  | m + 1, P, h, br, co, ct, k => by
    obtain ⟨h1, h2, E, h', br', co', h3, h4⟩ := k
    have hl := St.le m _ _ _ _ h4
    have hr := h3.rg
    have e1 : τ 218 (fl + m + 1) = -1 ∨ τ 218 (fl + m + 1) = -2 ∨ T 168 (τ 218 (fl + m + 1)) = τ 168 (τ 218 (fl + m + 1)) := by
      rcases hr with z | z | z
      · exact Or.inl z
      · exact Or.inr (Or.inl z)
      · exact Or.inr (Or.inr (c 168 _ (Or.inl rfl) z.2.1 z.2.2.1))
    have e2 : τ 218 (fl + m) = -1 ∨ τ 218 (fl + m) = -2 ∨ T 168 (τ 218 (fl + m)) = τ 168 (τ 218 (fl + m)) := by
      cases m with
      | zero =>
        have := h4.1.2.1
        rw [show fl + ((0 : Nat) : Int) = fl by omega]
        exact Or.inr (Or.inl this)
      | succ m =>
        obtain ⟨-, -, E2, h2', br2, co2, h5, -⟩ := h4
        rw [show fl + ((m + 1 : Nat) : Int) = fl + m + 1 by omega]
        rcases h5.rg with z | z | z
        · exact Or.inl z
        · exact Or.inr (Or.inl z)
        · exact Or.inr (Or.inr (c 168 _ (Or.inl rfl) z.2.1 z.2.2.1))
    unfold St
    refine ⟨h1, ?_, E, h', br', co', ?_, St.fr c c14 si m E h' br' co' (fun a i q1 q2 q3 q4 => ct a i q1 q2 q3 (by omega)) h4⟩
    · unfold rwO at h2 ⊢
      rw [ct 218 _ (by decide) (by decide) (by omega) (by omega), ct 218 (fl + m) (by decide) (by decide) (by omega) (by omega), ct 219 (fl + m) (by decide) (by decide) (by omega) (by omega)]
      refine ⟨fun q => ?_, fun q q' => ?_⟩
      · rcases h2.1 q with z | ⟨z1, z2, z3⟩
        · exact Or.inl z
        · refine Or.inr ⟨z1, ?_, z3⟩
          rcases e2 with y | y | y
          · omega
          · omega
          · rw [y]; exact z2
      · refine h2.2 q ?_
        rcases e1 with y | y | y
        · omega
        · omega
        · rw [y] at q'; exact q'
    · rw [ct 218 _ (by decide) (by decide) (by omega) (by omega), ct 219 _ (by decide) (by decide) (by omega) (by omega), ct 220 _ (by decide) (by decide) (by omega) (by omega)]
      exact Tk.fr c c14 si h3 h1.1 (by omega)
end FR
end ST
