/-! what the component lays for a node -/
/-- a node whose letters lie in the text -/
def nV (σ : gM) (i : Int) : Prop := (σ 70 i = 1 ∨ σ 70 i = 2 ∨ σ 70 i = 7 ∨ ((σ 70 i = 21 ∨ σ 70 i = 22) ∧ σ 73 i = -1)) → (0 ≤ σ 76 i ∧ 1 ≤ σ 77 i ∧ σ 76 i + σ 77 i ≤ σ 69 2) ∧ (σ 70 i = 1 → σ 77 i ≤ 36 ∧ ∀ j, σ 76 i ≤ j → j < σ 76 i + σ 77 i → isD (tl σ j)) ∧ (σ 70 i = 2 → 2 ≤ σ 77 i) ∧ (σ 70 i ≠ 1 → σ 70 i ≠ 2 → σ 77 i ≤ 12)
/-- its constant -/
def cK (S : gM) (i k : Int) : Prop := (S 70 i = 1 → numIs S (dvN (tl S) (S 76 i) (S 77 i).toNat) (S 16 k) (S 17 k)) ∧
  (S 70 i = 2 → S 16 k = 2 ∧ (0 ≤ S 17 k ∧ S 17 k < S 0 7) ∧ cS S (S 17 k) = lt (tl S) (S 76 i + 1) (S 77 i - 2).toNat) ∧
  (S 70 i = 3 → S 16 k = 3 ∧ S 17 k = if S 77 i = 4 then 1 else 0) ∧ (S 70 i = 4 → S 16 k = 4 ∧ S 17 k = 0) ∧
  (S 70 i = 7 → S 16 k = 5 ∧ (0 ≤ S 17 k ∧ S 17 k < S 8 19) ∧ cS S (S 23 (S 17 k)) = lt (tl S) (S 76 i) (S 77 i).toNat) ∧
  (S 70 i = 21 ∨ S 70 i = 22 → S 73 i = -1 → S 16 k = 2 ∧ (0 ≤ S 17 k ∧ S 17 k < S 0 7) ∧ cS S (S 17 k) = lt (tl S) (S 76 i) (S 77 i).toNat)
/-- the rows of a node but its constant -/
def oN (S : gM) (p q u v k : Int) : Prop := S 9 k = p ∧ S 10 k = q ∧ S 11 k = 0 ∧ S 12 k = 0 ∧ S 18 k = 0 ∧ S 13 k = u ∧ S 14 k = v
def cN1 (S : gM) (i k : Int) : Prop := oN S (S 70 i) (S 71 i) (if S 70 i = 5 ∨ S 70 i = 6 then S 76 i else -1) (if S 70 i = 23 then S 76 i else if (S 70 i = 21 ∨ S 70 i = 22) ∧ S 73 i = -1 then 1 else 0) k ∧ cK S i k
/-- what lies where behind a node: its parts' numbers -/
def cEn (S : gM) (N : Int → Int) (hi i : Int) : Prop := (8 ≤ S 70 i → S 70 i ≤ 17 → N (S 72 i) = N i + 1 ∧ S 15 (N i + 1) = N (S 73 i) ∧ N i + 1 < hi ∧ N (S 73 i) < hi) ∧ (S 70 i = 6 → N (S 74 i) = N i + 1 ∧ N i + 1 < hi)
/-- all nodes from one to another -/
def cA (S : gM) (N : Int → Int) (a b lo hi : Int) : Prop := ∀ i, a ≤ i → i < b → S 70 i ≠ 30 → cN1 S i (N i) ∧ (lo ≤ N i ∧ N i < hi) ∧ cEn S N hi i
section NO
variable {σ S T : gM} {N : Int → Int} {i k w v x y a b lo hi p q u : Int}
theorem nV.fr (h : nV σ i) (t : tI σ) (F : cFr w σ S) : nV S i := by
  unfold nV at h ⊢
  have c := F.ce
  rw [c 70 (by decide) (by decide), c 73 (by decide) (by decide), c 76 (by decide) (by decide), c 77 (by decide) (by decide), F.2.2.1 69 (by decide)]
  intro z
  obtain ⟨h1, h2, h3⟩ := h z
  refine ⟨h1, fun e => ⟨(h2 e).1, fun j j0 j1 => ?_⟩, h3⟩
  rw [tI_tl t F (by omega)]
  exact (h2 e).2 j j0 j1
theorem nV.wt0 (h : nV σ i) : 0 ≤ wt σ i := by
  unfold wt
  split
  · rename_i z
    have := (h z).1
    omega
  · omega
theorem numIs.fr (h : numIs S v x y) (F : cFr w S T) : numIs T v x y := by
  rcases h with h | ⟨h1, h2, h3, h4⟩
  · exact Or.inl h
  · obtain ⟨-, -, -, -, -, -, -, -, -, -, -, -, -, a14, -, -, a17, -⟩ := F
    refine Or.inr ⟨h1, h2, by omega, ?_⟩
    obtain ⟨b1, b2, b3, b4, b5⟩ := a14 y (Or.inl h3.2)
    unfold cB at h4 ⊢
    rw [b1, b2, b3, b4, b5]
    exact h4
theorem numIs.mv (h : numIs S v x y) (c0 : T 0 = S 0) (c6 : T 6 = S 6) (c7 : T 7 = S 7) : numIs T v x y := by
  unfold numIs cB at h ⊢
  rw [c0, c6, c7]
  exact h
theorem oN.fr (h : oN S p q u v k) (F : cFr w S T) (k0 : k < S 8 12) : oN T p q u v k := by
  have a5 := F.2.2.2.2.1
  unfold oN at h ⊢
  rw [a5 9 k (by decide) (by decide) k0, a5 10 k (by decide) (by decide) k0, a5 11 k (by decide) (by decide) k0, a5 12 k (by decide) (by decide) k0, a5 18 k (by decide) (by decide) k0, a5 13 k (by decide) (by decide) k0, a5 14 k (by decide) (by decide) k0]
  exact h
theorem oN.mv (h : oN S p q u v k) (f : ∀ a, 9 ≤ a → a ≤ 18 → a ≠ 15 → a ≠ 16 → a ≠ 17 → T a k = S a k) : oN T p q u v k := by
  unfold oN at h ⊢
  rw [f 9 (by decide) (by decide) (by decide) (by decide) (by decide), f 10 (by decide) (by decide) (by decide) (by decide) (by decide), f 11 (by decide) (by decide) (by decide) (by decide) (by decide), f 12 (by decide) (by decide) (by decide) (by decide) (by decide), f 18 (by decide) (by decide) (by decide) (by decide) (by decide), f 13 (by decide) (by decide) (by decide) (by decide) (by decide), f 14 (by decide) (by decide) (by decide) (by decide) (by decide)]
  exact h
theorem oN.new : oN (cNd S x) (S 70 x) (S 71 x) (-1) 0 (S 8 12) := by
  have n := @cNd_n S x
  exact ⟨n.2.1, n.2.2.1, n.2.2.2.1, n.2.2.2.2.1, n.2.2.2.2.2.2.2, n.2.2.2.2.2.1, n.2.2.2.2.2.2.1⟩
theorem cK.fr (h : cK S i k) (F : cFr w S T) (g : fI S) (t : tI S) (nv : nV S i) (k0 : k < S 8 12) : cK T i k := by
  have c := F.ce
  have a5 := F.2.2.2.2.1
  have a15 := F.2.2.2.2.2.2.2.2.2.2.2.2.2.2.1
  have a18 := F.2.2.2.2.2.2.2.2.2.2.2.2.2.2.2.2.2
  have st : ∀ s, 0 ≤ s → s < S 0 7 → cS T s = cS S s := fun s s0 s1 => (F.2.2.2.2.2.2.2.1 s (Or.inl ⟨s0, s1⟩)).1
  have f23 : ∀ f, f < S 8 19 → T 23 f = S 23 f := fun f q => (F.2.2.2.2.2.2.2.2.2.2.2.1 f q).1
  have tlc : ∀ (z : Int) (n : Nat), 0 ≤ z → z + n ≤ S 69 2 → lt (tl T) z n = lt (tl S) z n := fun z n z0 z1 => lt_eq.mpr fun j hj => tI_tl t F (by omega)
  obtain ⟨h1, h2, h3, h4, h5, h6⟩ := h
  unfold cK
  rw [c 70 (by decide) (by decide), c 73 (by decide) (by decide), c 76 (by decide) (by decide), c 77 (by decide) (by decide), a5 16 k (by decide) (by decide) k0, a5 17 k (by decide) (by decide) k0]
  refine ⟨fun e => ?_, fun e => ?_, h3, h4, fun e => ?_, fun e e' => ?_⟩
  · have nn := (nv (Or.inl e)).1
    rw [dvN_congr (g := tl S) _ fun j hj => tI_tl t F (by omega)]
    exact (h1 e).fr F
  · have nn := nv (Or.inr (Or.inl e))
    have n2 := nn.2.2.1 e
    obtain ⟨b1, b2, b3⟩ := h2 e
    exact ⟨b1, by omega, by rw [st _ b2.1 b2.2, b3, tlc _ _ (by omega) (by omega)]⟩
  · have nn := (nv (Or.inr (Or.inr (Or.inl e)))).1
    obtain ⟨b1, b2, b3⟩ := h5 e
    refine ⟨b1, by omega, ?_⟩
    have z := (g.2.1 _ b2.1 b2.2).1
    rw [f23 _ b2.2, tlc _ _ (by omega) (by omega), ← b3]
    exact st _ z.1 z.2
  · have nn := (nv (Or.inr (Or.inr (Or.inr ⟨e, e'⟩)))).1
    obtain ⟨b1, b2, b3⟩ := h6 e e'
    exact ⟨b1, by omega, by rw [st _ b2.1 b2.2, b3, tlc _ _ (by omega) (by omega)]⟩
theorem cN1.fr (h : cN1 S i k) (F : cFr w S T) (g : fI S) (t : tI S) (nv : nV S i) (k0 : k < S 8 12) : cN1 T i k := by
  have c := F.ce
  refine ⟨?_, h.2.fr F g t nv k0⟩
  rw [c 70 (by decide) (by decide), c 71 (by decide) (by decide), c 73 (by decide) (by decide), c 76 (by decide) (by decide)]
  exact h.1.fr F k0
/-- rows that count for the nodes are the same -/
def sameN (S T : gM) (lo hi : Int) : Prop := (∀ a, a < 8 ∨ a = 23 ∨ a = 24 ∨ 38 < a → T a = S a) ∧ (∀ i, i ≠ 12 → i ≠ 16 → i ≠ 36 → i ≠ 37 → T 8 i = S 8 i) ∧ (∀ a i, 9 ≤ a → a ≤ 18 → a ≠ 15 → lo ≤ i → i < hi → T a i = S a i) ∧ (∀ i, lo < i → i < hi → T 15 i = S 15 i)
theorem sameN_tl (h : sameN S T lo hi) (t : tI S) : tl T = tl S := by
  funext j
  unfold tl
  rw [h.2.1 33 (by decide) (by decide) (by decide) (by decide), h.2.1 34 (by decide) (by decide) (by decide) (by decide)]
  rcases t.2.1 with ⟨e, -⟩ | ⟨e, -⟩
  · rw [e, h.1 1 (by decide)]
  · rw [e, h.1 118 (by decide)]
theorem cN1.mv (h : cN1 S i k) (f : sameN S T lo hi) (t : tI S) (k0 : lo ≤ k ∧ k < hi) : cN1 T i k := by
  have n := fun a (q1 : 9 ≤ a) (q2 : a ≤ 18) (q3 : a ≠ 15) => f.2.2.1 a k q1 q2 q3 k0.1 k0.2
  unfold cN1 oN cK numIs cB cS at h ⊢
  rw [sameN_tl f t, f.1 70 (by decide), f.1 71 (by decide), f.1 73 (by decide), f.1 76 (by decide), f.1 77 (by decide), n 9 (by decide) (by decide) (by decide), n 10 (by decide) (by decide) (by decide), n 11 (by decide) (by decide) (by decide), n 12 (by decide) (by decide) (by decide), n 13 (by decide) (by decide) (by decide), n 14 (by decide) (by decide) (by decide), n 16 (by decide) (by decide) (by decide), n 17 (by decide) (by decide) (by decide), n 18 (by decide) (by decide) (by decide), f.1 0 (by decide), f.1 1 (by decide), f.1 2 (by decide), f.1 3 (by decide), f.1 6 (by decide), f.1 7 (by decide), f.1 23 (by decide), f.2.1 19 (by decide) (by decide) (by decide) (by decide)]
  exact h
theorem cEn.le (h : cEn S N hi i) {hi' : Int} (q : hi ≤ hi') : cEn S N hi' i :=
  ⟨fun a b => by obtain ⟨x1, x2, x3, x4⟩ := h.1 a b; exact ⟨x1, x2, by omega, by omega⟩, fun a => by obtain ⟨x1, x2⟩ := h.2 a; exact ⟨x1, by omega⟩⟩
theorem cA.fr (h : cA S N a b lo hi) (F : cFr w S T) (g : fI S) (t : tI S) (nv : ∀ i, a ≤ i → i < b → nV S i) (hh : hi ≤ S 8 12) : cA T N a b lo hi := by
  intro i i0 i1 k30
  have c := F.ce
  rw [c 70 (by decide) (by decide)] at k30
  obtain ⟨h1, h2, h3⟩ := h i i0 i1 k30
  refine ⟨h1.fr F g t (nv i i0 i1) (by omega), h2, ?_⟩
  unfold cEn at h3 ⊢
  rw [c 70 (by decide) (by decide), c 72 (by decide) (by decide), c 73 (by decide) (by decide), c 74 (by decide) (by decide)]
  refine ⟨fun q1 q2 => ?_, h3.2⟩
  obtain ⟨x1, x2, x3, x4⟩ := h3.1 q1 q2
  exact ⟨x1, by rw [F.2.2.2.2.1 15 _ (by decide) (by decide) (by omega)]; exact x2, x3, x4⟩
theorem cA.mv (h : cA S N a b lo hi) (f : sameN S T lo hi) (t : tI S) : cA T N a b lo hi := by
  intro i i0 i1 k30
  rw [f.1 70 (by decide)] at k30
  obtain ⟨h1, h2, h3⟩ := h i i0 i1 k30
  refine ⟨h1.mv f t h2, h2, ?_⟩
  unfold cEn at h3 ⊢
  rw [f.1 70 (by decide), f.1 72 (by decide), f.1 73 (by decide), f.1 74 (by decide)]
  refine ⟨fun q1 q2 => ?_, h3.2⟩
  obtain ⟨x1, x2, x3, x4⟩ := h3.1 q1 q2
  exact ⟨x1, by rw [f.2.2.2 _ (by omega) x3]; exact x2, x3, x4⟩
theorem cA.wd (h : cA S N a b lo hi) {lo' hi' : Int} (q1 : lo' ≤ lo) (q2 : hi ≤ hi') : cA S N a b lo' hi' := fun i i0 i1 k => by
  obtain ⟨h1, h2, h3⟩ := h i i0 i1 k
  exact ⟨h1, by omega, h3.le q2⟩
theorem cA.nil (q : b ≤ a) : cA S N a b lo hi := fun i i0 i1 _ => by omega
theorem cA.cat {c : Int} (h : cA S N a b lo hi) (h2 : cA S N b c lo hi) : cA S N a c lo hi := fun i i0 i1 k => by
  by_cases z : i < b
  · exact h i i0 z k
  · exact h2 i (by omega) i1 k
theorem cA.one {n : Int} (h : S 70 n ≠ 30 → cN1 S n (N n) ∧ (lo ≤ N n ∧ N n < hi) ∧ cEn S N hi n) : cA S N n (n + 1) lo hi := fun i i0 i1 k => by
  have : i = n := by omega
  rw [this] at k ⊢
  exact h k
theorem sameN.rf : sameN S S lo hi := ⟨fun _ _ => rfl, fun _ _ _ _ _ => rfl, fun _ _ _ _ _ _ _ => rfl, fun _ _ _ => rfl⟩
theorem sameN.tr {U : gM} (h : sameN S T lo hi) (h2 : sameN T U lo hi) : sameN S U lo hi := ⟨fun a q => (h2.1 a q).trans (h.1 a q), fun i q1 q2 q3 q4 => (h2.2.1 i q1 q2 q3 q4).trans (h.2.1 i q1 q2 q3 q4), fun a i q1 q2 q3 q4 q5 => (h2.2.2.1 a i q1 q2 q3 q4 q5).trans (h.2.2.1 a i q1 q2 q3 q4 q5), fun i q1 q2 => (h2.2.2.2 i q1 q2).trans (h.2.2.2 i q1 q2)⟩
theorem sameN.put {o t n : Int} : sameN S (cPt S o t n) lo hi :=
  ⟨fun a q => funext fun i => cPt_o (by omega) (by omega), fun i q1 q2 q3 q4 => cPt_o (by omega) (by omega), fun a i q1 q2 _ _ _ => cPt_o (by omega) (by omega), fun i _ _ => cPt_o (by omega) (by omega)⟩
theorem sameN.lead : sameN S (gW S 21 i v) lo hi :=
  ⟨fun a q => gW_cell (by omega), fun j q1 q2 q3 q4 => gW_c (by omega), fun a j q1 q2 _ _ _ => gW_c (by omega), fun j _ _ => gW_c (by omega)⟩
theorem sameN.own (ha : 9 ≤ a ∧ a ≤ 18) (q : k < lo ∨ hi ≤ k ∨ (a = 15 ∧ k ≤ lo)) : sameN S (gW S a k v) lo hi := by
  refine ⟨fun b q => gW_cell (by omega), fun j q1 q2 q3 q4 => gW_c (by omega), fun b j q1 q2 q3 q4 q5 => ?_, fun j q1 q2 => ?_⟩
  · by_cases z : b = a
    · subst z; exact gW_i (by omega)
    · exact gW_c z
  · by_cases z : a = 15
    · subst z; exact gW_i (by omega)
    · exact gW_c (by omega)
theorem sameN.node (q : hi ≤ S 8 12) : sameN S (cNd S x) lo hi :=
  ⟨fun a q => funext fun i => cNd_o (by omega) (by omega), fun i q1 q2 q3 q4 => cNd_o (by omega) (by omega), fun a i q1 q2 q3 q4 q5 => cNd_o (by omega) (by omega), fun i q1 q2 => cNd_o (by omega) (by omega)⟩
theorem sameN.f8 (q : i = 36 ∨ i = 37) : sameN S (gW S 8 i v) lo hi :=
  ⟨fun a _ => gW_cell (by omega), fun j q1 q2 q3 q4 => gW_i (by omega), fun a j q1 q2 _ _ _ => gW_c (by omega), fun j _ _ => gW_c (by omega)⟩
theorem tI.mv (t : tI S) (f : sameN S T lo hi) : tI T := by
  unfold tI at t ⊢
  rw [f.2.1 32 (by decide) (by decide) (by decide) (by decide), f.2.1 33 (by decide) (by decide) (by decide) (by decide), f.2.1 34 (by decide) (by decide) (by decide) (by decide), f.1 69 (by decide), f.1 0 (by decide)]
  exact t
end NO
/-! code of more depth -/
section CU
variable {σ S : gM} {N : Int → Int}
theorem CT_up : ∀ (d m : Nat) (br co n P E : Int), CT σ N br co d m n P E → CT σ N br co (d + 1) m n P E
  | 0, _, _, _, _, _, _, h => h.elim
  | d + 1, 0, br, co, n, P, E, h => by
    obtain ⟨h1, h2⟩ := h
    refine ⟨h1, ?_⟩
    rcases h2 with h | h | ⟨e, t, h⟩ | ⟨e, ⟨M, t, t'⟩, h⟩ | ⟨e, ⟨M, t, i, t'⟩, h⟩ | ⟨e, t, h⟩ | ⟨e, ⟨M, M', t, t', t''⟩, h⟩ | ⟨e, ⟨M, t, t'⟩, h⟩
    · exact Or.inl h
    · exact Or.inr (Or.inl h)
    · exact Or.inr (Or.inr (Or.inl ⟨e, CT_up d _ _ _ _ _ _ t, h⟩))
    · exact Or.inr (Or.inr (Or.inr (Or.inl ⟨e, ⟨M, CT_up d _ _ _ _ _ _ t, CT_up d _ _ _ _ _ _ t'⟩, h⟩)))
    · exact Or.inr (Or.inr (Or.inr (Or.inr (Or.inl ⟨e, ⟨M, CT_up d _ _ _ _ _ _ t, i, CT_up d _ _ _ _ _ _ t'⟩, h⟩))))
    · exact Or.inr (Or.inr (Or.inr (Or.inr (Or.inr (Or.inl ⟨e, CT_up d _ _ _ _ _ _ t, h⟩)))))
    · refine Or.inr (Or.inr (Or.inr (Or.inr (Or.inr (Or.inr (Or.inl ⟨e, ⟨M, M', CT_up d _ _ _ _ _ _ t, ?_, ?_⟩, h⟩))))))
      · rcases t' with x | ⟨y, x⟩
        · exact Or.inl x
        · exact Or.inr ⟨y, CT_up d _ _ _ _ _ _ x⟩
      · rcases t'' with x | ⟨y, x⟩
        · exact Or.inl x
        · exact Or.inr ⟨y, CT_up d _ _ _ _ _ _ x⟩
    · exact Or.inr (Or.inr (Or.inr (Or.inr (Or.inr (Or.inr (Or.inr ⟨e, ⟨M, CT_up d _ _ _ _ _ _ t, CT_up d _ _ _ _ _ _ t'⟩, h⟩))))))
  | d + 1, 1, br, co, n, P, E, h => by
    rcases h with h | ⟨h0, M, h1, h2⟩
    · exact Or.inl h
    · exact Or.inr ⟨h0, M, CT_up d _ _ _ _ _ _ h1, CT_up d _ _ _ _ _ _ h2⟩
  | d + 1, 2, br, co, n, P, E, h => by
    rcases h with h | ⟨h0, M, h1, h2⟩
    · exact Or.inl h
    · exact Or.inr ⟨h0, M, CT_up d _ _ _ _ _ _ h1, CT_up d _ _ _ _ _ _ h2⟩
  | d + 1, m + 3, br, co, n, P, E, h => by
    obtain ⟨h1, h0, h2⟩ := h
    refine ⟨h1, h0, ?_⟩
    rcases h2 with ⟨e, M, M', t, i, t', i', t''⟩ | ⟨e, M, t, i, t', i'⟩ | ⟨e, t, i⟩ | h | h | ⟨e, t, i⟩
    · exact Or.inl ⟨e, M, M', CT_up d _ _ _ _ _ _ t, i, CT_up d _ _ _ _ _ _ t', i', CT_up d _ _ _ _ _ _ t''⟩
    · exact Or.inr (Or.inl ⟨e, M, CT_up d _ _ _ _ _ _ t, i, CT_up d _ _ _ _ _ _ t', i'⟩)
    · refine Or.inr (Or.inr (Or.inl ⟨e, ?_, i⟩))
      rcases t with x | ⟨y, x⟩
      · exact Or.inl x
      · exact Or.inr ⟨y, CT_up d _ _ _ _ _ _ x⟩
    · exact Or.inr (Or.inr (Or.inr (Or.inl h)))
    · exact Or.inr (Or.inr (Or.inr (Or.inr (Or.inl h))))
    · exact Or.inr (Or.inr (Or.inr (Or.inr (Or.inr ⟨e, CT_up d _ _ _ _ _ _ t, i⟩))))
theorem CT_le {m : Nat} {br co n P E : Int} : ∀ (k d : Nat), CT σ N br co d m n P E → CT σ N br co (d + k) m n P E
  | 0, _, h => h
  | k + 1, d, h => CT_up _ _ _ _ _ _ _ (CT_le k d h)
/-- code of what is worked out (m is 0), of things given (m is 1) -/
def C0 (σ : gM) (N : Int → Int) (m : Nat) (n P E : Int) : Prop := ∃ d, ∀ br co, CT σ N br co d m n P E
theorem C0.two {m m' : Nat} {n P E n' P' E' : Int} (h : C0 σ N m n P E) (h' : C0 σ N m' n' P' E') : ∃ d, (∀ br co, CT σ N br co d m n P E) ∧ ∀ br co, CT σ N br co d m' n' P' E' := by
  obtain ⟨d, h⟩ := h
  obtain ⟨d', h'⟩ := h'
  refine ⟨d + d', fun br co => CT_le d' d (h br co), fun br co => ?_⟩
  rw [Nat.add_comm]
  exact CT_le d d' (h' br co)
theorem C0.three {m m' m'' : Nat} {n P E n' P' E' n'' P'' E'' : Int} (h : C0 σ N m n P E) (h' : C0 σ N m' n' P' E') (h'' : C0 σ N m'' n'' P'' E'') : ∃ d, (∀ br co, CT σ N br co d m n P E) ∧ (∀ br co, CT σ N br co d m' n' P' E') ∧ ∀ br co, CT σ N br co d m'' n'' P'' E'' := by
  obtain ⟨d, h, h'⟩ := h.two h'
  obtain ⟨d', h''⟩ := h''
  refine ⟨d + d', fun br co => CT_le d' d (h br co), fun br co => CT_le d' d (h' br co), fun br co => ?_⟩
  rw [Nat.add_comm]
  exact CT_le d d' (h'' br co)
theorem C0.fr {m : Nat} {n P E : Int} (h : C0 σ N m n P E) (hm : m ≤ 1) (c : ∀ e, 70 ≤ e → e ≤ 78 → S e = σ e) (f : ∀ x, P ≤ x → x < E → S 20 x = σ 20 x ∧ S 21 x = σ 21 x ∧ S 22 x = σ 22 x) : C0 S N m n P E := by
  obtain ⟨d, h⟩ := h
  exact ⟨d, fun br co => CT_fr0 c d m br co n P E hm f (h br co)⟩
theorem C0.cf {m : Nat} {n P E w : Int} (h : C0 σ N m n P E) (hm : m ≤ 1) (F : cFr w σ S) (hE : E ≤ σ 8 16) : C0 S N m n P E :=
  h.fr hm F.ce fun x _ q => ⟨F.2.2.2.2.2.1 20 x (by decide) (by decide) (by omega), F.2.2.2.2.2.1 21 x (by decide) (by decide) (by omega), F.2.2.2.2.2.1 22 x (by decide) (by decide) (by omega)⟩
theorem C0.pt {m : Nat} {n P E o t x : Int} (h : C0 σ N m n P E) (hm : m ≤ 1) (hE : E ≤ σ 8 16) : C0 (cPt σ o t x) N m n P E :=
  h.fr hm (fun e _ _ => funext fun i => cPt_o (by omega) (by omega)) fun y _ q => ⟨cPt_o (by omega) (by omega), cPt_o (by omega) (by omega), cPt_o (by omega) (by omega)⟩
theorem C0.gw {m : Nat} {n P E a i v : Int} (h : C0 σ N m n P E) (hm : m ≤ 1) (ha : a < 20 ∨ (22 < a ∧ a < 70) ∨ (20 ≤ a ∧ a ≤ 22 ∧ (i < P ∨ E ≤ i))) : C0 (gW σ a i v) N m n P E := by
  refine h.fr hm (fun e _ _ => gW_cell (by omega)) fun y q1 q2 => ?_
  have : ∀ e, 20 ≤ e → e ≤ 22 → gW σ a i v e y = σ e y := fun e p1 p2 => by
    unfold gW
    rw [if_neg (by omega)]
  exact ⟨this 20 (by decide) (by decide), this 21 (by decide) (by decide), this 22 (by decide) (by decide)⟩
end CU
