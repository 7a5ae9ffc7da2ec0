/-! the component plants: what stays, what comes, how much room it takes -/
/-- how much room a node may take -/
def wt (σ : gM) (i : Int) : Int := if σ 70 i = 1 ∨ σ 70 i = 2 ∨ σ 70 i = 7 ∨ ((σ 70 i = 21 ∨ σ 70 i = 22) ∧ σ 73 i = -1) then σ 77 i + 1 else 0
def wqN (σ : gM) : Nat → Int
  | 0 => 0
  | i + 1 => wqN σ i + wt σ i
/-- the room of all nodes ahead of a place -/
def wq (σ : gM) (i : Int) : Int := wqN σ i.toNat
section WQ
variable {σ S : gM} {i j : Int}
theorem wq_s (h : 0 ≤ i) : wq σ (i + 1) = wq σ i + wt σ i := by
  unfold wq
  rw [show (i + 1).toNat = i.toNat + 1 by omega]
  show wqN σ i.toNat + wt σ (i.toNat : Int) = _
  rw [show ((i.toNat : Nat) : Int) = i by omega]
theorem wqN_r : ∀ n m : Nat, (∀ x : Int, n ≤ x → x < (n + m : Nat) → 0 ≤ wt σ x) → wqN σ n ≤ wqN σ (n + m)
  | n, 0, _ => Int.le_refl _
  | n, m + 1, h => by
    have h1 := wqN_r n m fun x a b => h x a (by omega)
    have h2 := h ((n + m : Nat) : Int) (by omega) (by omega)
    show wqN σ n ≤ wqN σ (n + m) + wt σ ((n + m : Nat) : Int)
    omega
theorem wq_r (h : 0 ≤ i) (h2 : i ≤ j) (h3 : ∀ x, i ≤ x → x < j → 0 ≤ wt σ x) : wq σ i ≤ wq σ j := by
  have := wqN_r (σ := σ) i.toNat (j.toNat - i.toNat) fun x a b => h3 x (by omega) (by omega)
  rw [show i.toNat + (j.toNat - i.toNat) = j.toNat by omega] at this
  exact this
theorem wt_mv (c : ∀ e, 70 ≤ e → e ≤ 78 → S e = σ e) : wt S i = wt σ i := by
  unfold wt
  rw [c 70 (by decide) (by decide), c 73 (by decide) (by decide), c 77 (by decide) (by decide)]
theorem wqN_mv (c : ∀ e, 70 ≤ e → e ≤ 78 → S e = σ e) : ∀ n, wqN S n = wqN σ n
  | 0 => rfl
  | n + 1 => by
    show wqN S n + wt S n = wqN σ n + wt σ n
    rw [wqN_mv c n, wt_mv c]
theorem wq_mv (c : ∀ e, 70 ≤ e → e ≤ 78 → S e = σ e) : wq S i = wq σ i := wqN_mv c _
theorem nd_mv (c : ∀ e, 70 ≤ e → e ≤ 78 → S e = σ e) : nd S i = nd σ i := nd_congr fun j _ _ => by rw [c 70 (by decide) (by decide)]
end WQ
/-- functions by their names -/
def fI (σ : gM) : Prop := (0 ≤ σ 8 19 ∧ σ 8 19 ≤ 9000) ∧ (∀ f, 0 ≤ f → f < σ 8 19 → (0 ≤ σ 23 f ∧ σ 23 f < σ 0 7) ∧ σ 3 (σ 23 f) ≤ 12 ∧ (-1 ≤ σ 24 f ∧ σ 24 f < σ 8 31)) ∧ (∀ f f', 0 ≤ f → f < σ 8 19 → 0 ≤ f' → f' < σ 8 19 → σ 23 f = σ 23 f' → f = f') ∧ 0 ≤ σ 8 31
/-- what stays while trees are planted; w bounds the room that is taken -/
def cFr (w : Int) (σ S : gM) : Prop := hI S ∧ fI S ∧ (∀ a, a = 19 ∨ (24 < a ∧ a ≠ 36 ∧ a ≠ 37 ∧ a ≠ 38) → S a = σ a) ∧ (∀ i, i ≠ 12 → i ≠ 16 → i ≠ 19 → i ≠ 36 → i ≠ 37 → S 8 i = σ 8 i) ∧
  (∀ a i, 9 ≤ a → a ≤ 18 → i < σ 8 12 → S a i = σ a i) ∧ (∀ a p, 20 ≤ a → a ≤ 22 → p < σ 8 16 ∨ S 8 16 ≤ p → S a p = σ a p) ∧ (σ 8 12 ≤ S 8 12 ∧ σ 8 16 ≤ S 8 16) ∧
  (∀ s, vS σ s → cS S s = cS σ s ∧ S 4 s = σ 4 s ∧ S 5 s = σ 5 s ∧ S 2 s = σ 2 s ∧ S 3 s = σ 3 s) ∧ (∀ i, i ≠ 7 → i ≠ 8 → i ≠ 9 → S 0 i = σ 0 i) ∧ (∀ i, 24000 ≤ i ∨ i < σ 0 8 → S 1 i = σ 1 i) ∧ (∀ s, 0 ≤ s → σ 0 7 ≤ s → s < S 0 7 → S 4 s = -1 ∧ S 5 s = 0) ∧
  (∀ f, f < σ 8 19 → S 23 f = σ 23 f ∧ S 24 f = σ 24 f) ∧ (∀ f, σ 8 19 ≤ f → f < S 8 19 → S 24 f = -1) ∧ (∀ k, k < σ 0 9 ∨ 8000 ≤ k → S 6 k = σ 6 k ∧ S 7 (4 * k) = σ 7 (4 * k) ∧ S 7 (4 * k + 1) = σ 7 (4 * k + 1) ∧ S 7 (4 * k + 2) = σ 7 (4 * k + 2) ∧ S 7 (4 * k + 3) = σ 7 (4 * k + 3)) ∧
  (σ 0 7 ≤ S 0 7 ∧ 2 * S 0 7 ≤ 2 * σ 0 7 + w) ∧ (σ 0 8 ≤ S 0 8 ∧ S 0 8 ≤ σ 0 8 + w) ∧ (σ 0 9 ≤ S 0 9 ∧ 20 * S 0 9 ≤ 20 * σ 0 9 + w) ∧ (σ 8 19 ≤ S 8 19 ∧ 2 * S 8 19 ≤ 2 * σ 8 19 + w)
section CR
variable {σ S T : gM} {w w' x o t n k : Int}
theorem hI_mv (h : hI S) (c0 : T 0 = S 0) (c1 : T 1 = S 1) (c2 : T 2 = S 2) (c3 : T 3 = S 3) : hI T := by
  unfold hI cS at h ⊢
  rw [c0, c1, c2, c3]
  exact h
theorem cS_mv (c1 : T 1 = S 1) (c2 : T 2 = S 2) (c3 : T 3 = S 3) : cS T k = cS S k := by
  unfold cS
  rw [c1, c2, c3]
theorem fI_mv (h : fI S) (c0 : T 0 = S 0) (c3 : T 3 = S 3) (c23 : T 23 = S 23) (c24 : T 24 = S 24) (e19 : T 8 19 = S 8 19) (e31 : T 8 31 = S 8 31) : fI T := by
  unfold fI at h ⊢
  rw [c0, c3, c23, c24, e19, e31]
  exact h
theorem cFr.rf (h : hI σ) (h2 : fI σ) (hw : 0 ≤ w) : cFr w σ σ :=
  ⟨h, h2, fun _ _ => rfl, fun _ _ _ _ _ _ => rfl, fun _ _ _ _ _ => rfl, fun _ _ _ _ _ => rfl, ⟨Int.le_refl _, Int.le_refl _⟩, fun _ _ => ⟨rfl, rfl, rfl, rfl, rfl⟩, fun _ _ _ _ => rfl, fun _ _ => rfl, fun _ _ _ _ => by omega, fun _ _ => ⟨rfl, rfl⟩, fun _ _ _ => by omega, fun _ _ => ⟨rfl, rfl, rfl, rfl, rfl⟩, ⟨Int.le_refl _, by omega⟩, ⟨Int.le_refl _, by omega⟩, ⟨Int.le_refl _, by omega⟩, ⟨Int.le_refl _, by omega⟩⟩
theorem cFr.tr (h : cFr w σ S) (h2 : cFr w' S T) : cFr (w + w') σ T := by
  obtain ⟨a1, a2, a3, a4, a5, a6, a7, a8, a9, a10, a11, a12, a13, a14, a15, a16, a17, a18⟩ := h
  obtain ⟨b1, b2, b3, b4, b5, b6, b7, b8, b9, b10, b11, b12, b13, b14, b15, b16, b17, b18⟩ := h2
  have hv : ∀ s, vS σ s → vS S s := fun s q => by
    unfold vS at q ⊢
    rw [a9 10 (by decide) (by decide) (by decide)]
    omega
  refine ⟨b1, b2, fun a q => (b3 a q).trans (a3 a q), fun i q1 q2 q3 q4 q5 => (b4 i q1 q2 q3 q4 q5).trans (a4 i q1 q2 q3 q4 q5), fun a i q1 q2 q3 => (b5 a i q1 q2 (by omega)).trans (a5 a i q1 q2 q3), fun a p q1 q2 q3 => (b6 a p q1 q2 (by omega)).trans (a6 a p q1 q2 (by omega)), ⟨by omega, by omega⟩, fun s q => ?_, fun i q1 q2 q3 => (b9 i q1 q2 q3).trans (a9 i q1 q2 q3), fun i q => (b10 i (by omega)).trans (a10 i q), fun s z0 q1 q2 => ?_, fun f q => ?_, fun f q1 q2 => ?_, fun k q => ?_, ⟨by omega, by omega⟩, ⟨by omega, by omega⟩, ⟨by omega, by omega⟩, ⟨by omega, by omega⟩⟩
  · obtain ⟨c1, c2, c3, c4, c5⟩ := a8 s q
    obtain ⟨d1, d2, d3, d4, d5⟩ := b8 s (hv s q)
    exact ⟨d1.trans c1, d2.trans c2, d3.trans c3, d4.trans c4, d5.trans c5⟩
  · by_cases z : s < S 0 7
    · have := a11 s z0 q1 z
      obtain ⟨-, d2, d3, -⟩ := b8 s (Or.inl ⟨z0, z⟩)
      exact ⟨d2.trans this.1, d3.trans this.2⟩
    · exact b11 s z0 (by omega) q2
  · obtain ⟨c1, c2⟩ := a12 f q
    obtain ⟨d1, d2⟩ := b12 f (by omega)
    exact ⟨d1.trans c1, d2.trans c2⟩
  · by_cases z : f < S 8 19
    · exact (b12 f z).2.trans (a13 f q1 z)
    · exact b13 f (by omega) q2
  · obtain ⟨c1, c2, c3, c4, c5⟩ := a14 k q
    obtain ⟨d1, d2, d3, d4, d5⟩ := b14 k (by omega)
    exact ⟨d1.trans c1, d2.trans c2, d3.trans c3, d4.trans c4, d5.trans c5⟩
theorem cFr.le (h : cFr w σ S) (hw : w ≤ w') : cFr w' σ S := by
  obtain ⟨a1, a2, a3, a4, a5, a6, a7, a8, a9, a10, a11, a12, a13, a14, a15, a16, a17, a18⟩ := h
  exact ⟨a1, a2, a3, a4, a5, a6, a7, a8, a9, a10, a11, a12, a13, a14, ⟨a15.1, by omega⟩, ⟨a16.1, by omega⟩, ⟨a17.1, by omega⟩, ⟨a18.1, by omega⟩⟩
/-- writing to what is new changes nothing that stays -/
theorem cFr.mv (h : cFr w σ S) (h1 : ∀ a, a < 8 ∨ a = 19 ∨ a = 23 ∨ a = 24 ∨ (24 < a ∧ a ≠ 36 ∧ a ≠ 37 ∧ a ≠ 38) → T a = S a) (h2 : ∀ i, i ≠ 12 → i ≠ 16 → i ≠ 36 → i ≠ 37 → T 8 i = S 8 i)
    (h3 : ∀ a i, 9 ≤ a → a ≤ 18 → i < σ 8 12 → T a i = S a i) (h4 : ∀ a p, 20 ≤ a → a ≤ 22 → p < σ 8 16 ∨ T 8 16 ≤ p → T a p = S a p) (h5 : S 8 12 ≤ T 8 12 ∧ S 8 16 ≤ T 8 16) : cFr w σ T := by
  obtain ⟨a1, a2, a3, a4, a5, a6, a7, a8, a9, a10, a11, a12, a13, a14, a15, a16, a17, a18⟩ := h
  have e0 := h1 0 (by decide)
  have e1 := h1 1 (by decide)
  have e2 := h1 2 (by decide)
  have e3 := h1 3 (by decide)
  have e19 := h2 19 (by decide) (by decide) (by decide) (by decide)
  refine ⟨hI_mv a1 e0 e1 e2 e3, fI_mv a2 e0 e3 (h1 23 (by decide)) (h1 24 (by decide)) e19 (h2 31 (by decide) (by decide) (by decide) (by decide)), fun a q => (h1 a (by omega)).trans (a3 a q), fun i q1 q2 q3 q4 q5 => (h2 i q1 q2 q4 q5).trans (a4 i q1 q2 q3 q4 q5), fun a i q1 q2 q3 => (h3 a i q1 q2 q3).trans (a5 a i q1 q2 q3), fun a p q1 q2 q3 => (h4 a p q1 q2 q3).trans (a6 a p q1 q2 (by omega)), ⟨by omega, by omega⟩, fun s q => ?_, fun i q1 q2 q3 => by rw [e0]; exact a9 i q1 q2 q3, fun i q => by rw [e1]; exact a10 i q, fun s z0 q1 q2 => by rw [h1 4 (by decide), h1 5 (by decide)]; exact a11 s z0 q1 (by rw [e0] at q2; exact q2), fun f q => by rw [h1 23 (by decide), h1 24 (by decide)]; exact a12 f q, fun f q1 q2 => by rw [h1 24 (by decide)]; exact a13 f q1 (by rw [e19] at q2; exact q2), fun k q => by rw [h1 6 (by decide), h1 7 (by decide)]; exact a14 k q, by rw [e0]; exact a15, by rw [e0]; exact a16, by rw [e0]; exact a17, by rw [e19]; exact a18⟩
  rw [cS_mv e1 e2 e3, h1 4 (by decide), h1 5 (by decide), e2, e3]
  exact a8 s q
theorem cFr.node (h : cFr w σ S) : cFr w σ (cNd S x) := by
  have h7 := h.2.2.2.2.2.2.1
  have o : ∀ a i, (a ≠ 8 ∨ i ≠ 12) → ((a < 9 ∨ (14 < a ∧ a ≠ 18)) ∨ i ≠ S 8 12) → cNd S x a i = S a i := fun a i q1 q2 => cNd_o q1 q2
  refine h.mv (fun a q => funext fun i => o a i (by omega) (by omega)) (fun i q1 q2 q3 q4 => o 8 i (by omega) (by omega)) (fun a i q1 q2 q3 => o a i (by omega) (by omega)) (fun a p q1 q2 q3 => o a p (by omega) (by omega)) ⟨by rw [cNd_n.1]; omega, by rw [o 8 16 (by decide) (Or.inl (by decide))]; exact Int.le_refl _⟩
theorem cFr.put (h : cFr w σ S) : cFr w σ (cPt S o t n) := by
  have h7 := h.2.2.2.2.2.2.1
  have e16 : cPt S o t n 8 16 = S 8 16 + 1 := cPt_n.1
  have q' : ∀ a i, (a ≠ 8 ∨ i ≠ 16) → ((a < 20 ∨ 22 < a) ∨ i ≠ S 8 16) → cPt S o t n a i = S a i := fun a i q1 q2 => cPt_o q1 q2
  refine h.mv (fun a q => funext fun i => q' a i (by omega) (by omega)) (fun i q1 q2 q3 q4 => q' 8 i (by omega) (by omega)) (fun a i q1 q2 q3 => q' a i (by omega) (by omega)) (fun a p q1 q2 q3 => q' a p (by omega) (by omega)) ⟨by rw [q' 8 12 (by decide) (Or.inl (by decide))]; exact Int.le_refl _, by rw [cPt_n.1]; omega⟩
/-- a node's own row is written to -/
theorem cFr.own (h : cFr w σ S) {a i v : Int} (ha : 9 ≤ a ∧ a ≤ 18) (hi : σ 8 12 ≤ i) : cFr w σ (gW S a i v) := by
  refine h.mv (fun b q => gW_cell (by omega)) (fun j q1 q2 q3 q4 => gW_c (by omega)) (fun b j q1 q2 q3 => ?_) (fun b p q1 q2 q3 => gW_c (by omega)) ⟨by rw [gW_c (by omega)]; exact Int.le_refl _, by rw [gW_c (by omega)]; exact Int.le_refl _⟩
  by_cases z : b = a
  · subst z; exact gW_i (by omega)
  · exact gW_c z
/-- where an instruction leads is written -/
theorem cFr.lead (h : cFr w σ S) {i v : Int} (hi : σ 8 16 ≤ i ∧ i < S 8 16) : cFr w σ (gW S 21 i v) := by
  have e16 : gW S 21 i v 8 16 = S 8 16 := gW_c (by decide)
  refine h.mv (fun b q => gW_cell (by omega)) (fun j q1 q2 q3 q4 => gW_c (by omega)) (fun b j q1 q2 q3 => gW_c (by omega)) (fun b p q1 q2 q3 => ?_) ⟨by rw [gW_c (by omega)]; exact Int.le_refl _, by rw [gW_c (by omega)]; exact Int.le_refl _⟩
  by_cases z : b = 21
  · subst z; exact gW_i (by omega)
  · exact gW_c z
theorem cFr.f8 (h : cFr w σ S) {i v : Int} (hi : i = 36 ∨ i = 37) : cFr w σ (gW S 8 i v) :=
  h.mv (fun b q => gW_cell (by omega)) (fun j q1 q2 q3 q4 => gW_i (by omega)) (fun b j q1 q2 q3 => gW_c (by omega)) (fun b p q1 q2 q3 => gW_c (by omega)) ⟨by rw [gW_i (by omega)]; exact Int.le_refl _, by rw [gW_i (by omega)]; exact Int.le_refl _⟩
theorem cFr.ce (h : cFr w σ S) : ∀ e, 70 ≤ e → e ≤ 78 → S e = σ e := fun e q1 q2 => h.2.2.1 e (by omega)
theorem cFr.vs (h : cFr w σ S) {s : Int} (q : vS σ s) : vS S s := by
  obtain ⟨-, -, -, -, -, -, -, -, a9, -, -, -, -, -, a15, -⟩ := h
  unfold vS at q ⊢
  rw [a9 10 (by decide) (by decide) (by decide)]
  omega
end CR
/-- where the text lies that is planted -/
def tI (σ : gM) : Prop := σ 8 32 = 68 ∧ ((σ 8 33 = 1 ∧ σ 8 34 + σ 69 2 ≤ 124600 ∧ (24000 ≤ σ 8 34 ∨ σ 8 34 + σ 69 2 ≤ σ 0 8)) ∨ (σ 8 33 = 118 ∧ σ 8 34 + σ 69 2 ≤ 4000)) ∧ 0 ≤ σ 8 34 ∧ 0 ≤ σ 69 2
/-- a letter of it -/
def tl (σ : gM) (j : Int) : Int := σ (σ 8 33) (σ 8 34 + j)
/-- room is left -/
def cRm (σ : gM) (w : Int) : Prop := 2 * σ 0 7 + w ≤ 16000 ∧ σ 0 8 + w ≤ 24000 ∧ 20 * σ 0 9 + w ≤ 40000 ∧ 2 * σ 8 19 + w ≤ 18000 ∧ 0 ≤ σ 0 9
section CT0
variable {σ S T : gM} {w w' j k : Int}
theorem tI.fr (h : tI σ) (f : cFr w σ S) : tI S := by
  obtain ⟨h1, h2, h3, h4⟩ := h
  obtain ⟨a1, a2, a3, a4, a5, a6, a7, a8, a9, a10, a11, a12, a13, a14, a15, a16, a17, a18⟩ := f
  unfold tI
  rw [a4 32 (by decide) (by decide) (by decide) (by decide) (by decide), a4 33 (by decide) (by decide) (by decide) (by decide) (by decide), a4 34 (by decide) (by decide) (by decide) (by decide) (by decide), a3 69 (by decide)]
  exact ⟨h1, by omega, h3, h4⟩
theorem tI.row (h : tI σ) : σ 8 33 = 1 ∨ σ 8 33 = 41 ∨ σ 8 33 = 118 := by
  have := h.2.1
  omega
theorem tI_gN (h : tI σ) : σ 8 34 + σ 69 2 ≤ gN (σ 8 33) := by
  rcases h.2.1 with ⟨e, a, -⟩ | ⟨e, a⟩
  · rw [e]; exact a
  · rw [e]; exact a
theorem tI_tl (h : tI σ) (f : cFr w σ S) (hj : 0 ≤ j ∧ j < σ 69 2) : tl S j = tl σ j := by
  obtain ⟨h1, h2, h3, h4⟩ := h
  obtain ⟨a1, a2, a3, a4, a5, a6, a7, a8, a9, a10, a11, a12, a13, a14, a15, a16, a17, a18⟩ := f
  unfold tl
  rw [a4 33 (by decide) (by decide) (by decide) (by decide) (by decide), a4 34 (by decide) (by decide) (by decide) (by decide) (by decide)]
  rcases h2 with ⟨e, q, z⟩ | ⟨e, q⟩
  · rw [e]; exact a10 _ (by omega)
  · rw [e, a3 118 (by decide)]
theorem cRm.fr (h : cRm σ (w + w')) (f : cFr w σ S) : cRm S w' := by
  obtain ⟨a1, a2, a3, a4, a5, a6, a7, a8, a9, a10, a11, a12, a13, a14, a15, a16, a17, a18⟩ := f
  obtain ⟨b1, b2, b3, b4, b5⟩ := h
  exact ⟨by omega, by omega, by omega, by omega, by omega⟩
end CT0
