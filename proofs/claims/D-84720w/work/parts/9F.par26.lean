/-! names in a function: locals or not -/
section RS
variable {σ τ S T : gM} {f a b x : Int}
theorem RN.r01 {i : Int} (h : RN σ τ 0 f b i) (h5 : σ 70 i ≠ 5) : RN σ τ 1 f b i := by
  obtain ⟨r1, r2, r3, r4, r5, r6, r7, r8, r9⟩ := h
  exact ⟨r1, r2, r3, r4, r5, r6, r7, fun w => r8 (by omega), fun w => r9 (by omega)⟩
theorem isLoc.mv {l p e : Int} (h : isLoc σ τ f l p e) (c84 : S 84 = σ 84) (c85 : S 85 = σ 85) (c86 : S 86 = σ 86) (c2 : S 69 2 = σ 69 2) (d : T 134 = τ 134) : isLoc S T f l p e := by
  unfold isLoc at *
  rw [c84, c85, c86, c2, tE.mv d]
  exact h
theorem RN_r7 (h : RN σ τ 0 f b x) (h5 : σ 70 x = 5) : RN (gW σ 70 x 7) (gW τ 135 (nd σ x) 7) 1 f b x := by
  have n : ∀ i, nd (gW σ 70 x 7) i = nd σ i := fun i => nd_w (Or.inr ⟨by decide, by omega⟩)
  have nn : ∀ i, nh (gW σ 70 x 7) i = nh σ i := fun i => by unfold nh; rw [n]
  obtain ⟨r1, r2, r3, r4, r5, r6, r7, r8, r9⟩ := h
  have r8' := r8 (by omega)
  rw [h5] at r4 r5 r6
  rw [if_neg (by decide)] at r4 r6
  rw [if_neg (by decide)] at r6
  have r5' := r5 (by decide)
  rw [if_neg (by decide)] at r5'
  have c : ∀ e i, e ≠ 70 → gW σ 70 x 7 e i = σ e i := fun e i q => gW_c q
  have t : ∀ e i, e ≠ 135 → gW τ 135 (nd σ x) 7 e i = τ e i := fun e i q => gW_c q
  have c134 : gW τ 135 (nd σ x) 7 134 = τ 134 := gW_cell (by decide)
  unfold RN
  rw [n, gW_at, gW_at, c 71 _ (by decide), c 72 _ (by decide), c 73 _ (by decide), c 74 _ (by decide), c 76 _ (by decide), c 77 _ (by decide), c 69 _ (by decide), t 136 _ (by decide), t 138 _ (by decide), t 139 _ (by decide), t 140 _ (by decide), t 142 _ (by decide), t 143 _ (by decide), nn, nn, nn, c134]
  refine ⟨⟨rfl, by decide, by decide⟩, r2, ⟨r3.1, r3.2.1, r3.2.2.1, r3.2.2.2.1, r3.2.2.2.2.1, r3.2.2.2.2.2.1, fun w => by omega⟩, by rw [if_neg (by decide)]; exact r4, fun _ => by rw [if_neg (by decide)]; exact r5', by rw [if_neg (by decide), if_neg (by decide)]; exact r6, fun w => by omega, fun _ => ⟨r8'.1, r8'.2.1, r8'.2.2.1, fun w => by omega, fun w => by omega, fun _ _ => r8'.2.2.2.2.2.1 (by omega) (by omega), fun w => by omega⟩, fun w => by omega⟩
theorem RN_r5 {l : Int} (h : RN σ τ 0 f b x) (h5 : σ 70 x = 5) (lc : isLoc σ τ f l (τ 142 (nd σ x)) (τ 143 (nd σ x))) : RN (gW σ 76 x l) τ 1 f b x := by
  have n : ∀ i, nd (gW σ 76 x l) i = nd σ i := fun i => nd_w (by omega)
  have nn : ∀ i, nh (gW σ 76 x l) i = nh σ i := fun i => by unfold nh; rw [n]
  obtain ⟨r1, r2, r3, r4, r5, r6, r7, r8, r9⟩ := h
  rw [h5] at r4 r5 r6
  rw [if_neg (by decide)] at r4 r6
  rw [if_neg (by decide)] at r6
  have r5' := r5 (by decide)
  rw [if_neg (by decide)] at r5'
  have c : ∀ e i, e ≠ 76 → gW σ 76 x l e i = σ e i := fun e i q => gW_c q
  unfold RN
  rw [n, gW_at, c 70 _ (by decide), h5, c 71 _ (by decide), c 72 _ (by decide), c 73 _ (by decide), c 74 _ (by decide), c 77 _ (by decide), c 69 _ (by decide), nn, nn, nn]
  refine ⟨⟨by omega, by decide, by decide⟩, r2, ⟨r3.1, r3.2.1, r3.2.2.1, r3.2.2.2.1, r3.2.2.2.2.1, r3.2.2.2.2.2.1, fun w => by omega⟩, by rw [if_neg (by decide)]; exact r4, fun _ => by rw [if_neg (by decide)]; exact r5', by rw [if_neg (by decide), if_neg (by decide)]; exact r6, fun w => by omega, fun w => by omega, fun _ => lc.mv (gW_cell (by decide)) (gW_cell (by decide)) (gW_cell (by decide)) (gW_c (by decide)) rfl⟩
/-- nodes half resolved: those ahead of x are -/
def NX (σ τ : gM) (f a x b : Int) : Prop := ∀ i, a ≤ i → i < b → (σ 70 i ≠ 30 → RN σ τ (if i < x then 1 else 0) f b i) ∧ (σ 70 i = 30 → 0 ≤ σ 72 i ∧ σ 72 i < b)
/-- where it stands -/
def RI (σ τ : gM) (f b : Int) : Prop := tX σ τ ∧ pL σ τ f ∧ τ 119 54 = f ∧ τ 119 43 = nd σ b ∧ σ 68 10 = b ∧ b ≤ 4001
/-- what it changes -/
def RF (σ S τ T : gM) (a x b : Int) : Prop := (∀ e i, ¬ ((e = 70 ∨ e = 76) ∧ x ≤ i ∧ i < b ∧ σ 70 i = 5) → S e i = σ e i) ∧ (∀ i, S 70 i = σ 70 i ∨ (σ 70 i = 5 ∧ S 70 i = 7)) ∧ (∀ e j, ¬ (e = 135 ∧ nd σ x ≤ j ∧ j < nd σ b) → T e j = τ e j)
theorem RF.nd {i : Int} (h : RF σ S τ T a x b) : nd S i = nd σ i := nd_congr fun j _ _ => by have := h.2.1 j; omega
theorem NX.all (h : NX σ τ f a b b) : NB σ τ 1 f a b := fun i i0 i1 => by
  have := h i i0 i1
  rw [if_pos i1] at this
  exact this
theorem NX.of (h : NB σ τ 0 f a b) : NX σ τ f a a b := fun i i0 i1 => by
  have := h i i0 i1
  rw [if_neg (by omega)]
  exact this
theorem NX.step (h : NX σ τ f a x b) (h5 : σ 70 x ≠ 5) : NX σ τ f a (x + 1) b := fun i i0 i1 => by
  refine ⟨fun w => ?_, (h i i0 i1).2⟩
  have := (h i i0 i1).1 w
  by_cases q : i = x
  · rw [q] at this ⊢
    rw [if_neg (by omega)] at this
    rw [if_pos (by omega)]
    exact this.r01 h5
  · rw [show (if i < x + 1 then (1 : Int) else 0) = if i < x then 1 else 0 by
      by_cases z : i < x
      · rw [if_pos z, if_pos (by omega)]
      · rw [if_neg z, if_neg (by omega)]]
    exact this
/-- a node elsewhere -/
theorem NX.set (h : NX σ τ f a x b) (a0 : 0 ≤ a) (x0 : a ≤ x) (h5 : σ 70 x = 5) (e70 : ∀ i, S 70 i = σ 70 i ∨ (i = x ∧ S 70 i = 7)) (c : ∀ e i, i ≠ x → S e i = σ e i) (c72 : S 72 x = σ 72 x) (t : ∀ e j, j ≠ nd σ x → T e j = τ e j) (t134 : T 134 = τ 134) (s2 : S 69 2 = σ 69 2) (c84 : S 84 = σ 84) (c85 : S 85 = σ 85) (c86 : S 86 = σ 86) (new : RN S T 1 f b x) : NX S T f a (x + 1) b := fun i i0 i1 => by
  have ndS : ∀ j, nd S j = nd σ j := fun j => nd_congr fun k _ _ => by have := e70 k; by_cases q : k = x <;> simp_all <;> omega
  by_cases q : i = x
  · rw [q, if_pos (by omega)]
    refine ⟨fun _ => new, fun w => ?_⟩
    have := e70 x
    omega
  · rw [c 70 i q, c 72 i q]
    refine ⟨fun w => ?_, (h i i0 i1).2⟩
    have hh := (h i i0 i1).1 w
    rw [show (if i < x + 1 then (1 : Int) else 0) = if i < x then 1 else 0 by
      by_cases z : i < x
      · rw [if_pos z, if_pos (by omega)]
      · rw [if_neg z, if_neg (by omega)]]
    refine RN.fr hh (by omega) i1 (fun e _ _ _ => c e i q) (fun j _ _ => ndS j) (fun y _ _ => ?_) (fun e _ _ _ => t e _ ?_) t134 s2 (fun l p e u => u.mv c84 c85 c86 s2 t134)
    · unfold ps
      rw [ndS, ndS]
      by_cases z : y = x
      · rw [z, if_neg (by have := e70 x; omega), if_neg (by omega)]
      · rw [c 70 y z, c 72 y z]
    · rcases Int.lt_or_lt_of_ne q with z | z
      · have := nd_lt (σ := σ) (i := i) (j := x) (by omega) z w; omega
      · have := nd_lt (σ := σ) (i := x) (j := i) (by omega) z (by omega); omega
theorem RF.rf : RF σ σ τ τ a x b := ⟨fun _ _ _ => rfl, fun _ => Or.inl rfl, fun _ _ _ => rfl⟩
/-- the row of names -/
theorem res_s (hf : 0 ≤ f ∧ f < 50) (a0 : 0 ≤ a) : ∀ (m : Nat) (x : Int) (σ τ : gM), a ≤ x → x + m = b → RI σ τ f b → NX σ τ f a x b →
    ∃ S T, ps_function_b385 σ f x = some (S, 0) ∧ md_function_b338 τ (nd σ x) = some (gW T 119 54 (f + 1), some 0) ∧ NB S T 1 f a b ∧ RF σ S τ T a x b
  | 0, x, σ, τ, x0, e, I, h => by
    obtain ⟨hX, hL, t54, t43, s10, b1⟩ := I
    have ex : x = b := by omega
    rw [ex] at h ⊢
    refine ⟨σ, τ, ?_, ?_, h.all, RF.rf⟩
    · rw [ps_function_b385_e, if_neg (by omega)]
    · rw [md_function_b338_e, if_neg (by omega), t54, w32_e (by omega) (by omega)]
  | m + 1, x, σ, τ, x0, e, I, h => by
    obtain ⟨hX, hL, t54, t43, s10, b1⟩ := id I
    have np := nd_pos (σ := σ) (i := x) (by omega)
    rw [ps_function_b385_e, if_pos (show x < σ 68 10 by omega), ps_resolve_e, if_pos (show 0 ≤ x ∧ x < 4200 by omega)]
    by_cases h5 : σ 70 x = 5
    · have rn := (h x x0 (by omega)).1 (by omega)
      rw [if_neg (by omega)] at rn
      have nl := nd_lt (σ := σ) (i := x) (j := b) (by omega) (by omega) (by omega)
      have nS := nd_S (σ := σ) (i := x) (by omega) (by omega)
      have r1 := rn.1
      have r8 := rn.2.2.2.2.2.2.2.1 (by omega)
      have hm : 0 ≤ nd σ x ∧ nd σ x < 4004 := by omega
      obtain ⟨r, e1, e2, e3⟩ := local_s hX (f := f) (p := σ 76 x) (n := σ 77 x) hf t54 hL (by omega)
      rw [if_pos h5, if_pos (show 0 ≤ x ∧ x < 4200 by omega), if_pos (show 0 ≤ x ∧ x < 4200 by omega), e1]
      rw [md_function_b338_e, if_pos (show nd σ x < τ 119 43 by omega), if_pos hm, if_pos (show τ 135 (nd σ x) = 5 by omega), if_pos hm, if_pos hm, r8.1, r8.2.1, e2]
      simp only [Option.bind_some]
      by_cases q : r < 0
      · rw [if_pos q, if_pos q, if_pos (show 0 ≤ x ∧ x < 4200 by omega), if_pos hm, md_function_b383_e, w32_e (x := nd σ x + 1) (by omega) (by omega)]
        simp only [Option.bind_some]
        rw [w32_e (x := x + 1) (by omega) (by omega)]
        have ndS : ∀ i, nd (gW σ 70 x 7) i = nd σ i := fun i => nd_w (Or.inr ⟨by decide, by omega⟩)
        have c : ∀ y, y ≠ 70 → gW σ 70 x 7 y = σ y := fun y z => gW_cell z
        have t : ∀ y, y ≠ 135 → gW τ 135 (nd σ x) 7 y = τ y := fun y z => gW_cell z
        have I1 : RI (gW σ 70 x 7) (gW τ 135 (nd σ x) 7) f b := ⟨hX.mv (by rw [c 69 (by decide)]) (by rw [c 69 (by decide)]) (by rw [c 69 (by decide)]) (c 1 (by decide)) (c 118 (by decide)) (by rw [t 119 (by decide)]) (t 134 (by decide)), hL.mv (c 84 (by decide)) (c 85 (by decide)) (c 86 (by decide)) (by rw [c 69 (by decide)]) (t 152 (by decide)) (t 153 (by decide)) (t 154 (by decide)) (t 134 (by decide)), by rw [t 119 (by decide)]; exact t54, by rw [t 119 (by decide), ndS]; exact t43, by rw [c 68 (by decide)]; exact s10, b1⟩
        have e70 : ∀ i, gW σ 70 x 7 70 i = σ 70 i ∨ (i = x ∧ gW σ 70 x 7 70 i = 7) := fun i => by
          by_cases z : i = x
          · rw [z, gW_at]; exact Or.inr ⟨rfl, rfl⟩
          · exact Or.inl (gW_i z)
        have cc : ∀ y i, ¬ (y = 70 ∧ i = x) → gW σ 70 x 7 y i = σ y i := fun y i z => by unfold gW; rw [if_neg z]
        have tt : ∀ y i, ¬ (y = 135 ∧ i = nd σ x) → gW τ 135 (nd σ x) 7 y i = τ y i := fun y i z => by unfold gW; rw [if_neg z]
        have h1 : NX (gW σ 70 x 7) (gW τ 135 (nd σ x) 7) f a (x + 1) b := h.set a0 x0 h5 e70 (fun y i z => cc y i (by omega)) (cc 72 x (by omega)) (fun y j z => tt y j (by omega)) (t 134 (by decide)) (by rw [c 69 (by decide)]) (c 84 (by decide)) (c 85 (by decide)) (c 86 (by decide)) (RN_r7 rn h5)
        obtain ⟨S, T, z1, z2, z3, z4, z5, z6⟩ := res_s hf a0 m (x + 1) _ _ (by omega) (by omega) I1 h1
        rw [ndS, nS] at z2
        rw [ndS, ndS, nS] at z6
        refine ⟨S, T, z1, z2, z3, fun y i z => ?_, fun i => ?_, fun y j z => ?_⟩
        · rw [z4 y i (fun w => z ?_), cc y i (fun u => z ⟨Or.inl u.1, by omega, by omega, by rw [u.2]; exact h5⟩)]
          have := e70 i
          by_cases u : i = x
          · omega
          · rw [cc 70 i (by omega)] at w; omega
        · have := z5 i
          by_cases u : i = x
          · rw [u] at this ⊢
            rw [gW_at] at this
            omega
          · rw [cc 70 i (by omega)] at this; exact this
        · rw [z6 y j (by omega), tt y j (by omega)]
      · have lc : isLoc σ τ f r (τ 142 (nd σ x)) (τ 143 (nd σ x)) := by
          rcases e3 with ⟨e3, -⟩ | ⟨e3, e4⟩
          · omega
          · rw [r8.1, r8.2.1]
            exact ⟨e3, by rw [show σ 76 x + σ 77 x - σ 76 x = σ 77 x by omega]; exact e4, by omega⟩
        clear e3
        rw [if_neg q, if_neg q, if_pos (show 0 ≤ x ∧ x < 4200 by omega), md_function_b383_e, w32_e (x := nd σ x + 1) (by omega) (by omega)]
        simp only [Option.bind_some]
        rw [w32_e (x := x + 1) (by omega) (by omega)]
        have ndS : ∀ i, nd (gW σ 76 x r) i = nd σ i := fun i => nd_w (by omega)
        have c : ∀ y, y ≠ 76 → gW σ 76 x r y = σ y := fun y z => gW_cell z
        have I1 : RI (gW σ 76 x r) τ f b := ⟨hX.mv (by rw [c 69 (by decide)]) (by rw [c 69 (by decide)]) (by rw [c 69 (by decide)]) (c 1 (by decide)) (c 118 (by decide)) rfl rfl, hL.mv (c 84 (by decide)) (c 85 (by decide)) (c 86 (by decide)) (by rw [c 69 (by decide)]) rfl rfl rfl rfl, t54, by rw [ndS]; exact t43, by rw [c 68 (by decide)]; exact s10, b1⟩
        have cc : ∀ y i, ¬ (y = 76 ∧ i = x) → gW σ 76 x r y i = σ y i := fun y i z => by unfold gW; rw [if_neg z]
        have h1 : NX (gW σ 76 x r) τ f a (x + 1) b := h.set a0 x0 h5 (fun i => Or.inl (cc 70 i (by omega))) (fun y i z => cc y i (by omega)) (cc 72 x (by omega)) (fun y j z => rfl) rfl (by rw [c 69 (by decide)]) (c 84 (by decide)) (c 85 (by decide)) (c 86 (by decide)) (RN_r5 rn h5 lc)
        obtain ⟨S, T, z1, z2, z3, z4, z5, z6⟩ := res_s hf a0 m (x + 1) _ _ (by omega) (by omega) I1 h1
        rw [ndS, nS] at z2
        rw [ndS, ndS, nS] at z6
        refine ⟨S, T, z1, z2, z3, fun y i z => ?_, fun i => ?_, fun y j z => z6 y j (by omega)⟩
        · rw [z4 y i (fun w => z ?_), cc y i (fun u => z ⟨Or.inr u.1, by omega, by omega, by rw [u.2]; exact h5⟩)]
          rw [cc 70 i (by omega)] at w
          omega
        · have := z5 i
          rw [cc 70 i (by omega)] at this; exact this
    · rw [if_neg h5]
      simp only [Option.bind_some]
      rw [w32_e (x := x + 1) (by omega) (by omega)]
      obtain ⟨S, T, z1, z2, z3, z4, z5, z6⟩ := res_s hf a0 m (x + 1) σ τ (by omega) (by omega) I (h.step h5)
      have nx := nd_r (σ := σ) (i := x) (j := x + 1) (by omega) (by omega)
      refine ⟨S, T, z1, ?_, z3, fun y i z => z4 y i (by omega), z5, fun y j z => z6 y j (by omega)⟩
      by_cases h30 : σ 70 x = 30
      · rw [nd_s (by omega), if_pos h30, show nd σ x + 0 = nd σ x by omega] at z2
        exact z2
      · have rn := (h x x0 (by omega)).1 h30
        have r1 := rn.1
        have nl := nd_lt (σ := σ) (i := x) (j := b) (by omega) (by omega) h30
        rw [nd_S (by omega) h30] at z2
        rw [md_function_b338_e, if_pos (show nd σ x < τ 119 43 by omega), if_pos (show 0 ≤ nd σ x ∧ nd σ x < 4004 by omega), if_neg (by omega), md_function_b383_e, w32_e (by omega) (by omega)]
        exact z2
end RS
