/-! functions: what is given to them -/
/-- all that came before a function stays -/
def kF (f M N : Int) (σ σ' τ τ' : gM) : Prop := (∀ a, a < 68 ∨ 86 < a → σ' a = σ a) ∧ (∀ a i, 70 ≤ a → a ≤ 78 → i < M → σ' a i = σ a i) ∧ (∀ i, i < 10 ∨ 22 < i → σ' 68 i = σ 68 i) ∧ (∀ i, i < 3 → σ' 69 i = σ 69 i) ∧ (∀ a g, 79 ≤ a → a ≤ 84 → g ≠ f → σ' a g = σ a g) ∧ (∀ a j, (a = 85 ∨ a = 86) → j < 12 * f → σ' a j = σ a j) ∧
  (∀ a, a ≠ 119 → (a < 135 ∨ 154 < a ∨ a = 137 ∨ a = 144) → τ' a = τ a) ∧ (∀ a j, 135 ≤ a → a ≤ 145 → j < N → τ' a j = τ a j) ∧ (∀ a g, 146 ≤ a → a ≤ 152 → g ≠ f → τ' a g = τ a g) ∧ (∀ a j, (a = 153 ∨ a = 154) → j < 12 * f → τ' a j = τ a j) ∧ (∀ i, i < 24 ∨ 31 < i → i ≠ 43 → i ≠ 44 → i ≠ 54 → τ' 119 i = τ 119 i) ∧ jK τ τ'
/-- the things that are given, so far -/
def PI (f a : Int) (σ τ : gM) : Prop := pG 0 σ τ ∧ σ 68 19 = f + 1 ∧ (σ 84 f = σ 83 f ∧ σ 83 f ≤ 6) ∧ (σ 81 f = a ∧ 0 ≤ a ∧ σ 68 10 = a + σ 83 f ∧ σ 68 20 = σ 83 f) ∧ (∀ i, a ≤ i → i < σ 68 10 → σ 70 i = 0 ∧ σ 76 i = i - a ∧ σ 72 i = -1 ∧ σ 73 i = -1 ∧ σ 74 i = -1) ∧ NB σ τ 0 f a (σ 68 10) ∧ (σ 68 21 = 1 ∧ σ 68 22 = 0) ∧ fN σ τ f ∧ τ 148 f = nd σ a
noncomputable def pM (τ : gM) (K : gM → Option (gM × Option Int)) : Option (gM × Option Int) := (md_need τ 1).bind fun p5 => gtry p5.2 (fun _ => if 0 ≤ p5.1 119 54 ∧ p5.1 119 54 < 51 then (if p5.1 152 (p5.1 119 54) = 6 then ((md_fails p5.1 4 (p5.1 119 26)).bind fun p14 => gthr p14.1 p14.2) else ((md_localOf p5.1 (p5.1 119 26) (p5.1 119 27)).bind fun p7 => if p7.2 < 0 then ((md_newNode p7.1 0).bind fun p8 => gtry p8.2 (fun _ => (md_addLocal p8.1 (p8.1 119 26) (p8.1 119 27)).bind fun p10 => (md_take p10.1).bind fun p11 => gtry p11.2 (fun _ => K p11.1) (some (p11.1, none))) (some (p8.1, none))) else ((md_fails p7.1 6 (p7.1 119 26)).bind fun p13 => gthr p13.1 p13.2))) else none) (some (p5.1, none))
section KF
variable {σ τ σ' τ' σ'' τ'' S T : gM} {f M N a : Int}
theorem kE.toF (k : kE M N σ σ' τ τ') (hf : f = σ 68 19 - 1) (h84 : 0 ≤ σ 84 f) : kF f M N σ σ' τ τ' := by
  obtain ⟨k1, k2, k3, k4, k5, ⟨k6, k7, k8⟩, k9, k10, k11⟩ := k
  rw [← hf] at k7 k8
  refine ⟨fun a q => k1 a (by omega), k2, fun i q => k3 i (by omega), k4, fun a g q1 q2 q3 => ?_, fun a j q1 q2 => ?_, fun a q1 q2 => k9 a q1 (by omega) (by omega), k10, fun a g q1 q2 q3 => ?_, fun a j q1 q2 => ?_, fun i q1 q2 q3 q4 => k11 i q1 q2, k5.2.2⟩
  · by_cases e : a = 84
    · rw [e]; exact (k7 g q3).1
    · rw [k1 a (by omega)]
  · rcases q1 with q1 | q1 <;> rw [q1]
    · exact (k8 j (by omega)).1
    · exact (k8 j (by omega)).2.1
  · by_cases e : a = 152
    · rw [e]; exact (k7 g q3).2
    · rw [k9 a (by omega) (by omega) (by omega)]
  · rcases q1 with q1 | q1 <;> rw [q1]
    · exact (k8 j (by omega)).2.2.1
    · exact (k8 j (by omega)).2.2.2
theorem kF.tr {M' N' : Int} (h : kF f M N σ σ' τ τ') (h2 : kF f M' N' σ' σ'' τ' τ'') (hM : M ≤ M') (hN : N ≤ N') : kF f M N σ σ'' τ τ'' := by
  obtain ⟨k1, k2, k3, k4, k5, k6, k7, k8, k9, k10, k11, kj⟩ := h
  obtain ⟨l1, l2, l3, l4, l5, l6, l7, l8, l9, l10, l11, lj⟩ := h2
  exact ⟨fun a q => (l1 a q).trans (k1 a q), fun a i q1 q2 q3 => (l2 a i q1 q2 (by omega)).trans (k2 a i q1 q2 q3), fun i q => (l3 i q).trans (k3 i q), fun i q => (l4 i q).trans (k4 i q), fun a g q1 q2 q3 => (l5 a g q1 q2 q3).trans (k5 a g q1 q2 q3), fun a j q1 q2 => (l6 a j q1 q2).trans (k6 a j q1 q2), fun a q1 q2 => (l7 a q1 q2).trans (k7 a q1 q2), fun a j q1 q2 q3 => (l8 a j q1 q2 (by omega)).trans (k8 a j q1 q2 q3), fun a g q1 q2 q3 => (l9 a g q1 q2 q3).trans (k9 a g q1 q2 q3), fun a j q1 q2 => (l10 a j q1 q2).trans (k10 a j q1 q2), fun i q1 q2 q3 q4 => (l11 i q1 q2 q3 q4).trans (k11 i q1 q2 q3 q4), fun h => lj (kj h)⟩
theorem kF.rf : kF f M N σ σ τ τ := ⟨fun _ _ => rfl, fun _ _ _ _ _ => rfl, fun _ _ => rfl, fun _ _ => rfl, fun _ _ _ _ _ => rfl, fun _ _ _ _ => rfl, fun _ _ _ => rfl, fun _ _ _ _ _ => rfl, fun _ _ _ _ _ => rfl, fun _ _ _ _ => rfl, fun _ _ _ _ _ => rfl, fun h => h⟩
theorem kF.rd (h : kF f M N σ σ' τ τ') (F : rdF σ' σ'' τ' τ'') : kF f M N σ σ'' τ τ'' := by
  refine h.tr (M' := M) (N' := N) ?_ (Int.le_refl _) (Int.le_refl _)
  exact ⟨fun a q => F.1 a (by omega), fun a i q1 q2 q3 => by rw [F.1 a (by omega)], fun i q => by rw [F.1 68 (by decide)], fun i q => F.2.1 i (by omega), fun a g q1 q2 q3 => by rw [F.1 a (by omega)], fun a j q1 q2 => by rw [F.1 a (by omega)], fun a q1 q2 => F.2.2.1 a q1, fun a j q1 q2 q3 => by rw [F.2.2.1 a (by omega)], fun a g q1 q2 q3 => by rw [F.2.2.1 a (by omega)], fun a j q1 q2 => by rw [F.2.2.1 a (by omega)], fun i q1 q2 q3 q4 => F.2.2.2 i (by omega) (by omega) (by omega), fun hj j j0 j1 => by rw [F.2.2.2 43 (by decide) (by decide) (by decide)] at j1; rw [F.2.2.1 141 (by decide)]; exact hj j j0 j1⟩
theorem kF.w {e v : Int} (h : kF f M N σ σ' τ τ') (he : 79 ≤ e ∧ e ≤ 84) : kF f M N σ (gW σ' e f v) τ τ' := by
  refine h.tr (M' := M) (N' := N) ?_ (Int.le_refl _) (Int.le_refl _)
  refine ⟨fun a q => gW_cell (by omega), fun a i q1 q2 q3 => gW_c (by omega), fun i q => gW_c (by omega), fun i q => gW_c (by omega), fun a g q1 q2 q3 => ?_, fun a j q1 q2 => gW_c (by omega), fun a q1 q2 => rfl, fun a j q1 q2 q3 => rfl, fun a g q1 q2 q3 => rfl, fun a j q1 q2 => rfl, fun i q1 q2 q3 q4 => rfl, fun hj => hj⟩
  unfold gW; rw [if_neg (by omega)]
theorem kF.v {e v : Int} (h : kF f M N σ σ' τ τ') (he : 146 ≤ e ∧ e ≤ 152) : kF f M N σ σ' τ (gW τ' e f v) := by
  refine h.tr (M' := M) (N' := N) ?_ (Int.le_refl _) (Int.le_refl _)
  refine ⟨fun a q => rfl, fun a i q1 q2 q3 => rfl, fun i q => rfl, fun i q => rfl, fun a g q1 q2 q3 => rfl, fun a j q1 q2 => rfl, fun a q1 q2 => gW_cell (by omega), fun a j q1 q2 q3 => gW_c (by omega), fun a g q1 q2 q3 => ?_, fun a j q1 q2 => gW_c (by omega), fun i q1 q2 q3 q4 => gW_c (by omega), fun hj j j0 j1 => by rw [gW_c (by omega)] at j1; rw [gW_c (by omega)]; exact hj j j0 j1⟩
  unfold gW; rw [if_neg (by omega)]
theorem pG.c {z e i v : Int} (h : pG z σ τ) (he : 79 ≤ e ∧ e ≤ 83) : pG z (gW σ e i v) τ := by
  have h' := h
  obtain ⟨h1, h2, h3, h4, h5, h6, h7, h8, h9, h10⟩ := h
  have c : ∀ x, x ≠ e → gW σ e i v x = σ x := fun x q => gW_cell q
  have c68 := c 68 (by omega)
  refine h'.mv (c 69 (by omega)) (c 1 (by omega)) (c 118 (by omega)) (c 84 (by omega)) (c 85 (by omega)) (c 86 (by omega)) (by rw [c68]; exact h4) (by rw [c68, h5]; exact (nd_congr fun j _ _ => by rw [c 70 (by omega)]).symm) (by rw [c68]; exact h6) (by rw [c68]; exact h7) (by rw [c68]; exact h8) (by rw [c68]) (fun _ _ _ => rfl) rfl rfl rfl rfl rfl
theorem pG.d {z e i v : Int} (h : pG z σ τ) (he : 146 ≤ e ∧ e ≤ 151) : pG z σ (gW τ e i v) := by
  have h' := h
  obtain ⟨h1, h2, h3, h4, h5, h6, h7, h8, h9, h10⟩ := h
  have c : ∀ x, x ≠ e → gW τ e i v x = τ x := fun x q => gW_cell q
  have c119 := c 119 (by omega)
  exact h'.mv rfl rfl rfl rfl rfl rfl h4 (by rw [c119]; exact h5) (by rw [c119]; exact h6) (by rw [c119]; exact h7) (by rw [c119]; exact h8) rfl (fun _ _ _ => by rw [c119]) (by rw [c119]) (c 134 (by omega)) (c 152 (by omega)) (c 153 (by omega)) (c 154 (by omega))
theorem RN_par {f n m b l p e : Int} (nn : nd S n = m) (s70 : S 70 n = 0) (s72 : S 72 n = -1) (s73 : S 73 n = -1) (s74 : S 74 n = -1) (s76 : S 76 n = l) (t135 : T 135 m = 0) (t136 : T 136 m = S 71 n) (t138 : T 138 m = -1) (t139 : T 139 m = -1) (t140 : T 140 m = -1) (t142 : T 142 m = p) (t143 : T 143 m = e) (b0 : 0 ≤ b) (lc : isLoc S T f l p e) : RN S T 0 f b n := by
  have nm : nh S (-1) = -1 := rfl
  unfold RN
  rw [nn, s70, s72, s73, s74, s76, t135, t136, t138, t139, t140, t142, t143, nm]
  exact ⟨⟨rfl, by decide, by decide⟩, rfl, ⟨by omega, by omega, by omega, by omega, by omega, by omega, fun w => by omega⟩, by rw [if_neg (by decide)], fun _ => by rw [if_neg (by decide)], by rw [if_neg (by decide), if_neg (by decide)], fun w => by omega, fun w => by omega, fun _ => lc⟩
end KF
section PA
variable {σ τ S T : gM} {f a : Int}
theorem b34_b (b : S 69 8 ≠ 0) : ps_param_b34 S f = some (S, 0) := by
  rw [ps_param_b34_e, ps_good_b b]
  simp only [Option.bind_some]
  rw [if_pos (by trivial)]
theorem b108_b (b : S 69 8 ≠ 0) : ps_param_b108 S f = some (S, 0) := by
  rw [ps_param_b108_e, ps_good_b b]
  simp only [Option.bind_some]
  rw [if_pos (by trivial)]
end PA
