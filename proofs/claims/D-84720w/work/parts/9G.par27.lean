/-! functions: whole -/
/-- a function on both sides; its nodes end at b -/
def FN (σ τ : gM) (f b : Int) : Prop := fN σ τ f ∧ (0 ≤ σ 81 f ∧ 0 ≤ σ 83 f ∧ σ 83 f ≤ 6 ∧ σ 83 f ≤ σ 84 f ∧ σ 81 f + σ 83 f ≤ b) ∧ pL σ τ f ∧ (τ 148 f = nd σ (σ 81 f) ∧ τ 149 f = nd σ b ∧ τ 150 f = σ 83 f ∧ τ 151 f = ph σ (σ 82 f) ∧ nd σ b - nd σ (σ 81 f) ≤ 300) ∧ PX σ τ 2 (σ 81 f + σ 83 f) b (σ 82 f) 38 ∧ NB σ τ 1 f (σ 81 f) b ∧ ∀ i, σ 81 f ≤ i → i < σ 81 f + σ 83 f → σ 70 i = 0 ∧ σ 76 i = i - σ 81 f ∧ σ 72 i = -1 ∧ σ 73 i = -1 ∧ σ 74 i = -1
section FW
variable {σ τ S T U V : gM} {f a b M N : Int}
theorem rf_F (h : RF σ S τ T a a b) (a0 : 0 ≤ a) : kF f a (nd σ a) σ S τ T := by
  obtain ⟨h1, h2, h3⟩ := h
  exact ⟨fun e q => funext fun i => h1 e i (by omega), fun e i q1 q2 q3 => h1 e i (by omega), fun i q => h1 68 i (by omega), fun i q => h1 69 i (by omega), fun e g q1 q2 q3 => h1 e g (by omega), fun e j q1 q2 => h1 e j (by omega), fun e q1 q2 => funext fun j => h3 e j (by omega), fun e j q1 q2 q3 => h3 e j (by omega), fun e g q1 q2 q3 => h3 e g (by omega), fun e j q1 q2 => h3 e j (by omega), fun i q1 q2 q3 q4 => h3 119 i (by omega), fun hj j j0 j1 => by rw [h3 119 43 (by omega)] at j1; rw [h3 141 j (by omega)]; exact hj j j0 j1⟩
theorem kF.t54 {v : Int} (h : kF f M N σ S τ T) : kF f M N σ S τ (gW T 119 54 v) := by
  refine h.tr (M' := M) (N' := N) ?_ (Int.le_refl _) (Int.le_refl _)
  exact ⟨fun a q => rfl, fun a i q1 q2 q3 => rfl, fun i q => rfl, fun i q => rfl, fun a g q1 q2 q3 => rfl, fun a j q1 q2 => rfl, fun a q1 q2 => gW_cell q1, fun a j q1 q2 q3 => gW_c (by omega), fun a g q1 q2 q3 => gW_c (by omega), fun a j q1 q2 => gW_c (by omega), fun i q1 q2 q3 q4 => gW_i q4, fun hj j j0 j1 => by rw [gW_i (by decide)] at j1; rw [gW_c (by decide)]; exact hj j j0 j1⟩
theorem rf_ph {r : Int} (h : RF σ S τ T a b M) : ph S r = ph σ r := by
  unfold ph ps
  rw [h.1 72 r (by omega), h.nd, h.nd]
  have := h.2.1 r
  by_cases q : σ 70 r = 30
  · rw [if_pos q, if_pos (show S 70 r = 30 by omega)]
  · rw [if_neg q, if_neg (show ¬ S 70 r = 30 by omega)]
theorem rf_px {r c x k : Int} (h : RF σ S τ T a a b) (c0 : 0 ≤ c) (p : PX σ τ 2 c x r k) : PX S T 2 c x r k := by
  obtain ⟨d, p⟩ := p
  refine ⟨d, PT_fr _ _ _ _ _ _ c0 (fun i i0 i1 => ⟨h.2.1 i, h.1 72 i (by omega), h.1 73 i (by omega), h.1 74 i (by omega), fun w => h.1 76 i (by omega)⟩) (fun i _ _ _ => h.1 75 i (by omega)) (fun i _ _ => h.nd) (fun i _ _ _ _ => h.2.2 141 i (by omega)) p⟩
/-- the last part: from the state behind the block -/
theorem fin_s {p q : Int} (G : pG 0 U V) (hf : 0 ≤ f ∧ f < 50) (u19 : U 68 19 = f + 1) (u21 : U 68 21 = 0) (fn : fN U V f) (u81 : U 81 f = a) (a0 : 0 ≤ a) (u83 : 0 ≤ U 83 f ∧ U 83 f ≤ 6 ∧ U 83 f ≤ U 84 f ∧ a + U 83 f ≤ U 68 10) (v44 : V 119 44 = nd U a) (v148 : V 148 f = nd U a) (v149 : V 149 f = nd U (U 68 10)) (v150 : V 150 f = U 83 f) (v151 : V 151 f = ph U (U 82 f)) (px : PX U V 2 (a + U 83 f) (U 68 10) (U 82 f) 38) (nb : NB U V 0 f a (U 68 10)) (ip : ∀ i, a ≤ i → i < a + U 83 f → U 70 i = 0 ∧ U 76 i = i - a ∧ U 72 i = -1 ∧ U 73 i = -1 ∧ U 74 i = -1) :
    ∃ S T, ps_function_b385 U f a = some (S, 0) ∧ md_function_b338 V (nd U a) = some (T, some 0) ∧ FN S T f (S 68 10) ∧ kF f a (nd U a) U S V T ∧ (tX S T ∧ tK S T ∧ S 69 8 = 0 ∧ (0 ≤ S 68 10 ∧ S 68 10 ≤ S 69 5) ∧ T 119 43 = nd S (S 68 10) ∧ T 119 28 = 0 ∧ S 68 19 = f + 1 ∧ T 119 54 = f + 1) ∧ S 81 f = a ∧ S 69 5 = U 69 5 := by
  obtain ⟨hX, hK, g8, hm, g43, h6, h7, h8, h9, hL⟩ := id G
  rw [u19, show f + 1 - 1 = f by omega] at hL
  have kp := hK.1
  unfold tKp at kp
  have hl := hX.2.1
  obtain ⟨S, T, z1, z2, z3, R⟩ := res_s (b := U 68 10) hf a0 (U 68 10 - a).toNat a U V (Int.le_refl _) (by omega) ⟨hX, hL, by omega, g43, rfl, by omega⟩ (NX.of nb)
  obtain ⟨R1, R2, R3⟩ := id R
  have c : ∀ e, e ≠ 70 → e ≠ 76 → S e = U e := fun e q1 q2 => funext fun i => R1 e i (by omega)
  have t : ∀ e, e ≠ 135 → e ≠ 119 → gW T 119 54 (f + 1) e = V e := fun e q1 q2 => funext fun i => by rw [gW_c q2]; exact R3 e i (by omega)
  have t9 : ∀ i, i ≠ 54 → gW T 119 54 (f + 1) 119 i = V 119 i := fun i q => by rw [gW_i q]; exact R3 119 i (by omega)
  have c68 := c 68 (by decide) (by decide)
  have c69 := c 69 (by decide) (by decide)
  have t134 := t 134 (by decide) (by decide)
  have T134 : T 134 = V 134 := funext fun i => R3 134 i (by omega)
  refine ⟨S, gW T 119 54 (f + 1), z1, z2, ⟨?_, ?_, ?_, ⟨?_, ?_, ?_, ?_, ?_⟩, ?_, ?_, fun i i0 i1 => ?_⟩, (rf_F R a0).t54, ⟨hX.mv (by rw [c69]) (by rw [c69]) (by rw [c69]) (c 1 (by decide) (by decide)) (c 118 (by decide) (by decide)) (t9 23 (by decide)) t134, hK.mv c69 (fun i q1 q2 => t9 i (by omega)) t134, by rw [c69]; exact g8, by rw [c68, c69]; omega, ?_, by rw [t9 28 (by decide)]; omega, by rw [c68]; exact u19, gW_at _ _ _ _⟩, by rw [c 81 (by decide) (by decide)]; exact u81, by rw [c69]⟩
  · unfold fN at *
    rw [c 79 (by decide) (by decide), c 80 (by decide) (by decide), c69, t 146 (by decide) (by decide), t 147 (by decide) (by decide)]
    exact fn
  · rw [c 81 (by decide) (by decide), c 83 (by decide) (by decide), c 84 (by decide) (by decide), c68, u81]; omega
  · exact hL.mv (c 84 (by decide) (by decide)) (c 85 (by decide) (by decide)) (c 86 (by decide) (by decide)) (by rw [c69]) (t 152 (by decide) (by decide)) (t 153 (by decide) (by decide)) (t 154 (by decide) (by decide)) t134
  · rw [t 148 (by decide) (by decide), c 81 (by decide) (by decide), u81, R.nd, v148]
  · rw [t 149 (by decide) (by decide), c68, R.nd, v149]
  · rw [t 150 (by decide) (by decide), c 83 (by decide) (by decide), v150]
  · rw [t 151 (by decide) (by decide), c 82 (by decide) (by decide), rf_ph R, v151]
  · rw [c68, c 81 (by decide) (by decide), u81, R.nd, R.nd]; omega
  · rw [c 81 (by decide) (by decide), c 83 (by decide) (by decide), c 82 (by decide) (by decide), c68, u81]
    exact (rf_px R (by omega) px).v (by omega) (Or.inl (by decide))
  · rw [c 81 (by decide) (by decide), c68, u81]
    exact NB.fr z3 a0 (fun _ _ _ _ _ _ _ => rfl) (fun _ _ _ => rfl) (fun x j x0 x1 x2 _ _ => gW_c (by omega)) (gW_cell (by decide)) rfl (fun l p e u => u.mv rfl rfl rfl rfl (gW_cell (by decide)))
  · rw [c 81 (by decide) (by decide), u81] at i0 i1 ⊢
    rw [c 83 (by decide) (by decide)] at i1
    have := ip i i0 i1
    rw [R1 70 i (by omega), R1 76 i (by omega), R1 72 i (by omega), R1 73 i (by omega), R1 74 i (by omega)]
    exact this
  · rw [t9 43 (by decide), c68, R.nd, g43]
end FW
