/-! what stays while the model numbers -/
/-- a part was numbered -/
def nR (σ τ T : gM) (d m : Nat) (a b n : Int) : Prop := T 119 57 = τ 119 57 + (nd σ b - nd σ a) ∧ nF τ T (nd σ a) (nd σ b) ∧ QT σ (fun i => T 144 (nd σ i)) d m a b n (τ 119 57)
/-- room for it -/
def nS (σ τ : gM) (A B : Int) (D : Nat) (a b : Int) : Prop := (0 ≤ A ∧ A ≤ a ∧ b ≤ B) ∧ nd σ B ≤ 4004 ∧ 0 ≤ τ 119 57 ∧ τ 119 57 + (nd σ b - nd σ a) ≤ 16000 ∧ nd σ b - nd σ a ≤ D
section NK
variable {σ τ T T' : gM} {d m : Nat} {a b n c k p q r f A B : Int}
theorem nF.pt (h : nF τ T p q) (a0 : 0 ≤ a) (t : PT σ τ d m a b n c) : PT σ T d m a b n c :=
  PT_fr _ _ _ _ _ _ a0 (fun i _ _ => ⟨Or.inl rfl, rfl, rfl, rfl, fun _ => rfl⟩) (fun _ _ _ _ => rfl) (fun _ _ _ => rfl) (fun i _ _ _ _ => h 141 i (by omega) (by omega)) t
theorem nF.nb (h : nF τ T p q) (a0 : 0 ≤ a) (t : NB σ τ r f a b) : NB σ T r f a b :=
  NB.fr t a0 (fun _ _ _ _ _ _ _ => rfl) (fun _ _ _ => rfl) (fun e j e0 e1 _ _ _ => h e j (by omega) (by omega)) (funext fun i => h 134 i (by omega) (by omega)) rfl (fun l p e u => u.mv rfl rfl rfl rfl (funext fun i => h 134 i (by omega) (by omega)))
/-- numbers of a part stay when others come behind it or ahead of it -/
theorem nF.qt (h : nF T T' p q) (a0 : 0 ≤ a) (o : nd σ b ≤ p ∨ q ≤ nd σ a) (t : QT σ (fun i => T 144 (nd σ i)) d m a b n k) : QT σ (fun i => T' 144 (nd σ i)) d m a b n k :=
  QT_N _ _ _ _ _ _ (fun i i0 i1 w => by
    have x := nd_lt (σ := σ) (i := i) (j := b) (by omega) i1 w
    have y := nd_r (σ := σ) (i := a) (j := i) a0 i0
    exact h 144 (nd σ i) (by omega) (by omega)) t
/-- what a node's cells say -/
theorem RN.cells (h : RN σ τ r f b n) : τ 135 (nd σ n) = σ 70 n ∧ τ 138 (nd σ n) = (if σ 70 n = 6 then nh σ (σ 74 n) else nh σ (σ 72 n)) ∧ (σ 70 n ≠ 3 → τ 139 (nd σ n) = if σ 70 n = 24 ∨ σ 70 n = 25 then ph σ (σ 73 n) else nh σ (σ 73 n)) ∧ τ 140 (nd σ n) = (if σ 70 n = 6 then -1 else if σ 70 n = 24 then ph σ (σ 74 n) else nh σ (σ 74 n)) :=
  ⟨h.1.1, h.2.2.2.1, h.2.2.2.2.1, h.2.2.2.2.2.1⟩
theorem nh_m : nh σ (-1) = -1 := rfl
theorem ph_m : ph σ (-1) = -1 := rfl
theorem nh_p {x : Int} (h : 0 ≤ x) : nh σ x = nd σ x := by unfold nh; rw [if_neg (by omega)]
theorem ph_p {x : Int} (h : 0 ≤ x) : ph σ x = ps σ x := by unfold ph; rw [if_neg (by omega)]
end NK
