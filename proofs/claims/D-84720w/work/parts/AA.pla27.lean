/-! the component plants a function -/
/-- a root more, the newest of a function -/
def rtO (σ S : gM) (g : Int) : Prop := S 8 31 = σ 8 31 + 1 ∧ (∀ i, i ≠ 31 → S 8 i = σ 8 i) ∧ (S 25 (σ 8 31) = g ∧ S 24 g = σ 8 31 ∧ S 26 (σ 8 31) = σ 8 12 ∧ S 28 (σ 8 31) = σ 8 16 ∧ S 32 (σ 8 31) = 0 ∧ S 33 (σ 8 31) = 0 ∧ S 34 (σ 8 31) = -1) ∧ (∀ i, 0 ≤ i → i < 12 → S 35 (12 * σ 8 31 + i) = 0) ∧ (∀ a i, a ≠ 8 → (a < 24 ∨ 35 < a) → S a i = σ a i) ∧ (∀ x, x ≠ g → S 24 x = σ 24 x) ∧ (∀ a x, 25 ≤ a → a ≤ 34 → x ≠ σ 8 31 → S a x = σ a x) ∧ (∀ x, x < 12 * σ 8 31 ∨ 12 * σ 8 31 + 12 ≤ x → S 35 x = σ 35 x)
section RO
variable {σ S : gM} {g r : Int}
theorem rootOf_l (hr : 0 ≤ r ∧ r < 60) : ∀ (m : Nat) (j : Int) (S : gM), 0 ≤ j → j + m = 12 → ∃ T, fr_rootOf_b100 S r j = some (T, r) ∧ (∀ a i, a ≠ 35 → T a i = S a i) ∧ (∀ x, x < 12 * r + j ∨ 12 * r + 12 ≤ x → T 35 x = S 35 x) ∧ (∀ i, j ≤ i → i < 12 → T 35 (12 * r + i) = 0)
  | 0, j, S, j0, hj => ⟨S, by rw [fr_rootOf_b100_e, if_neg (by omega)], fun _ _ _ => rfl, fun _ _ => rfl, fun i _ _ => by omega⟩
  | m + 1, j, S, j0, hj => by
    obtain ⟨T, t1, t2, t3, t4⟩ := rootOf_l hr m (j + 1) (gW S 35 (12 * r + j) 0) (by omega) (by omega)
    refine ⟨T, ?_, fun a i q => by rw [t2 a i q, gW_c q], fun x q => by rw [t3 x (by omega), gW_i (by omega)], fun i i0 i1 => ?_⟩
    · rw [fr_rootOf_b100_e, if_pos (by omega), w32_e (x := 12 * r) (by omega) (by omega), w32_e (x := 12 * r + j) (by omega) (by omega), w32_e (x := j + 1) (by omega) (by omega), if_pos (by omega)]
      exact t1
    · by_cases z : i = j
      · rw [z, t3 _ (by omega), gW_at]
      · exact t4 i (by omega) i1
theorem fr_rootOf_s (hr : 0 ≤ σ 8 31 ∧ σ 8 31 < 60) (hg : 0 ≤ g ∧ g < 9000) : ∃ S, fr_rootOf σ g = some (S, σ 8 31) ∧ rtO σ S g := by
  rw [fr_rootOf_e, if_pos hr, if_pos hg, if_pos hr, if_pos hr, if_pos hr, if_pos hr, if_pos hr, if_pos hr, if_pos hr, if_pos hr, if_pos hr, w32_e (by omega) (by omega)]
  obtain ⟨T, t1, t2, t3, t4⟩ := rootOf_l (r := σ 8 31) hr 12 0 (gW (gW (gW (gW (gW (gW (gW (gW (gW (gW (gW (gW σ 8 31 (σ 8 31 + 1)) 25 (σ 8 31) g) 24 g (σ 8 31)) 26 (σ 8 31) (σ 8 12)) 27 (σ 8 31) 0) 28 (σ 8 31) (σ 8 16)) 29 (σ 8 31) 0) 30 (σ 8 31) 0) 31 (σ 8 31) 0) 32 (σ 8 31) 0) 33 (σ 8 31) 0) 34 (σ 8 31) (-1)) (by decide) (by decide)
  refine ⟨T, t1, ?_, fun i q => ?_, ⟨?_, ?_, ?_, ?_, ?_, ?_, ?_⟩, fun i i0 i1 => t4 i i0 i1, fun a i q1 q2 => ?_, fun x q => ?_, fun a x q1 q2 q3 => ?_, fun x q => ?_⟩
  · rw [t2 _ _ (by decide)]; simp [gW]
  · rw [t2 _ _ (by decide)]; simp [gW, q]
  · rw [t2 _ _ (by decide)]; simp [gW]
  · rw [t2 _ _ (by decide)]; simp [gW]
  · rw [t2 _ _ (by decide)]; simp [gW]
  · rw [t2 _ _ (by decide)]; simp [gW]
  · rw [t2 _ _ (by decide)]; simp [gW]
  · rw [t2 _ _ (by decide)]; simp [gW]
  · rw [t2 _ _ (by decide)]; simp [gW]
  · rw [t2 a i (by omega)]
    unfold gW
    rw [if_neg (by omega), if_neg (by omega), if_neg (by omega), if_neg (by omega), if_neg (by omega), if_neg (by omega), if_neg (by omega), if_neg (by omega), if_neg (by omega), if_neg (by omega), if_neg (by omega), if_neg (by omega)]
  · rw [t2 _ _ (by decide)]; simp [gW, q]
  · rw [t2 a x (by omega), gW_j q3, gW_j q3, gW_j q3, gW_j q3, gW_j q3, gW_j q3, gW_j q3, gW_j q3, gW_j q3, gW_c (by omega), gW_j q3, gW_c (by omega)]
  · rw [t3 x (by omega)]; simp [gW]
end RO
/-- what stays while a function is planted -/
def pFr (w : Int) (σ Z : gM) (fn : Int) : Prop := hI Z ∧ fI Z ∧ (∀ a, a = 19 ∨ (38 < a) → Z a = σ a) ∧ (∀ i, i ≠ 12 → i ≠ 16 → i ≠ 19 → (i < 31 ∨ 37 < i) → Z 8 i = σ 8 i) ∧
  (∀ a i, 9 ≤ a → a ≤ 18 → i < σ 8 12 → Z a i = σ a i) ∧ (∀ a p, 20 ≤ a → a ≤ 22 → p < σ 8 16 ∨ Z 8 16 ≤ p → Z a p = σ a p) ∧ (σ 8 12 ≤ Z 8 12 ∧ σ 8 16 ≤ Z 8 16) ∧
  (∀ s, vS σ s → cS Z s = cS σ s ∧ Z 4 s = σ 4 s ∧ Z 5 s = σ 5 s ∧ Z 2 s = σ 2 s ∧ Z 3 s = σ 3 s) ∧ (∀ i, i ≠ 7 → i ≠ 8 → i ≠ 9 → Z 0 i = σ 0 i) ∧ (∀ i, 24000 ≤ i ∨ i < σ 0 8 → Z 1 i = σ 1 i) ∧ (∀ s, 0 ≤ s → σ 0 7 ≤ s → s < Z 0 7 → Z 4 s = -1 ∧ Z 5 s = 0) ∧
  (∀ f, f < σ 8 19 → Z 23 f = σ 23 f ∧ (f ≠ fn → Z 24 f = σ 24 f)) ∧ (∀ f, σ 8 19 ≤ f → f < Z 8 19 → f ≠ fn → Z 24 f = -1) ∧ (∀ k, k < σ 0 9 ∨ 8000 ≤ k → Z 6 k = σ 6 k ∧ Z 7 (4 * k) = σ 7 (4 * k) ∧ Z 7 (4 * k + 1) = σ 7 (4 * k + 1) ∧ Z 7 (4 * k + 2) = σ 7 (4 * k + 2) ∧ Z 7 (4 * k + 3) = σ 7 (4 * k + 3)) ∧
  (σ 0 7 ≤ Z 0 7 ∧ 2 * Z 0 7 ≤ 2 * σ 0 7 + w) ∧ (σ 0 8 ≤ Z 0 8 ∧ Z 0 8 ≤ σ 0 8 + w) ∧ (σ 0 9 ≤ Z 0 9 ∧ 20 * Z 0 9 ≤ 20 * σ 0 9 + w) ∧ (σ 8 19 ≤ Z 8 19 ∧ 2 * Z 8 19 ≤ 2 * σ 8 19 + w) ∧
  (∀ a r, 25 ≤ a → a ≤ 34 → r < σ 8 31 → Z a r = σ a r) ∧ (∀ x, x < 12 * σ 8 31 → Z 35 x = σ 35 x)
/-- a function was planted: b is the end of its nodes, fn the function of its name -/
def cPl (σ Z : gM) (N : Int → Int) (f b fn : Int) : Prop := (0 ≤ fn ∧ fn < Z 8 19 ∧ Z 24 fn = σ 8 31) ∧ (Z 8 31 = σ 8 31 + 1 ∧ Z 8 12 = σ 8 12 + (nd σ b - nd σ (σ 81 f)) ∧ Z 8 16 ≤ σ 8 16 + 3 * (nd σ b - nd σ (σ 81 f)) + 2 ∧ σ 8 16 + 2 ≤ Z 8 16) ∧
  (Z 25 (σ 8 31) = fn ∧ Z 26 (σ 8 31) = σ 8 12 ∧ Z 27 (σ 8 31) = nd σ b - nd σ (σ 81 f) ∧ Z 28 (σ 8 31) = σ 8 16 ∧ Z 29 (σ 8 31) = Z 8 16 - σ 8 16 ∧ Z 30 (σ 8 31) = σ 83 f ∧ Z 31 (σ 8 31) = σ 84 f ∧ Z 32 (σ 8 31) = 0 ∧ Z 33 (σ 8 31) = 0 ∧ Z 34 (σ 8 31) = -1 ∧ ∀ i, 0 ≤ i → i < 12 → Z 35 (12 * σ 8 31 + i) = 0) ∧
  (∀ i, 0 ≤ i → i < σ 83 f → oN Z 0 (σ 71 (σ 81 f + i)) i 0 (σ 8 12 + i)) ∧ cA Z N (σ 81 f + σ 83 f) b (σ 8 12 + σ 83 f) (Z 8 12) ∧
  (∃ d, CT Z N (-1) (-1) d 2 (σ 82 f) (σ 8 16) (Z 8 16 - 2)) ∧ cI Z (Z 8 16 - 2) 17 0 (-1) ∧ cI Z (Z 8 16 - 1) 16 0 (-1)
section PL
variable {σ S T Z : gM} {N : Int → Int} {f b w k A : Int}
/-- the things given get their nodes -/
theorem plant_b91_s (hf : 0 ≤ f ∧ f < 50) (h1 : hI σ) (h2 : fI σ) (h32 : σ 8 32 = 68) (hA : σ 81 f = A ∧ 0 ≤ A ∧ A + σ 83 f ≤ 4200) (hp : 0 ≤ σ 83 f ∧ σ 83 f ≤ 6) (ip : ∀ i, A ≤ i → i < A + σ 83 f → σ 70 i = 0) (h12 : 0 ≤ σ 8 12 ∧ σ 8 12 + σ 83 f ≤ 16000) :
    ∀ (m : Nat) (i : Int) (S : gM), 0 ≤ i → i + m = σ 83 f → cFr 0 σ S → S 8 12 = σ 8 12 + i → S 8 16 = σ 8 16 → (∀ j, 0 ≤ j → j < i → oN S 0 (σ 71 (A + j)) j 0 (σ 8 12 + j)) →
    ∃ T, fr_plant_2_b91 S f i = fr_plant_2_b91 T f (σ 83 f) ∧ cFr 0 σ T ∧ T 8 12 = σ 8 12 + σ 83 f ∧ T 8 16 = σ 8 16 ∧ ∀ j, 0 ≤ j → j < σ 83 f → oN T 0 (σ 71 (A + j)) j 0 (σ 8 12 + j)
  | 0, i, S, i0, hi, F, e12, e16, h => by
    have : i = σ 83 f := by omega
    rw [this] at e12 h ⊢
    exact ⟨S, rfl, F, e12, e16, h⟩
  | m + 1, i, S, i0, hi, F, e12, e16, h => by
    have c : ∀ e, 70 ≤ e → e ≤ 84 → S e = σ e := fun e q1 q2 => F.2.2.1 e (by omega)
    have s32 : S 8 32 = 68 := by rw [F.2.2.2.1 32 (by decide) (by decide) (by decide) (by decide) (by decide)]; exact h32
    have F1 := (F.node (x := A + i)).own (a := 13) (i := S 8 12) (v := i) (by decide) (by omega)
    have n := @cNd_n S (A + i)
    have nw := @oN.new S (A + i)
    rw [c 70 (by decide) (by decide), c 71 (by decide) (by decide), ip (A + i) (by omega) (by omega)] at nw
    obtain ⟨b1, b2, b3, b4, b5, b6, b7⟩ := nw
    refine (plant_b91_s hf h1 h2 h32 hA hp ip h12 m (i + 1) (gW (cNd S (A + i)) 13 (S 8 12) i) (by omega) (by omega) F1 (by rw [gW_c (by decide), n.1]; omega) (by rw [gW_c (by decide), cNd_o (by omega) (Or.inl (by decide))]; exact e16) fun j j0 j1 => ?_).imp fun T hT => ⟨?_, hT.2⟩
    · by_cases z : j = i
      · rw [z, ← e12]
        exact ⟨by rw [gW_c (by decide)]; exact b1, by rw [gW_c (by decide)]; exact b2, by rw [gW_c (by decide)]; exact b3, by rw [gW_c (by decide)]; exact b4, by rw [gW_c (by decide)]; exact b5, gW_at _ _ _ _, by rw [gW_c (by decide)]; exact b7⟩
      · exact (h j j0 (by omega)).mv fun a q1 q2 _ _ _ => by rw [gW_j (by omega), cNd_o (by omega) (by omega)]
    · rw [← hT.1, fr_plant_2_b91_e, if_pos (by omega), if_pos hf, c 83 (by decide) (by decide), if_pos (by omega), if_pos (by omega), if_pos hf, c 81 (by decide) (by decide), hA.1, w32_e (by omega) (by omega), fr_node_s (by omega) (by omega) (by omega)]
      simp only [Option.bind_some]
      rw [if_pos (by omega), w32_e (by omega) (by omega)]
end PL
