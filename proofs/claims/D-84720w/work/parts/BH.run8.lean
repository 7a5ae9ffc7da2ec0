/-! entries of a node: those that don't hold go, the one that is met is there -/
/-- what is kept of the first k entries -/
def kpL (st : Nat → Bool) : Nat → List Nat
  | 0 => []
  | k + 1 => if st k then kpL st k else kpL st k ++ [k]
theorem kpL_len {st : Nat → Bool} : ∀ k, (kpL st k).length ≤ k
  | 0 => Nat.le_refl 0
  | k + 1 => by
    have := kpL_len (st := st) k
    unfold kpL
    split
    · omega
    · rw [List.length_append]
      simp only [List.length_cons, List.length_nil]
      omega
theorem getD_app {L : List Nat} {k i : Nat} : (L ++ [k]).getD i 0 = if i < L.length then L.getD i 0 else if i = L.length then k else 0 := by
  simp only [List.getD_eq_getElem?_getD]
  by_cases h : i < L.length
  · rw [if_pos h, List.getElem?_append_left h]
  · rw [if_neg h, List.getElem?_append_right (by omega)]
    by_cases e : i = L.length
    · rw [if_pos e, e, Nat.sub_self]; rfl
    · rw [if_neg e]
      have : ∃ m, i - L.length = m + 1 := ⟨i - L.length - 1, by omega⟩
      obtain ⟨m, hm⟩ := this
      rw [hm]; rfl
theorem kpL_get {st : Nat → Bool} : ∀ k i, i < (kpL st k).length → i ≤ (kpL st k).getD i 0 ∧ (kpL st k).getD i 0 < k
  | 0, i, h => absurd h (Nat.not_lt_zero i)
  | k + 1, i, h => by
    have l := kpL_len (st := st) k
    unfold kpL at h ⊢
    by_cases z : st k
    · rw [if_pos z] at h ⊢
      have := kpL_get k i h
      omega
    · rw [if_neg z] at h ⊢
      rw [List.length_append] at h
      simp only [List.length_cons, List.length_nil] at h
      rw [getD_app]
      by_cases y : i < (kpL st k).length
      · rw [if_pos y]
        have := kpL_get k i y
        omega
      · rw [if_neg y, if_pos (by omega)]
        omega
/-- all are kept only if none goes -/
theorem kpL_all {st : Nat → Bool} : ∀ k, (kpL st k).length = k → ∀ i, i < k → (kpL st k).getD i 0 = i
  | 0, _, i, h => absurd h (Nat.not_lt_zero i)
  | k + 1, e, i, h => by
    have l := kpL_len (st := st) k
    unfold kpL at e ⊢
    by_cases z : st k
    · rw [if_pos z] at e
      omega
    · rw [if_neg z] at e ⊢
      rw [List.length_append] at e
      simp only [List.length_cons, List.length_nil] at e
      rw [getD_app]
      by_cases y : i < (kpL st k).length
      · rw [if_pos y]
        exact kpL_all k (by omega) i (by omega)
      · rw [if_neg y, if_pos (by omega)]
        omega
section SL
variable {σ τ S T W : gM} {pT : Int → Int} {n : Int}
/-- an entry doesn't hold -/
def stB (σ : gM) (n : Int) (i : Nat) : Bool := if σ 9 n = 23 then !decide (σ 24 (σ 25 (σ 19 (9 * n + 3 * i))) = σ 19 (9 * n + 3 * i)) else decide (0 ≤ σ 46 (σ 19 (9 * n + 3 * i))) || (decide (0 ≤ σ 19 (9 * n + 3 * i + 2)) && decide (0 ≤ σ 46 (σ 19 (9 * n + 3 * i + 2))))
/-- a new entry on both sides -/
def nE (σ : gM) (n x3 x4 x5 y2 y3 y4 : Int) : Prop := y2 = x3 ∧ ((σ 9 n = 23 ∧ (0 ≤ x3 ∧ x3 < σ 8 31) ∧ x4 = -1 ∧ x5 = -1 ∧ y3 = 0 ∧ y4 = 0) ∨ (σ 9 n = 21 ∧ (0 ≤ x3 ∧ x3 < σ 42 6) ∧ (0 ≤ x4 ∧ x4 < σ 42 10) ∧ x5 = -1 ∧ y3 = plc σ x3 x4 ∧ y4 = -1 ∧ 0 ≤ y3) ∨ (σ 9 n = 22 ∧ (0 ≤ x3 ∧ x3 < σ 42 6) ∧ (0 ≤ x4 ∧ x4 < σ 42 10) ∧ (0 ≤ x5 ∧ x5 < σ 42 6) ∧ y3 = plc σ x5 x4 ∧ y4 = x5 ∧ 0 ≤ y3))
def mtB (σ : gM) (n x3 x4 x5 : Int) (i : Nat) : Bool := decide (σ 19 (9 * n + 3 * i) = x3) && decide (σ 19 (9 * n + 3 * i + 1) = x4) && decide (σ 19 (9 * n + 3 * i + 2) = x5)
def anI (L : List Nat) (p : Nat → Bool) : Int := if L.any p then 1 else 0
theorem mt_iff {x3 x4 x5 y2 y3 y4 : Int} {i : Nat} (hs : rSh σ τ) (e : rEn σ τ n i) (h : nE σ n x3 x4 x5 y2 y3 y4) : (τ 182 (3 * n + i) = y2 ∧ τ 183 (3 * n + i) = y3 ∧ τ 184 (3 * n + i) = y4) ↔ (σ 19 (9 * n + 3 * i) = x3 ∧ σ 19 (9 * n + 3 * i + 1) = x4 ∧ σ 19 (9 * n + 3 * i + 2) = x5) := by
  obtain ⟨e0, e⟩ := e
  obtain ⟨h0, h⟩ := h
  rw [e0, h0]
  rcases e with ⟨a1, a2, a3, a4, a5, a6⟩ | ⟨a1, a2, a3, a4, a5, a6, a7⟩ | ⟨a1, a2, a3, a4, a5, a6, a7⟩
  · rcases h with ⟨b1, b2, b3, b4, b5, b6⟩ | ⟨b1, -⟩ | ⟨b1, -⟩
    · constructor
      · intro q; exact ⟨q.1, by omega, by omega⟩
      · intro q; exact ⟨q.1, by omega, by omega⟩
    · omega
    · omega
  · rcases h with ⟨b1, -⟩ | ⟨b1, b2, b3, b4, b5, b6, b7⟩ | ⟨b1, -⟩
    · omega
    · constructor
      · intro q
        refine ⟨q.1, ?_, by omega⟩
        refine plc_inj hs (σ 19 (9 * n + 3 * i)).toNat (σ 19 (9 * n + 3 * i)) (Nat.le_refl _) a2.2 a2.1 ?_ (by omega)
        rw [← a5, q.2.1, b5, q.1]
      · intro q
        exact ⟨q.1, by rw [a5, q.1, q.2.1, b5], by omega⟩
    · omega
  · rcases h with ⟨b1, -⟩ | ⟨b1, -⟩ | ⟨b1, b2, b3, b4, b5, b6, b7⟩
    · omega
    · omega
    · constructor
      · intro q
        have q3 : σ 19 (9 * n + 3 * i + 2) = x5 := by omega
        refine ⟨q.1, ?_, q3⟩
        refine plc_inj hs (σ 19 (9 * n + 3 * i + 2)).toNat (σ 19 (9 * n + 3 * i + 2)) (Nat.le_refl _) a4.2 a4.1 ?_ (by omega)
        rw [← a5, q.2.1, b5, q3]
      · intro q
        exact ⟨q.1, by rw [a5, q.2.2, q.2.1, b5], by omega⟩
/-- the component's memory while entries are looked through -/
def stI (σ W : gM) (n : Int) (L : List Nat) : Prop := (∀ a i, a ≠ 19 → W a i = σ a i) ∧ (∀ i, i < 9 * n ∨ 9 * n + 3 * L.length ≤ i → W 19 i = σ 19 i) ∧ ∀ i : Nat, i < L.length → ∀ t, 0 ≤ t → t < 3 → W 19 (9 * n + 3 * i + t) = σ 19 (9 * n + 3 * (L.getD i 0 : Nat) + t)
theorem stale_c {i : Nat} (hn : 0 ≤ n ∧ n < 16000) (hb : rBk σ τ) (hs : rSh σ τ) (e : rEn σ τ n i) (hi : i < 3) (w : ∀ a j, a ≠ 19 → W a j = σ a j) (w0 : W 19 (9 * n + 3 * i) = σ 19 (9 * n + 3 * i)) (w2 : W 19 (9 * n + 3 * i + 2) = σ 19 (9 * n + 3 * i + 2)) : mc_isStale W n (9 * n + 3 * i) = some (W, if stB σ n i then 1 else 0) := by
  have b1 : 0 ≤ 9 * n + 3 * (i : Int) ∧ 9 * n + 3 * (i : Int) < 144000 := by omega
  have b2 : 0 ≤ 9 * n + 3 * (i : Int) + 2 ∧ 9 * n + 3 * (i : Int) + 2 < 144000 := by omega
  obtain ⟨e0, e⟩ := e
  have h42 := hs.2.1
  have h42' := hs.1
  rw [mc_isStale_e, if_pos hn, w 9 n (by decide), w32_e (x := 9 * n + 3 * (i : Int) + 2) (by omega) (by omega), if_pos b1, w0, w2]
  unfold stB
  rcases e with ⟨a1, a2, a3, a4, a5, a6⟩ | ⟨a1, a2, a3, a4, a5, a6, a7⟩ | ⟨a1, a2, a3, a4, a5, a6, a7⟩
  · have r60 := hb.1.1
    have g := hb.1.2 (σ 19 (9 * n + 3 * i)) a2.1 a2.2
    rw [if_pos a1, if_pos a1, fr_isNewest_e, if_pos (by omega), w 25 _ (by decide), if_pos g.2.2.2.1, w 24 _ (by decide)]
    by_cases z : σ 24 (σ 25 (σ 19 (9 * n + 3 * i))) = σ 19 (9 * n + 3 * i)
    · rw [if_pos z]
      simp [z]
    · rw [if_neg z]
      simp [z]
  · have k23 : ¬ σ 9 n = 23 := by omega
    have ra : 0 ≤ σ 19 (9 * n + 3 * i) ∧ σ 19 (9 * n + 3 * i) < 200 := by omega
    have nb : σ 19 (9 * n + 3 * i + 2) < 0 := by omega
    rw [if_neg k23, if_neg k23, if_pos b1, if_pos ra, w 46 _ (by decide), if_pos b2, if_pos nb, mc_isStale_b95_e]
    by_cases z : σ 46 (σ 19 (9 * n + 3 * i)) < 0
    · rw [if_pos z]
      have z' : ¬ 0 ≤ σ 46 (σ 19 (9 * n + 3 * i)) := by omega
      have y' : ¬ 0 ≤ σ 19 (9 * n + 3 * i + 2) := by omega
      simp [z', y']
    · rw [if_neg z]
      have z' : 0 ≤ σ 46 (σ 19 (9 * n + 3 * i)) := by omega
      simp [z']
  · have k23 : ¬ σ 9 n = 23 := by omega
    have ra : 0 ≤ σ 19 (9 * n + 3 * i) ∧ σ 19 (9 * n + 3 * i) < 200 := by omega
    have rb : 0 ≤ σ 19 (9 * n + 3 * i + 2) ∧ σ 19 (9 * n + 3 * i + 2) < 200 := by omega
    have nb : ¬ σ 19 (9 * n + 3 * i + 2) < 0 := by omega
    rw [if_neg k23, if_neg k23, if_pos b1, if_pos ra, w 46 _ (by decide), if_pos b2, if_neg nb, if_pos b2, if_pos rb, w 46 _ (by decide), mc_isStale_b95_e]
    have y' : 0 ≤ σ 19 (9 * n + 3 * i + 2) := a4.1
    by_cases z : σ 46 (σ 19 (9 * n + 3 * i)) < 0
    · rw [if_pos z]
      have z' : ¬ 0 ≤ σ 46 (σ 19 (9 * n + 3 * i)) := by omega
      by_cases x : σ 46 (σ 19 (9 * n + 3 * i + 2)) < 0
      · have x' : ¬ 0 ≤ σ 46 (σ 19 (9 * n + 3 * i + 2)) := by omega
        rw [if_pos x]
        simp [z', x']
      · have x' : 0 ≤ σ 46 (σ 19 (9 * n + 3 * i + 2)) := by omega
        rw [if_neg x]
        simp [x', y']
    · rw [if_neg z]
      have z' : 0 ≤ σ 46 (σ 19 (9 * n + 3 * i)) := by omega
      simp [z']
theorem stale_m {i : Nat} (hn : 0 ≤ n ∧ n < 16000) (hb : rBk σ τ) (hs : rSh σ τ) (k9 : τ 168 n = σ 9 n) (e : rEn σ τ n i) (hi : i < 3) (w : ∀ a j, (a = 156 ∨ a = 157 ∨ a = 168 ∨ a = 190) → W a j = τ a j) (w0 : W 182 (3 * n + i) = τ 182 (3 * n + i)) (w2 : W 184 (3 * n + i) = τ 184 (3 * n + i)) : md_isStale W n (3 * n + i) = some (W, if stB σ n i then 1 else 0) := by
  have n2 : 0 ≤ n ∧ n < 20000 := by omega
  have b1 : 0 ≤ 3 * n + (i : Int) ∧ 3 * n + (i : Int) < 60000 := by omega
  obtain ⟨e0, e⟩ := e
  have h42 := hs.2.1
  have h42' := hs.1
  have hh := hs.2.2.2.2.2.1
  rw [md_isStale_e, if_pos n2, w 168 n (by decide), k9, if_pos b1, w0, w2, e0]
  unfold stB
  rcases e with ⟨a1, a2, a3, a4, a5, a6⟩ | ⟨a1, a2, a3, a4, a5, a6, a7⟩ | ⟨a1, a2, a3, a4, a5, a6, a7⟩
  · have r60 := hb.1.1
    have g := hb.1.2 (σ 19 (9 * n + 3 * i)) a2.1 a2.2
    rw [if_pos a1, if_pos a1, md_isNewest_e, if_pos (by omega), w 157 _ (by decide), if_pos g.2.2.2.2.1, w 156 _ (by decide), g.2.2.2.2.2]
    by_cases z : σ 24 (σ 25 (σ 19 (9 * n + 3 * i))) = σ 19 (9 * n + 3 * i)
    · rw [if_pos z]
      simp [z]
    · rw [if_neg z]
      simp [z]
  · have k23 : ¬ σ 9 n = 23 := by omega
    have ra : 0 ≤ σ 19 (9 * n + 3 * i) ∧ σ 19 (9 * n + 3 * i) < 200 := by omega
    rw [if_neg k23, if_neg k23, if_pos b1, if_pos ra, w 190 _ (by decide), (hh _ a2.1 a2.2).1, if_pos n2, if_neg (show ¬ σ 9 n = 22 by omega), md_isStale_b69_e]
    by_cases z : σ 46 (σ 19 (9 * n + 3 * i)) < 0
    · rw [if_pos z]
      have z' : ¬ 0 ≤ σ 46 (σ 19 (9 * n + 3 * i)) := by omega
      have y' : ¬ 0 ≤ σ 19 (9 * n + 3 * i + 2) := by omega
      simp [z', y']
    · rw [if_neg z]
      have z' : 0 ≤ σ 46 (σ 19 (9 * n + 3 * i)) := by omega
      simp [z']
  · have k23 : ¬ σ 9 n = 23 := by omega
    have ra : 0 ≤ σ 19 (9 * n + 3 * i) ∧ σ 19 (9 * n + 3 * i) < 200 := by omega
    have rb : 0 ≤ σ 19 (9 * n + 3 * i + 2) ∧ σ 19 (9 * n + 3 * i + 2) < 200 := by omega
    rw [if_neg k23, if_neg k23, if_pos b1, if_pos ra, w 190 _ (by decide), (hh _ a2.1 a2.2).1, if_pos n2, if_pos a1, if_pos b1, a6, if_pos rb, w 190 _ (by decide), (hh _ a4.1 a4.2).1, md_isStale_b69_e]
    have y' : 0 ≤ σ 19 (9 * n + 3 * i + 2) := a4.1
    by_cases z : σ 46 (σ 19 (9 * n + 3 * i)) < 0
    · rw [if_pos z]
      have z' : ¬ 0 ≤ σ 46 (σ 19 (9 * n + 3 * i)) := by omega
      by_cases x : σ 46 (σ 19 (9 * n + 3 * i + 2)) < 0
      · have x' : ¬ 0 ≤ σ 46 (σ 19 (9 * n + 3 * i + 2)) := by omega
        rw [if_pos x]
        simp [z', x']
      · have x' : 0 ≤ σ 46 (σ 19 (9 * n + 3 * i + 2)) := by omega
        rw [if_neg x]
        simp [x', y']
    · rw [if_neg z]
      have z' : 0 ≤ σ 46 (σ 19 (9 * n + 3 * i)) := by omega
      simp [z']
end SL
