/-! strings of the component -/
/-- n letters from a place on -/
def lt (f : Int → Int) (a : Int) (n : Nat) : List Int := (List.range n).map fun i : Nat => f (a + i)
theorem lt_len {f : Int → Int} {a : Int} {n : Nat} : (lt f a n).length = n := by simp [lt]
theorem lt_eq {f g : Int → Int} {a b : Int} {n : Nat} : lt f a n = lt g b n ↔ ∀ i : Nat, i < n → f (a + i) = g (b + i) := by
  unfold lt
  rw [List.map_inj_left]
  simp only [List.mem_range]
theorem lt_n {f g : Int → Int} {a b : Int} {n m : Nat} (h : lt f a n = lt g b m) : n = m := by
  have := congrArg List.length h
  rwa [lt_len, lt_len] at this
theorem lt_congr {f g : Int → Int} {a b : Int} {n : Nat} (h : ∀ i : Nat, i < n → f (a + i) = g (b + i)) : lt f a n = lt g b n := lt_eq.mpr h
theorem lt_get {f : Int → Int} {a : Int} {n i : Nat} (h : i < n) : (lt f a n)[i]? = some (f (a + i)) := by simp [lt, h]
theorem lt_append {f : Int → Int} {a : Int} {n m : Nat} : lt f a (n + m) = lt f a n ++ lt f (a + n) m := by
  unfold lt
  rw [List.range_add, List.map_append, List.map_map]
  congr 1
  apply List.map_congr_left
  intro i _
  simp only [Function.comp_apply]
  congr 1
  omega
theorem lt_zero {f : Int → Int} {a : Int} : lt f a 0 = [] := rfl
theorem lt_one {f : Int → Int} {a : Int} : lt f a 1 = [f a] := by simp [lt]
theorem gisb_ok {ρ : Type} {m : Nat} {a : Int} {x : Option ρ} (h : gisb m a (some ()) = some ()) : gisb m a x = x := by
  unfold gisb at h ⊢
  split at h
  · rfl
  · cases h
/-- the letters of a string -/
def cS (σ : gM) (s : Int) : List Int := lt (σ 1) (σ 2 s) (σ 3 s).toNat
/-- strings that are there -/
def vS (σ : gM) (s : Int) : Prop := (0 ≤ s ∧ s < σ 0 7) ∨ (8000 ≤ s ∧ s < σ 0 10)
/-- texts, runs: where they lie; each text once -/
def hI (σ : gM) : Prop := (0 ≤ σ 0 7 ∧ σ 0 7 ≤ 8000) ∧ (0 ≤ σ 0 8 ∧ σ 0 8 ≤ 24000) ∧ (∀ s, 0 ≤ s → s < σ 0 7 → 0 ≤ σ 2 s ∧ 0 ≤ σ 3 s ∧ σ 2 s + σ 3 s ≤ σ 0 8) ∧ (∀ s t, 0 ≤ s → s < σ 0 7 → 0 ≤ t → t < σ 0 7 → cS σ s = cS σ t → s = t) ∧
  (8000 ≤ σ 0 10 ∧ 24000 ≤ σ 0 11 ∧ σ 0 10 - 8000 + (σ 0 11 - 24000) ≤ σ 0 13 ∧ σ 0 13 ≤ 100000) ∧ (∀ s, 8000 ≤ s → s < σ 0 10 → 24000 ≤ σ 2 s ∧ 0 ≤ σ 3 s ∧ σ 2 s + σ 3 s ≤ σ 0 11)
theorem hI.v {σ : gM} (h : hI σ) {s : Int} (hs : vS σ s) : 0 ≤ s ∧ s < 108000 ∧ 0 ≤ σ 2 s ∧ 0 ≤ σ 3 s ∧ σ 2 s + σ 3 s ≤ 124000 := by
  obtain ⟨h1, h2, h3, h4, h5, h6⟩ := h
  rcases hs with hs | hs
  · have := h3 s hs.1 hs.2
    omega
  · have := h6 s hs.1 hs.2
    omega
theorem hp_is_b16_s {σ : gM} {s row f : Int} {n : Nat} (h1 : 0 ≤ s ∧ s < 108000) (h2 : 0 ≤ σ 2 s ∧ σ 2 s + n ≤ 124600) (hr : gisb 119 row (some ()) = some ()) (hf : 0 ≤ f ∧ f + n ≤ gN row) (hl : gN row ≤ 1000000) :
    ∀ (m k : Nat), k + m = n → ∃ r, hp_is_b16 σ s row f n k = some (σ, r) ∧ (r = 0 ∨ r = 1) ∧ (r = 1 ↔ ∀ i : Nat, k ≤ i → i < n → σ 1 (σ 2 s + i) = σ row (f + i))
  | 0, k, hk => by
    rw [hp_is_b16_e, if_neg (by omega)]
    exact ⟨1, rfl, Or.inr rfl, fun _ i h1 h2 => by omega, fun _ => rfl⟩
  | m + 1, k, hk => by
    rw [hp_is_b16_e, if_pos (by omega), w32_e (x := σ 2 s + k) (by omega) (by omega), w32_e (x := f + k) (by omega) (by omega), w32_e (x := (k : Int) + 1) (by omega) (by omega)]
    have b1 : 0 ≤ σ 2 s + (k : Int) ∧ σ 2 s + (k : Int) < 124600 := by omega
    have b2 : 0 ≤ f + (k : Int) ∧ f + (k : Int) < gN row := by omega
    simp only [h1, b1, b2, and_self, if_true, gisb_ok hr]
    by_cases he : σ 1 (σ 2 s + k) = σ row (f + k)
    · rw [if_pos he, show (k : Int) + 1 = ((k + 1 : Nat) : Int) by omega]
      obtain ⟨r, i1, i2, i3⟩ := hp_is_b16_s h1 h2 hr hf hl m (k + 1) (by omega)
      refine ⟨r, i1, i2, i3.trans ⟨fun q i a b => ?_, fun q i a b => q i (by omega) b⟩⟩
      by_cases hi : i = k
      · subst hi; exact he
      · exact q i (by omega) b
    · rw [if_neg he]
      refine ⟨0, rfl, Or.inl rfl, ⟨fun q => absurd q (by decide), fun q => absurd (q k (Nat.le_refl k) (by omega)) he⟩⟩
theorem hp_is_s {σ : gM} {s row f : Int} {n : Nat} (h1 : 0 ≤ s ∧ s < 108000) (h2 : 0 ≤ σ 2 s ∧ 0 ≤ σ 3 s ∧ σ 2 s + σ 3 s ≤ 124600) (hr : gisb 119 row (some ()) = some ()) (hf : 0 ≤ f ∧ f + n ≤ gN row) (hl : gN row ≤ 1000000) :
    hp_is σ s row f n = some (σ, if cS σ s = lt (σ row) f n then 1 else 0) := by
  rw [hp_is_e]
  simp only [h1, and_self, if_true]
  by_cases he : σ 3 s = n
  · rw [if_pos he]
    obtain ⟨r, i1, i2, i3⟩ := hp_is_b16_s (σ := σ) (n := n) h1 (by omega) hr hf hl n 0 (by omega)
    have i1' : hp_is_b16 σ s row f n 0 = some (σ, r) := i1
    rw [i1']
    have e : (r = 1) ↔ cS σ s = lt (σ row) f n := by
      rw [i3]
      unfold cS
      rw [he, Int.toNat_natCast, lt_eq]
      exact ⟨fun q i a => q i (Nat.zero_le _) a, fun q i _ a => q i a⟩
    by_cases hq : cS σ s = lt (σ row) f n
    · rw [if_pos hq, e.mpr hq]
    · rw [if_neg hq]
      rcases i2 with i2 | i2
      · rw [i2]
      · exact absurd (e.mp i2) hq
  · rw [if_neg he, if_neg]
    intro q
    have := lt_n q
    omega
theorem hp_isSame_s {σ : gM} (h : hI σ) {s t : Int} (hs : vS σ s) (ht : vS σ t) : hp_isSame σ s t = some (σ, if cS σ s = cS σ t then 1 else 0) := by
  have vs := h.v hs
  have vt := h.v ht
  rw [hp_isSame_e]
  by_cases he : s = t
  · subst he
    rw [if_pos rfl, hp_isSame_b29_e, if_pos rfl]
  · rw [if_neg he]
    have b : 0 ≤ t ∧ t < 108000 := by omega
    simp only [b, and_self, if_true]
    have e3 : σ 3 t = ((σ 3 t).toNat : Int) := by omega
    rw [e3, hp_is_s (by omega) (by omega) (by rfl) (by show _ ∧ _ ≤ (124600 : Int); omega) (by decide)]
    simp only [Option.bind_some, hp_isSame_b29_e]
    rw [show lt (σ 1) (σ 2 t) (σ 3 t).toNat = cS σ t from rfl]
    by_cases hq : cS σ s = cS σ t
    · simp only [if_pos hq]
      rfl
    · simp only [if_neg hq]
      rfl
/-- what a text's new string leaves -/
theorem hp_string_b3_s {σ : gM} {row f : Int} {n : Nat} (h : hI σ) (hr : gisb 119 row (some ()) = some ()) (hf : 0 ≤ f ∧ f + n ≤ gN row) (hl : gN row ≤ 1000000) :
    ∀ (m : Nat) (k : Int), 0 ≤ k → k + m = σ 0 7 → (∀ s, 0 ≤ s → s < k → cS σ s ≠ lt (σ row) f n) →
      (∃ s, (0 ≤ s ∧ s < σ 0 7) ∧ cS σ s = lt (σ row) f n ∧ hp_string_b3 σ row f n k = some (σ, s)) ∨ ((∀ s, 0 ≤ s → s < σ 0 7 → cS σ s ≠ lt (σ row) f n) ∧ hp_string_b3 σ row f n k = hp_string_b3 σ row f n (σ 0 7))
  | 0, k, h0, hk, hn => by
    right
    have : k = σ 0 7 := by omega
    subst this
    exact ⟨hn, rfl⟩
  | m + 1, k, h0, hk, hn => by
    have hv := h.v (s := k) (Or.inl ⟨h0, by omega⟩)
    have e : hp_string_b3 σ row f n k = if cS σ k = lt (σ row) f n then some (σ, k) else hp_string_b3 σ row f n (k + 1) := by
      rw [hp_string_b3_e, if_pos (by omega), hp_is_s (by omega) (by omega) hr hf hl, w32_e (x := k + 1) (by omega) (by omega)]
      simp only [Option.bind_some]
      by_cases hq : cS σ k = lt (σ row) f n
      · simp only [if_pos hq]; rfl
      · simp only [if_neg hq]; rfl
    rw [e]
    by_cases hq : cS σ k = lt (σ row) f n
    · left
      exact ⟨k, ⟨h0, by omega⟩, hq, by rw [if_pos hq]⟩
    · rw [if_neg hq]
      refine hp_string_b3_s h hr hf hl m (k + 1) (by omega) (by omega) (fun s a b => ?_)
      by_cases hs : s = k
      · subst hs; exact hq
      · exact hn s a (by omega)
/-- a string of a text: it is there, or it comes -/
theorem hp_string_s {σ : gM} {row f : Int} {n : Nat} (h : hI σ) (hrow : row = 1 ∨ row = 41 ∨ row = 118) (hf : 0 ≤ f ∧ f + n ≤ gN row) (hov : row = 1 → 24000 ≤ f ∨ f + n ≤ σ 0 8) (r1 : σ 0 7 < 8000) (r2 : σ 0 8 + n ≤ 24000) :
    ∃ σ' k, hp_string σ row f n = some (σ', k) ∧ hI σ' ∧ (0 ≤ k ∧ k < σ' 0 7) ∧ cS σ' k = lt (σ row) f n ∧ (σ 0 7 ≤ σ' 0 7 ∧ σ' 0 7 ≤ σ 0 7 + 1) ∧ (σ 0 8 ≤ σ' 0 8 ∧ σ' 0 8 ≤ σ 0 8 + n) ∧
      (∀ s, vS σ s → cS σ' s = cS σ s ∧ σ' 4 s = σ 4 s ∧ σ' 5 s = σ 5 s ∧ σ' 2 s = σ 2 s ∧ σ' 3 s = σ 3 s) ∧ (k = σ 0 7 → σ' 0 7 = σ 0 7 + 1 ∧ σ' 4 k = -1 ∧ σ' 5 k = 0 ∧ ∀ s, 0 ≤ s → s < σ 0 7 → cS σ s ≠ lt (σ row) f n) ∧ (k ≠ σ 0 7 → σ' = σ) ∧
      (∀ a i, a ≠ 0 → a ≠ 1 → a ≠ 2 → a ≠ 3 → a ≠ 4 → a ≠ 5 → σ' a i = σ a i) ∧ (∀ i, i ≠ 7 → i ≠ 8 → σ' 0 i = σ 0 i) ∧ (∀ i, 24000 ≤ i ∨ i < σ 0 8 → σ' 1 i = σ 1 i) := by
  have hr : gisb 119 row (some ()) = some () := by rcases hrow with e | e | e <;> subst e <;> rfl
  have hl : gN row ≤ 1000000 := by rcases hrow with e | e | e <;> subst e <;> decide
  rw [hp_string_e]
  have hh := h
  obtain ⟨h1, h2, h3, h4, h5, h6⟩ := hh
  rcases hp_string_b3_s h hr hf hl (σ 0 7).toNat 0 (by omega) (by omega) (fun s a b => by omega) with ⟨s, a, b, c⟩ | ⟨a, b⟩
  · refine ⟨σ, s, c, h, a, b, by omega, by omega, fun s _ => ⟨rfl, rfl, rfl, rfl, rfl⟩, fun q => by omega, fun _ => rfl, fun _ _ _ _ _ _ _ _ => rfl, fun _ _ _ => rfl, fun _ _ => rfl⟩
  · rw [b, hp_string_b3_e, if_neg (by omega)]
    have b1 : 0 ≤ σ 0 7 ∧ σ 0 7 < 108000 := by omega
    simp only [b1, and_self, if_true]
    have hn1 : row ≠ 2 ∧ row ≠ 3 ∧ row ≠ 4 ∧ row ≠ 5 ∧ row ≠ 0 := by rcases hrow with e | e | e <;> subst e <;> decide
    have ej : jcopy (119, 44464162267129419042651258243336156615655674111605976591151712259038641781735486) 0 [(2, row), (0, f), (2, 1), (0, σ 0 8), (0, (n : Int))] (gW (gW (gW (gW σ 2 (σ 0 7) (σ 0 8)) 3 (σ 0 7) n) 4 (σ 0 7) (-1)) 5 (σ 0 7) 0) = some (gCpy (gW (gW (gW (gW σ 2 (σ 0 7) (σ 0 8)) 3 (σ 0 7) n) 4 (σ 0 7) (-1)) 5 (σ 0 7) 0) row f 1 (σ 0 8) n, 0) := by
      show gis 119 row 2 (gis 119 1 2 (gwr 44464162267129419042651258243336156615655674111605976591151712259038641781735486 1 0 (if (0 ≤ f ∧ 0 ≤ σ 0 8 ∧ 0 ≤ (n : Int)) ∧ f + n ≤ gN row ∧ σ 0 8 + n ≤ gN 1 then some (gCpy _ row f 1 (σ 0 8) n, 0) else none))) = _
      have g1 : gis 119 row 2 (gis 119 1 2 (gwr 44464162267129419042651258243336156615655674111605976591151712259038641781735486 1 0 (if (0 ≤ f ∧ 0 ≤ σ 0 8 ∧ 0 ≤ (n : Int)) ∧ f + n ≤ gN row ∧ σ 0 8 + n ≤ gN 1 then some (gCpy (gW (gW (gW (gW σ 2 (σ 0 7) (σ 0 8)) 3 (σ 0 7) n) 4 (σ 0 7) (-1)) 5 (σ 0 7) 0) row f 1 (σ 0 8) n, (0 : Int)) else none))) = (if (0 ≤ f ∧ 0 ≤ σ 0 8 ∧ 0 ≤ (n : Int)) ∧ f + n ≤ gN row ∧ σ 0 8 + n ≤ gN 1 then some (gCpy (gW (gW (gW (gW σ 2 (σ 0 7) (σ 0 8)) 3 (σ 0 7) n) 4 (σ 0 7) (-1)) 5 (σ 0 7) 0) row f 1 (σ 0 8) n, (0 : Int)) else none) := by
        rcases hrow with e | e | e <;> subst e <;> rfl
      rw [g1, if_pos]
      refine ⟨⟨hf.1, h2.1, Int.natCast_nonneg _⟩, hf.2, ?_⟩
      show _ ≤ (124600 : Int)
      omega
    rw [ej]
    simp only [Option.bind_some]
    generalize hS : gCpy (gW (gW (gW (gW σ 2 (σ 0 7) (σ 0 8)) 3 (σ 0 7) n) 4 (σ 0 7) (-1)) 5 (σ 0 7) 0) row f 1 (σ 0 8) n = S
    have c0 : ∀ i, S 0 i = σ 0 i := by
      intro i; rw [← hS]; unfold gCpy
      rw [if_neg (by omega), gW_c (by decide), gW_c (by decide), gW_c (by decide), gW_c (by decide)]
    have c1 : ∀ i, S 1 i = if σ 0 8 ≤ i ∧ i < σ 0 8 + n then σ row (f + (i - σ 0 8)) else σ 1 i := by
      intro i; rw [← hS]; unfold gCpy
      by_cases q : σ 0 8 ≤ i ∧ i < σ 0 8 + n
      · rw [if_pos ⟨rfl, q⟩, if_pos q, gW_c hn1.2.2.2.1, gW_c hn1.2.2.1, gW_c hn1.2.1, gW_c hn1.1]
      · rw [if_neg (fun z => q z.2), if_neg q, gW_c (by decide), gW_c (by decide), gW_c (by decide), gW_c (by decide)]
    have c2 : ∀ i, S 2 i = if i = σ 0 7 then σ 0 8 else σ 2 i := by
      intro i; rw [← hS]; unfold gCpy
      rw [if_neg (by omega), gW_c (by decide), gW_c (by decide), gW_c (by decide), gW_if]
    have c3 : ∀ i, S 3 i = if i = σ 0 7 then (n : Int) else σ 3 i := by
      intro i; rw [← hS]; unfold gCpy
      rw [if_neg (by omega), gW_c (by decide), gW_c (by decide), gW_if, gW_c (by decide)]
    have c4 : ∀ i, S 4 i = if i = σ 0 7 then (-1 : Int) else σ 4 i := by
      intro i; rw [← hS]; unfold gCpy
      rw [if_neg (by omega), gW_c (by decide), gW_if, gW_c (by decide), gW_c (by decide)]
    have c5 : ∀ i, S 5 i = if i = σ 0 7 then (0 : Int) else σ 5 i := by
      intro i; rw [← hS]; unfold gCpy
      rw [if_neg (by omega), gW_if, gW_c (by decide), gW_c (by decide), gW_c (by decide)]
    have co : ∀ a i, a ≠ 0 → a ≠ 1 → a ≠ 2 → a ≠ 3 → a ≠ 4 → a ≠ 5 → S a i = σ a i := by
      intro a i q0 q1 q2 q3 q4 q5; rw [← hS]; unfold gCpy
      rw [if_neg (fun z => q1 z.1), gW_c q5, gW_c q4, gW_c q3, gW_c q2]
    clear hS ej
    rw [c0, c0, w32_e (x := σ 0 8 + n) (by omega) (by omega), w32_e (x := σ 0 7 + 1) (by omega) (by omega), w32_e (by omega) (by omega), show σ 0 7 + 1 - 1 = σ 0 7 by omega]
    have d0 : ∀ i, gW (gW S 0 8 (σ 0 8 + n)) 0 7 (σ 0 7 + 1) 0 i = if i = 7 then σ 0 7 + 1 else if i = 8 then σ 0 8 + n else σ 0 i := by
      intro i; rw [gW_if, gW_if, c0]
    have dd : ∀ a i, a ≠ 0 → gW (gW S 0 8 (σ 0 8 + n)) 0 7 (σ 0 7 + 1) a i = S a i := by
      intro a i q; rw [gW_c q, gW_c q]
    generalize gW (gW S 0 8 (σ 0 8 + n)) 0 7 (σ 0 7 + 1) = σ' at d0 dd
    have t7 : σ' 0 7 = σ 0 7 + 1 := by rw [d0]; simp
    have t8 : σ' 0 8 = σ 0 8 + n := by rw [d0]; simp
    have t10 : σ' 0 10 = σ 0 10 := by rw [d0]; simp
    have t11 : σ' 0 11 = σ 0 11 := by rw [d0]; simp
    have t13 : σ' 0 13 = σ 0 13 := by rw [d0]; simp
    have keep : ∀ s, vS σ s → cS σ' s = cS σ s ∧ σ' 4 s = σ 4 s ∧ σ' 5 s = σ 5 s ∧ σ' 2 s = σ 2 s ∧ σ' 3 s = σ 3 s := by
      intro s hs
      have ns : s ≠ σ 0 7 := by rcases hs with q | q <;> omega
      have e2 : σ' 2 s = σ 2 s := by rw [dd _ _ (by decide), c2, if_neg ns]
      have e3 : σ' 3 s = σ 3 s := by rw [dd _ _ (by decide), c3, if_neg ns]
      refine ⟨?_, by rw [dd _ _ (by decide), c4, if_neg ns], by rw [dd _ _ (by decide), c5, if_neg ns], e2, e3⟩
      unfold cS
      rw [e2, e3, lt_eq]
      intro i hi
      rw [dd _ _ (by decide), c1, if_neg]
      rcases hs with q | q
      · have := h3 s q.1 q.2; omega
      · have := h6 s q.1 q.2; omega
    have newS : cS σ' (σ 0 7) = lt (σ row) f n := by
      unfold cS
      rw [dd _ _ (by decide), dd _ _ (by decide), c2, c3, if_pos rfl, if_pos rfl, Int.toNat_natCast, lt_eq]
      intro i hi
      rw [dd _ _ (by decide), c1, if_pos (by omega)]
      congr 1
      omega
    refine ⟨σ', σ 0 7, rfl, ⟨by omega, by omega, ?_, ?_, by omega, ?_⟩, by omega, newS, by omega, by omega, keep, fun _ => ⟨t7, by rw [dd _ _ (by decide), c4, if_pos rfl], by rw [dd _ _ (by decide), c5, if_pos rfl], a⟩, fun q => absurd rfl q, ?_, ?_, ?_⟩
    · intro s q1 q2
      by_cases hs : s = σ 0 7
      · subst hs
        rw [dd _ _ (by decide), dd _ _ (by decide), c2, c3, if_pos rfl, if_pos rfl]
        omega
      · have := keep s (Or.inl ⟨q1, by omega⟩)
        have := h3 s q1 (by omega)
        omega
    · intro s t q1 q2 q3 q4 q5
      by_cases hs : s = σ 0 7 <;> by_cases ht : t = σ 0 7
      · omega
      · subst hs
        rw [newS, (keep t (Or.inl ⟨q3, by omega⟩)).1] at q5
        exact absurd q5.symm (a t q3 (by omega))
      · subst ht
        rw [newS, (keep s (Or.inl ⟨q1, by omega⟩)).1] at q5
        exact absurd q5 (a s q1 (by omega))
      · rw [(keep t (Or.inl ⟨q3, by omega⟩)).1, (keep s (Or.inl ⟨q1, by omega⟩)).1] at q5
        exact h4 s t q1 (by omega) q3 (by omega) q5
    · intro s q1 q2
      have := keep s (Or.inr ⟨q1, by omega⟩)
      have := h6 s q1 (by omega)
      omega
    · intro a' i q0 q1 q2 q3 q4 q5
      rw [dd _ _ q0, co a' i q0 q1 q2 q3 q4 q5]
    · intro i q1 q2
      rw [d0, if_neg q1, if_neg q2]
    · intro i q
      rw [dd _ _ (by decide), c1, if_neg (by omega)]
