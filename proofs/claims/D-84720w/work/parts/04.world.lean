/-! the world of the two systems over the machine's heap -/
def gcl : List vw_C := [(RX2, TX2, 15), (RX3, TX3, 42), (RX4, TX4, 4), (RX5, TX5, 13), (RX6, TX6, 20), (RX7, TX7, 23), (RX8, TX8, 10), (RX9, TX9, 48), (RX1, TX1, 10), (RX11, TX11, 6), (RX10, TX10, 156)]
def gTys : List (List Nat) := [[2, 2, 2, 2, 2, 2, 2, 0, 0, 0, 0, 0, 0, 0, 0], [2, 2, 2, 2, 2, 2, 2, 2, 2, 2, 2, 2, 0, 2, 2, 2, 0, 2, 2, 0, 2, 2, 2, 2, 2, 2, 2, 2, 2, 2, 2, 0, 4, 3, 0, 0, 0, 0, 2, 2, 2, 2], [0, 2, 2, 1], [2, 2, 2, 2, 2, 2, 0, 2, 2, 2, 0, 0, 2], [2, 2, 2, 2, 2, 2, 2, 2, 2, 2, 0, 0, 0, 2, 2, 2, 2, 2, 2, 0], [2, 2, 2, 2, 2, 2, 2, 2, 2, 2, 0, 2, 2, 2, 2, 2, 2, 2, 2, 0, 0, 0, 0], [3, 0, 0, 0, 0, 0, 0, 0, 0, 0], [2, 2, 2, 2, 2, 8, 2, 2, 0, 2, 2, 2, 2, 2, 2, 2, 2, 2, 2, 0, 0, 0, 0, 0, 0, 0, 0, 0, 2, 2, 2, 0, 2, 2, 0, 0, 0, 0, 0, 0, 0, 0, 0, 2, 2, 2, 2, 1], [2, 2, 2, 2, 2, 2, 2, 0, 0, 0], [9, 9, 9, 9, 9, 9], [2, 8, 2, 2, 2, 2, 2, 2, 2, 0, 0, 0, 0, 0, 2, 0, 0, 2, 2, 2, 2, 2, 2, 0, 0, 0, 0, 0, 0, 0, 0, 0, 2, 2, 2, 2, 2, 2, 2, 2, 2, 2, 2, 0, 0, 2, 2, 2, 2, 2, 2, 2, 2, 2, 0, 0, 0, 0, 2, 2, 2, 2, 2, 2, 2, 2, 2, 2, 2, 2, 2, 2, 2, 2, 2, 2, 2, 2, 2, 2, 2, 2, 2, 2, 2, 2, 2, 2, 2, 0, 2, 2, 1, 1, 0, 0, 2, 2, 2, 2, 2, 2, 2, 2, 0, 2, 2, 2, 2, 2, 2, 2, 2, 2, 2, 2, 2, 0, 0, 0, 0, 0, 0, 0, 0, 0, 0, 7, 0, 0, 0, 2, 2, 2, 2, 2, 2, 2, 2, 2, 2, 2, 2, 2, 2, 2, 2, 2, 0, 1, 2, 0, 2, 0, 0, 0]]
/-- classes and slots; addresses of cells; addresses of constant texts; array classes; how many cells; what the Stop holds -/
abbrev gZ : Type := va_G × (Nat → Nat) × (Nat → Nat) × (Nat → ClassId) × Nat × List Value
abbrev zD (Z : gZ) : va_G := Z.1
abbrev zA (Z : gZ) : Nat → Nat := Z.2.1
abbrev zS (Z : gZ) : Nat → Nat := Z.2.2.1
/-- where the letters of a constant text lie -/
abbrev zV (Z : gZ) : Nat → Nat := fun k => Z.2.2.1 (1000 + k)
abbrev zC (Z : gZ) : Nat → ClassId := Z.2.2.2.1
abbrev zN (Z : gZ) : Nat := Z.2.2.2.2.1
abbrev zX (Z : gZ) : List Value := Z.2.2.2.2.2
def gref (Z : gZ) (v : Int) : Value := if v < 0 then .null else .ref (zA Z v.toNat)
def gfv (Z : gZ) (t : Nat) (v : Int) : Value := if t = 1 then .long (Int64.ofInt v) else if t = 2 ∨ t = 3 ∨ t = 4 then gref Z v else .int (Int32.ofInt v)
def gty (c : Nat) : List Nat := gTys.getD (c - 10) []
def gfs (Z : gZ) (σ : gM) (a : Nat) (c : Nat) : List Value := (gty c).zipIdx.map (fun q => gfv Z q.1 (σ a q.2))
def gpic (Z : gZ) (σ : gM) (a : Nat) : va_E :=
  if gK a = 1 ∨ gK a = 2 ∨ gK a = 3 then .inl (zC Z (gK a), (gN a).toNat, .inl fun j => Int32.ofInt (σ a j))
  else if gK a = 4 then .inl (zC Z 4, (gN a).toNat, .inr (.inl fun j => Int64.ofInt (σ a j)))
  else if gK a = 5 then .inl (zC Z 5, (gN a).toNat, .inr (.inr (.inr (.inr fun j => some (zS Z (σ a j).toNat)))))
  else if gK a = 19 then .inr (9, zX Z)
  else .inr (gK a - 10, gfs Z σ a (gK a))
def gws (Z : gZ) (σ : gM) : va_W := (List.range (zN Z)).map (fun a => (zA Z a, gpic Z σ a))
def gA (Z : gZ) : Nat → Prop := fun q => ∃ a, a < zN Z ∧ q = zA Z a
def gtys (Z : gZ) : List (ClassId × FieldType) := [(zC Z 1, .int), (zC Z 2, .byte), (zC Z 3, .boolean), (zC Z 4, .long), (zC Z 5, .object "java/lang/String")]
/-- a constant text's letters; the number gStrN is a static that holds a reference or null -/
def gnv (Z : gZ) (k : Nat) : Value := if k = gStrN then (if zV Z k = 0 then .null else .ref (zV Z k - 1)) else .ref (zV Z k)
theorem gnv_lt {Z : gZ} {k : Nat} (h : k < gStrN) : gnv Z k = .ref (zV Z k) := by
  unfold gnv
  rw [if_neg (Nat.ne_of_lt h)]
theorem gnv_cs (Z : gZ) (k : Nat) : gnv Z k = .null ∨ ∃ a, gnv Z k = .ref a := by
  unfold gnv
  split
  · split
    · exact Or.inl rfl
    · exact Or.inr ⟨_, rfl⟩
  · exact Or.inr ⟨_, rfl⟩
def cv (Z : gZ) (v : gV) : Value := if v.1 = 0 then .int (Int32.ofInt v.2) else if v.1 = 1 then .long (Int64.ofInt v.2) else if v.1 = 2 then .ref (zA Z v.2.toNat) else if v.1 = 3 then .ref (zS Z v.2.toNat) else if v.1 = 4 then gnv Z v.2.toNat else .null
theorem cv4 (Z : gZ) (x : Int) : cv Z (4, x) = gnv Z x.toNat := rfl
def i1 (x : Int) : Prop := 0 ≤ x ∧ x ≤ 1
def i8 (x : Int) : Prop := -128 ≤ x ∧ x ≤ 127
def i32 (x : Int) : Prop := -2147483648 ≤ x ∧ x ≤ 2147483647
def i64 (x : Int) : Prop := -9223372036854775808 ≤ x ∧ x ≤ 9223372036854775807
def gcan (v : gV) : Prop := (v.1 = 0 → i32 v.2) ∧ (v.1 = 1 → i64 v.2)
def gcans (l : List gV) : Prop := ∀ v ∈ l, gcan v
def gfit (t : Nat) (v r : Int) : Prop := (t = 0 ∨ t = 8 → i32 v) ∧ (t = 1 → i64 v) ∧ (t = 2 → v = r) ∧ (t = 7 → i1 v) ∧ (t = 4 → v < 0 ∨ v = r)
/-- every cell holds what its kind allows -/
def gI (N : Nat) (σ : gM) : Prop := ∀ a : Nat, a < N → (gK a = 1 → ∀ j, i32 (σ a j)) ∧ (gK a = 2 → ∀ j, i8 (σ a j)) ∧ (gK a = 3 → ∀ j, i1 (σ a j)) ∧ (gK a = 4 → ∀ j, i64 (σ a j)) ∧
  (10 ≤ gK a → ∀ (k t : Nat), (gty (gK a))[k]? = some t → gfit t (σ a k) (gR a k))
/-! numbers -/
theorem w32_i (x : Int) : i32 (w32 x) := by
  unfold i32 w32
  have h1 := Int.le_bmod (x := x) (m := 4294967296) (by decide)
  have h2 := Int.bmod_lt (x := x) (m := 4294967296) (by decide)
  omega
theorem w64_i (x : Int) : i64 (w64 x) := by
  unfold i64 w64
  have h1 := Int.le_bmod (x := x) (m := 18446744073709551616) (by decide)
  have h2 := Int.bmod_lt (x := x) (m := 18446744073709551616) (by decide)
  omega
theorem w8_i (x : Int) : i8 (w8 x) := by
  unfold i8 w8
  have h1 := Int.le_bmod (x := x) (m := 256) (by decide)
  have h2 := Int.bmod_lt (x := x) (m := 256) (by decide)
  omega
theorem w8_i32 (x : Int) : i32 (w8 x) := by have := w8_i x; unfold i8 at this; unfold i32; omega
theorem of32 {x : Int} (h : i32 x) : (Int32.ofInt x).toInt = x := by
  unfold i32 at h
  rw [Int32.toInt_ofInt]
  show Int.bmod x 4294967296 = x
  exact Int.bmod_eq_of_le (by omega) (by omega)
theorem of64 {x : Int} (h : i64 x) : (Int64.ofInt x).toInt = x := by
  unfold i64 at h
  rw [Int64.toInt_ofInt]
  show Int.bmod x 18446744073709551616 = x
  exact Int.bmod_eq_of_le (by omega) (by omega)
theorem w32_of (x : Int) : Int32.ofInt (w32 x) = Int32.ofInt x := by
  apply Int32.toInt_inj.mp
  rw [of32 (w32_i x), Int32.toInt_ofInt]
  rfl
theorem w64_of (x : Int) : Int64.ofInt (w64 x) = Int64.ofInt x := by
  apply Int64.toInt_inj.mp
  rw [of64 (w64_i x), Int64.toInt_ofInt]
  rfl
theorem i32_toInt (x : Int32) : i32 x.toInt := ⟨Int32.le_toInt x, Int32.toInt_le x⟩
theorem i64_toInt (x : Int64) : i64 x.toInt := ⟨Int64.le_toInt x, Int64.toInt_le x⟩
theorem w32_id {x : Int} (h1 : -2147483648 ≤ x) (h2 : x ≤ 2147483647) : w32 x = x := by
  have := of32 ⟨h1, h2⟩
  rw [Int32.toInt_ofInt] at this
  exact this
theorem w64_id {x : Int} (h1 : -9223372036854775808 ≤ x) (h2 : x ≤ 9223372036854775807) : w64 x = x := by
  have := of64 ⟨h1, h2⟩
  rw [Int64.toInt_ofInt] at this
  exact this

/-! pictures -/
theorem gK_neg {a : Int} (h : a < 0) : gK a = 0 := by
  cases a with
  | ofNat k => exact absurd h (by simp)
  | negSucc k => rfl
theorem gK_nat {a : Int} {c : Nat} (hc : c ≠ 0) (h : gK a = c) : 0 ≤ a ∧ ((a.toNat : Nat) : Int) = a := by
  have h0 : 0 ≤ a := by
    rcases Int.lt_or_le a 0 with h1 | h1
    · rw [gK_neg h1] at h; exact absurd h.symm hc
    · exact h1
  exact ⟨h0, Int.toNat_of_nonneg h0⟩
theorem gis_spec {ρ : Type} {m : Nat} {a : Int} {c : Nat} {x : Option ρ} {r : ρ} (h : gis m a c x = some r) : gK a = c ∧ a.toNat < m ∧ x = some r := by
  unfold gis at h
  split at h
  · rename_i hb
    simp only [Bool.and_eq_true, Nat.beq_eq, Nat.blt_eq] at hb
    exact ⟨hb.1, hb.2, h⟩
  · cases h
theorem gisb_spec {ρ : Type} {m : Nat} {a : Int} {x : Option ρ} {r : ρ} (h : gisb m a x = some r) : (gK a = 2 ∨ gK a = 3) ∧ a.toNat < m ∧ x = some r := by
  unfold gisb at h
  split at h
  · rename_i hb
    simp only [Bool.and_eq_true, Bool.or_eq_true, Nat.beq_eq, Nat.blt_eq] at hb
    exact ⟨hb.1, hb.2, h⟩
  · cases h
theorem gisa_spec {ρ : Type} {m : Nat} {a : Int} {x : Option ρ} {r : ρ} (h : gisa m a x = some r) : (1 ≤ gK a ∧ gK a ≤ 5) ∧ a.toNat < m ∧ x = some r := by
  unfold gisa at h
  split at h
  · rename_i hb
    simp only [Bool.and_eq_true, Nat.ble_eq, Nat.blt_eq] at hb
    exact ⟨hb.1, hb.2, h⟩
  · cases h
theorem gwr_spec {ρ : Type} {w : Nat} {a k : Int} {x : Option ρ} {r : ρ} (h : gwr w a k x = some r) : gbit w a k = true ∧ x = some r := by
  unfold gwr at h
  split at h
  · rename_i hb
    exact ⟨hb, h⟩
  · cases h
theorem gwe_spec {ρ : Type} {E : gE} {a k : Int} {x : Option ρ} {r : ρ} (h : gwe E a k x = some r) : gbit E.2.2.2.2.2.1.2 a k = true ∧ x = some r := by
  obtain ⟨e1, e2, e3, e4, e5, ⟨e6, e7⟩, e8⟩ := E
  exact gwr_spec h
theorem gtx_spec {ρ : Type} {x : Int} {y : Option ρ} {r : ρ} (h : gtx x y = some r) : ∃ k : Nat, x = (k : Int) ∧ k < gStrN ∧ y = some r := by
  unfold gtx at h
  split at h
  · rename_i k
    split at h
    · rename_i hb
      exact ⟨k, rfl, by simpa [Nat.blt_eq, gStrN] using hb, h⟩
    · cases h
  · cases h
theorem g01_spec {ρ : Type} {v : Int} {x : Option ρ} {r : ρ} (h : g01 v x = some r) : i1 v ∧ x = some r := by
  unfold g01 at h
  split at h
  · rename_i hb
    simp only [Bool.or_eq_true, decide_eq_true_eq] at hb
    exact ⟨by unfold i1; omega, h⟩
  · cases h
theorem geq_spec {ρ : Type} {v w : Int} {x : Option ρ} {r : ρ} (h : geq v w x = some r) : v = w ∧ x = some r := by
  unfold geq at h
  split at h
  · rename_i hb
    exact ⟨by simpa using hb, h⟩
  · cases h
theorem gws_at {Z : gZ} {σ : gM} {a : Nat} (h : a < zN Z) : (gws Z σ)[a]? = some (zA Z a, gpic Z σ a) := by
  unfold gws
  rw [List.getElem?_map, List.getElem?_range h]
  rfl
theorem gws_get {Z : gZ} {σ : gM} {k : Nat} {q : Nat × va_E} (h : (gws Z σ)[k]? = some q) : k < zN Z ∧ q = (zA Z k, gpic Z σ k) := by
  unfold gws at h
  rw [List.getElem?_map] at h
  by_cases hk : k < zN Z
  · rw [List.getElem?_range hk] at h
    exact ⟨hk, (Option.some.inj h).symm⟩
  · rw [List.getElem?_eq_none (by simp; omega)] at h
    cases h
/-- addresses apart -/
def gInj (Z : gZ) : Prop := ∀ i j : Nat, i < zN Z → j < zN Z → zA Z i = zA Z j → i = j
theorem gD {Z : gZ} {σ : gM} (h : gInj Z) : va_D (gA Z) (gws Z σ) := by
  refine ⟨fun i j x y hi hj hxy => ?_, fun k q hk => ?_⟩
  · obtain ⟨h1, rfl⟩ := gws_get hi
    obtain ⟨h2, rfl⟩ := gws_get hj
    exact h i j h1 h2 hxy
  · obtain ⟨h1, rfl⟩ := gws_get hk
    exact ⟨k, h1, rfl⟩
theorem gpic_ne {Z : gZ} {σ : gM} {a : Int} {i v : Int} {b : Nat} (h : (b : Int) ≠ a) : gpic Z (gW σ a i v) b = gpic Z σ b := by
  have e : ∀ j, gW σ a i v b j = σ b j := fun j => by unfold gW; rw [if_neg (fun q => h q.1)]
  unfold gpic gfs
  simp only [e]
theorem gws_set {Z : gZ} {σ : gM} {a : Nat} {i v : Int} {e : va_E} (h : a < zN Z) (he : e = gpic Z (gW σ a i v) a) : (gws Z σ).set a (zA Z a, e) = gws Z (gW σ a i v) := by
  subst he
  apply List.ext_getElem?
  intro k
  by_cases hk : k < zN Z
  · rw [gws_at hk]
    by_cases hka : k = a
    · subst hka
      rw [List.getElem?_set_self (by unfold gws; simpa using h)]
    · rw [List.getElem?_set_ne (Ne.symm hka), gws_at hk, gpic_ne (by omega)]
  · rw [List.getElem?_eq_none (by unfold gws; simp; omega), List.getElem?_eq_none (by unfold gws; simp; omega)]
theorem gty_lt {c k t : Nat} (h : (gty c)[k]? = some t) : k < (gty c).length := (List.getElem?_eq_some_iff.mp h).1
theorem gfs_at {Z : gZ} {σ : gM} {a c k t : Nat} (h : (gty c)[k]? = some t) : (gfs Z σ a c)[k]? = some (gfv Z t (σ a k)) := by
  unfold gfs
  rw [List.getElem?_map, List.getElem?_zipIdx, h]
  simp
theorem gfs_len {Z : gZ} {σ : gM} {a c : Nat} : (gfs Z σ a c).length = (gty c).length := by unfold gfs; simp
theorem gfs_set {Z : gZ} {σ : gM} {a c k t : Nat} {v : Int} (h : (gty c)[k]? = some t) : (gfs Z σ a c).set k (gfv Z t v) = gfs Z (gW σ a k v) a c := by
  have hl := gty_lt h
  apply List.ext_getElem?
  intro j
  cases hj : (gty c)[j]? with
  | some u =>
    rw [gfs_at hj]
    by_cases hjk : j = k
    · subst hjk
      rw [List.getElem?_set_self (by rw [gfs_len]; exact hl)]
      rw [hj] at h
      cases h
      simp [gW]
    · rw [List.getElem?_set_ne (Ne.symm hjk), gfs_at hj]
      have : gW σ a k v a j = σ a j := by unfold gW; rw [if_neg (by omega)]
      rw [this]
  | none =>
    have : (gty c).length ≤ j := by simpa using hj
    rw [List.getElem?_eq_none (by simp [gfs_len]; exact this), List.getElem?_eq_none (by simp [gfs_len]; exact this)]
/-- a store keeps the kinds -/
theorem gI_W {N : Nat} {σ : gM} {a : Nat} {i v : Int} (h : gI N σ) (h1 : gK a = 1 → i32 v) (h2 : gK a = 2 → i8 v) (h3 : gK a = 3 → i1 v) (h4 : gK a = 4 → i64 v) (h5 : 10 ≤ gK a → ∀ (k t : Nat), (k : Int) = i → (gty (gK a))[k]? = some t → gfit t v (gR a k)) : gI N (gW σ a i v) := by
  intro b hb
  obtain ⟨q1, q2, q3, q4, q5⟩ := h b hb
  by_cases hba : b = a
  · subst hba
    have key : ∀ (P : Int → Prop) (j : Int), P v → P (σ b j) → P (gW σ b i v b j) := by
      intro P j p1 p2
      unfold gW
      split
      · exact p1
      · exact p2
    refine ⟨fun e j => key i32 j (h1 e) (q1 e j), fun e j => key i8 j (h2 e) (q2 e j), fun e j => key i1 j (h3 e) (q3 e j), fun e j => key i64 j (h4 e) (q4 e j), fun e k t hk => ?_⟩
    by_cases hki : (k : Int) = i
    · have : gW σ b i v b k = v := by unfold gW; rw [if_pos ⟨rfl, hki⟩]
      rw [this]
      exact h5 e k t hki hk
    · have : gW σ b i v b k = σ b k := by unfold gW; rw [if_neg (fun z => hki z.2)]
      rw [this]
      exact q5 e k t hk
  · have e : ∀ j, gW σ a i v b j = σ b j := fun j => by unfold gW; rw [if_neg (fun q => hba (by omega))]
    simp only [e]
    exact ⟨q1, q2, q3, q4, q5⟩
