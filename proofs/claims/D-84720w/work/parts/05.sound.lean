/-! one instruction of the evaluator, over the machine -/
def gnest : Cond → Bool
  | .fieldLinkNest _ _ _ _ _ _ => true
  | .methodLinkNest _ _ _ _ => true
  | _ => false
def gNest (U : State) : Prop := ∀ w ∈ lw_tbl, gnest w = true → va_Nw w U
def gStrC : List (String × Nat × String × Nat) := [("GraftTrees", 115, "main", 0), ("GraftTreesModel", 579, "print", 1), ("GraftTreesModel", 581, "new", 2), ("GraftTreesModel", 583, "kind", 3), ("GraftTreesModel", 584, "define", 4), ("GraftTreesModel", 595, "null", 5), ("GraftTreesModel", 597, "truth", 6), ("GraftTreesModel", 599, "number", 7), ("GraftTreesModel", 601, "string", 8), ("GraftTreesModel", 602, "function", 9), ("GraftTreesModel", 603, "object", 10), ("GraftTreesModel", 605, "true", 11), ("GraftTreesModel", 611, "false", 12), ("GraftTreesModel", 465, "function if else while return break continue true false null ", 13), ("GraftTreesModel", 463, "(){}[],;.=!<>+-*/&|", 14), ("GraftTreesModel", 936, "main", 0), ("GraftTrees$Forest", 105, "number", 7), ("GraftTrees$Forest", 107, "string", 8), ("GraftTrees$Forest", 109, "truth", 6), ("GraftTrees$Forest", 111, "null", 5), ("GraftTrees$Forest", 113, "function", 9), ("GraftTrees$Forest", 115, "object", 10), ("GraftTrees$Forest", 151, "print", 1), ("GraftTrees$Forest", 157, "new", 2), ("GraftTrees$Forest", 159, "kind", 3), ("GraftTrees$Forest", 160, "define", 4), ("GraftTrees$Parser", 132, "function", 9), ("GraftTrees$Parser", 178, "if", 15), ("GraftTrees$Parser", 229, "true", 11), ("GraftTrees$Parser", 231, "false", 12), ("GraftTrees$Parser", 233, "null", 5), ("GraftTrees$Parser", 183, "else", 16), ("GraftTrees$Parser", 185, "while", 17), ("GraftTrees$Parser", 187, "return", 18), ("GraftTrees$Parser", 192, "break", 19), ("GraftTrees$Parser", 194, "continue", 20), ("GraftTrees$Tokens", 86, "function if else while return break continue true false null ", 13), ("GraftTrees$Tokens", 75, "(){}[],;.=!<>+-*/", 21), ("GraftTrees$Machine", 421, "true", 11), ("GraftTrees$Machine", 423, "false", 12), ("GraftTrees$Machine", 429, "null", 5), ("GraftTrees$Machine", 434, "{}", 22)]
def gStrs (Z : gZ) (U : State) : Prop := (∀ q ∈ gStrC, vk_R q.1 q.2.1 q.2.2.1 (zS Z q.2.2.2) U) ∧ vk_S 23 gStrLen gStrByt (zS Z) (zV Z) (gA Z) U U.heap ∧ va_Z "java/lang/String" "COMPACT_STRINGS" "Z" (.int 1) (gA Z) U U.heap ∧ va_Z "jdk/internal/util/Preconditions" "SIOOBE_FORMATTER" "Ljava/util/function/BiFunction;" (gnv Z 23) (gA Z) U U.heap
/-- what stands all through a method's run -/
def gCx (p : Program) (s : State) (m : MethodId) (args : Array Value) (c : Code) (cc : ByteArray) (nL : Nat) (own : String) (Z : gZ) : Prop :=
  p.tables.exec = Jvm.exec ∧ c.code = cc ∧ c.maxLocals = nL ∧ s.vm.findClass own = some m.cls ∧ (∀ w ∈ lw_all, w.before args s = true) ∧ va_K (zD Z) gcl (gtys Z) s ∧ gInj Z ∧ gNest s ∧ gStrs Z s
def gLoc (Z : gZ) (nL : Nat) (la : Array Slot) (ls : List gV) : Prop := la.size = nL ∧ lv_wf la ∧ ∀ (i : Nat) (v : gV), ls[i]? = some v → v.1 ≤ 4 → la[i]? = some (.val (cv Z v))
def gAt (p : Program) (l : Launch) (e : Env) (R : Room) (s : State) (m : MethodId) (args : Array Value) (below : List Frame) (meth : Method) (c : Code) (Q : State → Prop) (nL : Nat) (Z : gZ) (σ : gM) (pc : Nat) (ls st : List gV) : Prop :=
  ∀ (H : Heap) (locs : List Loc) (la : Array Slot), va_P (zD Z) gcl (gws Z σ) H → va_S (gA Z) s.heap H locs → gLoc Z nL la ls → W p l e R s m args below meth c H locs 0 0 Q (F0 m pc la (st.map (cv Z)))
theorem p1_spec {α : Type} {t : Nat} {st : List gV} {f : Int → List gV → Option α} {r : α} (h : p1 t st f = some r) : ∃ x rest, st = (t, x) :: rest ∧ f x rest = some r := by
  unfold p1 at h
  split at h
  · cases h
  · split at h
    · rename_i u x rest _ hb
      have := Nat.eq_of_beq_eq_true hb
      subst this
      exact ⟨x, rest, rfl, h⟩
    · cases h
theorem p1r_spec {α : Type} {st : List gV} {f : gV → List gV → Option α} {r : α} (h : p1r st f = some r) : ∃ t x rest, (t = 2 ∨ t = 3 ∨ t = 4) ∧ st = (t, x) :: rest ∧ f (t, x) rest = some r := by
  unfold p1r at h
  split at h
  · cases h
  · rename_i u x rest
    split at h
    · rename_i hb
      have := Nat.eq_of_beq_eq_true hb
      subst this
      exact ⟨2, x, rest, Or.inl rfl, rfl, h⟩
    · split at h
      · rename_i hb
        have := Nat.eq_of_beq_eq_true hb
        subst this
        exact ⟨3, x, rest, Or.inr (Or.inl rfl), rfl, h⟩
      · split at h
        · rename_i hb
          have := Nat.eq_of_beq_eq_true hb
          subst this
          exact ⟨4, x, rest, Or.inr (Or.inr rfl), rfl, h⟩
        · cases h
theorem glk_spec {α : Type} {f : Nat → Int → Option α} {r : α} : ∀ {ls : List gV} {k : Nat}, glk f ls k = some r → ∃ u x, ls[k]? = some (u, x) ∧ f u x = some r
  | [], k, h => by cases h
  | (u, x) :: _, 0, h => ⟨u, x, rfl, h⟩
  | _ :: r', k + 1, h => by
    obtain ⟨u, x, h1, h2⟩ := glk_spec (ls := r') (k := k) h
    exact ⟨u, x, by simpa using h1, h2⟩
theorem gset_at : ∀ {ls : List gV} {k : Nat} {v u : gV} {j : Nat}, (gset ls k v)[j]? = some u → (j = k ∧ u = v) ∨ (j ≠ k ∧ ls[j]? = some u ∧ ¬ (j + 1 = k ∧ u.1 = 1)) ∨ u = (9, 0)
  | [], k, v, u, j, h => by simp [gset] at h
  | x :: r, 0, v, u, j, h => by
    simp only [gset] at h
    cases j with
    | zero => simp at h; exact Or.inl ⟨rfl, h.symm⟩
    | succ j => exact Or.inr (Or.inl ⟨by omega, by simpa using h, by omega⟩)
  | (t, y) :: r, 1, v, u, j, h => by
    simp only [gset] at h
    split at h
    · cases j with
      | zero => simp at h; exact Or.inr (Or.inr h.symm)
      | succ j =>
        have h' : (gset r 0 v)[j]? = some u := by simpa using h
        rcases gset_at h' with ⟨a, b⟩ | ⟨a, b, d⟩ | a
        · exact Or.inl ⟨by omega, b⟩
        · exact Or.inr (Or.inl ⟨by omega, by simpa using b, by omega⟩)
        · exact Or.inr (Or.inr a)
    · rename_i hb
      cases j with
      | zero =>
        simp at h
        refine Or.inr (Or.inl ⟨by omega, by simpa using h, fun q => ?_⟩)
        have h1 : t = 1 := by rw [← h] at q; exact q.2
        rw [h1] at hb
        simp at hb
      | succ j =>
        have h' : (gset r 0 v)[j]? = some u := by simpa using h
        rcases gset_at h' with ⟨a, b⟩ | ⟨a, b, d⟩ | a
        · exact Or.inl ⟨by omega, b⟩
        · exact Or.inr (Or.inl ⟨by omega, by simpa using b, by omega⟩)
        · exact Or.inr (Or.inr a)
  | x :: r, k + 2, v, u, j, h => by
    simp only [gset] at h
    cases j with
    | zero => simp at h; exact Or.inr (Or.inl ⟨by omega, by simpa using h, by omega⟩)
    | succ j =>
      have h' : (gset r (k + 1) v)[j]? = some u := by simpa using h
      rcases gset_at h' with ⟨a, b⟩ | ⟨a, b, d⟩ | a
      · exact Or.inl ⟨by omega, b⟩
      · exact Or.inr (Or.inl ⟨by omega, by simpa using b, fun q => d ⟨by omega, q.2⟩⟩)
      · exact Or.inr (Or.inr a)
theorem gsetK_eq {ρ : Type} : ∀ (ls : List gV) (k : Nat) (v : gV) (K : List gV → Option ρ), gsetK ls k v K = K (gset ls k v)
  | [], _, _, _ => by simp [gsetK, gset]
  | _ :: _, 0, _, _ => by simp [gsetK, gset]
  | (u, y) :: r, 1, v, K => by
    simp only [gsetK, gset]
    split
    · rw [gsetK_eq]
    · rw [gsetK_eq]
  | x :: r, k + 2, v, K => by simp only [gsetK, gset]; rw [gsetK_eq]
theorem gput2K_eq {ρ : Type} : ∀ (ls : List gV) (k : Nat) (K : List gV → Option ρ), gput2K ls k K = K (gput2 ls k)
  | [], _, _ => by simp [gput2K, gput2]
  | _ :: _, 0, _ => by simp [gput2K, gput2]
  | x :: r, k + 1, K => by simp only [gput2K, gput2]; rw [gput2K_eq]
theorem gpadK_eq {ρ : Type} : ∀ (k : Nat) (as : List gV) (K : List gV → Option ρ), gpadK k as K = K (gpad k as)
  | 0, _, _ => by simp [gpadK, gpad]
  | k + 1, [], K => by simp only [gpadK, gpad]; rw [gpadK_eq]
  | k + 1, (u, x) :: r, K => by
    unfold gpadK gpad
    split
    · cases k with
      | zero => rfl
      | succ j => exact gpadK_eq _ _ _
    · exact gpadK_eq _ _ _
theorem gput2_at : ∀ {ls : List gV} {k : Nat} {u : gV} {j : Nat}, (gput2 ls k)[j]? = some u → (j ≠ k ∧ ls[j]? = some u) ∨ u = (9, 0)
  | [], k, u, j, h => by simp [gput2] at h
  | x :: r, 0, u, j, h => by
    simp only [gput2] at h
    cases j with
    | zero => simp at h; exact Or.inr h.symm
    | succ j => exact Or.inl ⟨by omega, by simpa using h⟩
  | x :: r, k + 1, u, j, h => by
    simp only [gput2] at h
    cases j with
    | zero => simp at h; exact Or.inl ⟨by omega, by simpa using h⟩
    | succ j =>
      have h' : (gput2 r k)[j]? = some u := by simpa using h
      rcases gput2_at h' with ⟨a, b⟩ | a
      · exact Or.inl ⟨by omega, by simpa using b⟩
      · exact Or.inr a
theorem gcan9 : gcan (9, 0) := ⟨fun h => by simp at h, fun h => by simp at h⟩
theorem gcans_set {ls : List gV} {k : Nat} {v : gV} (h : gcans ls) (hv : gcan v) : gcans (gset ls k v) := by
  intro u hu
  obtain ⟨j, hj⟩ := List.getElem?_of_mem hu
  rcases gset_at hj with ⟨-, b⟩ | ⟨-, b, -⟩ | b
  · rw [b]; exact hv
  · exact h u (List.mem_of_getElem? b)
  · rw [b]; exact gcan9
theorem gcans_set2 {ls : List gV} {k : Nat} {v : gV} (h : gcans ls) (hv : gcan v) : gcans (gset2 ls k v) := by
  intro u hu
  obtain ⟨j, hj⟩ := List.getElem?_of_mem hu
  rcases gput2_at hj with ⟨-, b⟩ | b
  · exact gcans_set h hv u (List.mem_of_getElem? b)
  · rw [b]; exact gcan9
theorem gcans_cons {v : gV} {l : List gV} : gcans (v :: l) ↔ gcan v ∧ gcans l := by
  unfold gcans
  simp
theorem gcan0 {x : Int} : gcan (0, x) ↔ i32 x := by unfold gcan; simp
theorem gcan1 {x : Int} : gcan (1, x) ↔ i64 x := by unfold gcan; simp
theorem gcan2 {x : Int} : gcan (2, x) := by unfold gcan; simp
theorem gcan3 {x : Int} : gcan (3, x) := by unfold gcan; simp
theorem gcan4 {x : Int} : gcan (4, x) := by unfold gcan; simp
/-- all that is held, as the kit lists it -/
def glv (Z : gZ) (ls : List gV) : List (Nat × Value) := ls.zipIdx.filterMap (fun q => if q.1.1 ≤ 4 then some (q.2, cv Z q.1) else none)
theorem glv_mem {Z : gZ} {ls : List gV} {i : Nat} {w : Value} : (i, w) ∈ glv Z ls ↔ ∃ v, ls[i]? = some v ∧ v.1 ≤ 4 ∧ w = cv Z v := by
  unfold glv
  rw [List.mem_filterMap]
  constructor
  · rintro ⟨⟨v, j⟩, h1, h2⟩
    split at h2
    · rename_i h3
      cases h2
      rw [List.mem_zipIdx_iff_getElem?] at h1
      exact ⟨v, h1, h3, rfl⟩
    · cases h2
  · rintro ⟨v, h1, h2, rfl⟩
    exact ⟨(v, i), List.mem_zipIdx_iff_getElem?.mpr h1, by simp [h2]⟩
theorem gLoc.has {Z : gZ} {nL : Nat} {la : Array Slot} {ls : List gV} (h : gLoc Z nL la ls) : lv_has la nL (glv Z ls) := by
  refine ⟨h.1, h.2.1, ?_⟩
  rintro ⟨i, w⟩ hq
  obtain ⟨v, h1, h2, rfl⟩ := glv_mem.mp hq
  exact h.2.2 i v h1 h2
theorem cv_cat {Z : gZ} {v : gV} : (cv Z v).category = 2 → v.1 = 1 := by
  unfold cv
  split
  · intro h; simp [Value.category] at h
  · split
    · intro _; assumption
    · split
      · intro h; simp [Value.category] at h
      · split
        · intro h; simp [Value.category] at h
        · split
          · intro h
            rcases gnv_cs Z v.2.toNat with q | ⟨a, q⟩ <;> rw [q] at h <;> simp [Value.category] at h
          · intro h; simp [Value.category] at h
theorem gLoc.set {Z : gZ} {nL : Nat} {la la' : Array Slot} {ls : List gV} {k : Nat} {v : gV} (hn : v.1 ≠ 1) (h : lv_has la' nL ((k, cv Z v) :: (glv Z ls).filter (fun q => !(q.1 == k) && !(q.1 + 1 == k && q.2.category == 2)))) : gLoc Z nL la' (gset ls k v) := by
  refine ⟨h.1, h.2.1, fun i u hi hu => ?_⟩
  rcases gset_at hi with ⟨a, b⟩ | ⟨a, b, d⟩ | a
  · subst a; subst b
    exact h.2.2 (i, cv Z u) List.mem_cons_self
  · refine h.2.2 (i, cv Z u) (List.mem_cons_of_mem _ (List.mem_filter.mpr ⟨glv_mem.mpr ⟨u, b, hu, rfl⟩, ?_⟩))
    have h1 : (i == k) = false := by simpa using a
    by_cases h2 : i + 1 = k
    · have h3 : ¬ (cv Z u).category = 2 := fun q => d ⟨h2, cv_cat q⟩
      simp [h1, h3]
    · simp [h1, h2]
  · rw [a] at hu; simp at hu
theorem gLoc.set2 {Z : gZ} {nL : Nat} {la la' : Array Slot} {ls : List gV} {k : Nat} {x : Int} (h : lv_has la' nL ((k, cv Z (1, x)) :: (glv Z ls).filter (fun q => !(q.1 == k) && (!(q.1 == k + 1) && !(q.1 + 1 == k && q.2.category == 2))))) : gLoc Z nL la' (gset2 ls k (1, x)) := by
  refine ⟨h.1, h.2.1, fun i u hi hu => ?_⟩
  rcases gput2_at hi with ⟨n1, hi⟩ | a
  · rcases gset_at hi with ⟨a, b⟩ | ⟨a, b, d⟩ | a
    · subst a; subst b
      exact h.2.2 (i, cv Z (1, x)) List.mem_cons_self
    · refine h.2.2 (i, cv Z u) (List.mem_cons_of_mem _ (List.mem_filter.mpr ⟨glv_mem.mpr ⟨u, b, hu, rfl⟩, ?_⟩))
      have h1 : (i == k) = false := by simpa using a
      have h0 : (i == k + 1) = false := by simpa using n1
      by_cases h2 : i + 1 = k
      · have h3 : ¬ (cv Z u).category = 2 := fun q => d ⟨h2, cv_cat q⟩
        simp [h1, h0, h3]
      · simp [h1, h0, h2]
    · rw [a] at hu; simp at hu
  · rw [a] at hu; simp at hu
