/-! a method that can reach the first cells only needs no others -/
def gLv (vs : List gV) : Prop := ∀ v ∈ vs, v.1 = 2 → v.2 < 42
theorem gLv_nil : gLv [] := fun v h => by cases h
theorem gLv_cons {v : gV} {vs : List gV} : gLv (v :: vs) ↔ (v.1 = 2 → v.2 < 42) ∧ gLv vs := ⟨fun h => ⟨h v List.mem_cons_self, fun w hw => h w (List.mem_cons_of_mem _ hw)⟩, fun h w hw => by
  rcases List.mem_cons.mp hw with q | q
  · rw [q]; exact h.1
  · exact h.2 w q⟩
theorem gLv_n {t : Nat} {x : Int} {vs : List gV} (ht : t ≠ 2) (h : gLv vs) : gLv ((t, x) :: vs) := gLv_cons.mpr ⟨fun q => absurd q ht, h⟩
theorem gset_mem : ∀ {ls : List gV} {k : Nat} {v w : gV}, w ∈ gset ls k v → w ∈ ls ∨ w = v ∨ w = (9, 0)
  | [], k, v, w, h => by unfold gset at h; cases h
  | x :: r, 0, v, w, h => by
    simp only [gset] at h
    rcases List.mem_cons.mp h with q | q
    · exact Or.inr (Or.inl q)
    · exact Or.inl (List.mem_cons_of_mem _ q)
  | (u, y) :: r, 1, v, w, h => by
    unfold gset at h
    split at h
    · rcases List.mem_cons.mp h with q | q
      · exact Or.inr (Or.inr q)
      · rcases gset_mem q with z | z
        · exact Or.inl (List.mem_cons_of_mem _ z)
        · exact Or.inr z
    · rcases List.mem_cons.mp h with q | q
      · exact Or.inl (by rw [q]; exact List.mem_cons_self)
      · rcases gset_mem q with z | z
        · exact Or.inl (List.mem_cons_of_mem _ z)
        · exact Or.inr z
  | x :: r, k + 2, v, w, h => by
    simp only [gset] at h
    rcases List.mem_cons.mp h with q | q
    · exact Or.inl (by rw [q]; exact List.mem_cons_self)
    · rcases gset_mem q with z | z
      · exact Or.inl (List.mem_cons_of_mem _ z)
      · exact Or.inr z
theorem gput2_mem : ∀ {ls : List gV} {k : Nat} {w : gV}, w ∈ gput2 ls k → w ∈ ls ∨ w = (9, 0)
  | [], k, w, h => by unfold gput2 at h; cases h
  | x :: r, 0, w, h => by
    simp only [gput2] at h
    rcases List.mem_cons.mp h with q | q
    · exact Or.inr q
    · exact Or.inl (List.mem_cons_of_mem _ q)
  | x :: r, k + 1, w, h => by
    simp only [gput2] at h
    rcases List.mem_cons.mp h with q | q
    · exact Or.inl (by rw [q]; exact List.mem_cons_self)
    · rcases gput2_mem q with z | z
      · exact Or.inl (List.mem_cons_of_mem _ z)
      · exact Or.inr z
theorem gLv_set {ls : List gV} {k : Nat} {v : gV} (h : gLv ls) (hv : v.1 = 2 → v.2 < 42) : gLv (gset ls k v) := fun w hw => by
  rcases gset_mem hw with q | q | q
  · exact h w q
  · rw [q]; exact hv
  · rw [q]; intro z; cases z
theorem gLv_put2 {ls : List gV} {k : Nat} (h : gLv ls) : gLv (gput2 ls k) := fun w hw => by
  rcases gput2_mem hw with q | q
  · exact h w q
  · rw [q]; intro z; cases z
theorem gLv_keep {m : List Bool} {ls : List gV} (h : gLv ls) : gLv (gkeep m ls) := fun w hw => by
  obtain ⟨i, hi⟩ := List.getElem?_of_mem hw
  rcases gkeep_at hi with q | q
  · exact h w (List.mem_of_getElem? q)
  · rw [q]; intro z; cases z
theorem gLv_pad : ∀ {L : Nat} {as : List gV}, gLv as → gLv (gpad L as)
  | 0, as, _ => fun v hv => by simp [gpad] at hv
  | L + 1, [], h => by
    simp only [gpad]
    exact gLv_n (by decide) (gLv_pad (L := L) (as := []) h)
  | L + 1, (u, x) :: r, h => by
    have h2 := gLv_cons.mp h
    unfold gpad
    split
    · split
      · exact gLv_cons.mpr ⟨h2.1, gLv_nil⟩
      · exact gLv_cons.mpr ⟨h2.1, gLv_n (by decide) (gLv_pad h2.2)⟩
    · exact gLv_cons.mpr ⟨h2.1, gLv_pad h2.2⟩
theorem gLv_take : ∀ {k : Nat} {st acc as st2 : List gV}, gtake k st acc = some (as, st2) → gLv st → gLv acc → gLv as ∧ gLv st2
  | 0, st, acc, as, st2, h, h1, h2 => by cases h; exact ⟨h2, h1⟩
  | k + 1, [], acc, as, st2, h, h1, h2 => by cases h
  | k + 1, v :: st, acc, as, st2, h, h1, h2 => gLv_take (k := k) (by simpa [gtake] using h) (gLv_cons.mp h1).2 (gLv_cons.mpr ⟨(gLv_cons.mp h1).1, h2⟩)
theorem gLv_at {ls : List gV} {k : Nat} {v : gV} (h : gLv ls) (hk : ls[k]? = some v) : v.1 = 2 → v.2 < 42 := h v (List.mem_of_getElem? hk)
def oL {ρ : Type} (x y : Option ρ) : Prop := ∀ r, x = some r → y = some r
/-- a callee that does the same with the first cells only -/
def gLo (f f' : gFn ⊕ gFt) : Prop := match f, f' with
  | .inl f, .inl f' => ∀ (n : Nat) (as : List gV) (σ : gM), gLv as → oL (f n as σ) (f' n as σ)
  | _, _ => False
def gLref (c : Nat) (j : Int) : Bool := (List.range 42).all fun o => !(Nat.beq (gK o) c) || decide (gR o j < 42)
def gLi (F : List (Nat × Nat × Int × Nat)) (Cs : List (Nat × gV)) : Instr → Bool
  | .getfield k => (match gat F k with
    | none => true
    | some (c, j, t) => Nat.ble 100 c || (!(Nat.beq t 3) && (!(Nat.beq t 2 || Nat.beq t 4) || gLref c j)))
  | .getstatic k => (match gat F k with
    | none => true
    | some (_, _, t) => !(Nat.beq t 2))
  | .ldc k => (match gat Cs k with | none => true | some (t, _) => !(Nat.beq t 2))
  | .ldc_w k => (match gat Cs k with | none => true | some (t, _) => !(Nat.beq t 2))
  | .ldc2_w k => (match gat Cs k with | none => true | some (t, _) => !(Nat.beq t 2))
  | .athrow => false
  | _ => true
theorem gLref_ok {c : Nat} {j o : Int} (h : gLref c j = true) (ho : o.toNat < 42) (hc : gK o = c) (h10 : 10 ≤ c) : gR o j < 42 := by
  obtain ⟨h0, h1⟩ := gK_nat (by omega) hc
  have := List.all_eq_true.mp h o.toNat (List.mem_range.mpr ho)
  rw [h1, hc] at this
  simpa using this
/-- the same table for the first cells -/
def eLo (E : gE) (cl : List (Nat × Nat × Nat × Nat × (gFn ⊕ gFt))) : gE := (E.1, E.2.1, E.2.2.1, cl, E.2.2.2.2.1, (42, E.2.2.2.2.2.1.2), E.2.2.2.2.2.2)
section LO
variable {ρ : Type}
theorem oL.nn {y : Option ρ} : oL none y := fun _ h => by cases h
theorem oL.ite {c : Prop} [Decidable c] {x y x' y' : Option ρ} (h : oL x x') (h2 : oL y y') : oL (if c then x else y) (if c then x' else y') := by
  split
  · exact h
  · exact h2
theorem oL.bl {b : Bool} {x y x' y' : Option ρ} (h : oL x x') (h2 : oL y y') : oL (match b with | true => x | false => y) (match b with | true => x' | false => y') := by
  cases b
  · exact h2
  · exact h
theorem oL.blh {b : Bool} {x y x' y' : Option ρ} (h : b = true → oL x x') (h2 : b = false → oL y y') : oL (match (generalizing := false) b with | true => x | false => y) (match (generalizing := false) b with | true => x' | false => y') := by
  cases b
  · exact h2 rfl
  · exact h rfl
theorem oL.xp1 {t : Nat} {st : List gV} {f g : Int → List gV → Option ρ} (hs : gLv st) (h : ∀ x r, (t = 2 → x < 42) → gLv r → oL (f x r) (g x r)) : oL (p1 t st f) (p1 t st g) := by
  unfold p1
  cases st with
  | nil => exact oL.nn
  | cons v r =>
    obtain ⟨u, x⟩ := v
    exact oL.blh (fun hb => h x r (fun q => (gLv_cons.mp hs).1 ((Nat.eq_of_beq_eq_true hb).trans q)) (gLv_cons.mp hs).2) fun _ => oL.nn
theorem oL.xp1r {st : List gV} {f g : gV → List gV → Option ρ} (hs : gLv st) (h : ∀ v r, (v.1 = 2 → v.2 < 42) → gLv r → oL (f v r) (g v r)) : oL (p1r st f) (p1r st g) := by
  unfold p1r
  cases st with
  | nil => exact oL.nn
  | cons v r =>
    obtain ⟨u, x⟩ := v
    have h1 := gLv_cons.mp hs
    exact oL.blh (fun hb => h _ r (fun _ => h1.1 (Nat.eq_of_beq_eq_true hb)) h1.2) fun _ => oL.bl (h (3, x) r (fun q => absurd q (show (3 : Nat) ≠ 2 by decide)) h1.2) (oL.bl (h (4, x) r (fun q => absurd q (show (4 : Nat) ≠ 2 by decide)) h1.2) oL.nn)
theorem oL.xlk {f g : Nat → Int → Option ρ} : ∀ (ls : List gV) (k : Nat), gLv ls → (∀ u x, (u = 2 → x < 42) → oL (f u x) (g u x)) → oL (glk f ls k) (glk g ls k)
  | [], _, _, _ => oL.nn
  | (u, x) :: _, 0, hs, h => h u x (gLv_cons.mp hs).1
  | _ :: r, k + 1, hs, h => oL.xlk r k (gLv_cons.mp hs).2 h
theorem oL.xis {m : Nat} {a : Int} {c : Nat} {x y : Option ρ} (ha : a < 42) (h : gK a = c → oL x y) : oL (gis m a c x) (gis 42 a c y) := by
  unfold gis
  have h42 : Nat.blt a.toNat 42 = true := by rw [Nat.blt_eq]; omega
  cases hb : Nat.beq (gK a) c && Nat.blt a.toNat m
  · exact oL.nn
  · rw [Bool.and_eq_true] at hb
    rw [hb.1, h42]
    exact h (Nat.eq_of_beq_eq_true hb.1)
theorem oL.xisb {m : Nat} {a : Int} {x y : Option ρ} (ha : a < 42) (h : oL x y) : oL (gisb m a x) (gisb 42 a y) := by
  unfold gisb
  have h42 : Nat.blt a.toNat 42 = true := by rw [Nat.blt_eq]; omega
  cases hb : (Nat.beq (gK a) 2 || Nat.beq (gK a) 3) && Nat.blt a.toNat m
  · exact oL.nn
  · rw [Bool.and_eq_true] at hb
    rw [hb.1, h42]
    exact h
theorem oL.xisa {m : Nat} {a : Int} {x y : Option ρ} (ha : a < 42) (h : oL x y) : oL (gisa m a x) (gisa 42 a y) := by
  unfold gisa
  have h42 : Nat.blt a.toNat 42 = true := by rw [Nat.blt_eq]; omega
  cases hb : (Nat.ble 1 (gK a) && Nat.ble (gK a) 5) && Nat.blt a.toNat m
  · exact oL.nn
  · rw [Bool.and_eq_true] at hb
    rw [hb.1, h42]
    exact h
theorem oL.xwr {w : Nat} {a k : Int} {x y : Option ρ} (h : oL x y) : oL (gwr w a k x) (gwr w a k y) := oL.bl h oL.nn
theorem oL.xwe {E : gE} {cl : List (Nat × Nat × Nat × Nat × (gFn ⊕ gFt))} {a k : Int} {x y : Option ρ} (h : oL x y) : oL (gwe E a k x) (gwe (eLo E cl) a k y) := oL.xwr h
theorem oL.xeq {a k : Int} {x y : Option ρ} (h : oL x y) : oL (geq a k x) (geq a k y) := oL.bl h oL.nn
theorem oL.x01 {v : Int} {x y : Option ρ} (h : oL x y) : oL (g01 v x) (g01 v y) := oL.bl h oL.nn
theorem oL.xtx {v : Int} {x y : Option ρ} (h : oL x y) : oL (gtx v x) (gtx v y) := by
  unfold gtx
  cases v with
  | ofNat k => exact oL.bl h oL.nn
  | negSucc k => exact oL.nn
theorem oL.xsw {x : Int} {d : Nat} {f g : Nat → Option ρ} (h : ∀ t, oL (f t) (g t)) : ∀ (ps : List (Int × Nat)), oL (gsw x d f ps) (gsw x d g ps)
  | [] => h d
  | (k, t) :: r => oL.ite (h t) (oL.xsw h r)
theorem oL.xrecv {E : gE} {cl : List (Nat × Nat × Nat × Nat × (gFn ⊕ gFt))} {rc : Nat} {as : List gV} {x y : Option ρ} (ha : gLv as) (h : oL x y) : oL (grecv E rc as x) (grecv (eLo E cl) rc as y) := by
  unfold grecv
  split
  · exact h
  · cases as with
    | nil => exact oL.nn
    | cons v r => exact oL.bl (oL.xtx h) oL.nn
  · cases as with
    | nil => exact oL.nn
    | cons v r =>
      obtain ⟨u, o⟩ := v
      exact oL.blh (fun hb => oL.xis ((gLv_cons.mp ha).1 (Nat.eq_of_beq_eq_true hb)) fun _ => h) fun _ => oL.nn
theorem oL.xg0 {st : List gV} {x y : Option ρ} (h : oL x y) : oL (g0 st x) (g0 st y) := by
  unfold g0
  cases st with
  | nil => exact h
  | cons v r => exact oL.nn
theorem oL.xrk {E : gE} {cl : List (Nat × Nat × Nat × Nat × (gFn ⊕ gFt))} {k : Nat} {x y : Option ρ} (h : oL x y) : oL (grk E k x) (grk (eLo E cl) k y) := oL.bl h oL.nn
theorem oL.xrz {E : gE} {cl : List (Nat × Nat × Nat × Nat × (gFn ⊕ gFt))} {v : Int} {x y : Option ρ} (h : oL x y) : oL (grz E v x) (grz (eLo E cl) v y) := by
  show oL (match E.2.2.2.2.2.2 with | 0 => x | 6 => g01 v x | 7 => if 0 ≤ v ∧ v ≤ 65535 then x else none | 8 => if -128 ≤ v ∧ v ≤ 127 then x else none | _ => none) (match E.2.2.2.2.2.2 with | 0 => y | 6 => g01 v y | 7 => if 0 ≤ v ∧ v ≤ 65535 then y else none | 8 => if -128 ≤ v ∧ v ≤ 127 then y else none | _ => none)
  split
  · exact h
  · exact oL.x01 h
  · exact oL.ite h oL.nn
  · exact oL.ite h oL.nn
  · exact oL.nn
/-- the runs go on alike where no cell is beyond the first -/
def gLn (nx nx' : List gV → List gV → gM → Option ρ) : Prop := ∀ ls st σ, gLv ls → gLv st → oL (nx ls st σ) (nx' ls st σ)
variable {nx nx' : List gV → List gV → gM → Option ρ} {jp jp' : Nat → List gV → List gV → gM → Option ρ} {ret thr thr' : gM → Int → Option ρ} {E : gE} {n pc : Nat} {tg : List (Int × Nat)} {ls st : List gV} {σ : gM} {cl : List (Nat × Nat × Nat × Nat × (gFn ⊕ gFt))}
theorem oL.xif {k : ClassFile.Cond} {x y : Int} {st : List gV} (hl : gLv ls) (hs : gLv st) (hn : gLn nx nx') (hj : ∀ t, gLn (jp t) (jp' t)) : oL (gif nx jp tg ls σ k x y st) (gif nx' jp' tg ls σ k x y st) := by
  unfold gif
  cases k <;> exact oL.ite (by first | exact hn _ _ _ hl hs | exact hj _ _ _ _ hl hs) (by first | exact hn _ _ _ hl hs | exact hj _ _ _ _ hl hs)
theorem gget_lo {k : Nat} (hk : gLi E.2.1 E.2.2.1 (.getfield k) = true) (hl : gLv ls) (hs : gLv st) (hn : gLn nx nx') (hF : ∀ i c j t, gat E.2.1 i = some (c, j, t) → 10 ≤ c) : oL (gget E nx ls st σ k) (gget (eLo E cl) nx' ls st σ k) := by
  unfold gget
  show oL (match gat E.2.1 k with | none => none | some (c, k, t) => _) (match gat E.2.1 k with | none => none | some (c, k, t) => _)
  have hk : (match gat E.2.1 k with | none => true | some (c, j, t) => Nat.ble 100 c || (!(Nat.beq t 3) && (!(Nat.beq t 2 || Nat.beq t 4) || gLref c j))) = true := hk
  split
  · exact oL.nn
  · rename_i c j t e
    rw [e] at hk
    dsimp only at hk
    have h10 := hF _ _ _ _ e
    refine oL.blh (fun hc => ?_) (fun hc => ?_)
    rotate_left
    · rw [hc, Bool.false_or, Bool.and_eq_true] at hk
      refine oL.xp1 hs fun o st ho hs => oL.xis (ho rfl) fun hco => ?_
      have hr : t = 2 ∨ t = 4 → gR o j < 42 := by
        intro q
        have : gLref c j = true := by
          rcases q with q | q <;> subst q <;> simpa using hk.2
        obtain ⟨h0, -⟩ := gK_nat (by omega) hco
        have := ho rfl
        exact gLref_ok ‹_› (by omega) hco h10
      split
      · exact hn _ _ _ hl (gLv_n (by decide) hs)
      · exact hn _ _ _ hl (gLv_n (by decide) hs)
      · exact hn _ _ _ hl (gLv_cons.mpr ⟨fun _ => hr (Or.inl rfl), hs⟩)
      · exact absurd hk.1 (by decide)
      · exact oL.ite (hn _ _ _ hl (gLv_cons.mpr ⟨fun _ => hr (Or.inr rfl), hs⟩)) oL.nn
      · exact hn _ _ _ hl (gLv_n (by decide) hs)
    · exact oL.bl (oL.xp1 hs fun x st _ hs => oL.xtx (oL.bl (hn _ _ _ hl (gLv_n (by decide) hs)) (hn _ _ _ hl (gLv_n (by decide) hs)))) oL.nn
theorem gput_lo {k : Nat} (hl : gLv ls) (hs : gLv st) (hn : gLn nx nx') : oL (gput E nx ls st σ k) (gput (eLo E cl) nx' ls st σ k) := by
  unfold gput
  show oL (match gat E.2.1 k with | none => none | some (c, k, t) => _) (match gat E.2.1 k with | none => none | some (c, k, t) => _)
  split
  · exact oL.nn
  · rename_i c j t e
    refine oL.bl oL.nn ?_
    split
    · exact oL.xp1 hs fun v st _ hs => oL.xp1 hs fun o st ho hs => oL.xis (ho rfl) fun _ => oL.xwe (hn _ _ _ hl hs)
    · exact oL.xp1 hs fun v st _ hs => oL.xp1 hs fun o st ho hs => oL.xis (ho rfl) fun _ => oL.xwe (hn _ _ _ hl hs)
    · exact oL.xp1 hs fun v st _ hs => oL.xp1 hs fun o st ho hs => oL.xis (ho rfl) fun _ => oL.xwe (oL.ite (hn _ _ _ hl hs) oL.nn)
    · exact oL.xp1 hs fun v st _ hs => oL.xp1 hs fun o st ho hs => oL.xis (ho rfl) fun _ => oL.xwe (oL.xeq (hn _ _ _ hl hs))
    · exact oL.xp1 hs fun v st _ hs => oL.xp1 hs fun o st ho hs => oL.xis (ho rfl) fun _ => oL.xwe (oL.x01 (hn _ _ _ hl hs))
    · exact oL.nn
theorem gald_lo {c t : Nat} (ht : t ≠ 2) (hl : gLv ls) (hs : gLv st) (hn : gLn nx nx') : oL (gald E nx ls st σ c t) (gald (eLo E cl) nx' ls st σ c t) :=
  oL.xp1 hs fun i st _ hs => oL.xp1 hs fun a st ha hs => oL.xis (ha rfl) fun _ => oL.ite (hn _ _ _ hl (gLv_n ht hs)) oL.nn
theorem gast_lo {c t : Nat} (hl : gLv ls) (hs : gLv st) (hn : gLn nx nx') : oL (gast E nx ls st σ c t) (gast (eLo E cl) nx' ls st σ c t) :=
  oL.xp1 hs fun v st _ hs => oL.xp1 hs fun i st _ hs => oL.xp1 hs fun a st ha hs => oL.xis (ha rfl) fun _ => oL.xwe (oL.ite (hn _ _ _ hl hs) oL.nn)
theorem galb_lo (hl : gLv ls) (hs : gLv st) (hn : gLn nx nx') : oL (galb E nx ls st σ) (galb (eLo E cl) nx' ls st σ) := by
  refine oL.xp1 hs fun i st _ hs => ?_
  cases st with
  | nil => exact oL.nn
  | cons v r => exact oL.bl (oL.xtx (oL.ite (hn _ _ _ hl (gLv_n (by decide) (gLv_cons.mp hs).2)) oL.nn)) (oL.xp1 hs fun o st ho hs => oL.xisb (ho rfl) (oL.ite (hn _ _ _ hl (gLv_n (by decide) hs)) oL.nn))
theorem gasb_lo (hl : gLv ls) (hs : gLv st) (hn : gLn nx nx') : oL (gasb E nx ls st σ) (gasb (eLo E cl) nx' ls st σ) :=
  oL.xp1 hs fun v st _ hs => oL.xp1 hs fun i st _ hs => oL.xp1 hs fun o st ho hs => oL.xisb (ho rfl) (oL.xwe (oL.ite (oL.bl (hn _ _ _ hl hs) (oL.x01 (hn _ _ _ hl hs))) oL.nn))
/-- callees, each with its own for the first cells -/
def gLos : List (Nat × Nat × Nat × Nat × (gFn ⊕ gFt)) → List (Nat × Nat × Nat × Nat × (gFn ⊕ gFt)) → Prop
  | [], [] => True
  | (i, k, rc, rt, f) :: r, (i', k', rc', rt', f') :: r' => (i = i' ∧ k = k' ∧ rc = rc' ∧ rt = rt') ∧ rt ≠ 2 ∧ gLo f f' ∧ gLos r r'
  | _, _ => False
theorem gLos_at : ∀ {cs cs' : List (Nat × Nat × Nat × Nat × (gFn ⊕ gFt))}, gLos cs cs' → ∀ idx, gat cs idx = none ∨ ∃ k rc rt f f', gat cs idx = some (k, rc, rt, f) ∧ gat cs' idx = some (k, rc, rt, f') ∧ rt ≠ 2 ∧ gLo f f'
  | [], [], _, idx => Or.inl rfl
  | [], _ :: _, h, _ => by cases h
  | _ :: _, [], h, _ => by cases h
  | (i, k, rc, rt, f) :: r, (i', k', rc', rt', f') :: r', h, idx => by
    obtain ⟨⟨rfl, rfl, rfl, rfl⟩, h2, h3, h4⟩ := h
    unfold gat
    cases hb : Nat.beq i idx
    · exact gLos_at h4 idx
    · exact Or.inr ⟨k, rc, rt, f, f', rfl, rfl, h2, h3⟩
theorem gcall_lo {vi : Bool} {k : Nat} (hcal : gLos E.2.2.2.1 cl) (hl : gLv ls) (hs : gLv st) (hn : gLn nx nx') : oL (gcall E n nx jp thr pc ls st σ vi k) (gcall (eLo E cl) n nx' jp' thr' pc ls st σ vi k) := by
  unfold gcall
  rcases gLos_at hcal k with h | ⟨k', rc, rt, f, f', e1, e2, hrt, hf⟩
  · rw [h]
    exact oL.nn
  · have e2' : gat (eLo E cl).2.2.2.1 k = some (k', rc, rt, f') := e2
    rw [e1, e2']
    dsimp only
    cases Bool.xor vi (Nat.beq rc 0)
    · exact oL.nn
    · cases ht : gtake k' st [] with
      | none => exact oL.nn
      | some q =>
        obtain ⟨as, st2⟩ := q
        obtain ⟨ha, h2⟩ := gLv_take ht hs gLv_nil
        dsimp only
        cases glight 8 st2
        · exact oL.nn
        · refine oL.xrecv ha ?_
          cases f with
          | inr f => cases f' <;> cases hf
          | inl f =>
            cases f' with
            | inr f' => cases hf
            | inl f' =>
              intro r hr
              dsimp only at hr ⊢
              cases hq : f n as σ with
              | none => rw [hq] at hr; cases hr
              | some q =>
                rw [hq] at hr
                rw [hf n as σ ha _ hq]
                have : oL (gback nx ls rt q.2 st2 q.1) (gback nx' ls rt q.2 st2 q.1) := oL.bl (hn _ _ _ hl h2) (hn _ _ _ hl (gLv_n hrt h2))
                exact this r hr
end LO
