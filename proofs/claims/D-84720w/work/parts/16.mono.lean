/-! more fuel, the same answer; what a function comes to once there is fuel enough -/
section MO
variable {ρ : Type}
def oLe (x y : Option ρ) : Prop := ∀ r, x = some r → y = some r
theorem oLe.rf {x : Option ρ} : oLe x x := fun _ h => h
theorem oLe.nn {y : Option ρ} : oLe none y := fun _ h => by cases h
theorem oLe.ite {c : Prop} [Decidable c] {x y x' y' : Option ρ} (h : oLe x x') (h2 : oLe y y') : oLe (if c then x else y) (if c then x' else y') := by
  split
  · exact h
  · exact h2
theorem oLe.bl {b : Bool} {x y x' y' : Option ρ} (h : oLe x x') (h2 : oLe y y') : oLe (match b with | true => x | false => y) (match b with | true => x' | false => y') := by
  cases b
  · exact h2
  · exact h
theorem oLe.bd {α : Type} {x x' : Option α} {f f' : α → Option ρ} (h : oLe x x') (h2 : ∀ a, oLe (f a) (f' a)) : oLe (x.bind f) (x'.bind f') := by
  intro r hr
  cases hx : x with
  | none => rw [hx] at hr; cases hr
  | some a =>
    rw [hx] at hr
    rw [h a hx]
    exact h2 a r hr
theorem oLe.xp1 {t : Nat} {st : List gV} {f g : Int → List gV → Option ρ} (h : ∀ x st, oLe (f x st) (g x st)) : oLe (p1 t st f) (p1 t st g) := by
  unfold p1
  cases st with
  | nil => exact oLe.rf
  | cons v r =>
    obtain ⟨u, x⟩ := v
    exact oLe.bl (h x r) oLe.rf
theorem oLe.xp1r {st : List gV} {f g : gV → List gV → Option ρ} (h : ∀ x st, oLe (f x st) (g x st)) : oLe (p1r st f) (p1r st g) := by
  unfold p1r
  cases st with
  | nil => exact oLe.rf
  | cons v r =>
    obtain ⟨u, x⟩ := v
    exact oLe.bl (h _ r) (oLe.bl (h _ r) (oLe.bl (h _ r) oLe.rf))
theorem oLe.xlk {f g : Nat → Int → Option ρ} (h : ∀ u x, oLe (f u x) (g u x)) : ∀ (ls : List gV) (k : Nat), oLe (glk f ls k) (glk g ls k)
  | [], _ => oLe.rf
  | (u, x) :: _, 0 => h u x
  | _ :: r, k + 1 => oLe.xlk h r k
theorem oLe.setK {ls : List gV} {k : Nat} {v : gV} {f g : List gV → Option ρ} (h : ∀ l, oLe (f l) (g l)) : oLe (gsetK ls k v f) (gsetK ls k v g) := by
  rw [gsetK_eq, gsetK_eq]; exact h _
theorem oLe.put2K {ls : List gV} {k : Nat} {f g : List gV → Option ρ} (h : ∀ l, oLe (f l) (g l)) : oLe (gput2K ls k f) (gput2K ls k g) := by
  rw [gput2K_eq, gput2K_eq]; exact h _
theorem oLe.xis {m : Nat} {a : Int} {c : Nat} {x y : Option ρ} (h : oLe x y) : oLe (gis m a c x) (gis m a c y) := oLe.bl h oLe.rf
theorem oLe.xisb {m : Nat} {a : Int} {x y : Option ρ} (h : oLe x y) : oLe (gisb m a x) (gisb m a y) := oLe.bl h oLe.rf
theorem oLe.xisa {m : Nat} {a : Int} {x y : Option ρ} (h : oLe x y) : oLe (gisa m a x) (gisa m a y) := oLe.bl h oLe.rf
theorem oLe.xwr {w : Nat} {a k : Int} {x y : Option ρ} (h : oLe x y) : oLe (gwr w a k x) (gwr w a k y) := oLe.bl h oLe.rf
theorem oLe.xwe {E : gE} {a k : Int} {x y : Option ρ} (h : oLe x y) : oLe (gwe E a k x) (gwe E a k y) := oLe.xwr h
theorem oLe.xeq {a k : Int} {x y : Option ρ} (h : oLe x y) : oLe (geq a k x) (geq a k y) := oLe.bl h oLe.rf
theorem oLe.x01 {v : Int} {x y : Option ρ} (h : oLe x y) : oLe (g01 v x) (g01 v y) := oLe.bl h oLe.rf
theorem oLe.xtx {v : Int} {x y : Option ρ} (h : oLe x y) : oLe (gtx v x) (gtx v y) := by
  unfold gtx
  cases v with
  | ofNat k => exact oLe.bl h oLe.rf
  | negSucc k => exact oLe.rf
theorem oLe.xsw {x : Int} {d : Nat} {f g : Nat → Option ρ} (h : ∀ t, oLe (f t) (g t)) : ∀ (ps : List (Int × Nat)), oLe (gsw x d f ps) (gsw x d g ps)
  | [] => h d
  | (k, t) :: r => oLe.ite (h t) (oLe.xsw h r)
theorem oLe.xtry {o : Option Int} {a a' : Int → Option ρ} {b b' : Option ρ} (h : ∀ v, oLe (a v) (a' v)) (h2 : oLe b b') : oLe (gtry o a b) (gtry o a' b') := by
  cases o with
  | none => exact h2
  | some v => exact h v
theorem oLe.xrecv {E : gE} {rc : Nat} {as : List gV} {x y : Option ρ} (h : oLe x y) : oLe (grecv E rc as x) (grecv E rc as y) := by
  unfold grecv
  split
  · exact h
  · cases as with
    | nil => exact oLe.rf
    | cons v r => exact oLe.bl (oLe.xtx h) oLe.rf
  · cases as with
    | nil => exact oLe.rf
    | cons v r => exact oLe.bl (oLe.xis h) oLe.rf
def gLe (n n' : Nat) (f : gFn ⊕ gFt) : Prop := match f with
  | .inl f => ∀ as σ, oLe (f n as σ) (f n' as σ)
  | .inr f => ∀ as σ, oLe (f n as σ) (f n' as σ)
variable {nx nx' : List gV → List gV → gM → Option ρ} {jp jp' : Nat → List gV → List gV → gM → Option ρ} {ret thr : gM → Int → Option ρ} {E : gE} {n n' pc : Nat} {tg : List (Int × Nat)} {ls st : List gV} {σ : gM}
theorem oLe.xif {k : ClassFile.Cond} {x y : Int} {st : List gV} (hn : ∀ ls st σ, oLe (nx ls st σ) (nx' ls st σ)) (hj : ∀ t ls st σ, oLe (jp t ls st σ) (jp' t ls st σ)) : oLe (gif nx jp tg ls σ k x y st) (gif nx' jp' tg ls σ k x y st) := by
  unfold gif
  cases k <;> exact oLe.ite (by first | exact hn _ _ _ | exact hj _ _ _ _) (by first | exact hn _ _ _ | exact hj _ _ _ _)
theorem oLe.xback {rt : Nat} {v : Int} {st : List gV} {σ : gM} (hn : ∀ ls st σ, oLe (nx ls st σ) (nx' ls st σ)) : oLe (gback nx ls rt v st σ) (gback nx' ls rt v st σ) := oLe.bl (hn _ _ _) (hn _ _ _)
theorem gget_le {k : Nat} (hn : ∀ ls st σ, oLe (nx ls st σ) (nx' ls st σ)) : oLe (gget E nx ls st σ k) (gget E nx' ls st σ k) := by
  unfold gget
  split
  · exact oLe.rf
  · refine oLe.bl (oLe.bl (oLe.xp1 fun x st => oLe.xtx (oLe.bl (hn _ _ _) (hn _ _ _))) oLe.rf) (oLe.xp1 fun o st => oLe.xis ?_)
    split
    · exact hn _ _ _
    · exact hn _ _ _
    · exact hn _ _ _
    · exact oLe.ite (hn _ _ _) oLe.rf
    · exact oLe.ite (hn _ _ _) oLe.rf
    · exact hn _ _ _
theorem gput_le {k : Nat} (hn : ∀ ls st σ, oLe (nx ls st σ) (nx' ls st σ)) : oLe (gput E nx ls st σ k) (gput E nx' ls st σ k) := by
  unfold gput
  split
  · exact oLe.rf
  · refine oLe.bl oLe.rf ?_
    split
    · exact oLe.xp1 fun v st => oLe.xp1 fun o st => oLe.xis (oLe.xwe (hn _ _ _))
    · exact oLe.xp1 fun v st => oLe.xp1 fun o st => oLe.xis (oLe.xwe (hn _ _ _))
    · exact oLe.xp1 fun v st => oLe.xp1 fun o st => oLe.xis (oLe.xwe (oLe.ite (hn _ _ _) oLe.rf))
    · exact oLe.xp1 fun v st => oLe.xp1 fun o st => oLe.xis (oLe.xwe (oLe.xeq (hn _ _ _)))
    · exact oLe.xp1 fun v st => oLe.xp1 fun o st => oLe.xis (oLe.xwe (oLe.x01 (hn _ _ _)))
    · exact oLe.rf
theorem gcall_le {vi : Bool} {k : Nat} (hcal : ∀ idx k rc rt f, gat E.2.2.2.1 idx = some (k, rc, rt, f) → gLe n n' f) (hn : ∀ ls st σ, oLe (nx ls st σ) (nx' ls st σ)) (hj : ∀ t ls st σ, oLe (jp t ls st σ) (jp' t ls st σ)) :
    oLe (gcall E n nx jp thr pc ls st σ vi k) (gcall E n' nx' jp' thr pc ls st σ vi k) := by
  unfold gcall
  split
  · exact oLe.rf
  · rename_i k rc rt f hg
    have hf := hcal _ _ _ _ _ hg
    cases Bool.xor vi (Nat.beq rc 0)
    · exact oLe.rf
    · show oLe (match gtake k st [] with | none => _ | some (as, st) => _) (match gtake k st [] with | none => _ | some (as, st) => _)
      split
      · exact oLe.rf
      · cases glight 8 _
        · exact oLe.rf
        · refine oLe.xrecv ?_
          cases f with
          | inl f => exact oLe.bd (hf _ _) fun p => oLe.xback hn
          | inr f =>
            refine oLe.bd (hf _ _) fun p => oLe.xtry (fun v => oLe.xback hn) ?_
            split
            · exact oLe.rf
            · exact hj _ _ _ _
set_option maxHeartbeats 4000000 in
theorem gex_le {i : Instr} (hcal : ∀ idx k rc rt f, gat E.2.2.2.1 idx = some (k, rc, rt, f) → gLe n n' f) (hn : ∀ ls st σ, oLe (nx ls st σ) (nx' ls st σ)) (hj : ∀ t ls st σ, oLe (jp t ls st σ) (jp' t ls st σ)) :
    oLe (gex E n nx jp ret thr pc tg ls st σ i) (gex E n' nx' jp' ret thr pc tg ls st σ i) := by
  cases i with
  | iconst v => exact hn _ _ _
  | bipush v => exact hn _ _ _
  | sipush v => exact hn _ _ _
  | lconst v => exact hn _ _ _
  | ldc k | ldc_w k | ldc2_w k =>
    simp only [gex, gcst]
    split
    · exact oLe.rf
    · exact oLe.bl oLe.rf (hn _ _ _)
  | iload k | lload k | iload_n k | lload_n k => exact oLe.xlk (fun u x => oLe.bl (hn _ _ _) oLe.rf) _ _
  | aload k | aload_n k => exact oLe.xlk (fun u x => oLe.bl (hn _ _ _) (oLe.bl (hn _ _ _) (oLe.bl (hn _ _ _) oLe.rf))) _ _
  | istore k | istore_n k => exact oLe.xp1 fun x st => oLe.setK fun ls => hn _ _ _
  | lstore k | lstore_n k => exact oLe.xp1 fun x st => oLe.setK fun ls => oLe.put2K fun ls => hn _ _ _
  | astore k | astore_n k =>
    simp only [gex]
    exact oLe.xp1r fun x st => oLe.setK fun ls => hn _ _ _
  | iinc k d => exact oLe.xlk (fun u x => oLe.bl (oLe.setK fun ls => hn _ _ _) oLe.rf) _ _
  | iadd | isub | imul | iand | ior | ixor | ishr | iushr => exact oLe.xp1 fun y st => oLe.xp1 fun x st => hn _ _ _
  | ladd | lsub | lmul | land | lor | lxor => exact oLe.xp1 fun y st => oLe.xp1 fun x st => hn _ _ _
  | idiv | irem | ldiv | lrem => exact oLe.xp1 fun y st => oLe.xp1 fun x st => oLe.ite oLe.rf (hn _ _ _)
  | lshl | lshr | lushr | lcmp => exact oLe.xp1 fun y st => oLe.xp1 fun x st => hn _ _ _
  | ineg | lneg | i2l | l2i | i2b | i2c => exact oLe.xp1 fun x st => hn _ _ _
  | dup =>
    cases st with
    | nil => exact oLe.rf
    | cons v r => exact oLe.bl oLe.rf (hn _ _ _)
  | dup2 =>
    simp only [gex]
    split
    · exact oLe.bl oLe.rf (hn _ _ _)
    · exact oLe.rf
  | pop =>
    cases st with
    | nil => exact oLe.rf
    | cons v r => exact oLe.bl oLe.rf (hn _ _ _)
  | ifCond k off => exact oLe.xp1 fun x st => oLe.xif hn hj
  | if_icmp k off => exact oLe.xp1 fun y st => oLe.xp1 fun x st => oLe.xif hn hj
  | goto off => exact hj _ _ _ _
  | tableswitch d lo hi offs =>
    refine oLe.xp1 fun x st => ?_
    cases tg with
    | nil => exact oLe.rf
    | cons v r => exact oLe.xsw (fun t => hj _ _ _ _) _
  | lookupswitch d ps =>
    refine oLe.xp1 fun x st => ?_
    cases tg with
    | nil => exact oLe.rf
    | cons v r => exact oLe.xsw (fun t => hj _ _ _ _) _
  | getstatic k =>
    simp only [gex, gsta]
    split
    · exact oLe.rf
    · exact oLe.bl (hn _ _ _) oLe.rf
  | getfield k => exact gget_le hn
  | putfield k => exact gput_le hn
  | iaload | laload | aaload => exact oLe.xp1 fun i st => oLe.xp1 fun o st => oLe.xis (oLe.ite (hn _ _ _) oLe.rf)
  | baload =>
    refine oLe.xp1 fun i st => ?_
    cases st with
    | nil => exact oLe.rf
    | cons v r => exact oLe.bl (oLe.xtx (oLe.ite (hn _ _ _) oLe.rf)) (oLe.xp1 fun o st => oLe.xisb (oLe.ite (hn _ _ _) oLe.rf))
  | iastore | lastore => exact oLe.xp1 fun v st => oLe.xp1 fun i st => oLe.xp1 fun o st => oLe.xis (oLe.xwe (oLe.ite (hn _ _ _) oLe.rf))
  | bastore => exact oLe.xp1 fun v st => oLe.xp1 fun i st => oLe.xp1 fun o st => oLe.xisb (oLe.xwe (oLe.ite (oLe.bl (hn _ _ _) (oLe.x01 (hn _ _ _))) oLe.rf))
  | arraylength =>
    cases st with
    | nil => exact oLe.rf
    | cons v r => exact oLe.bl (oLe.xtx (hn _ _ _)) (oLe.xp1 fun o st => oLe.xisa (hn _ _ _))
  | invokevirtual k | invokestatic k => exact gcall_le hcal hn hj
  | ireturn => exact oLe.rf
  | lreturn | areturn => exact oLe.rf
  | return_ => exact oLe.rf
  | athrow => exact oLe.rf
  | _ => exact oLe.rf
variable {kont kont' : Nat → List gV → List gV → gM → Option ρ}
theorem gev_le (hcal : ∀ idx k rc rt f, gat E.2.2.2.1 idx = some (k, rc, rt, f) → gLe n n' f) (hk : ∀ t ls st σ, oLe (kont t ls st σ) (kont' t ls st σ)) :
    ∀ (K : Nat) (chk : Bool) (cs : List gC) (ls st : List gV) (σ : gM), oLe (gev E n ret thr kont K chk cs ls st σ) (gev E n' ret thr kont' K chk cs ls st σ)
  | 0, _, _, _, _, _ => oLe.rf
  | _ + 1, _, [], _, _, _ => oLe.rf
  | K + 1, chk, (pc, ln, i, tg, sp) :: rest, ls, st, σ => by
    unfold gev
    split
    · exact hk _ _ _ _
    · exact gex_le hcal (gev_le hcal hk K true rest) (fun t => gev_le hcal hk K true _)
theorem gB_le (hcal : ∀ n idx k rc rt f, gat E.2.2.2.1 idx = some (k, rc, rt, f) → gLe n (n + 1) f) :
    ∀ (n pc : Nat) (ls st : List gV) (σ : gM), oLe (gB E ret thr n pc ls st σ) (gB E ret thr (n + 1) pc ls st σ)
  | 0, _, _, _, _ => oLe.nn
  | n + 1, pc, ls, st, σ => gev_le (hcal n) (gB_le hcal n) _ _ _ _ _ _
end MO
def gMo (f : gFn ⊕ gFt) : Prop := ∀ n, gLe n (n + 1) f
def gMos : List (Nat × Nat × Nat × Nat × (gFn ⊕ gFt)) → Prop
  | [] => True
  | (_, _, _, _, f) :: r => gMo f ∧ gMos r
theorem gMos_spec : ∀ {cs : List (Nat × Nat × Nat × Nat × (gFn ⊕ gFt))}, gMos cs → ∀ n idx k rc rt f, gat cs idx = some (k, rc, rt, f) → gLe n (n + 1) f
  | [], _, _, _, _, _, _, _, h => by cases h
  | (j, k', rc', rt', f') :: r, hc, n, idx, k, rc, rt, f, h => by
    unfold gat at h
    split at h
    · cases h
      exact hc.1 n
    · exact gMos_spec hc.2 n idx k rc rt f h
theorem gF_mo {E : gE} {L : Nat} (hc : gMos E.2.2.2.1) : gMo (.inl (gF E L)) := by
  intro n as σ
  unfold gF
  split
  · exact oLe.rf
  · rw [gpadK_eq, gpadK_eq]
    exact gB_le (gMos_spec hc) _ _ _ _ _
theorem gG_mo {E : gE} {L : Nat} (hc : gMos E.2.2.2.1) : gMo (.inr (gG E L)) := by
  intro n as σ
  unfold gG
  split
  · exact oLe.rf
  · rw [gpadK_eq, gpadK_eq]
    exact gB_le (gMos_spec hc) _ _ _ _ _
theorem gMo_none : gMo (.inl (fun _ _ _ => none)) := fun _ _ _ => oLe.rf
theorem gMo_none2 : gMo (.inr (fun _ _ _ => none)) := fun _ _ _ => oLe.rf
theorem gMo_copy {m : Nat × Nat} : gMo (.inl (jcopy m)) := fun _ _ _ => oLe.rf
section LM
variable {α β : Type}
/-- f comes to r once there is fuel enough -/
def Lm (f : Nat → Option α) (r : Option α) : Prop := (∀ n, oLe (f n) (f (n + 1))) ∧ ∀ x, r = some x ↔ ∃ n, f n = some x
theorem Lm.le {f : Nat → Option α} {r : Option α} (h : Lm f r) {n m : Nat} (hm : n ≤ m) : oLe (f n) (f m) := by
  induction hm with
  | refl => exact oLe.rf
  | step _ ih => exact fun x hx => h.1 _ x (ih x hx)
noncomputable def lim (f : Nat → Option α) : Option α := @dite _ (∃ x n, f n = some x) (Classical.propDecidable _) (fun h => some (Classical.choose h)) (fun _ => none)
theorem Lm.of {f : Nat → Option α} (h : ∀ n, oLe (f n) (f (n + 1))) : Lm f (lim f) := by
  refine ⟨h, fun x => ?_⟩
  unfold lim
  constructor
  · intro hx
    split at hx
    · rename_i hq
      cases hx
      exact Classical.choose_spec hq
    · cases hx
  · intro ⟨n, hn⟩
    have hq : ∃ x n, f n = some x := ⟨x, n, hn⟩
    rw [dif_pos hq]
    obtain ⟨m, hm⟩ := Classical.choose_spec hq
    have hl : Lm f (some x) := ⟨h, fun y => by
      constructor
      · intro hy; cases hy; exact ⟨n, hn⟩
      · intro ⟨k, hk⟩
        have mono : ∀ a b, a ≤ b → oLe (f a) (f b) := by
          intro a b hab
          induction hab with
          | refl => exact oLe.rf
          | step _ ih => exact fun x hx => h _ x (ih x hx)
        rw [← mono n (n + k) (by omega) x hn, ← mono k (n + k) (by omega) y hk]⟩
    rw [← hl.le (Nat.le_add_right n m) x hn, ← hl.le (Nat.le_add_left m n) _ hm]
theorem Lm.uniq {f : Nat → Option α} {r r' : Option α} (h : Lm f r) (h' : Lm f r') : r = r' := by
  cases hr : r with
  | some x => exact ((h'.2 x).2 ((h.2 x).1 hr)).symm
  | none =>
    cases hr' : r' with
    | none => rfl
    | some x =>
      have := (h.2 x).2 ((h'.2 x).1 hr')
      rw [hr] at this
      cases this
theorem Lm.cst {r : Option α} : Lm (fun _ => r) r := ⟨fun _ => oLe.rf, fun x => ⟨fun h => ⟨0, h⟩, fun ⟨_, h⟩ => h⟩⟩
theorem Lm.ite {c : Prop} [Decidable c] {f g : Nat → Option α} {a b : Option α} (h : Lm f a) (h2 : Lm g b) : Lm (fun n => if c then f n else g n) (if c then a else b) := by
  by_cases hc : c
  · simp only [if_pos hc]; exact h
  · simp only [if_neg hc]; exact h2
theorem Lm.bind {f : Nat → Option α} {g : Nat → α → Option β} {r : Option α} {k : α → Option β} (h : Lm f r) (h2 : ∀ a, Lm (fun n => g n a) (k a)) : Lm (fun n => (f n).bind (g n)) (r.bind k) := by
  refine ⟨fun n => oLe.bd (h.1 n) fun a => (h2 a).1 n, fun x => ⟨fun hx => ?_, fun ⟨n, hn⟩ => ?_⟩⟩
  · cases hr : r with
    | none => rw [hr] at hx; cases hx
    | some a =>
      rw [hr] at hx
      obtain ⟨n, hn⟩ := (h.2 a).1 hr
      obtain ⟨m, hm⟩ := ((h2 a).2 x).1 hx
      refine ⟨n + m, ?_⟩
      show (f (n + m)).bind (g (n + m)) = some x
      rw [h.le (Nat.le_add_right n m) a hn]
      exact (h2 a).le (Nat.le_add_left m n) x hm
  · cases hf : f n with
    | none => simp only [hf] at hn; cases hn
    | some a =>
      simp only [hf] at hn
      rw [(h.2 a).2 ⟨n, hf⟩]
      exact ((h2 a).2 x).2 ⟨n, hn⟩
theorem Lm.bl {b : Bool} {f : Nat → Option α} {a : Option α} (h : Lm f a) : Lm (fun n => match b with | true => f n | false => none) (match b with | true => a | false => none) := by
  cases b
  · exact Lm.cst
  · exact h
theorem Lm.xis {m : Nat} {v : Int} {c : Nat} {f : Nat → Option α} {a : Option α} (h : Lm f a) : Lm (fun n => gis m v c (f n)) (gis m v c a) := Lm.bl h
theorem Lm.xisb {m : Nat} {v : Int} {f : Nat → Option α} {a : Option α} (h : Lm f a) : Lm (fun n => gisb m v (f n)) (gisb m v a) := Lm.bl h
theorem Lm.xisa {m : Nat} {v : Int} {f : Nat → Option α} {a : Option α} (h : Lm f a) : Lm (fun n => gisa m v (f n)) (gisa m v a) := Lm.bl h
theorem Lm.xwr {w : Nat} {v k : Int} {f : Nat → Option α} {a : Option α} (h : Lm f a) : Lm (fun n => gwr w v k (f n)) (gwr w v k a) := Lm.bl h
theorem Lm.x01 {v : Int} {f : Nat → Option α} {a : Option α} (h : Lm f a) : Lm (fun n => g01 v (f n)) (g01 v a) := Lm.bl h
theorem Lm.xtx {v : Int} {f : Nat → Option α} {a : Option α} (h : Lm f a) : Lm (fun n => gtx v (f n)) (gtx v a) := by
  unfold gtx
  cases v with
  | ofNat k => exact Lm.bl h
  | negSucc k => exact Lm.cst
theorem Lm.xtry {o : Option Int} {f : Nat → Int → Option α} {g : Nat → Option α} {a : Int → Option α} {b : Option α} (h : ∀ v, Lm (fun n => f n v) (a v)) (h2 : Lm g b) : Lm (fun n => gtry o (f n) (g n)) (gtry o a b) := by
  cases o with
  | none => exact h2
  | some v => exact h v
theorem Lm.eqn {f g : Nat → Option α} {r r' : Option α} (h : Lm f r) (h2 : Lm g r') (he : ∀ n, f (n + 1) = g n) : r = r' := by
  refine h.uniq ⟨h.1, fun x => ?_⟩
  rw [h2.2 x]
  constructor
  · intro ⟨n, hn⟩
    exact ⟨n + 1, (he n).trans hn⟩
  · intro ⟨n, hn⟩
    exact ⟨n, by rw [← he]; exact h.1 n x hn⟩
end LM
