/-! what a method does not read does not matter to it -/
/-- places of the model that tell how far a run's strings and numbers go -/
def gDr (a k : Int) : Bool := decide (a = 119) && (decide (k = 11) || decide (k = 12) || decide (k = 13) || decide (k = 16) || decide (k = 127))
/-- σ with those places as in δ -/
def gO (δ σ : gM) : gM := fun a k => if gDr a k = true then δ a k else σ a k
theorem gO_n {δ σ : gM} {a k : Int} (h : gDr a k = false) : gO δ σ a k = σ a k := by
  unfold gO
  rw [if_neg (by rw [h]; decide)]
theorem gO_w {δ σ : gM} {a k v : Int} (h : gDr a k = false) : gW (gO δ σ) a k v = gO δ (gW σ a k v) := by
  funext b j
  unfold gO gW
  by_cases q : b = a ∧ j = k
  · rw [if_pos q, if_pos q, q.1, q.2, if_neg (by rw [h]; decide)]
  · rw [if_neg q, if_neg q]
theorem gDr_arr {a k : Int} (h : gK a < 10) : gDr a k = false := by
  unfold gDr
  by_cases q : a = 119
  · subst q
    exact absurd h (by decide +kernel)
  · rw [decide_eq_false q]
    rfl
def gFok (F : List (Nat × Nat × Int × Nat)) (k : Nat) : Bool := match gat F k with
  | none => true
  | some (c, j, _) => !(Nat.beq c (gK 119) && gDr 119 j)
def gIok (F : List (Nat × Nat × Int × Nat)) : Instr → Bool
  | .getfield k => gFok F k
  | .putfield k => gFok F k
  | _ => true
def gCok (F : List (Nat × Nat × Int × Nat)) : List gC → Bool
  | [] => true
  | (_, _, i, _) :: r => gIok F i && gCok F r
theorem gDr_fld {F : List (Nat × Nat × Int × Nat)} {k c t : Nat} {j o : Int} (h : gFok F k = true) (e : gat F k = some (c, j, t)) (hc : gK o = c) : gDr o j = false := by
  unfold gFok at h
  rw [e] at h
  by_cases q : o = 119
  · subst q
    rw [← hc] at h
    simp only [Nat.beq_refl, Bool.true_and, Bool.not_eq_true'] at h
    exact h
  · unfold gDr
    rw [decide_eq_false q]
    rfl
theorem gCok_mem {F : List (Nat × Nat × Int × Nat)} : ∀ {cs : List gC}, gCok F cs = true → ∀ x ∈ cs, gIok F x.2.2.1 = true
  | [], _, x, hx => by cases hx
  | (pc, ln, i, tg) :: r, h, x, hx => by
    unfold gCok at h
    rw [Bool.and_eq_true] at h
    rcases List.mem_cons.mp hx with q | q
    · rw [q]; exact h.1
    · exact gCok_mem h.2 x q
theorem gdrop_mem {x : gC} {t : Nat} : ∀ {cs : List gC}, x ∈ gdrop t cs → x ∈ cs
  | [], h => h
  | (pc, c) :: r, h => by
    unfold gdrop at h
    split at h
    · exact h
    · exact List.mem_cons_of_mem _ (gdrop_mem h)
def oM {ρ ρ' : Type} (φ : ρ → ρ') (x : Option ρ) (y : Option ρ') : Prop := ∀ r, x = some r → y = some (φ r)
section OV
variable {ρ : Type} {φ : ρ → ρ} {δ : gM}
theorem oM.nn {y : Option ρ} : oM φ none y := fun _ h => by cases h
theorem oM.ite {c : Prop} [Decidable c] {x y x' y' : Option ρ} (h : oM φ x x') (h2 : oM φ y y') : oM φ (if c then x else y) (if c then x' else y') := by
  split
  · exact h
  · exact h2
theorem oM.bl {b : Bool} {x y x' y' : Option ρ} (h : oM φ x x') (h2 : oM φ y y') : oM φ (match b with | true => x | false => y) (match b with | true => x' | false => y') := by
  cases b
  · exact h2
  · exact h
theorem oM.bd {α : Type} {ψ : α → α} {x x' : Option α} {f f' : α → Option ρ} (h : oM ψ x x') (h2 : ∀ a, oM φ (f a) (f' (ψ a))) : oM φ (x.bind f) (x'.bind f') := by
  intro r hr
  cases hx : x with
  | none => rw [hx] at hr; cases hr
  | some a =>
    rw [hx] at hr
    rw [h a hx]
    exact h2 a r hr
theorem oM.xp1 {t : Nat} {st : List gV} {f g : Int → List gV → Option ρ} (h : ∀ x st, oM φ (f x st) (g x st)) : oM φ (p1 t st f) (p1 t st g) := by
  unfold p1
  cases st with
  | nil => exact oM.nn
  | cons v r =>
    obtain ⟨u, x⟩ := v
    exact oM.bl (h x r) oM.nn
theorem oM.xp1r {st : List gV} {f g : gV → List gV → Option ρ} (h : ∀ x st, oM φ (f x st) (g x st)) : oM φ (p1r st f) (p1r st g) := by
  unfold p1r
  cases st with
  | nil => exact oM.nn
  | cons v r =>
    obtain ⟨u, x⟩ := v
    exact oM.bl (h _ r) (oM.bl (h _ r) (oM.bl (h _ r) oM.nn))
theorem oM.xlk {f g : Nat → Int → Option ρ} (h : ∀ u x, oM φ (f u x) (g u x)) : ∀ (ls : List gV) (k : Nat), oM φ (glk f ls k) (glk g ls k)
  | [], _ => oM.nn
  | (u, x) :: _, 0 => h u x
  | _ :: r, k + 1 => oM.xlk h r k
theorem oM.setK {ls : List gV} {k : Nat} {v : gV} {f g : List gV → Option ρ} (h : ∀ l, oM φ (f l) (g l)) : oM φ (gsetK ls k v f) (gsetK ls k v g) := by
  rw [gsetK_eq, gsetK_eq]; exact h _
theorem oM.put2K {ls : List gV} {k : Nat} {f g : List gV → Option ρ} (h : ∀ l, oM φ (f l) (g l)) : oM φ (gput2K ls k f) (gput2K ls k g) := by
  rw [gput2K_eq, gput2K_eq]; exact h _
theorem oM.xis {m : Nat} {a : Int} {c : Nat} {x y : Option ρ} (h : gK a = c → oM φ x y) : oM φ (gis m a c x) (gis m a c y) := by
  unfold gis
  cases hb : Nat.beq (gK a) c && Nat.blt a.toNat m
  · exact oM.nn
  · rw [Bool.and_eq_true] at hb
    exact h (Nat.eq_of_beq_eq_true hb.1)
theorem oM.xisb {m : Nat} {a : Int} {x y : Option ρ} (h : gK a < 10 → oM φ x y) : oM φ (gisb m a x) (gisb m a y) := by
  unfold gisb
  cases hb : (Nat.beq (gK a) 2 || Nat.beq (gK a) 3) && Nat.blt a.toNat m
  · exact oM.nn
  · rw [Bool.and_eq_true, Bool.or_eq_true] at hb
    refine h ?_
    rcases hb.1 with q | q
    · rw [Nat.eq_of_beq_eq_true q]; decide
    · rw [Nat.eq_of_beq_eq_true q]; decide
theorem oM.xisa {m : Nat} {a : Int} {x y : Option ρ} (h : oM φ x y) : oM φ (gisa m a x) (gisa m a y) := oM.bl h oM.nn
theorem oM.xwr {w : Nat} {a k : Int} {x y : Option ρ} (h : oM φ x y) : oM φ (gwr w a k x) (gwr w a k y) := oM.bl h oM.nn
theorem oM.xwe {E : gE} {a k : Int} {x y : Option ρ} (h : oM φ x y) : oM φ (gwe E a k x) (gwe E a k y) := oM.xwr h
theorem oM.xeq {a k : Int} {x y : Option ρ} (h : oM φ x y) : oM φ (geq a k x) (geq a k y) := oM.bl h oM.nn
theorem oM.x01 {v : Int} {x y : Option ρ} (h : oM φ x y) : oM φ (g01 v x) (g01 v y) := oM.bl h oM.nn
theorem oM.xtx {v : Int} {x y : Option ρ} (h : oM φ x y) : oM φ (gtx v x) (gtx v y) := by
  unfold gtx
  cases v with
  | ofNat k => exact oM.bl h oM.nn
  | negSucc k => exact oM.nn
theorem oM.xsw {x : Int} {d : Nat} {f g : Nat → Option ρ} (h : ∀ t, oM φ (f t) (g t)) : ∀ (ps : List (Int × Nat)), oM φ (gsw x d f ps) (gsw x d g ps)
  | [] => h d
  | (k, t) :: r => oM.ite (h t) (oM.xsw h r)
theorem oM.xtry {o : Option Int} {a a' : Int → Option ρ} {b b' : Option ρ} (h : ∀ v, oM φ (a v) (a' v)) (h2 : oM φ b b') : oM φ (gtry o a b) (gtry o a' b') := by
  cases o with
  | none => exact h2
  | some v => exact h v
theorem oM.xrecv {E : gE} {rc : Nat} {as : List gV} {x y : Option ρ} (h : oM φ x y) : oM φ (grecv E rc as x) (grecv E rc as y) := by
  unfold grecv
  split
  · exact h
  · cases as with
    | nil => exact oM.nn
    | cons v r => exact oM.bl (oM.xtx h) oM.nn
  · cases as with
    | nil => exact oM.nn
    | cons v r => exact oM.bl (oM.xis fun _ => h) oM.nn
theorem oM.xg0 {st : List gV} {x y : Option ρ} (h : oM φ x y) : oM φ (g0 st x) (g0 st y) := by
  unfold g0
  cases st with
  | nil => exact h
  | cons v r => exact oM.nn
theorem oM.xrk {E : gE} {k : Nat} {x y : Option ρ} (h : oM φ x y) : oM φ (grk E k x) (grk E k y) := oM.bl h oM.nn
theorem oM.xrz {E : gE} {v : Int} {x y : Option ρ} (h : oM φ x y) : oM φ (grz E v x) (grz E v y) := by
  unfold grz
  split
  · exact h
  · exact oM.x01 h
  · exact oM.ite h oM.nn
  · exact oM.ite h oM.nn
  · exact oM.nn
/-- a callee's answer does not hang on those places -/
def gRi (f : gFn ⊕ gFt) : Prop := match f with
  | .inl f => ∀ (δ : gM) (n : Nat) (as : List gV) (σ : gM), oM (fun q : gM × Int => (gO δ q.1, q.2)) (f n as σ) (f n as (gO δ σ))
  | .inr f => ∀ (δ : gM) (n : Nat) (as : List gV) (σ : gM), oM (fun q : gM × Option Int => (gO δ q.1, q.2)) (f n as σ) (f n as (gO δ σ))
variable {nx nx' : List gV → List gV → gM → Option ρ} {jp jp' : Nat → List gV → List gV → gM → Option ρ} {ret thr ret' thr' : gM → Int → Option ρ} {E : gE} {n pc : Nat} {tg : List (Int × Nat)} {ls st : List gV} {σ : gM}
theorem oM.xif {k : ClassFile.Cond} {x y : Int} {st : List gV} (hn : ∀ ls st σ, oM φ (nx ls st σ) (nx' ls st (gO δ σ))) (hj : ∀ t ls st σ, oM φ (jp t ls st σ) (jp' t ls st (gO δ σ))) : oM φ (gif nx jp tg ls σ k x y st) (gif nx' jp' tg ls (gO δ σ) k x y st) := by
  unfold gif
  cases k <;> exact oM.ite (by first | exact hn _ _ _ | exact hj _ _ _ _) (by first | exact hn _ _ _ | exact hj _ _ _ _)
theorem oM.xback {rt : Nat} {v : Int} {st : List gV} {σ : gM} (hn : ∀ ls st σ, oM φ (nx ls st σ) (nx' ls st (gO δ σ))) : oM φ (gback nx ls rt v st σ) (gback nx' ls rt v st (gO δ σ)) := oM.bl (hn _ _ _) (hn _ _ _)
theorem gget_ov {k : Nat} (hk : gFok E.2.1 k = true) (hn : ∀ ls st σ, oM φ (nx ls st σ) (nx' ls st (gO δ σ))) : oM φ (gget E nx ls st σ k) (gget E nx' ls st (gO δ σ) k) := by
  unfold gget
  split
  · exact oM.nn
  · rename_i c j t e
    refine oM.bl (oM.bl (oM.xp1 fun x st => oM.xtx (oM.bl (hn _ _ _) (hn _ _ _))) oM.nn) (oM.xp1 fun o st => oM.xis fun hc => ?_)
    rw [gO_n (gDr_fld hk e hc)]
    split
    · exact hn _ _ _
    · exact hn _ _ _
    · exact hn _ _ _
    · exact oM.ite (hn _ _ _) oM.nn
    · exact oM.ite (hn _ _ _) oM.nn
    · exact hn _ _ _
theorem gput_ov {k : Nat} (hk : gFok E.2.1 k = true) (hn : ∀ ls st σ, oM φ (nx ls st σ) (nx' ls st (gO δ σ))) : oM φ (gput E nx ls st σ k) (gput E nx' ls st (gO δ σ) k) := by
  unfold gput
  split
  · exact oM.nn
  · rename_i c j t e
    refine oM.bl oM.nn ?_
    split
    · exact oM.xp1 fun v st => oM.xp1 fun o st => oM.xis fun hc => oM.xwe (by rw [gO_w (gDr_fld hk e hc)]; exact hn _ _ _)
    · exact oM.xp1 fun v st => oM.xp1 fun o st => oM.xis fun hc => oM.xwe (by rw [gO_w (gDr_fld hk e hc)]; exact hn _ _ _)
    · exact oM.xp1 fun v st => oM.xp1 fun o st => oM.xis fun hc => oM.xwe (oM.ite (by rw [gO_w (gDr_fld hk e hc)]; exact hn _ _ _) oM.nn)
    · exact oM.xp1 fun v st => oM.xp1 fun o st => oM.xis fun hc => oM.xwe (oM.xeq (by rw [gO_w (gDr_fld hk e hc)]; exact hn _ _ _))
    · exact oM.xp1 fun v st => oM.xp1 fun o st => oM.xis fun hc => oM.xwe (oM.x01 (by rw [gO_w (gDr_fld hk e hc)]; exact hn _ _ _))
    · exact oM.nn
theorem gald_ov {c t : Nat} (h10 : c < 10) (hn : ∀ ls st σ, oM φ (nx ls st σ) (nx' ls st (gO δ σ))) : oM φ (gald E nx ls st σ c t) (gald E nx' ls st (gO δ σ) c t) :=
  oM.xp1 fun i st => oM.xp1 fun a st => oM.xis fun hc => oM.ite (by rw [gO_n (gDr_arr (by rw [hc]; exact h10))]; exact hn _ _ _) oM.nn
theorem gast_ov {c t : Nat} (h10 : c < 10) (hn : ∀ ls st σ, oM φ (nx ls st σ) (nx' ls st (gO δ σ))) : oM φ (gast E nx ls st σ c t) (gast E nx' ls st (gO δ σ) c t) :=
  oM.xp1 fun v st => oM.xp1 fun i st => oM.xp1 fun a st => oM.xis fun hc => oM.xwe (oM.ite (by rw [gO_w (gDr_arr (by rw [hc]; exact h10))]; exact hn _ _ _) oM.nn)
theorem galb_ov (hn : ∀ ls st σ, oM φ (nx ls st σ) (nx' ls st (gO δ σ))) : oM φ (galb E nx ls st σ) (galb E nx' ls st (gO δ σ)) := by
  refine oM.xp1 fun i st => ?_
  cases st with
  | nil => exact oM.nn
  | cons v r => exact oM.bl (oM.xtx (oM.ite (hn _ _ _) oM.nn)) (oM.xp1 fun o st => oM.xisb fun hc => oM.ite (by rw [gO_n (gDr_arr hc)]; exact hn _ _ _) oM.nn)
theorem gasb_ov (hn : ∀ ls st σ, oM φ (nx ls st σ) (nx' ls st (gO δ σ))) : oM φ (gasb E nx ls st σ) (gasb E nx' ls st (gO δ σ)) :=
  oM.xp1 fun v st => oM.xp1 fun i st => oM.xp1 fun o st => oM.xisb fun hc => oM.xwe (oM.ite (oM.bl (by rw [gO_w (gDr_arr hc)]; exact hn _ _ _) (oM.x01 (by rw [gO_w (gDr_arr hc)]; exact hn _ _ _))) oM.nn)
theorem gcall_ov {vi : Bool} {k : Nat} (hcal : ∀ idx k rc rt f, gat E.2.2.2.1 idx = some (k, rc, rt, f) → gRi f) (hn : ∀ ls st σ, oM φ (nx ls st σ) (nx' ls st (gO δ σ))) (hj : ∀ t ls st σ, oM φ (jp t ls st σ) (jp' t ls st (gO δ σ))) (ht : ∀ σ v, oM φ (thr σ v) (thr' (gO δ σ) v)) :
    oM φ (gcall E n nx jp thr pc ls st σ vi k) (gcall E n nx' jp' thr' pc ls st (gO δ σ) vi k) := by
  unfold gcall
  split
  · exact oM.nn
  · rename_i k rc rt f hg
    have hf := hcal _ _ _ _ _ hg
    cases Bool.xor vi (Nat.beq rc 0)
    · exact oM.nn
    · show oM φ (match gtake k st [] with | none => _ | some (as, st) => _) (match gtake k st [] with | none => _ | some (as, st) => _)
      split
      · exact oM.nn
      · cases glight 8 _
        · exact oM.nn
        · refine oM.xrecv ?_
          cases f with
          | inl f => exact oM.bd (hf δ n _ σ) fun p => oM.xback hn
          | inr f =>
            refine oM.bd (hf δ n _ σ) fun p => oM.xtry (fun v => oM.xback hn) ?_
            split
            · exact ht _ _
            · exact hj _ _ _ _
set_option maxHeartbeats 4000000 in
theorem gex_ov {i : Instr} (hok : gIok E.2.1 i = true) (hcal : ∀ idx k rc rt f, gat E.2.2.2.1 idx = some (k, rc, rt, f) → gRi f) (hn : ∀ ls st σ, oM φ (nx ls st σ) (nx' ls st (gO δ σ))) (hj : ∀ t ls st σ, oM φ (jp t ls st σ) (jp' t ls st (gO δ σ))) (hr : ∀ σ v, oM φ (ret σ v) (ret' (gO δ σ) v)) (ht : ∀ σ v, oM φ (thr σ v) (thr' (gO δ σ) v)) :
    oM φ (gex E n nx jp ret thr pc tg ls st σ i) (gex E n nx' jp' ret' thr' pc tg ls st (gO δ σ) i) := by
  cases i with
  | iconst v => exact hn _ _ _
  | bipush v => exact hn _ _ _
  | sipush v => exact hn _ _ _
  | lconst v => exact hn _ _ _
  | ldc k | ldc_w k | ldc2_w k =>
    simp only [gex, gcst]
    split
    · exact oM.nn
    · exact oM.bl oM.nn (hn _ _ _)
  | iload k | lload k | iload_n k | lload_n k => exact oM.xlk (fun u x => oM.bl (hn _ _ _) oM.nn) _ _
  | aload k | aload_n k => exact oM.xlk (fun u x => oM.bl (hn _ _ _) (oM.bl (hn _ _ _) (oM.bl (hn _ _ _) oM.nn))) _ _
  | istore k | istore_n k => exact oM.xp1 fun x st => oM.setK fun ls => hn _ _ _
  | lstore k | lstore_n k => exact oM.xp1 fun x st => oM.setK fun ls => oM.put2K fun ls => hn _ _ _
  | astore k | astore_n k =>
    simp only [gex]
    exact oM.xp1r fun x st => oM.setK fun ls => hn _ _ _
  | iinc k d => exact oM.xlk (fun u x => oM.bl (oM.setK fun ls => hn _ _ _) oM.nn) _ _
  | iadd | isub | imul | iand | ior | ixor | ishr | iushr => exact oM.xp1 fun y st => oM.xp1 fun x st => hn _ _ _
  | ladd | lsub | lmul | land | lor | lxor => exact oM.xp1 fun y st => oM.xp1 fun x st => hn _ _ _
  | idiv | irem | ldiv | lrem => exact oM.xp1 fun y st => oM.xp1 fun x st => oM.ite oM.nn (hn _ _ _)
  | lshl | lshr | lushr | lcmp => exact oM.xp1 fun y st => oM.xp1 fun x st => hn _ _ _
  | ineg | lneg | i2l | l2i | i2b | i2c => exact oM.xp1 fun x st => hn _ _ _
  | dup =>
    cases st with
    | nil => exact oM.nn
    | cons v r => exact oM.bl oM.nn (hn _ _ _)
  | dup2 =>
    simp only [gex]
    split
    · exact oM.bl oM.nn (hn _ _ _)
    · exact oM.nn
  | pop =>
    cases st with
    | nil => exact oM.nn
    | cons v r => exact oM.bl oM.nn (hn _ _ _)
  | ifCond k off => exact oM.xp1 fun x st => oM.xif hn hj
  | if_icmp k off => exact oM.xp1 fun y st => oM.xp1 fun x st => oM.xif hn hj
  | goto off => exact hj _ _ _ _
  | tableswitch d lo hi offs =>
    refine oM.xp1 fun x st => ?_
    cases tg with
    | nil => exact oM.nn
    | cons v r => exact oM.xsw (fun t => hj _ _ _ _) _
  | lookupswitch d ps =>
    refine oM.xp1 fun x st => ?_
    cases tg with
    | nil => exact oM.nn
    | cons v r => exact oM.xsw (fun t => hj _ _ _ _) _
  | getstatic k =>
    simp only [gex, gsta]
    split
    · exact oM.nn
    · exact oM.bl (hn _ _ _) oM.nn
  | getfield k => exact gget_ov hok hn
  | putfield k => exact gput_ov hok hn
  | iaload => exact gald_ov (by decide) hn
  | laload => exact gald_ov (by decide) hn
  | aaload => exact gald_ov (by decide) hn
  | baload => exact galb_ov hn
  | iastore => exact gast_ov (by decide) hn
  | lastore => exact gast_ov (by decide) hn
  | bastore => exact gasb_ov hn
  | arraylength =>
    cases st with
    | nil => exact oM.nn
    | cons v r => exact oM.bl (oM.xtx (hn _ _ _)) (oM.xp1 fun o st => oM.xisa (hn _ _ _))
  | invokevirtual k | invokestatic k => exact gcall_ov hcal hn hj ht
  | ireturn => exact oM.xp1 fun x st => oM.xg0 (oM.xrz (hr _ _))
  | lreturn | areturn => exact oM.xrk (oM.xp1 fun x st => oM.xg0 (hr _ _))
  | return_ => exact oM.xrk (oM.xg0 (hr _ _))
  | athrow =>
    refine oM.xp1 fun x st => ?_
    split
    · exact ht _ _
    · exact oM.nn
  | _ => exact oM.nn
variable {kont kont' : Nat → List gV → List gV → gM → Option ρ}
theorem gev_ov (hE : ∀ x ∈ E.1, gIok E.2.1 x.2.2.1 = true) (hcal : ∀ idx k rc rt f, gat E.2.2.2.1 idx = some (k, rc, rt, f) → gRi f) (hk : ∀ t ls st σ, oM φ (kont t ls st σ) (kont' t ls st (gO δ σ))) (hr : ∀ σ v, oM φ (ret σ v) (ret' (gO δ σ) v)) (ht : ∀ σ v, oM φ (thr σ v) (thr' (gO δ σ) v)) :
    ∀ (K : Nat) (chk : Bool) (cs : List gC), (∀ x ∈ cs, gIok E.2.1 x.2.2.1 = true) → ∀ (ls st : List gV) (σ : gM), oM φ (gev E n ret thr kont K chk cs ls st σ) (gev E n ret' thr' kont' K chk cs ls st (gO δ σ))
  | 0, _, _, _, _, _, _ => oM.nn
  | _ + 1, _, [], _, _, _, _ => oM.nn
  | K + 1, chk, (pc, ln, i, tg, sp) :: rest, hcs, ls, st, σ => by
    unfold gev
    split
    · exact hk _ _ _ _
    · exact gex_ov (hcs (pc, ln, i, tg, sp) (List.mem_cons_self ..)) hcal (gev_ov hE hcal hk hr ht K true rest fun x q => hcs x (List.mem_cons_of_mem _ q)) (fun t => gev_ov hE hcal hk hr ht K true _ fun x q => hE x (gdrop_mem q)) hr ht
theorem gB_ov (hE : ∀ x ∈ E.1, gIok E.2.1 x.2.2.1 = true) (hcal : ∀ idx k rc rt f, gat E.2.2.2.1 idx = some (k, rc, rt, f) → gRi f) (hr : ∀ σ v, oM φ (ret σ v) (ret' (gO δ σ) v)) (ht : ∀ σ v, oM φ (thr σ v) (thr' (gO δ σ) v)) :
    ∀ (n pc : Nat) (ls st : List gV) (σ : gM), oM φ (gB E ret thr n pc ls st σ) (gB E ret' thr' n pc ls st (gO δ σ))
  | 0, _, _, _, _ => oM.nn
  | n + 1, pc, ls, st, σ => gev_ov hE hcal (gB_ov hE hcal hr ht n) hr ht _ _ _ (fun x q => hE x (gdrop_mem q)) _ _ _
end OV
def gRis : List (Nat × Nat × Nat × Nat × (gFn ⊕ gFt)) → Prop
  | [] => True
  | (_, _, _, _, f) :: r => gRi f ∧ gRis r
theorem gRis_spec : ∀ {cs : List (Nat × Nat × Nat × Nat × (gFn ⊕ gFt))}, gRis cs → ∀ idx k rc rt f, gat cs idx = some (k, rc, rt, f) → gRi f
  | [], _, _, _, _, _, _, h => by cases h
  | (j, k', rc', rt', f') :: r, hc, idx, k, rc, rt, f, h => by
    unfold gat at h
    split at h
    · cases h
      exact hc.1
    · exact gRis_spec hc.2 idx k rc rt f h
theorem gF_ri {E : gE} {L : Nat} (ho : gCok E.2.1 E.1 = true) (hc : gRis E.2.2.2.1) : gRi (.inl (gF E L)) := by
  intro δ n as σ
  unfold gF
  split
  · exact oM.nn
  · rw [gpadK_eq, gpadK_eq]
    exact gB_ov (gCok_mem ho) (gRis_spec hc) (fun σ v r h => by cases h; rfl) (fun σ v => oM.nn) _ _ _ _ _
theorem gG_ri {E : gE} {L : Nat} (ho : gCok E.2.1 E.1 = true) (hc : gRis E.2.2.2.1) : gRi (.inr (gG E L)) := by
  intro δ n as σ
  unfold gG
  split
  · exact oM.nn
  · rw [gpadK_eq, gpadK_eq]
    refine gB_ov (gCok_mem ho) (gRis_spec hc) (fun σ v r h => by cases h; rfl) (fun σ v => ?_) _ _ _ _ _
    unfold gthr
    exact oM.ite (fun r h => by cases h; rfl) oM.nn
theorem gRi_none : gRi (.inl (fun _ _ _ => none)) := fun _ _ _ _ => oM.nn
theorem gRi_none2 : gRi (.inr (fun _ _ _ => none)) := fun _ _ _ _ => oM.nn
/-- of a finished method -/
theorem ov_inl {δ σ S : gM} {as : List gV} {f : gFn} (h : gRi (.inl f)) {r r' : Option (gM × Int)} {x : Int} (l : Lm (fun n => f n as σ) r) (l' : Lm (fun n => f n as (gO δ σ)) r') (e : r = some (S, x)) : r' = some (gO δ S, x) := by
  obtain ⟨n, hn⟩ := (l.2 _).mp e
  exact (l'.2 _).mpr ⟨n, h δ n as σ _ hn⟩
theorem ov_inr {δ σ S : gM} {as : List gV} {f : gFt} (h : gRi (.inr f)) {r r' : Option (gM × Option Int)} {x : Option Int} (l : Lm (fun n => f n as σ) r) (l' : Lm (fun n => f n as (gO δ σ)) r') (e : r = some (S, x)) : r' = some (gO δ S, x) := by
  obtain ⟨n, hn⟩ := (l.2 _).mp e
  exact (l'.2 _).mpr ⟨n, h δ n as σ _ hn⟩
