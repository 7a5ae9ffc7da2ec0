/-! the same, for whole methods -/
section LO2
variable {ρ : Type} {nx nx' : List gV → List gV → gM → Option ρ} {jp jp' : Nat → List gV → List gV → gM → Option ρ} {ret thr thr' : gM → Int → Option ρ} {E : gE} {n pc : Nat} {tg : List (Int × Nat)} {ls st : List gV} {σ : gM} {cl : List (Nat × Nat × Nat × Nat × (gFn ⊕ gFt))}
set_option maxHeartbeats 4000000 in
theorem gex_lo {i : Instr} (hok : gLi E.2.1 E.2.2.1 i = true) (hF : ∀ i c j t, gat E.2.1 i = some (c, j, t) → 10 ≤ c) (hcal : gLos E.2.2.2.1 cl) (hl : gLv ls) (hs : gLv st) (hn : gLn nx nx') (hj : ∀ t, gLn (jp t) (jp' t)) :
    oL (gex E n nx jp ret thr pc tg ls st σ i) (gex (eLo E cl) n nx' jp' ret thr' pc tg ls st σ i) := by
  cases i with
  | iconst v => exact hn _ _ _ hl (gLv_n (by decide) hs)
  | bipush v => exact hn _ _ _ hl (gLv_n (by decide) hs)
  | sipush v => exact hn _ _ _ hl (gLv_n (by decide) hs)
  | lconst v => exact hn _ _ _ hl (gLv_n (by decide) hs)
  | ldc k | ldc_w k | ldc2_w k =>
    have hk : (match gat E.2.2.1 k with | none => true | some (t, _) => !(Nat.beq t 2)) = true := hok
    simp only [gex, gcst]
    show oL (match gat E.2.2.1 k with | none => none | some (t, x) => _) (match gat E.2.2.1 k with | none => none | some (t, x) => _)
    split
    · exact oL.nn
    · rename_i t x e
      rw [e] at hk
      refine oL.bl oL.nn (hn _ _ _ hl (gLv_n (fun q => ?_) hs))
      rw [q] at hk
      exact absurd (show (false : Bool) = true from hk) (by decide)
  | iload k | iload_n k => exact oL.xlk _ _ hl fun u x _ => oL.bl (hn _ _ _ hl (gLv_n (by decide) hs)) oL.nn
  | lload k | lload_n k => exact oL.xlk _ _ hl fun u x _ => oL.bl (hn _ _ _ hl (gLv_n (by decide) hs)) oL.nn
  | aload k | aload_n k => exact oL.xlk _ _ hl fun u x hx => oL.blh (fun hb => hn _ _ _ hl (gLv_cons.mpr ⟨fun _ => hx (Nat.eq_of_beq_eq_true hb), hs⟩)) fun _ => oL.bl (hn _ _ _ hl (gLv_n (by decide) hs)) (oL.bl (hn _ _ _ hl (gLv_n (by decide) hs)) oL.nn)
  | istore k | istore_n k =>
    refine oL.xp1 hs fun x st _ hs => ?_
    rw [gsetK_eq, gsetK_eq]
    exact hn _ _ _ (gLv_set hl (fun q => absurd q (show (0 : Nat) ≠ 2 by decide))) hs
  | lstore k | lstore_n k =>
    refine oL.xp1 hs fun x st _ hs => ?_
    rw [gsetK_eq, gsetK_eq, gput2K_eq, gput2K_eq]
    exact hn _ _ _ (gLv_put2 (gLv_set hl (fun q => absurd q (show (1 : Nat) ≠ 2 by decide)))) hs
  | astore k | astore_n k =>
    simp only [gex]
    refine oL.xp1r hs fun v st hv hs => ?_
    rw [gsetK_eq, gsetK_eq]
    exact hn _ _ _ (gLv_set hl hv) hs
  | iinc k d =>
    refine oL.xlk _ _ hl fun u x _ => oL.bl ?_ oL.nn
    rw [gsetK_eq, gsetK_eq]
    exact hn _ _ _ (gLv_set hl (fun q => absurd q (show (0 : Nat) ≠ 2 by decide))) hs
  | iadd | isub | imul | iand | ior | ixor | ishr | iushr => exact oL.xp1 hs fun y st _ hs => oL.xp1 hs fun x st _ hs => hn _ _ _ hl (gLv_n (by decide) hs)
  | ladd | lsub | lmul | land | lor | lxor => exact oL.xp1 hs fun y st _ hs => oL.xp1 hs fun x st _ hs => hn _ _ _ hl (gLv_n (by decide) hs)
  | idiv | irem | ldiv | lrem => exact oL.xp1 hs fun y st _ hs => oL.xp1 hs fun x st _ hs => oL.ite oL.nn (hn _ _ _ hl (gLv_n (by decide) hs))
  | lshl | lshr | lushr | lcmp => exact oL.xp1 hs fun y st _ hs => oL.xp1 hs fun x st _ hs => hn _ _ _ hl (gLv_n (by decide) hs)
  | ineg | lneg | i2l | l2i | i2b | i2c => exact oL.xp1 hs fun x st _ hs => hn _ _ _ hl (gLv_n (by decide) hs)
  | dup =>
    cases st with
    | nil => exact oL.nn
    | cons v r =>
      obtain ⟨t, x⟩ := v
      exact oL.bl oL.nn (hn _ _ _ hl (gLv_cons.mpr ⟨(gLv_cons.mp hs).1, hs⟩))
  | dup2 =>
    simp only [gex]
    split
    · rename_i t x u y r
      have h1 := gLv_cons.mp hs
      have h2 := gLv_cons.mp h1.2
      exact oL.bl oL.nn (hn _ _ _ hl (gLv_cons.mpr ⟨h1.1, gLv_cons.mpr ⟨h2.1, hs⟩⟩))
    · exact oL.nn
  | pop =>
    cases st with
    | nil => exact oL.nn
    | cons v r =>
      obtain ⟨t, x⟩ := v
      exact oL.bl oL.nn (hn _ _ _ hl (gLv_cons.mp hs).2)
  | ifCond k off => exact oL.xp1 hs fun x st _ hs => oL.xif hl hs hn hj
  | if_icmp k off => exact oL.xp1 hs fun y st _ hs => oL.xp1 hs fun x st _ hs => oL.xif hl hs hn hj
  | goto off => exact hj _ _ _ _ hl hs
  | tableswitch d lo hi offs =>
    refine oL.xp1 hs fun x st _ hs => ?_
    cases tg with
    | nil => exact oL.nn
    | cons v r => exact oL.xsw (fun t => hj _ _ _ _ hl hs) _
  | lookupswitch d ps =>
    refine oL.xp1 hs fun x st _ hs => ?_
    cases tg with
    | nil => exact oL.nn
    | cons v r => exact oL.xsw (fun t => hj _ _ _ _ hl hs) _
  | getstatic k =>
    have hk : (match gat E.2.1 k with | none => true | some (_, _, t) => !(Nat.beq t 2)) = true := hok
    simp only [gex, gsta]
    show oL (match gat E.2.1 k with | none => none | some (c, x, t) => _) (match gat E.2.1 k with | none => none | some (c, x, t) => _)
    split
    · exact oL.nn
    · rename_i c x t e
      rw [e] at hk
      refine oL.bl (hn _ _ _ hl (gLv_n (fun q => ?_) hs)) oL.nn
      rw [q] at hk
      exact absurd (show (false : Bool) = true from hk) (by decide)
  | getfield k => exact gget_lo hok hl hs hn hF
  | putfield k => exact gput_lo hl hs hn
  | iaload => exact gald_lo (by decide) hl hs hn
  | laload => exact gald_lo (by decide) hl hs hn
  | aaload => exact gald_lo (by decide) hl hs hn
  | baload => exact galb_lo hl hs hn
  | iastore => exact gast_lo hl hs hn
  | lastore => exact gast_lo hl hs hn
  | bastore => exact gasb_lo hl hs hn
  | arraylength =>
    cases st with
    | nil => exact oL.nn
    | cons v r => exact oL.bl (oL.xtx (hn _ _ _ hl (gLv_n (by decide) (gLv_cons.mp hs).2))) (oL.xp1 hs fun o st ho hs => oL.xisa (ho rfl) (hn _ _ _ hl (gLv_n (by decide) hs)))
  | invokevirtual k | invokestatic k => exact gcall_lo hcal hl hs hn
  | ireturn => exact oL.xp1 hs fun x st _ hs => oL.xg0 (oL.xrz (fun _ h => h))
  | lreturn | areturn => exact oL.xrk (oL.xp1 hs fun x st _ hs => oL.xg0 (fun _ h => h))
  | return_ => exact oL.xrk (oL.xg0 (fun _ h => h))
  | athrow => exact absurd (show (false : Bool) = true from hok) (by decide)
  | _ => exact oL.nn
variable {kont kont' : Nat → List gV → List gV → gM → Option ρ}
theorem gev_lo (hE : ∀ x ∈ E.1, gLi E.2.1 E.2.2.1 x.2.2.1 = true) (hF : ∀ i c j t, gat E.2.1 i = some (c, j, t) → 10 ≤ c) (hcal : gLos E.2.2.2.1 cl) (hk : ∀ t, gLn (kont t) (kont' t)) :
    ∀ (K : Nat) (chk : Bool) (cs : List gC), (∀ x ∈ cs, gLi E.2.1 E.2.2.1 x.2.2.1 = true) → gLn (gev E n ret thr kont K chk cs) (gev (eLo E cl) n ret thr' kont' K chk cs)
  | 0, _, _, _, _, _, _, _, _ => oL.nn
  | _ + 1, _, [], _, _, _, _, _, _ => oL.nn
  | K + 1, chk, (pc, ln, i, tg, sp) :: rest, hcs, ls, st, σ, hl, hs => by
    unfold gev
    split
    · exact hk _ _ _ _ (gLv_keep hl) hs
    · exact gex_lo (hcs (pc, ln, i, tg, sp) (List.mem_cons_self ..)) hF hcal hl hs (gev_lo hE hF hcal hk K true rest fun x q => hcs x (List.mem_cons_of_mem _ q)) (fun t => gev_lo hE hF hcal hk K true _ fun x q => hE x (gdrop_mem q))
theorem gB_lo (hE : ∀ x ∈ E.1, gLi E.2.1 E.2.2.1 x.2.2.1 = true) (hF : ∀ i c j t, gat E.2.1 i = some (c, j, t) → 10 ≤ c) (hcal : gLos E.2.2.2.1 cl) :
    ∀ (n pc : Nat), gLn (gB E ret thr n pc) (gB (eLo E cl) ret thr' n pc)
  | 0, _, _, _, _, _, _ => oL.nn
  | n + 1, pc, ls, st, σ, hl, hs => gev_lo hE hF hcal (gB_lo hE hF hcal n) _ _ _ (fun x q => hE x (gdrop_mem q)) _ _ _ hl hs
end LO2
def gLok (F : List (Nat × Nat × Int × Nat)) (Cs : List (Nat × gV)) (k : List gC) : Bool := k.all (fun x => gLi F Cs x.2.2.1) && F.all (fun q => Nat.ble 10 q.2.1)
theorem gat_mem {α : Type} : ∀ {xs : List (Nat × α)} {i : Nat} {a : α}, gat xs i = some a → ∃ j, (j, a) ∈ xs
  | [], i, a, h => by cases h
  | (j, b) :: r, i, a, h => by
    unfold gat at h
    split at h
    · cases h; exact ⟨j, List.mem_cons_self⟩
    · obtain ⟨k, hk⟩ := gat_mem h
      exact ⟨k, List.mem_cons_of_mem _ hk⟩
theorem gF_lo {E : gE} {L : Nat} {cl : List (Nat × Nat × Nat × Nat × (gFn ⊕ gFt))} (ho : gLok E.2.1 E.2.2.1 E.1 = true) (hc : gLos E.2.2.2.1 cl) : gLo (.inl (gF E L)) (.inl (gF (eLo E cl) L)) := by
  unfold gLok at ho
  rw [Bool.and_eq_true] at ho
  intro n as σ ha
  unfold gF
  split
  · exact oL.nn
  · rw [gpadK_eq, gpadK_eq]
    refine gB_lo (fun x hx => List.all_eq_true.mp ho.1 x hx) (fun i c j t h => ?_) hc _ _ _ _ _ (gLv_pad ha) gLv_nil
    obtain ⟨k, hk⟩ := gat_mem h
    have := List.all_eq_true.mp ho.2 _ hk
    simpa using this
