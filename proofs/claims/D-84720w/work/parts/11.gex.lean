/-! every instruction of the evaluator is the machine's -/
def gtg (pc : Nat) (off : Int) (tg : List (Int × Nat)) : Bool := match tg with
  | [(_, t)] => decide ((pc : Int) + off = (t : Int))
  | _ => false
def gswl (d : Nat) (x : Int) : List (Int × Nat) → Nat
  | [] => d
  | (k, t) :: r => if x = k then t else gswl d x r
def gswt (pc : Nat) (dflt lo hi : Int) (offs : Array Int) (tg : List (Int × Nat)) : Bool := match tg with
  | [] => false
  | (_, d) :: ps => decide ((pc : Int) + dflt = (d : Int)) && ps.all (fun q => decide (lo ≤ q.1) && decide (q.1 ≤ hi)) && decide (lo ≤ hi) && (List.range (hi - lo + 1).toNat).all (fun j => match offs[j]? with
    | some off => decide ((pc : Int) + off = (gswl d (lo + (j : Int)) ps : Int))
    | none => false)
def gswk (pc : Nat) (dflt : Int) (pairs : Array (Int × Int)) (tg : List (Int × Nat)) : Bool := match tg with
  | [] => false
  | (_, d) :: ps => decide ((pc : Int) + dflt = (d : Int)) && ((pairs.toList.zip (pairs.toList.drop 1)).all (fun (a, next) => a.1 < next.1)) && decide (pairs.toList.map (fun q => (q.1, (pc : Int) + q.2)) = ps.map (fun q => (q.1, (q.2 : Int))))
def gok (nL pc len : Nat) (i : Instr) (tg : List (Int × Nat)) : Bool := match i with
  | .iconst v => decide (len = 1) && decide (-2147483648 ≤ v) && decide (v ≤ 2147483647)
  | .bipush v => decide (len = 2) && decide (-128 ≤ v) && decide (v ≤ 127)
  | .sipush v => decide (len = 3) && decide (-32768 ≤ v) && decide (v ≤ 32767)
  | .lconst _ => decide (len = 1)
  | .ldc _ => decide (len = 2)
  | .ldc_w _ => decide (len = 3)
  | .ldc2_w _ => decide (len = 3)
  | .iload _ => decide (len = 2)
  | .lload _ => decide (len = 2)
  | .aload _ => decide (len = 2)
  | .istore k => decide (len = 2) && decide (k < nL)
  | .astore k => decide (len = 2) && decide (k < nL)
  | .lstore k => decide (len = 2) && decide (k + 1 < nL)
  | .istore_n k => decide (len = 1) && decide (k.val < nL)
  | .astore_n k => decide (len = 1) && decide (k.val < nL)
  | .lstore_n k => decide (len = 1) && decide (k.val + 1 < nL)
  | .iinc k _ => decide (len = 3) && decide (k < nL)
  | .ifCond _ off => decide (len = 3) && gtg pc off tg
  | .if_icmp _ off => decide (len = 3) && gtg pc off tg
  | .goto off => decide (len = 3) && gtg pc off tg
  | .tableswitch d lo hi offs => gswt pc d lo hi offs tg
  | .lookupswitch d ps => gswk pc d ps tg
  | .getfield _ => decide (len = 3)
  | .putfield _ => decide (len = 3)
  | .getstatic _ => decide (len = 3)
  | .invokevirtual _ => decide (len = 3)
  | .invokestatic _ => decide (len = 3)
  | _ => decide (len = 1)
def gCst (own : String) (idx : Nat) (v : gV) : Prop := (∃ x, v = (0, x) ∧ Cond.constant own idx (Int32.ofInt x) ∈ lw_all ∧ i32 x) ∨ (∃ x, v = (1, x) ∧ Cond.constantLong own idx (Int64.ofInt x) ∈ lw_all ∧ i64 x) ∨ ∃ (k : Nat) (tx : String), v = (3, (k : Int)) ∧ (own, idx, tx, k) ∈ gStrC
def grins (rk : Nat) : Instr := if rk = 0 ∨ rk = 6 ∨ rk = 7 ∨ rk = 8 then .ireturn else if rk = 1 then .lreturn else if rk = 2 then .areturn else .return_
theorem gsw_spec {ρ : Type} {x : Int} {d : Nat} {f : Nat → Option ρ} {r : ρ} : ∀ {ps : List (Int × Nat)}, gsw x d f ps = some r → f (gswl d x ps) = some r
  | [], h => h
  | (k, t) :: ps, h => by
    unfold gsw at h
    unfold gswl
    split at h
    · rename_i e; rw [if_pos e]; exact h
    · rename_i e; rw [if_neg e]; exact gsw_spec h
section LW
variable {p : Program} {l : Launch} {e : Env} {R : Room} {s : State} {m : MethodId} {args : Array Value} {below : List Frame} {meth : Method} {c : Code} {H : Heap} {locs : List Loc} {cells slots : Nat} {Q : State → Prop} {cc : ByteArray} {pc : Nat} {ls : Array Slot} {rest : List Value}
theorem va_ldcwS (hexec : p.tables.exec = Jvm.exec) (hb : c.code = cc) {own tx : String} {index q : Nat} (hown : s.vm.findClass own = some m.cls) (hZ : vk_R own index tx q s) (hdg : decode cc pc = .ok (.ldc_w index, 3))
    (k : W p l e R s m args below meth c H locs cells slots Q (F0 m (pc + 3) ls (.ref q :: rest))) : W p l e R s m args below meth c H locs cells slots Q (F0 m pc ls rest) := by
  intro T hT X
  obtain ⟨t, a1, b1⟩ := k T hT X
  refine ⟨t, ?_, b1⟩
  obtain ⟨k, cf, i, a', hk, hcf, hcp, -, hr, hev'⟩ := Cond.stringRef_spec hown hZ.1
  cases hZ.2.symm.trans hev'
  obtain ⟨k', hk', he⟩ := X.warmed.alike.2.2 _ _ hk
  have hr' : k'.resolved[index]? = some (some (.string q)) := by
    rcases X.warmed.entry hk hk' index with h | ⟨h, -⟩
    · rw [h]; exact hr
    · rw [hr] at h; cases h
  subst hb
  jvm_step X.here [hexec, hdg, ldc_w.wp_string (e := e) (s := T) (f := F0 m pc ls rest) X.here.top hk' (by rw [he]; exact hcf) hcp hr']
  exact a1
end LW
section GXX
variable {p : Program} {l : Launch} {e : Env} {R : Room} {s : State} {m : MethodId} {args : Array Value} {below : List Frame} {meth : Method} {c : Code} {Q : State → Prop} {cc : ByteArray} {nL : Nat} {Z : gZ} {own : String} {σ : gM} {pc len : Nat} {ls st : List gV} {ρ : Type} {r : ρ}
  {nx : List gV → List gV → gM → Option ρ} {jp : Nat → List gV → List gV → gM → Option ρ} {ret thr : gM → Int → Option ρ} {E : gE} {n : Nat} {tg : List (Int × Nat)}
def gcond (k : ClassFile.Cond) (x y : Int) : Prop := match k with
  | .eq => x = y
  | .ne => ¬ x = y
  | .lt => x < y
  | .ge => y ≤ x
  | .gt => y < x
  | .le => x ≤ y
theorem gif_spec {k : ClassFile.Cond} {x y : Int} {st2 : List gV} (h : gif nx jp tg ls σ k x y st2 = some r) : (gcond k x y → jp (gtgt tg) ls st2 σ = some r) ∧ (¬ gcond k x y → nx ls st2 σ = some r) := by
  unfold gif at h
  unfold gcond
  cases k <;> simp only at h ⊢ <;> split at h <;> (refine ⟨fun q => ?_, fun q => ?_⟩) <;> first | exact h | (exfalso; omega)
theorem gtg_spec {off : Int} (h : gtg pc off tg = true) : (pc : Int) + off = ((gtgt tg : Nat) : Int) := by
  unfold gtg at h
  split at h
  · simpa [gtgt] using h
  · cases h
theorem gx_if {k : ClassFile.Cond} {off : Int} (C : gCx p s m args c cc nL own Z) (hI : gI (zN Z) σ) (hls : gcans ls) (hst : gcans st) (hd : decode cc pc = .ok (.ifCond k off, 3)) (ht : gtg pc off tg = true)
    (hnx : gNx p l e R s m args below meth c Q nL Z r nx (pc + 3)) (hjp : ∀ t, gNx p l e R s m args below meth c Q nL Z r (jp t) t) (h : (p1 0 st fun x st => gif nx jp tg ls σ k x 0 st) = some r) : gAt p l e R s m args below meth c Q nL Z σ pc ls st := by
  obtain ⟨x, st2, rfl, h1⟩ := p1_spec h
  obtain ⟨k1, k2⟩ := gif_spec h1
  have ht := gtg_spec ht
  rw [gcans_cons, gcan0] at hst
  obtain ⟨hx, hb, -⟩ := C
  intro H locs la hP hS hL
  have a1 : gcond k x 0 → W p l e R s m args below meth c H locs 0 0 Q (F0 m (gtgt tg) la (st2.map (cv Z))) := fun q => hjp _ ls st2 σ hI hls hst.2 (k1 q) H locs la hP hS hL
  have a2 : ¬ gcond k x 0 → W p l e R s m args below meth c H locs 0 0 Q (F0 m (pc + 3) la (st2.map (cv Z))) := fun q => hnx ls st2 σ hI hls hst.2 (k2 q) H locs la hP hS hL
  have e0 : cv Z (0, x) = .int (Int32.ofInt x) := by simp [cv]
  show W p l e R s m args below meth c H locs 0 0 Q (F0 m pc la (cv Z (0, x) :: st2.map (cv Z)))
  rw [e0]
  unfold gcond at a1 a2
  cases k with
  | eq => exact lv_if_eq hx hb hd ht (fun q => a1 ((n_eq hst.1 i32_0).mp q)) (fun q => a2 (fun z => q ((n_eq hst.1 i32_0).mpr z)))
  | ne => exact lv_if_ne hx hb hd ht (fun q => a1 (fun z => q ((n_eq hst.1 i32_0).mpr z))) (fun q => a2 (fun z => z ((n_eq hst.1 i32_0).mp q)))
  | lt => exact lv_if_lt hx hb hd ht (fun q => a1 ((n_lt hst.1 i32_0).mp q)) (fun q => a2 (fun z => q ((n_lt hst.1 i32_0).mpr z)))
  | ge => exact lv_if_ge hx hb hd ht (fun q => a1 ((n_le i32_0 hst.1).mp q)) (fun q => a2 (fun z => q ((n_le i32_0 hst.1).mpr z)))
  | gt => exact lv_if_gt hx hb hd ht (fun q => a1 ((n_lt i32_0 hst.1).mp q)) (fun q => a2 (fun z => q ((n_lt i32_0 hst.1).mpr z)))
  | le => exact lv_if_le hx hb hd ht (fun q => a1 ((n_le hst.1 i32_0).mp q)) (fun q => a2 (fun z => q ((n_le hst.1 i32_0).mpr z)))
theorem gx_icmp {k : ClassFile.Cond} {off : Int} (C : gCx p s m args c cc nL own Z) (hI : gI (zN Z) σ) (hls : gcans ls) (hst : gcans st) (hd : decode cc pc = .ok (.if_icmp k off, 3)) (ht : gtg pc off tg = true)
    (hnx : gNx p l e R s m args below meth c Q nL Z r nx (pc + 3)) (hjp : ∀ t, gNx p l e R s m args below meth c Q nL Z r (jp t) t) (h : (p1 0 st fun y st => p1 0 st fun x st => gif nx jp tg ls σ k x y st) = some r) : gAt p l e R s m args below meth c Q nL Z σ pc ls st := by
  obtain ⟨y, st1, rfl, h0⟩ := p1_spec h
  obtain ⟨x, st2, rfl, h1⟩ := p1_spec h0
  obtain ⟨k1, k2⟩ := gif_spec h1
  have ht := gtg_spec ht
  rw [gcans_cons, gcans_cons, gcan0, gcan0] at hst
  obtain ⟨hy, hxx, hst⟩ := hst
  obtain ⟨hx, hb, -⟩ := C
  intro H locs la hP hS hL
  have a1 : gcond k x y → W p l e R s m args below meth c H locs 0 0 Q (F0 m (gtgt tg) la (st2.map (cv Z))) := fun q => hjp _ ls st2 σ hI hls hst (k1 q) H locs la hP hS hL
  have a2 : ¬ gcond k x y → W p l e R s m args below meth c H locs 0 0 Q (F0 m (pc + 3) la (st2.map (cv Z))) := fun q => hnx ls st2 σ hI hls hst (k2 q) H locs la hP hS hL
  have e0 : cv Z (0, x) = .int (Int32.ofInt x) := by simp [cv]
  have e1 : cv Z (0, y) = .int (Int32.ofInt y) := by simp [cv]
  show W p l e R s m args below meth c H locs 0 0 Q (F0 m pc la (cv Z (0, y) :: cv Z (0, x) :: st2.map (cv Z)))
  rw [e0, e1]
  unfold gcond at a1 a2
  cases k with
  | eq => exact lv_icmp_eq hx hb hd ht (fun q => a1 ((n_eq hxx hy).mp q)) (fun q => a2 (fun z => q ((n_eq hxx hy).mpr z)))
  | ne => exact lv_icmp_ne hx hb hd ht (fun q => a1 (fun z => q ((n_eq hxx hy).mpr z))) (fun q => a2 (fun z => z ((n_eq hxx hy).mp q)))
  | lt => exact lv_icmp_lt hx hb hd ht (fun q => a1 ((n_lt hxx hy).mp q)) (fun q => a2 (fun z => q ((n_lt hxx hy).mpr z)))
  | ge => exact lv_icmp_ge hx hb hd ht (fun q => a1 ((n_le hy hxx).mp q)) (fun q => a2 (fun z => q ((n_le hy hxx).mpr z)))
  | gt => exact lv_icmp_gt hx hb hd ht (fun q => a1 ((n_lt hy hxx).mp q)) (fun q => a2 (fun z => q ((n_lt hy hxx).mpr z)))
  | le => exact lv_icmp_le hx hb hd ht (fun q => a1 ((n_le hxx hy).mp q)) (fun q => a2 (fun z => q ((n_le hxx hy).mpr z)))
theorem gx_tsw {d lo hi : Int} {offs : Array Int} (C : gCx p s m args c cc nL own Z) (hI : gI (zN Z) σ) (hls : gcans ls) (hst : gcans st) (hd : decode cc pc = .ok (.tableswitch d lo hi offs, len)) (ht : gswt pc d lo hi offs tg = true)
    (hjp : ∀ t, gNx p l e R s m args below meth c Q nL Z r (jp t) t) (h : (p1 0 st fun x st => (match tg with | [] => none | (_, d) :: r => gsw x d (fun t => jp t ls st σ) r)) = some r) : gAt p l e R s m args below meth c Q nL Z σ pc ls st := by
  obtain ⟨x, st2, rfl, h1⟩ := p1_spec h
  rw [gcans_cons, gcan0] at hst
  cases tg with
  | nil => cases h1
  | cons q ps =>
    obtain ⟨q0, dd⟩ := q
    have h2 := gsw_spec h1
    simp only [gswt, Bool.and_eq_true, decide_eq_true_eq, List.all_eq_true] at ht
    obtain ⟨⟨⟨t1, t2⟩, t3⟩, t4⟩ := ht
    obtain ⟨hx, hb, -⟩ := C
    intro H locs la hP hS hL
    have e0 : cv Z (0, x) = .int (Int32.ofInt x) := by simp [cv]
    have go := hjp _ ls st2 σ hI hls hst.2 h2 H locs la hP hS hL
    show W p l e R s m args below meth c H locs 0 0 Q (F0 m pc la (cv Z (0, x) :: st2.map (cv Z)))
    rw [e0]
    by_cases hr : x < lo ∨ hi < x
    · have : gswl dd x ps = dd := by
        have key : ∀ ps : List (Int × Nat), (∀ q ∈ ps, lo ≤ q.1 ∧ q.1 ≤ hi) → gswl dd x ps = dd := by
          intro ps
          induction ps with
          | nil => intro _; rfl
          | cons q ps ih =>
            intro hq
            obtain ⟨a, b⟩ := q
            have h3 := hq (a, b) List.mem_cons_self
            unfold gswl
            rw [if_neg (by simp only at h3; omega)]
            exact ih fun z hz => hq z (List.mem_cons_of_mem _ hz)
        exact key ps t2
      rw [this] at go
      exact lv_tableOut hx hb hd (by rw [of32 hst.1]; exact hr) t1 go
    · have hj := t4 (x - lo).toNat (List.mem_range.mpr (by omega))
      cases ho : offs[(x - lo).toNat]? with
      | none => rw [ho] at hj; cases hj
      | some off =>
        rw [ho] at hj
        simp only [decide_eq_true_eq] at hj
        rw [show lo + (((x - lo).toNat : Nat) : Int) = x by omega] at hj
        exact lv_tableIn hx hb hd (by rw [of32 hst.1]; omega) (by rw [of32 hst.1]; omega) (by rw [of32 hst.1]; exact ho) hj go
theorem gx_lsw {d : Int} {prs : Array (Int × Int)} (C : gCx p s m args c cc nL own Z) (hI : gI (zN Z) σ) (hls : gcans ls) (hst : gcans st) (hd : decode cc pc = .ok (.lookupswitch d prs, len)) (ht : gswk pc d prs tg = true)
    (hjp : ∀ t, gNx p l e R s m args below meth c Q nL Z r (jp t) t) (h : (p1 0 st fun x st => (match tg with | [] => none | (_, d) :: r => gsw x d (fun t => jp t ls st σ) r)) = some r) : gAt p l e R s m args below meth c Q nL Z σ pc ls st := by
  obtain ⟨x, st2, rfl, h1⟩ := p1_spec h
  rw [gcans_cons, gcan0] at hst
  cases tg with
  | nil => cases h1
  | cons q ps =>
    obtain ⟨q0, dd⟩ := q
    have h2 := gsw_spec h1
    simp only [gswk, Bool.and_eq_true, decide_eq_true_eq] at ht
    obtain ⟨⟨t1, t2⟩, t3⟩ := ht
    obtain ⟨hx, hb, -⟩ := C
    intro H locs la hP hS hL
    have e0 : cv Z (0, x) = .int (Int32.ofInt x) := by simp [cv]
    have go := hjp _ ls st2 σ hI hls hst.2 h2 H locs la hP hS hL
    show W p l e R s m args below meth c H locs 0 0 Q (F0 m pc la (cv Z (0, x) :: st2.map (cv Z)))
    rw [e0]
    refine lv_lookup (off := Op.lookupswitch.offset prs.toList d x) hx hb hd t2 (by rw [of32 hst.1]) ?_ go
    have key : ∀ (l1 : List (Int × Int)) (l2 : List (Int × Nat)), l1.map (fun q => (q.1, (pc : Int) + q.2)) = l2.map (fun q => (q.1, (q.2 : Int))) → (pc : Int) + Op.lookupswitch.offset l1 d x = (gswl dd x l2 : Int) := by
      intro l1
      induction l1 with
      | nil =>
        intro l2 hl
        cases l2 with
        | nil => simpa [gswl, Op.lookupswitch.offset] using t1
        | cons _ _ => simp at hl
      | cons q l1 ih =>
        intro l2 hl
        cases l2 with
        | nil => simp at hl
        | cons w l2 =>
          obtain ⟨a, o⟩ := q
          obtain ⟨b, t⟩ := w
          simp only [List.map_cons, List.cons.injEq, Prod.mk.injEq] at hl
          obtain ⟨⟨rfl, h4⟩, h5⟩ := hl
          rw [Op.lookupswitch.offset_cons]
          unfold gswl
          by_cases hxa : x = a
          · subst hxa
            simp
            exact h4
          · rw [if_neg hxa, if_neg (fun q => hxa q.symm)]
            exact ih l2 h5
    exact key prs.toList ps t3
end GXX
