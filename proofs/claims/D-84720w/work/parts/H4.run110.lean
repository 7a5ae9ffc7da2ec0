/-! cells that are being made: the world while constructors run -/
def kP (Z : gZ) (σ : gM) (cs : List Nat) (H : Heap) : Prop := ∀ a ∈ cs, va_at (zD Z) gcl (zA Z a, gpic Z σ a) H
def kws (Z : gZ) (σ : gM) (cs : List Nat) : va_W := cs.map fun a => (zA Z a, gpic Z σ a)
/-- the cells' numbers are apart, and their addresses may be written to -/
def kOk (Z : gZ) (A : Nat → Prop) (cs : List Nat) : Prop := (∀ a ∈ cs, a < zN Z) ∧ cs.Nodup ∧ ∀ a ∈ cs, A (zA Z a)
theorem nodup_at {cs : List Nat} (h : cs.Nodup) {i j a : Nat} (hi : cs[i]? = some a) (hj : cs[j]? = some a) : i = j := by
  obtain ⟨i1, i2⟩ := List.getElem?_eq_some_iff.mp hi
  obtain ⟨j1, j2⟩ := List.getElem?_eq_some_iff.mp hj
  have key := List.pairwise_iff_getElem.mp h
  rcases Nat.lt_trichotomy i j with q | q | q
  · exact absurd (i2.trans j2.symm) (key i j i1 j1 q)
  · exact q
  · exact absurd (j2.trans i2.symm) (key j i j1 i1 q)
section KW
variable {Z : gZ} {σ σ' : gM} {cs cs' : List Nat} {H H' : Heap} {A : Nat → Prop}
theorem kws_at {k a : Nat} (h : cs[k]? = some a) : (kws Z σ cs)[k]? = some (zA Z a, gpic Z σ a) := by
  unfold kws
  rw [List.getElem?_map, h]
  rfl
theorem kws_get {k : Nat} {q : Nat × va_E} (h : (kws Z σ cs)[k]? = some q) : ∃ a, cs[k]? = some a ∧ q = (zA Z a, gpic Z σ a) := by
  unfold kws at h
  rw [List.getElem?_map] at h
  cases hc : cs[k]? with
  | none => rw [hc] at h; cases h
  | some a => rw [hc] at h; exact ⟨a, rfl, (Option.some.inj h).symm⟩
theorem kP.P (h : kP Z σ cs H) : va_P (zD Z) gcl (kws Z σ cs) H := by
  intro k q hq
  obtain ⟨a, h1, rfl⟩ := kws_get hq
  exact h a (List.mem_of_getElem? h1)
theorem kP.of (h : va_P (zD Z) gcl (kws Z σ cs) H) : kP Z σ cs H := by
  intro a ha
  obtain ⟨k, hk⟩ := List.getElem?_of_mem ha
  exact h k _ (kws_at hk)
theorem kD (hi : gInj Z) (ok : kOk Z A cs) : va_D A (kws Z σ cs) := by
  refine ⟨fun i j x y hx hy hxy => ?_, fun k q hq => ?_⟩
  · obtain ⟨a, h1, rfl⟩ := kws_get hx
    obtain ⟨b, h2, rfl⟩ := kws_get hy
    have e : a = b := hi a b (ok.1 a (List.mem_of_getElem? h1)) (ok.1 b (List.mem_of_getElem? h2)) hxy
    subst e
    exact nodup_at ok.2.1 h1 h2
  · obtain ⟨a, h1, rfl⟩ := kws_get hq
    exact ok.2.2 a (List.mem_of_getElem? h1)
theorem kws_set {q0 a : Nat} {i v : Int} {e : va_E} (hn : cs.Nodup) (hq : cs[q0]? = some a) (he : e = gpic Z (gW σ a i v) a) : (kws Z σ cs).set q0 (zA Z a, e) = kws Z (gW σ a i v) cs := by
  subst he
  apply List.ext_getElem?
  intro k
  have hl : q0 < (kws Z σ cs).length := by unfold kws; rw [List.length_map]; exact (List.getElem?_eq_some_iff.mp hq).1
  by_cases hk : q0 = k
  · subst hk
    rw [List.getElem?_set_self hl, kws_at hq]
  · rw [List.getElem?_set_ne hk]
    cases hc : cs[k]? with
    | none =>
      unfold kws
      rw [List.getElem?_map, List.getElem?_map, hc]
      rfl
    | some b =>
      have hb : b ≠ a := fun q => hk (nodup_at hn hq (by rw [← q]; exact hc))
      rw [kws_at hc, kws_at hc, gpic_ne (by omega)]
/-- what is known of some cells, and of others -/
theorem kP.app (h : kP Z σ cs H) (h' : kP Z σ cs' H) : kP Z σ (cs ++ cs') H := fun a ha => by
  rcases List.mem_append.mp ha with q | q
  · exact h a q
  · exact h' a q
theorem kP.sub (h : kP Z σ cs H) (hs : ∀ a ∈ cs', a ∈ cs) : kP Z σ cs' H := fun a ha => h a (hs a ha)
theorem kP.kept (h : kP Z σ cs H) (hq : ∀ a ∈ cs, H'[zA Z a]? = H[zA Z a]?) : kP Z σ cs H' := fun a ha => (h a ha).kept (hq a ha)
theorem kP.lt (h : kP Z σ cs H) {a : Nat} (ha : a ∈ cs) : zA Z a < H.size := (h a ha).lt
theorem gpic_mem {a : Nat} (h : ∀ j, σ' a j = σ a j) : gpic Z σ' a = gpic Z σ a := by
  unfold gpic gfs
  simp only [h]
theorem kP.mem (h : kP Z σ cs H) (hs : ∀ a ∈ cs, ∀ j, σ' a j = σ a j) : kP Z σ' cs H := fun a ha => by
  rw [gpic_mem (hs a ha)]
  exact h a ha
theorem kOk.sub (h : kOk Z A cs) (hs : ∀ a ∈ cs', a ∈ cs) (hn : cs'.Nodup) : kOk Z A cs' := ⟨fun a ha => h.1 a (hs a ha), hn, fun a ha => h.2.2 a (hs a ha)⟩
theorem kOk.snoc {a : Nat} (h : kOk Z A cs) (h1 : a < zN Z) (h2 : a ∉ cs) (h3 : A (zA Z a)) : kOk Z A (cs ++ [a]) := by
  refine ⟨fun b hb => ?_, ?_, fun b hb => ?_⟩
  · rcases List.mem_append.mp hb with q | q
    · exact h.1 b q
    · rw [List.mem_singleton.mp q]; exact h1
  · rw [List.nodup_append]
    refine ⟨h.2.1, by simp, fun x hx y hy e => ?_⟩
    rw [List.mem_singleton.mp hy] at e
    rw [e] at hx
    exact h2 hx
  · rcases List.mem_append.mp hb with q | q
    · exact h.2.2 b q
    · rw [List.mem_singleton.mp q]; exact h3
end KW
/-- a place in a constructor: the cells cs are there, the heap is of size n -/
def kAt (p : Program) (l : Launch) (e : Env) (R : Room) (s : State) (m : MethodId) (args : Array Value) (below : List Frame) (meth : Method) (c : Code) (Q : State → Prop) (nL : Nat) (A : Nat → Prop) (Z : gZ) (σ : gM) (cs : List Nat) (n cells slots pc : Nat) (ls st : List gV) : Prop :=
  ∀ (H : Heap) (locs : List Loc) (la : Array Slot), kP Z σ cs H → H.size = n → va_S A s.heap H locs → gLoc Z nL la ls → W p l e R s m args below meth c H locs cells slots Q (F0 m pc la (st.map (cv Z)))
/-- a field of the constructor's own class -/
def kFld (own : String) (idx co kk t : Nat) : Prop := ∃ (T : u_T) (nf : Nat), 10 ≤ co ∧ co ≠ 19 ∧ gcl[co - 10]? = some (own, T, nf) ∧ kk < nf ∧ (gty co)[kk]? = some t ∧ Cond.fieldLink own idx (T kk).1 (T kk).2.1 (T kk).2.2.1 ∈ lw_all
/-- what the class says of a field of that kind -/
def ktchk (C : String) (t : Nat) (q : String × String × String × Bool) : Bool := (t != 2 || (q.2.2.2 && q.1 == C && (match parseFieldDescriptor q.2.2.1 with | some (.object _) => true | some (.array _) => true | _ => false))) && (t != 8 || (q.2.2.1 == "I" && q.2.2.2 && q.1 == C)) && (t != 0 || (q.2.2.1 == "I" && !q.2.2.2))
set_option maxRecDepth 100000 in
theorem ktchk_ok : (List.range 11).all (fun ci => match gcl[ci]? with | some (C, T, _) => (gTys.getD ci []).zipIdx.all (fun q => ktchk C q.1 (T q.2)) | none => false) = true := by decide +kernel
theorem kty_ok {c kk t : Nat} {C : String} {T : u_T} {nf : Nat} (hc : gcl[c - 10]? = some (C, T, nf)) (ht : (gty c)[kk]? = some t) : ktchk C t (T kk) = true := by
  have h11 : c - 10 < 11 := by
    have := (List.getElem?_eq_some_iff.mp hc).1
    simpa [gcl] using this
  have h := List.all_eq_true.mp ktchk_ok (c - 10) (List.mem_range.mpr h11)
  rw [hc] at h
  exact List.all_eq_true.mp h (t, kk) (List.mem_zipIdx_iff_getElem?.mpr ht)
/-- the elements' type of an array's kind -/
def kTy : Nat → FieldType
  | 1 => .int
  | 2 => .byte
  | 3 => .boolean
  | _ => .long
def kAty : Nat → ArrayType
  | 1 => .int
  | 2 => .byte
  | 3 => .boolean
  | _ => .long
theorem kTy_of (t : Nat) : newarray.typeOf (kAty t) = kTy t := by
  unfold kAty kTy
  split <;> rfl
theorem karr_in {t : Nat} (h : t = 1 ∨ t = 2 ∨ t = 3 ∨ t = 4) : Cond.arrayClass (newarray.typeOf (kAty t)) ∈ lw_all := by
  rcases h with h | h | h | h <;> subst h
  · exact q329
  · exact q328
  · exact q796
  · exact q330
section KS
variable {p : Program} {l : Launch} {e : Env} {R : Room} {s : State} {m : MethodId} {args : Array Value} {below : List Frame} {meth : Method} {c : Code} {Q : State → Prop} {cc : ByteArray} {nL : Nat} {Z : gZ} {own : String} {A : Nat → Prop} {σ : gM} {cs : List Nat} {n cells slots pc : Nat} {ls st : List gV}
theorem k_aload {k : Fin 4} {t : Nat} {x : Int} (C : gCx p s m args c cc nL own Z) (hv : ls[k.val]? = some (t, x)) (ht : t = 2 ∨ t = 3) (hd : decode cc pc = .ok (.aload_n k, 1))
    (K : kAt p l e R s m args below meth c Q nL A Z σ cs n cells slots (pc + 1) ls ((t, x) :: st)) : kAt p l e R s m args below meth c Q nL A Z σ cs n cells slots pc ls st := by
  intro H locs la hP hn hS hL
  have h1 := hL.2.2 _ _ hv (by rcases ht with h | h <;> simp [h])
  have go := K H locs la hP hn hS hL
  rcases ht with h | h
  · subst h
    exact lv_aload_n (x := zA Z x.toNat) C.1 C.2.1 hd rfl h1 go
  · subst h
    exact lv_aload_n (x := zS Z x.toNat) C.1 C.2.1 hd rfl h1 go
theorem k_aloadw {k t : Nat} {x : Int} (C : gCx p s m args c cc nL own Z) (hv : ls[k]? = some (t, x)) (ht : t = 2 ∨ t = 3) (hd : decode cc pc = .ok (.aload k, 2))
    (K : kAt p l e R s m args below meth c Q nL A Z σ cs n cells slots (pc + 2) ls ((t, x) :: st)) : kAt p l e R s m args below meth c Q nL A Z σ cs n cells slots pc ls st := by
  intro H locs la hP hn hS hL
  have h1 := hL.2.2 _ _ hv (by rcases ht with h | h <;> simp [h])
  have go := K H locs la hP hn hS hL
  rcases ht with h | h
  · subst h
    exact lv_aload (x := zA Z x.toNat) C.1 C.2.1 hd h1 go
  · subst h
    exact lv_aload (x := zS Z x.toNat) C.1 C.2.1 hd h1 go
theorem k_iload {k : Fin 4} {x : Int} (C : gCx p s m args c cc nL own Z) (hv : ls[k.val]? = some (0, x)) (hd : decode cc pc = .ok (.iload_n k, 1))
    (K : kAt p l e R s m args below meth c Q nL A Z σ cs n cells slots (pc + 1) ls ((0, x) :: st)) : kAt p l e R s m args below meth c Q nL A Z σ cs n cells slots pc ls st := by
  intro H locs la hP hn hS hL
  exact lv_iload_n (x := Int32.ofInt x) C.1 C.2.1 hd rfl (hL.2.2 _ _ hv (Nat.zero_le 4)) (K H locs la hP hn hS hL)
theorem k_iloadw {k : Nat} {x : Int} (C : gCx p s m args c cc nL own Z) (hv : ls[k]? = some (0, x)) (hd : decode cc pc = .ok (.iload k, 2))
    (K : kAt p l e R s m args below meth c Q nL A Z σ cs n cells slots (pc + 2) ls ((0, x) :: st)) : kAt p l e R s m args below meth c Q nL A Z σ cs n cells slots pc ls st := by
  intro H locs la hP hn hS hL
  exact lv_iload (x := Int32.ofInt x) C.1 C.2.1 hd (hL.2.2 _ _ hv (Nat.zero_le 4)) (K H locs la hP hn hS hL)
theorem k_dup {v : gV} (C : gCx p s m args c cc nL own Z) (hv : v.1 ≠ 1) (hd : decode cc pc = .ok (.dup, 1))
    (K : kAt p l e R s m args below meth c Q nL A Z σ cs n cells slots (pc + 1) ls (v :: v :: st)) : kAt p l e R s m args below meth c Q nL A Z σ cs n cells slots pc ls (v :: st) := by
  intro H locs la hP hn hS hL
  have h1 : (cv Z v).category = 1 := by
    obtain ⟨u, x⟩ := v
    exact g_cat1 (by cases h : Nat.beq u 1 with | false => rfl | true => exact absurd (Nat.eq_of_beq_eq_true h) hv)
  exact lv_dup C.1 C.2.1 hd h1 (K H locs la hP hn hS hL)
/-- an int that an instruction holds itself, or a constant of the class -/
def kCst (own : String) (i : Instr) (len : Nat) (v : Int) : Prop := (i = .iconst v ∧ len = 1) ∨ (i = .bipush v ∧ len = 2 ∧ i8 v) ∨ (i = .sipush v ∧ len = 3 ∧ -32768 ≤ v ∧ v ≤ 32767) ∨ (∃ idx, i = .ldc idx ∧ len = 2 ∧ Cond.constant own idx (Int32.ofInt v) ∈ lw_all) ∨ ∃ idx, i = .ldc_w idx ∧ len = 3 ∧ Cond.constant own idx (Int32.ofInt v) ∈ lw_all
theorem k_const {i : Instr} {len : Nat} {v : Int} (C : gCx p s m args c cc nL own Z) (hc : kCst own i len v) (hd : decode cc pc = .ok (i, len))
    (K : kAt p l e R s m args below meth c Q nL A Z σ cs n cells slots (pc + len) ls ((0, v) :: st)) : kAt p l e R s m args below meth c Q nL A Z σ cs n cells slots pc ls st := by
  intro H locs la hP hn hS hL
  have go := K H locs la hP hn hS hL
  obtain ⟨hx, hb, hml, hown, hts, -⟩ := C
  rcases hc with ⟨rfl, rfl⟩ | ⟨rfl, rfl, h8⟩ | ⟨rfl, rfl, h1, h2⟩ | ⟨idx, rfl, rfl, hw⟩ | ⟨idx, rfl, rfl, hw⟩
  · exact lv_iconst hx hb hd rfl go
  · exact lv_bipush hx hb hd (g_of8 h8) go
  · exact lv_sipush hx hb hd (g_of16 ⟨h1, h2⟩) go
  · exact lv_ldc hx hb hown (hts _ hw) hd go
  · exact lv_ldcw hx hb hown (hts _ hw) hd go
/-- an array comes -/
theorem k_newa {t a : Nat} {N : Int} (C : gCx p s m args c cc nL own Z) (ht : t = 1 ∨ t = 2 ∨ t = 3 ∨ t = 4) (hk : gK a = t) (hN : gN a = N) (hN0 : 0 ≤ N ∧ N ≤ 1000000) (ha : zA Z a = n) (hz : ∀ j, σ a j = 0) (hcells : cells + 1 ≤ R.cells) (hslots : slots + N.toNat ≤ R.slots) (hA : ∀ q, s.heap.size ≤ q → A q) (hd : decode cc pc = .ok (.newarray (kAty t), 2))
    (K : kAt p l e R s m args below meth c Q nL A Z σ (cs ++ [a]) (n + 1) (cells + 1) (slots + N.toNat) (pc + 2) ls ((2, (a : Int)) :: st)) : kAt p l e R s m args below meth c Q nL A Z σ cs n cells slots pc ls ((0, N) :: st) := by
  intro H locs la hP hn hS hL
  obtain ⟨hx, hb, hml, hown, hts, hKK, -⟩ := C
  have hi : i32 N := by unfold i32; omega
  have hcl : (Int32.ofInt N).toNatClampNeg = N.toNat := n_cl hi
  refine va_newaK hx hb (hts _ (karr_in ht)) rfl hd rfl (fun q => ?_) hcl ?_ hcells hslots hn fun H' cA e1 z1 o1 hAr hNm => ?_
  · have := (n_lt hi i32_0).mp q
    omega
  · have : componentBytes (newarray.typeOf (kAty t)) ≤ 8 := by
      rcases ht with h | h | h | h <;> subst h <;> decide
    calc N.toNat * componentBytes (newarray.typeOf (kAty t)) ≤ 1000000 * 8 := Nat.mul_le_mul (by omega) this
      _ ≤ 536870912 := by decide
  · have hC : cA = zC Z t := by
      have h5 : ∃ k : Nat, (gtys Z)[k]? = some (zC Z t, kTy t) := by
        rcases ht with h | h | h | h <;> subst h
        · exact ⟨0, rfl⟩
        · exact ⟨1, rfl⟩
        · exact ⟨2, rfl⟩
        · exact ⟨3, rfl⟩
      obtain ⟨k, h5⟩ := h5
      have h6 := (hKK.2 k _ h5).2
      rw [kTy_of] at hNm
      have h7 : s.vm.findClass ("[" ++ (kTy t).toString) = some (zC Z t) := by
        rcases ht with h | h | h | h <;> subst h <;> exact h6
      exact Option.some.inj (hNm.symm.trans h7)
    have hat : va_at (zD Z) gcl (zA Z a, gpic Z σ a) H' := by
      rw [ha]
      rcases ht with h | h | h | h
      · rw [gpic_int hk (Or.inl h)]
        show H'[n]? = some (vp_cell _ _)
        rw [vp_cell_i, hN]
        rw [e1, hC, h]
        simp only [hz]
        rfl
      · rw [gpic_int hk (Or.inr (Or.inl h))]
        show H'[n]? = some (vp_cell _ _)
        rw [vp_cell_i, hN]
        rw [e1, hC, h]
        simp only [hz]
        rfl
      · rw [gpic_int hk (Or.inr (Or.inr h))]
        show H'[n]? = some (vp_cell _ _)
        rw [vp_cell_i, hN]
        rw [e1, hC, h]
        simp only [hz]
        rfl
      · rw [gpic_long (by rw [hk, h])]
        show H'[n]? = some (vp_cell _ _)
        rw [vp_cell_l, hN]
        rw [e1, hC, h]
        simp only [hz]
        rfl
    have hP' : kP Z σ (cs ++ [a]) H' := (hP.kept fun b hb => o1 _ (by rw [← hn]; exact hP.lt hb)).app fun b hb => by rw [List.mem_singleton.mp hb]; exact hat
    have hsz : s.heap.size ≤ n := by rw [← hn]; exact hS.1
    have hS' : va_S A s.heap H' locs := ⟨by omega, fun q h1 h2 => (o1 q (by omega)).trans (hS.2.1 q h1 h2), hS.2.2⟩
    have go := K H' locs la hP' z1 hS' hL
    have e2 : cv Z (2, (a : Int)) = .ref n := by simp [cv, ha]
    rw [List.map_cons, e2] at go
    exact go
/-- a field is set -/
theorem k_put {idx o kk t : Nat} {v : Int} (C : gCx p s m args c cc nL own Z) (hin2 : meth.name = "<init>") (ok : kOk Z A cs) (ho : o ∈ cs) (hf : kFld own idx (gK o) kk t) (ht : (t = 2 ∧ 0 ≤ v) ∨ t = 8 ∨ t = 0) (hd : decode cc pc = .ok (.putfield idx, 3))
    (K : kAt p l e R s m args below meth c Q nL A Z (gW σ o kk v) cs n cells slots (pc + 3) ls st) : kAt p l e R s m args below meth c Q nL A Z σ cs n cells slots pc ls ((if t = 2 then 2 else 0, v) :: (2, (o : Int)) :: st) := by
  intro H locs la hP hn hS hL
  obtain ⟨T, nf, c1, c2, hcl, hk, htt, hw⟩ := hf
  obtain ⟨hx, hb, hml, hown, hts, hKK, hinj, -⟩ := C
  obtain ⟨hin, ty0, hty, hnm⟩ := gcl_ok _ _ _ _ hcl
  have hchk := kty_ok hcl htt
  obtain ⟨q0, hq0⟩ := List.getElem?_of_mem ho
  have e0 : (kws Z σ cs)[q0]? = some (zA Z o, .inr (gK o - 10, gfs Z σ o (gK o))) := by rw [kws_at hq0, gpic_obj rfl c1 c2]
  have e1 : cv Z (2, (o : Int)) = .ref (zA Z o) := by simp [cv]
  have hlen : kk < (gfs Z σ o (gK o)).length := by rw [gfs_len]; exact gty_lt htt
  have hcv : cv Z (if t = 2 then 2 else 0, v) = gfv Z t v := by
    rcases ht with ⟨h, h0⟩ | h | h
    · subst h
      simp [cv, gfv, gref, Int.not_lt.mpr h0]
    · subst h
      simp [cv, gfv]
    · subst h
      simp [cv, gfv]
  have ew : (kws Z σ cs).set q0 (zA Z o, .inr (gK o - 10, (gfs Z σ o (gK o)).set kk (gfv Z t v))) = kws Z (gW σ o kk v) cs := kws_set ok.2.1 hq0 (by rw [gpic_obj rfl c1 c2, gfs_set htt])
  have go : ∀ (H1 : Heap) (locs1 : List Loc), H1.size = H.size → va_P (zD Z) gcl ((kws Z σ cs).set q0 (zA Z o, .inr (gK o - 10, (gfs Z σ o (gK o)).set kk (gfv Z t v)))) H1 → va_S A s.heap H1 locs1 → W p l e R s m args below meth c H1 locs1 cells slots Q (F0 m (pc + 3) la (st.map (cv Z))) := by
    intro H1 locs1 hz hP1 hS1
    rw [ew] at hP1
    exact K H1 locs1 la (kP.of hP1) (by rw [hz, hn]) hS1 hL
  show W p l e R s m args below meth c H locs cells slots Q (F0 m pc la (cv Z (if t = 2 then 2 else 0, v) :: cv Z (2, (o : Int)) :: st.map (cv Z)))
  rw [e1, hcv]
  have hD : va_D A (kws Z σ cs) := kD hinj ok
  have hPP := hP.P
  have hap := va_apart (own := own) hts hin ty0 hty hnm hKK hcl
  obtain ⟨r, h1, cell, q1, q2, q3, q4⟩ := hPP q0 _ e0
  have hr : r = (own, T, nf) := Option.some.inj (h1.symm.trans hcl)
  subst hr
  obtain ⟨hSl, hfc, kC, hkC, hkind⟩ := hKK.1 _ _ hcl
  obtain ⟨cf, kf, fi, f, hi, hsl⟩ := hSl kk hk
  have hlay := hts _ (hin _ (u_in_lay hk))
  have hst := (u_facts hfc hkC (u_lays hts hin hk) hi).1
  have fin : ∀ (ty : FieldType), parseFieldDescriptor (T kk).2.2.1 = some ty → narrow ty (gfv Z t v) = gfv Z t v → fits ty (gfv Z t v) = true → (T kk).2.2.2 = true → (T kk).1 = own → W p l e R s m args below meth c H locs cells slots Q (F0 m pc la (gfv Z t v :: .ref (zA Z o) :: st.map (cv Z))) := by
    intro ty hdd hnr hft hfin hdecl
    unfold u_lay at hlay
    rw [if_pos hfin] at hlay
    have hcf : m.cls = cf := by
      obtain ⟨_, _, c', _, _, _, -, -, hf', -, -, -, hown2, -⟩ := Cond.laysFinal_spec hlay
      have e1 : c' = cf := by have := hi.symm.trans hf'; simp at this; exact this.1.symm
      rw [hdecl] at hown2
      rw [← e1]; exact Option.some.inj (hown.symm.trans hown2)
    have h6 := u_fits hfc hkC hkind (Or.inr hlay) hi hdd hnr hft
    refine W.putFinK hx hb hown (hts _ hw) hi hst hcf hin2 (by rw [q2]; exact h6) q1 q3 (by rw [hsl]; exact k2_hasslot (q4 kk hk)) rfl rfl hd fun H' e1 e2 e3 => ?_
    rw [hsl] at e1 ⊢
    exact go H' _ e2 (hPP.set hD e0 ⟨_, hcl, t_OB.to (V := updV (vp_V (gfs Z σ o (gK o))) kk (gfv Z t v)) ⟨_, e1, q2, q3, t_set q4 hap hk _⟩ (fun j _ => vp_updV_set hlen _ j)⟩ e3) (hS.put e2 e3 (hD.2 q0 _ e0))
  rcases ht with ⟨h, h0⟩ | h | h
  · subst h
    have hq : (T kk).2.2.2 = true ∧ (T kk).1 = own ∧ ∃ ty, parseFieldDescriptor (T kk).2.2.1 = some ty ∧ ((∃ z, ty = .object z) ∨ ∃ z, ty = .array z) := by
      simp only [ktchk, bne_self_eq_false, Bool.false_or, Bool.and_eq_true] at hchk
      obtain ⟨⟨⟨⟨b1, b2⟩, b3⟩, -⟩, -⟩ := hchk
      refine ⟨b1, by simpa using b2, ?_⟩
      split at b3
      · rename_i z hz
        exact ⟨_, hz, Or.inl ⟨z, rfl⟩⟩
      · rename_i z hz
        exact ⟨_, hz, Or.inr ⟨z, rfl⟩⟩
      · cases b3
    obtain ⟨b1, b2, ty, b3, b4⟩ := hq
    have ev : gfv Z 2 v = .ref (zA Z v.toNat) := by simp [gfv, gref, Int.not_lt.mpr h0]
    rcases b4 with ⟨z, b4⟩ | ⟨z, b4⟩
    · subst b4
      exact fin _ b3 (by rw [ev]; rfl) (by rw [ev]; rfl) b1 b2
    · subst b4
      exact fin _ b3 (by rw [ev]; rfl) (by rw [ev]; rfl) b1 b2
  · subst h
    have hq : (T kk).2.2.1 = "I" ∧ (T kk).2.2.2 = true ∧ (T kk).1 = own := by
      simp [ktchk] at hchk
      exact ⟨hchk.1.1, hchk.1.2, hchk.2⟩
    exact fin .int (by rw [hq.1]; rfl) rfl rfl hq.2.1 hq.2.2
  · subst h
    have hq : (T kk).2.2.1 = "I" ∧ (T kk).2.2.2 = false := by
      simpa [ktchk] using hchk
    unfold u_lay at hlay
    rw [if_neg (by rw [hq.2]; decide)] at hlay
    have h6 := u_store (v := gfv Z 0 v) (ty := .int) hfc hkC hkind hlay hi (by rw [hq.1]; rfl) rfl rfl
    refine W.putK hx hb (f := f) ⟨hown, hts _ hw, ⟨_, _, _, hi⟩, hst⟩ (by rw [q2]; exact h6) q1 q3 (by rw [hsl]; exact k2_hasslot (q4 kk hk)) rfl rfl hd fun H' e1 e2 e3 => ?_
    rw [hsl] at e1 ⊢
    exact go H' _ e2 (hPP.set hD e0 ⟨_, hcl, t_OB.to (V := updV (vp_V (gfs Z σ o (gK o))) kk (gfv Z 0 v)) ⟨_, e1, q2, q3, t_set q4 hap hk _⟩ (fun j _ => vp_updV_set hlen _ j)⟩ e3) (hS.put e2 e3 (hD.2 q0 _ e0))
end KS
