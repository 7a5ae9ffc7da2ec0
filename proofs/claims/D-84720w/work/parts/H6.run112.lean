/-! constructors -/
/-- a static field, where it lies and what it holds -/
def gLs (C n d : String) (v : Value) (A : Nat → Prop) (U : State) (H : Heap) : Prop := ∃ (c : ClassId) (k : Class) (i : Nat) (f : Field) (a : Nat) (cell : Cell), U.vm.findClass C = some c ∧ U.fieldFound? C n d = some (c, k, i, f) ∧ f.isStatic = true ∧ k.statics = some a ∧ H[a]? = some cell ∧ cell.vm.isStatics = true ∧ cell.cls = c ∧ f.slot < cell.slots.size ∧ k.staticTypes[f.slot]? = some f.type ∧ cell.slots[f.slot]? = some v ∧ ¬ A a
theorem gLs.moved {C n d : String} {v : Value} {A : Nat → Prop} {u U : State} {H : Heap} (hvm : u.vm.Alike U.vm) (h : gLs C n d v A u H) : gLs C n d v A U H := by
  obtain ⟨c, k, i, f, a, cell, h1, h2, h3, h4, h5, h6, h7, h8, h9, h10, h11⟩ := h
  obtain ⟨k', hi', he⟩ := State.fieldFound?_setVm hvm h2
  exact ⟨c, k', i, f, a, cell, by rw [hvm.findClass]; exact h1, hi', h3, by rw [he]; exact h4, h5, h6, h7, h8, by rw [he]; exact h9, h10, h11⟩
theorem gLs.kept {C n d : String} {v : Value} {A : Nat → Prop} {U : State} {H H1 : Heap} (h : gLs C n d v A U H) (hq : ∀ a : Nat, a < H.size → ¬ A a → H1[a]? = H[a]?) : gLs C n d v A U H1 := by
  obtain ⟨c, k, i, f, a, cell, h1, h2, h3, h4, h5, h6, h7, h8, h9, h10, h11⟩ := h
  exact ⟨c, k, i, f, a, cell, h1, h2, h3, h4, (hq a (Array.getElem?_eq_some_iff.mp h5).1 h11).trans h5, h6, h7, h8, h9, h10, h11⟩
theorem gLs.word {C n d : String} {v : Value} {A : Nat → Prop} {U : State} {args : Array Value} (h : gLs C n d v A U U.heap) : (Cond.laysStatic C n d).before args U = true := by
  obtain ⟨c, k, i, f, a, cell, h1, h2, h3, h4, h5, h6, h7, h8, h9, h10, h11⟩ := h
  exact Cond.laysStatic_of h1 h2 h3 h4 h5 h6 h7 h8 h9
def tDec : List MethodName := [⟨"java/lang/Throwable", "<init>", "()V"⟩, ⟨"java/lang/Exception", "<init>", "()V"⟩, ⟨"java/lang/RuntimeException", "<init>", "()V"⟩]
/-- what the model's Stop and the String array need of the tables -/
def gThw (Z : gZ) (U : State) : Prop := (∃ u0 sen : RefV, zX Z = [.ref (zA Z 120), u0.v, sen.v, .null, .null, .int 0] ∧ gLs "java/lang/Throwable" "UNASSIGNED_STACK" "[Ljava/lang/StackTraceElement;" u0.v (gA Z) U U.heap ∧ gLs "java/lang/Throwable" "SUPPRESSED_SENTINEL" "Ljava/util/List;" sen.v (gA Z) U U.heap) ∧ va_AO "java/lang/String" U ∧ ∀ x ∈ tDec, va_Nw (.declares x) U
theorem gThw.warm {Z : gZ} {s U : State} (hW : s.WarmedH U.vm) (hq : ∀ a : Nat, a < s.heap.size → ¬ gA Z a → U.heap[a]? = s.heap[a]?) (h : gThw Z s) : gThw Z U := by
  obtain ⟨⟨u0, sen, h1, h2, h3⟩, h4, h5⟩ := h
  exact ⟨⟨u0, sen, h1, (h2.moved hW.alike).kept hq, (h3.moved hW.alike).kept hq⟩, h4.moved hW.alike, fun x hx => va_Nw.warmD hW (h5 x hx)⟩
theorem gThw.same {Z : gZ} {s U : State} (hv : s.vm = U.vm) (hh : U.heap = s.heap) (h : gThw Z s) : gThw Z U := by
  obtain ⟨⟨u0, sen, h1, h2, h3⟩, h4, h5⟩ := h
  have al : s.vm.Alike U.vm := by rw [hv]; exact Vm.Alike.refl _
  exact ⟨⟨u0, sen, h1, by rw [hh]; exact h2.moved al, by rw [hh]; exact h3.moved al⟩, h4.moved al, fun x hx => va_Nw.same rfl hv (h5 x hx)⟩
/-- which addresses a constructor may change: its cells', and those that it makes -/
def kA (Z : gZ) (cs : List Nat) (n : Nat) : Nat → Prop := fun q => (∃ a ∈ cs, q = zA Z a) ∨ n ≤ q
def kPc (Z : gZ) (as : List gV) (σ : gM) (cs : List Nat) (n : Nat) : Array Value → State → Prop := fun v U => v = (as.map (cv Z)).toArray ∧ kP Z σ cs U.heap ∧ U.heap.size = n ∧ va_K (zD Z) gcl (gtys Z) U ∧ gNest U ∧ gStrs Z U ∧ gThw Z U
def kB (Z : gZ) (σ : gM) (cs : List Nat) (n : Nat) (X : Prop) : Unit → State → Prop := fun _ t => kP Z σ cs t.heap ∧ t.heap.size = n ∧ X
def kQc (Z : gZ) (σ : gM) (cs cs' : List Nat) (n n' : Nat) (X : Prop) : Array Value → State → Outcome → State → Prop := va_Qv (fun _ : Unit => True) (kB Z σ cs' n' X) (kA Z cs n)
/-- the constructor y makes the cells nw -/
def kMet (l : Launch) (Z : gZ) (y : MethodName) (ws : List Cond) (rm : Room) (as : List gV) (σ σ' : gM) (cs nw : List Nat) (n mc ms : Nat) (X : Prop := True) : Prop := Met l y ws rm (kPc Z as σ cs n) (kQc Z σ' cs (cs ++ nw) n (n + nw.length) X) mc ms (kA Z cs n)
theorem kPc.blind {Z : gZ} {as : List gV} {σ : gM} {cs : List Nat} {n : Nat} : FrameBlind (kPc Z as σ cs n) := by
  intro a U g mk ⟨h0, h1, hn, h2, h3, h4, h5⟩
  exact ⟨h0, h1, hn, va_K.moved (u := U) (U := U.calling g mk a) (Vm.Alike.refl U.vm) h2, gNest.same (s := U) (U := U.calling g mk a) rfl h3, gStrs.same (s := U) (U := U.calling g mk a) rfl rfl h4, gThw.same (s := U) (U := U.calling g mk a) rfl rfl h5⟩
/-- what stands all through a constructor's run -/
def kCx (p : Program) (s : State) (m : MethodId) (args : Array Value) (c : Code) (cc : ByteArray) (nL : Nat) (own : String) (Z : gZ) (A : Nat → Prop) : Prop := gCx p s m args c cc nL own Z ∧ gThw Z s ∧ (∀ a, a < s.heap.size → A a → gA Z a) ∧ ∀ q, s.heap.size ≤ q → A q
set_option maxRecDepth 100000 in
theorem glen_ok : (List.range 11).all (fun ci => match gcl[ci]? with | some (_, _, nf) => (gTys.getD ci []).length == nf | none => false) = true := by decide +kernel
theorem gty_len {c : Nat} {C : String} {T : u_T} {nf : Nat} (hc : gcl[c - 10]? = some (C, T, nf)) : (gty c).length = nf := by
  have h11 : c - 10 < 11 := by
    have := (List.getElem?_eq_some_iff.mp hc).1
    simpa [gcl] using this
  have h := List.all_eq_true.mp glen_ok (c - 10) (List.mem_range.mpr h11)
  rw [hc] at h
  simpa [gty] using h
def krchk (t : Nat) (q : String × String × String × Bool) : Bool := !(t == 2 || t == 3 || t == 4) || (match parseFieldDescriptor q.2.2.1 with | some (.object _) => true | some (.array _) => true | _ => false)
set_option maxRecDepth 100000 in
theorem krchk_ok : (List.range 11).all (fun ci => match gcl[ci]? with | some (_, T, _) => (gTys.getD ci []).zipIdx.all (fun q => krchk q.1 (T q.2)) | none => false) = true := by decide +kernel
theorem kref_ok {c kk t : Nat} {C : String} {T : u_T} {nf : Nat} (hc : gcl[c - 10]? = some (C, T, nf)) (ht : (gty c)[kk]? = some t) : krchk t (T kk) = true := by
  have h11 : c - 10 < 11 := by
    have := (List.getElem?_eq_some_iff.mp hc).1
    simpa [gcl] using this
  have h := List.all_eq_true.mp krchk_ok (c - 10) (List.mem_range.mpr h11)
  rw [hc] at h
  exact List.all_eq_true.mp h (t, kk) (List.mem_zipIdx_iff_getElem?.mpr ht)
/-- a new object's fields -/
def kNew (σ : gM) (co a : Nat) : Prop := ∀ k t : Nat, (gty co)[k]? = some t → if t = 2 ∨ t = 3 ∨ t = 4 then σ a k < 0 else σ a k = 0
section KN
variable {p : Program} {l : Launch} {e : Env} {R : Room} {s : State} {m : MethodId} {args : Array Value} {below : List Frame} {meth : Method} {c : Code} {Q : State → Prop} {cc : ByteArray} {nL : Nat} {Z : gZ} {own : String} {A : Nat → Prop} {σ σ' : gM} {cs cs1 nw : List Nat} {n n1 cells slots pc : Nat} {ls st : List gV}
theorem k_get {idx o kk b : Nat} (C : gCx p s m args c cc nL own Z) (ho : o ∈ cs) (hf : kFld own idx (gK o) kk 2) (hv : σ o kk = (b : Int)) (hd : decode cc pc = .ok (.getfield idx, 3))
    (K : kAt p l e R s m args below meth c Q nL A Z σ cs n cells slots (pc + 3) ls ((2, (b : Int)) :: st)) : kAt p l e R s m args below meth c Q nL A Z σ cs n cells slots pc ls ((2, (o : Int)) :: st) := by
  intro H locs la hP hn hS hL
  obtain ⟨T, nf, c1, c2, hcl, hk, htt, hw⟩ := hf
  obtain ⟨hx, hb, hml, hown, hts, hKK, hinj, -⟩ := C
  obtain ⟨hin, ty0, hty, hnm⟩ := gcl_ok _ _ _ _ hcl
  obtain ⟨q0, hq0⟩ := List.getElem?_of_mem ho
  have e0 : (kws Z σ cs)[q0]? = some (zA Z o, .inr (gK o - 10, gfs Z σ o (gK o))) := by rw [kws_at hq0, gpic_obj rfl c1 c2]
  have e1 : cv Z (2, (o : Int)) = .ref (zA Z o) := by simp [cv]
  have go := K H locs la hP hn hS hL
  rw [List.map_cons, e1]
  refine va_get (ref := (T kk).1) hx hb hts hin hown hKK hP.P q0 e0 hcl kk hk (hts _ hw) (fun _ h => h) (gfs_at htt) hd ?_
  have e2 : gfv Z 2 (σ o kk) = cv Z (2, (b : Int)) := by
    rw [hv]
    simp [cv, gfv, gref]
  rw [e2]
  exact go
theorem k_obj {idx : Nat} {o : Int} (C : gCx p s m args c cc nL own Z) (hq : Cond.methodLink own idx Lib.objectInit ∈ lw_all) (hF : 1 ≤ R.frames) (hL1 : 12 ≤ R.locals) (hd : decode cc pc = .ok (.invokespecial idx, 3))
    (K : kAt p l e R s m args below meth c Q nL A Z σ cs n cells slots (pc + 3) ls []) : kAt p l e R s m args below meth c Q nL A Z σ cs n cells slots pc ls [(2, o)] := by
  intro H locs la hP hn hS hL
  obtain ⟨hx, hb, hml, hown, hts, -⟩ := C
  have e1 : cv Z (2, o) = .ref (zA Z o.toNat) := by simp [cv]
  rw [List.map_cons, e1]
  exact W.objInit hx hb hown (hts _ hq) (hts _ q255) (hts _ q256) rfl (by rw [hml]; exact hL.1) rfl hd hF (by show 2 * 0 + 0 + 12 ≤ R.locals; omega) (K H locs la hP hn hS hL)
theorem k_new {idx co a : Nat} {CN : String} {T : u_T} {nf : Nat} (C : gCx p s m args c cc nL own Z) (c1 : 10 ≤ co) (c2 : co ≠ 19) (hcl : gcl[co - 10]? = some (CN, T, nf)) (hka : gK a = co) (ha : zA Z a = n) (w1 : Cond.classLink own idx CN ∈ lw_all) (w2 : Cond.instantiable CN nf ∈ lw_all) (w3 : Cond.initialized CN ∈ lw_all) (hdf : kNew σ co a)
    (hcells : cells + 1 ≤ R.cells) (hslots : slots + nf ≤ R.slots) (hd : decode cc pc = .ok (.new idx, 3))
    (K : kAt p l e R s m args below meth c Q nL A Z σ (cs ++ [a]) (n + 1) (cells + 1) (slots + nf) (pc + 3) ls ((2, (a : Int)) :: st)) : kAt p l e R s m args below meth c Q nL A Z σ cs n cells slots pc ls st := by
  intro H locs la hP hn hS hL
  obtain ⟨hx, hb, hml, hown, hts, hKK, -⟩ := C
  obtain ⟨hin, ty0, hty, hnm⟩ := gcl_ok _ _ _ _ hcl
  have hKn := hKK.1 _ _ hcl
  refine W.newcK hx hb hown (hts _ w1) (hts _ w2) (hts _ w3) rfl hd hcells hslots hKn.2.1 hn fun H1 kC hkC e1 z1 o1 => ?_
  have hfs : ∀ j, j < nf → defaultValue (ty0 j) = vp_V (gfs Z σ a co) j := by
    intro j hj
    have hjl : j < (gty co).length := by rw [gty_len hcl]; exact hj
    have ht : (gty co)[j]? = some (gty co)[j] := List.getElem?_eq_getElem hjl
    generalize (gty co)[j] = t at ht
    have hv : vp_V (gfs Z σ a co) j = gfv Z t (σ a j) := by
      unfold vp_V
      rw [List.getD_eq_getElem?_getD, gfs_at ht]
      rfl
    rw [hv]
    have hd1 := kty_ok hcl ht
    have hd2 := gty_ok hcl ht
    have hd3 := hdf j t ht
    have hpar := hty j hj
    rcases gtys_in c1 c2 hcl ht with h | h | h | h | h | h | h <;> subst h
    · have hq : (T j).2.2.1 = "I" := by simp [ktchk] at hd1; exact hd1.1
      rw [hq] at hpar
      have hp : ty0 j = .int := (Option.some.inj hpar).symm
      simp at hd3
      rw [hp]
      simp [gfv, hd3, defaultValue]
    · have hq : (T j).2.2.1 = "J" := by simp [gtchk] at hd2; exact hd2.1
      rw [hq] at hpar
      have hp : ty0 j = .long := (Option.some.inj hpar).symm
      simp at hd3
      rw [hp]
      simp [gfv, hd3, defaultValue]
    · have b3 : krchk _ (T j) = true := kref_ok hcl ht
      unfold krchk at b3
      rw [hpar] at b3
      simp at hd3
      cases hq : ty0 j <;> simp [hq] at b3 <;> simp [gfv, gref, hd3, defaultValue]
    · have b3 : krchk _ (T j) = true := kref_ok hcl ht
      unfold krchk at b3
      rw [hpar] at b3
      simp at hd3
      cases hq : ty0 j <;> simp [hq] at b3 <;> simp [gfv, gref, hd3, defaultValue]
    · have b3 : krchk _ (T j) = true := kref_ok hcl ht
      unfold krchk at b3
      rw [hpar] at b3
      simp at hd3
      cases hq : ty0 j <;> simp [hq] at b3 <;> simp [gfv, gref, hd3, defaultValue]
    · have hq : (T j).2.2.1 = "Z" := by simp [gtchk] at hd2; exact hd2.1
      rw [hq] at hpar
      have hp : ty0 j = .boolean := (Option.some.inj hpar).symm
      simp at hd3
      rw [hp]
      simp [gfv, hd3, defaultValue]
    · have hq : (T j).2.2.1 = "I" := by simp [ktchk] at hd1; exact hd1.1.1
      rw [hq] at hpar
      have hp : ty0 j = .int := (Option.some.inj hpar).symm
      simp at hd3
      rw [hp]
      simp [gfv, hd3, defaultValue]
  have hat : va_at (zD Z) gcl (zA Z a, gpic Z σ a) H1 := by
    rw [ha, gpic_obj hka c1 c2]
    exact ⟨_, hcl, (u_born ty0 hts hin hKn hkC e1 hty).to hfs⟩
  have hP' : kP Z σ (cs ++ [a]) H1 := (hP.kept fun b hb => o1 _ (by rw [← hn]; exact hP.lt hb)).app fun b hb => by rw [List.mem_singleton.mp hb]; exact hat
  have hsz : s.heap.size ≤ n := by rw [← hn]; exact hS.1
  have hS' : va_S A s.heap H1 locs := ⟨by omega, fun q h1 h2 => (o1 q (by omega)).trans (hS.2.1 q h1 h2), hS.2.2⟩
  have go := K H1 locs la hP' z1 hS' hL
  have e2 : cv Z (2, (a : Int)) = .ref n := by simp [cv, ha]
  rw [List.map_cons, e2] at go
  exact go
theorem k_ret {nv : List Nat} {nn : Nat} {X : Prop} (C : gCx p s m args c cc nL own Z) (hr : meth.sig.returnType = none) (hlocks : meth.locks = false) (hs : ∀ a ∈ nv, a ∈ cs1) (hn1 : n1 = nn) (hd : decode cc pc = .ok (.return_, 1)) (hX : X := by trivial) :
    kAt p l e R s m args below meth c (MQ below (kQc Z σ cs nv n nn X) args s cells slots (kA Z cs n)) nL (kA Z cs n) Z σ cs1 n1 cells slots pc ls [] := by
  intro H locs la hP hn hS hL
  subst hn1
  exact W.vret C.1 C.2.1 hr (fun t ht hW => ⟨⟨(), rfl, trivial, by rw [ht]; exact hP.sub hs, by rw [ht]; exact hn, hX⟩, hS.F ht⟩) hS.2.2 hd hlocks
theorem kMet.of {y : MethodName} {L mc ms : Nat} {rm : Room} {as : List gV} {X : Prop} (hy : plainName y.cls = true) (hnm : y.name = "<init>") (hi : gInj Z) (hcs : ∀ a ∈ cs, a < zN Z) (hli : glight L as = true)
    (body : ∀ p e s m args below meth c, kCx p s m args c cc L y.cls Z (kA Z cs n) → meth.name = "<init>" → meth.sig.returnType = none → meth.locks = false →
      kAt p l e rm s m args below meth c (MQ below (kQc Z σ' cs (cs ++ nw) n (n + nw.length) X) args s mc ms (kA Z cs n)) L (kA Z cs n) Z σ cs n 0 0 0 (gpad L as) []) : kMet l Z y (ws_ y cc L none) rm as σ σ' cs nw n mc ms X := by
  refine Met.ofW (cc := cc) (maxL := L) (ret := none) hy rfl ?_
  intro p e s m args below meth c s₁ B hml hv
  obtain ⟨rfl, hP, hsz, hK, hnest, hstr, hth⟩ := hv
  have hts0 := atoms_spec (ws := ws_ y cc L none) B.pre
  have hts : ∀ w ∈ lw_all, w.before _ s = true := fun w h => hts0 w (List.mem_cons_of_mem _ h)
  have hown : s.vm.findClass y.cls = some m.cls := findClass_of_methodNamed B.named
  have hin : meth.name = "<init>" := ((name_of_methodNamed B.named B.method).1).trans hnm
  have C : gCx p s m ((as.map (cv Z)).toArray) c cc L y.cls Z := ⟨B.exec, B.bytes, hml, hown, hts, hK, hi, hnest, hstr⟩
  have KC : kCx p s m ((as.map (cv Z)).toArray) c cc L y.cls Z (kA Z cs n) := by
    refine ⟨C, hth, fun a h1 h2 => ?_, fun q h => Or.inr (by omega)⟩
    rcases h2 with ⟨b, b1, b2⟩ | h2
    · exact ⟨b, hcs b b1, b2⟩
    · omega
  rw [lg_entry_eq]
  exact body p e s m _ below meth c KC hin B.returns B.notSynchronized s.heap [] _ hP hsz va_S.rf (gent hli)
/-- a constructor is called -/
theorem kx_ctor {y : MethodName} {bytes : ByteArray} {maxL mc ms k idx o : Nat} {rm : Room} {as : List gV} {cs0 : List Nat} {X : Prop} (C : kCx p s m args c cc nL own Z A) (hM : kMet l Z y (ws_ y bytes maxL none) rm ((2, (o : Int)) :: as) σ σ' cs0 nw n mc ms X) (w1 : Cond.code y bytes maxL none ∈ lw_all) (w2 : Cond.initialized y.cls ∈ lw_all) (w3 : Cond.methodLink own idx y ∈ lw_all ∨ ∃ host, Cond.methodLinkNest own idx y host ∈ lw_tbl) (w4 : Cond.instanceMethod y ∈ lw_all) (hnm : y.name = "<init>")
    (hdd : y.cls ≠ "java/lang/invoke/MethodHandle" ∧ y.cls ≠ "java/lang/invoke/VarHandle" ∧ (parseMethodDescriptor y.desc).map (fun d => d.parameters.length) = some k) (hk : as.length = k) (hrc : rm.cells = mc) (hrs : rm.slots = ms) (hR : rm.frames + 1 ≤ R.frames ∧ 8 + (maxL + 11) + rm.locals ≤ R.locals) (hf : cells + mc ≤ R.cells ∧ slots + ms ≤ R.slots)
    (ok : kOk Z A cs) (hsub : ∀ a ∈ cs0, a ∈ cs) (hfr : ∀ a ∈ cs, a ∉ cs0 → ∀ j, σ' a j = σ a j) (hw : ((st.map (cv Z)).map fun v => v.category).sum ≤ 8) (hd : decode cc pc = .ok (.invokespecial idx, 3))
    (K : X → kAt p l e R s m args below meth c Q nL A Z σ' (cs ++ nw) (n + nw.length) (cells + mc) (slots + ms) (pc + 3) ls st) : kAt p l e R s m args below meth c Q nL A Z σ cs n cells slots pc ls (as.reverse ++ (2, (o : Int)) :: st) := by
  intro H locs la hP hn hS hL
  obtain ⟨⟨hx, hb, hml, hown, hts, hKK, hinj, hnest, hstr⟩, hth, hAZ, hs0⟩ := C
  have hle : s.heap.size ≤ n := by rw [← hn]; exact hS.1
  have hA1 : ∀ q, q < H.size → kA Z cs0 n q → A q := by
    intro q h1 h2
    rcases h2 with ⟨a, a1, a2⟩ | h2
    · rw [a2]; exact ok.2.2 a (hsub a a1)
    · omega
  have hfree : ∀ q, kA Z cs0 n q → A q := by
    intro q h2
    rcases h2 with ⟨a, a1, a2⟩ | h2
    · rw [a2]; exact ok.2.2 a (hsub a a1)
    · exact hs0 q (by omega)
  have keep : ∀ U : State, U.heap = H → ∀ a : Nat, a < s.heap.size → ¬ gA Z a → U.heap[a]? = s.heap[a]? := by
    intro U hU a h1 h2
    rw [hU]
    exact hS.2.1 a h1 fun z => h2 (hAZ a h1 z)
  have e1 : cv Z (2, (o : Int)) = .ref (zA Z o) := by simp [cv]
  have est : ((as.reverse ++ (2, (o : Int)) :: st).map (cv Z)) = (as.map (cv Z)).reverse ++ .ref (zA Z o) :: st.map (cv Z) := by simp [e1]
  rw [est]
  have hpre : PreS s H (kPc Z ((2, (o : Int)) :: as) σ cs0 n) (.ref (zA Z o) :: as.map (cv Z)) := ⟨kPc.blind, fun U hU hW => ⟨by rw [List.map_cons, e1], by rw [hU]; exact hP.sub hsub, by rw [hU]; exact hn, va_K.moved hW.alike hKK, hnest.warm hW, hstr.warm hW (keep U hU), hth.warm hW (keep U hU)⟩⟩
  have hrun : va_Run p l e R s m args below meth c H locs cells slots mc ms (F0 m pc la ((as.map (cv Z)).reverse ++ .ref (zA Z o) :: st.map (cv Z))) (st.map (cv Z)) (kQc Z σ' cs0 (cs0 ++ nw) n (n + nw.length) X (Value.ref (zA Z o) :: as.map (cv Z)).toArray) (kA Z cs0 n) := by
    rcases w3 with w3 | ⟨host, w3⟩
    · exact va_runI (As := as.map (cv Z)) (rest := st.map (cv Z)) (b := zA Z o) ⟨hx, hb, hml, hown, hts⟩ hM (cwI k hts (lw_meth w1) rfl hrc hrs (hts _ w2) (hts _ w3) (hts _ w4) hnm hdd hR) hpre rfl (by rw [List.length_map]; exact hk) hL.1 rfl (lv_room hw) hd hf
    · exact va_runIN (As := as.map (cv Z)) (rest := st.map (cv Z)) (b := zA Z o) ⟨hx, hb, hml, hown, hts⟩ hM ⟨va_cnB k hts (lw_meth w1) rfl hrc hrs (hnest _ w3 rfl) (hts _ w2) hdd hR, hnm, hts _ w4⟩ hpre rfl (by rw [List.length_map]; exact hk) hL.1 rfl (lv_room hw) hd hf
  refine va_callv hrun hS hA1 hfree (fun u t H1 locs1 ht hvm _ hB hz1 hk1 hS1 => ?_)
  obtain ⟨hP1, hn1, hX⟩ := hB
  rw [ht] at hP1 hn1
  refine K hX H1 locs1 la (fun a ha => ?_) hn1 hS1 hL
  by_cases h0 : a ∈ cs0 ++ nw
  · exact hP1 a h0
  · have hac : a ∈ cs := by
      rcases List.mem_append.mp ha with q | q
      · exact q
      · exact absurd (List.mem_append_right _ q) h0
    have ha0 : a ∉ cs0 := fun q => h0 (List.mem_append_left _ q)
    rw [gpic_mem (hfr a hac ha0)]
    refine (hP a hac).kept (hk1 _ (hP.lt hac) fun z => ?_)
    rcases z with ⟨b, b1, b2⟩ | z
    · have : a = b := hinj a b (ok.1 a hac) (ok.1 b (hsub b b1)) b2
      rw [this] at ha0
      exact ha0 b1
    · have := hP.lt hac
      have z : n ≤ zA Z a := z
      omega
end KN
