/-! the native copy; methods -/
def gCpy (σ : gM) (a sp b dp n : Int) : gM := fun x j => if x = b ∧ dp ≤ j ∧ j < dp + n then σ a (sp + (j - dp)) else σ x j
def jcopy (m : Nat × Nat) : gFn := fun _ as σ => match as with
  | [(2, a), (0, sp), (2, b), (0, dp), (0, n)] => gis m.1 a 2 (gis m.1 b 2 (gwr m.2 b 0 (if (0 ≤ sp ∧ 0 ≤ dp ∧ 0 ≤ n) ∧ sp + n ≤ gN a ∧ dp + n ≤ gN b then some (gCpy σ a sp b dp n, 0) else none)))
  | _ => none
theorem gI_cpy {N : Nat} {σ : gM} {a b : Nat} {sp dp n : Int} (h : gI N σ) (ha : gK a = 2) (hb : gK b = 2) (haN : a < N) : gI N (gCpy σ a sp b dp n) := by
  intro x hx
  obtain ⟨q1, q2, q3, q4, q5⟩ := h x hx
  by_cases hxb : x = b
  · subst hxb
    refine ⟨fun e => by omega, fun e j => ?_, fun e => by omega, fun e => by omega, fun e => by omega⟩
    unfold gCpy
    split
    · exact (h a haN).2.1 ha _
    · exact q2 e j
  · have e : ∀ j, gCpy σ a sp b dp n x j = σ x j := fun j => by unfold gCpy; rw [if_neg (fun q => hxb (by omega))]
    simp only [e]
    exact ⟨q1, q2, q3, q4, q5⟩
theorem gpic_cpy_ne {Z : gZ} {σ : gM} {a b sp dp n : Int} {x : Nat} (h : (x : Int) ≠ b) : gpic Z (gCpy σ a sp b dp n) x = gpic Z σ x := by
  have e : ∀ j, gCpy σ a sp b dp n x j = σ x j := fun j => by unfold gCpy; rw [if_neg (fun q => h q.1)]
  unfold gpic gfs
  simp only [e]
theorem gws_cpy {Z : gZ} {σ : gM} {a : Int} {b : Nat} {sp dp n : Int} {e : va_E} (h : b < zN Z) (he : e = gpic Z (gCpy σ a sp b dp n) b) : (gws Z σ).set b (zA Z b, e) = gws Z (gCpy σ a sp b dp n) := by
  subst he
  apply List.ext_getElem?
  intro k
  by_cases hk : k < zN Z
  · rw [gws_at hk]
    by_cases hka : k = b
    · subst hka
      rw [List.getElem?_set_self (by unfold gws; simpa using h)]
    · rw [List.getElem?_set_ne (Ne.symm hka), gws_at hk, gpic_cpy_ne (by omega)]
  · rw [List.getElem?_eq_none (by unfold gws; simp; omega), List.getElem?_eq_none (by unfold gws; simp; omega)]
def gCalC (Z : gZ) (own : String) (R : Room) (idx k rc rt : Nat) (f : gFn ⊕ gFt) : Prop := ∃ mm, f = .inl (jcopy mm) ∧ mm.1 ≤ zN Z ∧ k = 5 ∧ rc = 0 ∧ rt = 5 ∧ 1 ≤ R.frames ∧ 8 + (nativeFrameWords "java/lang/System" "arraycopy" 5 + 11) ≤ R.locals ∧
  Cond.methodLink own idx arraycopyName ∈ lw_all ∧ Cond.native arraycopyName ∈ lw_all ∧ Cond.static arraycopyName ∈ lw_all ∧ Cond.initialized "java/lang/System" ∈ lw_all
section CP
variable {p : Program} {l : Launch} {e : Env} {R : Room} {s : State} {m : MethodId} {args : Array Value} {below : List Frame} {meth : Method} {c : Code} {Q : State → Prop} {cc : ByteArray} {nL : Nat} {Z : gZ} {own : String}
theorem gCalC.w {idx k rc rt : Nat} {f : gFn ⊕ gFt} (C : gCx p s m args c cc nL own Z) (h : gCalC Z own R idx k rc rt f) : gCW p l e R s m args below meth c Q cc nL Z idx k rc rt f := by
  obtain ⟨mm, rfl, hmm, rfl, rfl, rfl, hf1, hf2, w1, w2, w3, w4⟩ := h
  obtain ⟨hx, hb, hml, hown, hts, hKK, hinj, hnest, hstr⟩ := C
  intro nn as st2 ls σ σ' x pc vi hd hvi hf hI has hst2 hk hrec hw kr kt
  have hv : vi = false := by
    cases vi with
    | false => rfl
    | true => exact absurd rfl (hvi.mp rfl)
  subst hv
  simp only [gft, jcopy] at hf
  split at hf
  · rename_i a sp b dp n
    rw [Option.map_eq_some_iff] at hf
    obtain ⟨q, hf, hq⟩ := hf
    obtain ⟨hKa, hla, hf⟩ := gis_spec hf
    obtain ⟨hKb, hlb, hf⟩ := gis_spec hf
    obtain ⟨-, hf⟩ := gwr_spec hf
    split at hf
    · rename_i hr
      cases hf
      cases hq
      obtain ⟨ha0, hae⟩ := gK_nat (by decide) hKa
      obtain ⟨hb0, hbe⟩ := gK_nat (by decide) hKb
      generalize a.toNat = a' at hla hae
      generalize b.toNat = b' at hlb hbe
      subst hae
      subst hbe
      have haN : a' < zN Z := by omega
      have hbN : b' < zN Z := by omega
      simp only [gcans_cons, gcan0] at has
      obtain ⟨-, hsp, -, hdp, hn, -⟩ := has
      have hI' : gI (zN Z) (gCpy σ a' sp b' dp n) := gI_cpy hI hKa hKb haN
      have go := kr 0 rfl hI' (fun q => absurd rfl q)
      intro H locs la hP hS hL
      have e1 : cv Z (2, (a' : Int)) = .ref (zA Z a') := by simp [cv]
      have e2 : cv Z (2, (b' : Int)) = .ref (zA Z b') := by simp [cv]
      have e3 : cv Z (0, sp) = .int (Int32.ofInt sp) := by simp [cv]
      have e4 : cv Z (0, dp) = .int (Int32.ofInt dp) := by simp [cv]
      have e5 : cv Z (0, n) = .int (Int32.ofInt n) := by simp [cv]
      show W p l e R s m args below meth c H locs 0 0 Q (F0 m pc la (cv Z (0, n) :: cv Z (0, dp) :: cv Z (2, (b' : Int)) :: cv Z (0, sp) :: cv Z (2, (a' : Int)) :: st2.map (cv Z)))
      rw [e1, e2, e3, e4, e5]
      have hng : ∀ {z : Int}, i32 z → 0 ≤ z → ¬ Int32.ofInt z < 0 := fun hz h0 q => by
        have := (n_lt hz i32_0).mp q
        omega
      refine va_copyi hx hb (hml.trans hL.1.symm) hown (hts _ w1) (hts _ w2) (hts _ w3) (hts _ w4) hKK hP (gD hinj) hS a' b' 1 1 (by rw [gws_at haN, gpic_int hKa (Or.inr (Or.inl rfl))]) (by rw [gws_at hbN, gpic_int hKb (Or.inr (Or.inl rfl))]) (gty1 (Or.inr (Or.inl ⟨rfl, rfl⟩))) (gty1 (Or.inr (Or.inl ⟨rfl, rfl⟩))) rfl
        (hng hsp hr.1.1) (hng hdp hr.1.2.1) (hng hn hr.1.2.2) ?_ ?_ ?_ hf1 ?_ hd (fun H1 locs1 hP1 _ hS1 => ?_)
      · rw [n_cl hsp, n_cl hn]; omega
      · rw [n_cl hdp, n_cl hn]; omega
      · intro i hi
        have h8 := (hI a' haN).2.1 hKa (((Int32.ofInt sp).toNatClampNeg + i : Nat) : Int)
        unfold i8 at h8
        have h9 : i32 (σ a' (((Int32.ofInt sp).toNatClampNeg + i : Nat) : Int)) := by unfold i32; omega
        show (decide (-128 ≤ Int32.ofInt _) && decide (Int32.ofInt _ ≤ 127)) = true
        rw [Bool.and_eq_true, decide_eq_true_eq, decide_eq_true_eq]
        exact ⟨(n_le (x := -128) (by unfold i32; omega) h9).mpr h8.1, (n_le (y := 127) h9 (by unfold i32; omega)).mpr h8.2⟩
      · omega
      · have e6 : (va_cpy (fun j : Nat => Int32.ofInt (σ a' j)) (fun j : Nat => Int32.ofInt (σ b' j)) (Int32.ofInt sp).toNatClampNeg (Int32.ofInt dp).toNatClampNeg (Int32.ofInt n).toNatClampNeg) = fun j : Nat => Int32.ofInt (gCpy σ a' sp b' dp n b' j) := by
          funext j
          rw [n_cl hsp, n_cl hdp, n_cl hn]
          unfold va_cpy gCpy
          by_cases hj : dp.toNat ≤ j ∧ j < dp.toNat + n.toNat
          · rw [if_pos hj, if_pos ⟨rfl, by omega, by omega⟩]
            have e7 : ((sp.toNat + (j - dp.toNat) : Nat) : Int) = sp + ((j : Int) - dp) := by omega
            show Int32.ofInt (σ a' ((sp.toNat + (j - dp.toNat) : Nat) : Int)) = _
            rw [e7]
          · rw [if_neg hj, if_neg (fun q => hj (by omega))]
        rw [e6, gws_cpy hbN (by rw [gpic_int hKb (Or.inr (Or.inl rfl))])] at hP1
        exact go H1 locs1 la hP1 hS1 hL
    · cases hf
  · cases hf
end CP
def gretok (rk : Nat) (ret : Option FieldType) : Prop := (rk = 7 ∧ ret = some .char) ∨ (rk = 8 ∧ ret = some .byte) ∨ (rk = 0 ∧ ret = some .int) ∨ (rk = 6 ∧ ret = some .boolean) ∨ (rk = 1 ∧ ret = some .long) ∨ (rk = 2 ∧ ∃ n, ret = some (.object n)) ∨ (rk = 5 ∧ ret = none)
/-- a method's tables, at rest -/
def gStat (l : Launch) (Z : gZ) (y : MethodName) (cc : ByteArray) (L : Nat) (ret : Option FieldType) (rm : Room) (E : gE) : Prop :=
  plainFor y = true ∧ gchk cc L E.1 = true ∧ E.2.2.2.2.2.1.1 ≤ zN Z ∧ gretok E.2.2.2.2.2.2 ret ∧ E.2.2.2.2.1 = [] ∧ (∀ idx c k t, gat E.2.1 idx = some (c, k, t) → gFld y.cls idx c k t) ∧ (∀ idx v, gat E.2.2.1 idx = some v → gCst y.cls idx v) ∧
  (∀ idx k rc rt f, gat E.2.2.2.1 idx = some (k, rc, rt, f) → gCal l Z y.cls rm idx k rc rt f ∨ gCalC Z y.cls rm idx k rc rt f)
theorem gent {Z : gZ} {L : Nat} {as : List gV} (h : glight L as = true) : gLoc Z L ((lg_sl (as.map (cv Z)) ++ List.replicate (L - (lg_sl (as.map (cv Z))).length) Slot.unset).toArray) (gpad L as) := by
  have h1 : (lg_sl (as.map (cv Z))).length ≤ L := by
    rw [glg_len]
    exact glight_spec h
  have h2 := lv_entry (as.map (cv Z)) h1
  refine ⟨h2.1, h2.2.1, fun i v hi hv => ?_⟩
  have := gpad_at (Z := Z) (i0 := 0) hi hv
  rw [Nat.zero_add] at this
  exact h2.2.2 _ this
section MT
variable {l : Launch} {Z : gZ} {y : MethodName} {cc : ByteArray} {L : Nat} {ret : Option FieldType} {rm : Room} {E : gE}
theorem gfin_ret {ρ : Type} {p : Program} {e : Env} {R : Room} {s : State} {m : MethodId} {args : Array Value} {below : List Frame} {meth : Method} {c : Code} {rt : gM → Int → Option ρ} {r : ρ} {σ' : gM} {x : Int} (hx : p.tables.exec = Jvm.exec) (hb : c.code = cc) (hr : meth.sig.returnType = ret) (hlocks : meth.locks = false) (hok : gretok E.2.2.2.2.2.2 ret) (hrt : ∀ σ v, rt σ v = some r → σ = σ' ∧ v = x) :
    ∀ (σ : gM) (v : Int) (pc : Nat) (ls : List gV), gI (zN Z) σ → (E.2.2.2.2.2.2 ≠ 5 → gcan (grt E.2.2.2.2.2.2, v)) → gnar E.2.2.2.2.2.2 v → rt σ v = some r → decode cc pc = .ok (grins E.2.2.2.2.2.2, 1) → gAt p l e R s m args below meth c (MQX below (gQc Z (grt E.2.2.2.2.2.2) (some x) σ') args s (gA Z)) L Z σ pc ls (if E.2.2.2.2.2.2 = 5 then [] else [(grt E.2.2.2.2.2.2, v)]) := by
  intro σ v pc ls hI hc h6 h hd
  obtain ⟨rfl, rfl⟩ := hrt σ v h
  generalize E.2.2.2.2.2.2 = rk at *
  intro H locs la hP hS hL
  have fin : ∀ (t : State), t.heap = H → s.WarmedH t.vm → (grt rk ≠ 5 → gcan (grt rk, v)) → gQc Z (grt rk) (some v) σ args s (.returned (grv Z (grt rk) v)) t := by
    intro t ht hW hc2
    refine ⟨⟨rfl, hc2⟩, hI, by rw [ht]; exact hP, hS.F ht⟩
  rcases hok with ⟨rfl, rfl⟩ | ⟨rfl, rfl⟩ | ⟨rfl, rfl⟩ | ⟨rfl, rfl⟩ | ⟨rfl, rfl⟩ | ⟨rfl, n, rfl⟩ | ⟨rfl, rfl⟩
  · refine W.mono (fun t h => MQ.toX h) (W.zret (v := Int32.ofInt v) hx hb hr ?_ (fun t ht hW => ?_) hS.2.2 hd hlocks)
    · exact n_char (h6.2.1 rfl)
    · exact fin t ht hW (fun _ => hc (by decide))
  · refine W.mono (fun t h => MQ.toX h) (W.zret (v := Int32.ofInt v) hx hb hr ?_ (fun t ht hW => ?_) hS.2.2 hd hlocks)
    · exact n_by (h6.2.2 rfl)
    · exact fin t ht hW (fun _ => hc (by decide))
  · refine W.mono (fun t h => MQ.toX h) (W.iret (v := Int32.ofInt v) hx hb hr (fun t ht hW => ?_) hS.2.2 hd hlocks)
    exact fin t ht hW (fun _ => hc (by decide))
  · refine W.mono (fun t h => MQ.toX h) (W.zret (v := Int32.ofInt v) hx hb hr ?_ (fun t ht hW => ?_) hS.2.2 hd hlocks)
    · have h7 := h6.1 rfl
      unfold i1 at h7
      have : v = 0 ∨ v = 1 := by omega
      rcases this with rfl | rfl <;> decide +kernel
    · exact fin t ht hW (fun _ => hc (by decide))
  · refine W.mono (fun t h => MQ.toX h) (W.lret (v := Int64.ofInt v) hx hb hr (fun t ht hW => ?_) hS.2.2 hd hlocks)
    exact fin t ht hW (fun _ => hc (by decide))
  · refine W.mono (fun t h => MQ.toX h) (W.aret (v := .ref (zA Z v.toNat)) hx hb hr (Or.inl ⟨n, rfl⟩) (Or.inr ⟨_, rfl⟩) (fun t ht hW => ?_) hS.2.2 hd hlocks)
    exact fin t ht hW (fun _ => hc (by decide))
  · refine W.mono (fun t h => MQ.toX h) (W.vret hx hb hr (fun t ht hW => ?_) hS.2.2 hd hlocks)
    exact fin t ht hW (fun q => absurd rfl q)
theorem gmetF (hinj : gInj Z) (S : gStat l Z y cc L ret rm E) : gMet l Z y (ws_ y cc L ret) rm (grt E.2.2.2.2.2.2) (.inl (gF E L)) := by
  obtain ⟨hy, hk, hlim, hok, hnoh, hF, hC, hL⟩ := S
  intro n as σ σ' x hf hI has
  simp only [gft, Option.map_eq_some_iff] at hf
  obtain ⟨q, hf, hq⟩ := hf
  cases hq
  obtain ⟨σ', x⟩ := q
  unfold gF at hf
  split at hf
  · cases hf
  · rename_i hli
    rw [gpadK_eq] at hf
    refine MetX.ofW (cc := cc) (maxL := L) (ret := ret) hy rfl ?_
    intro p e s m args below meth c s₁ B hml hv
    obtain ⟨rfl, hP, hK, hnest, hstr⟩ := hv
    have hts := atoms_spec (ws := ws_ y cc L ret) B.pre
    have hts : ∀ w ∈ lw_all, w.before _ s = true := fun w h => hts w (List.mem_cons_of_mem _ h)
    have hown : s.vm.findClass y.cls = some m.cls := findClass_of_methodNamed B.named
    have C : gCx p s m ((as.map (cv Z)).toArray) c cc L y.cls Z := ⟨B.exec, B.bytes, hml, hown, hts, hK, hinj, hnest, hstr⟩
    rw [lg_entry_eq]
    refine gB_sound (r := (σ', x)) (own := y.cls) C ⟨hlim, hF, hC, fun idx k rc rt f hg => ?_⟩ ⟨?_, ?_, ?_, ?_⟩ hk n 0 (gpad L as) [] σ hI (gcans_pad has) (fun v hv => by cases hv) hf s.heap [] _ hP va_S.rf (gent hli)
    · rcases hL idx k rc rt f hg with h | h
      · exact h.w C
      · exact h.w C
    · exact gfin_ret B.exec B.bytes B.returns B.notSynchronized hok (fun σ v h => by cases h; exact ⟨rfl, rfl⟩)
    · intro σ x pc ls st _ h; cases h
    · intro σ pc ls _ h; cases h
    · intro σ pc t ls _ h
      rw [hnoh] at h
      cases h
theorem gmetG (hinj : gInj Z) (hstop : gStop.toNat < zN Z) (S : gStat l Z y cc L ret rm E) : gMet l Z y (ws_ y cc L ret) rm (grt E.2.2.2.2.2.2) (.inr (gG E L)) := by
  obtain ⟨hy, hk, hlim, hok, hnoh, hF, hC, hL⟩ := S
  intro n as σ σ' x hf hI has
  simp only [gft] at hf
  unfold gG at hf
  split at hf
  · cases hf
  · rename_i hli
    rw [gpadK_eq] at hf
    refine MetX.ofW (cc := cc) (maxL := L) (ret := ret) hy rfl ?_
    intro p e s m args below meth c s₁ B hml hv
    obtain ⟨rfl, hP, hK, hnest, hstr⟩ := hv
    have hts0 := atoms_spec (ws := ws_ y cc L ret) B.pre
    have hts : ∀ w ∈ lw_all, w.before _ s = true := fun w h => hts0 w (List.mem_cons_of_mem _ h)
    have hnh : c.exceptionTable.isEmpty = true := B.noHandlers (hts0 _ List.mem_cons_self)
    have hout : ∀ pc, ∀ x ∈ c.exceptionTable.toList, covers x pc = false := by
      intro pc x hx
      rw [Array.isEmpty_iff] at hnh
      rw [hnh] at hx
      cases hx
    have hown : s.vm.findClass y.cls = some m.cls := findClass_of_methodNamed B.named
    have C : gCx p s m ((as.map (cv Z)).toArray) c cc L y.cls Z := ⟨B.exec, B.bytes, hml, hown, hts, hK, hinj, hnest, hstr⟩
    have hlocks := B.notSynchronized
    rw [lg_entry_eq]
    have thrown : ∀ (σ : gM) (T : State) (locs : List Loc), gI (zN Z) σ → gthr σ gStop = some (σ', x) → Stand p l e (headSpec (ws_ y cc L ret) rm).room s m ((as.map (cv Z)).toArray) below meth c T locs 0 0 → va_P (zD Z) gcl (gws Z σ) T.heap → va_S (gA Z) s.heap T.heap locs →
        ∀ t : State, t = T.setFrames (.throwing (zA Z gStop.toNat) :: below) → t.status = .running → Ended t below (.threw (zA Z gStop.toNat)) → s.WarmedH t.vm → s.sameButNew ({ t with vm := s.vm } : State) locs 0 0 → MQX below (gQc Z (grt E.2.2.2.2.2.2) x σ') ((as.map (cv Z)).toArray) s (gA Z) t := by
      intro σ T locs hI h X hP hS t ht h1 h2 h3 h4
      unfold gthr at h
      rw [if_pos rfl] at h
      cases h
      subst ht
      exact ⟨_, h1, h2, ⟨rfl, hI, hP, hS.F rfl⟩, locs, ⟨h3, h4⟩, hS.2.2⟩
    refine gB_sound (r := (σ', x)) (own := y.cls) C ⟨hlim, hF, hC, fun idx k rc rt f hg => ?_⟩ ⟨?_, ?_, ?_, ?_⟩ hk n 0 (gpad L as) [] σ hI (gcans_pad has) (fun v hv => by cases hv) hf s.heap [] _ hP va_S.rf (gent hli)
    · rcases hL idx k rc rt f hg with h | h
      · exact h.w C
      · exact h.w C
    · cases x with
      | none => intro σ v pc ls _ _ _ h; cases h
      | some xv => exact gfin_ret B.exec B.bytes B.returns B.notSynchronized hok (fun σ v h => by cases h; exact ⟨rfl, rfl⟩)
    · intro σ z pc ls st hI h hh hd H locs la hP hS hL T hT X
      have hz : z = gStop := by
        unfold gthr at h
        split at h
        · assumption
        · cases h
      subst hz
      obtain ⟨a1, a2, a3, a4, a5⟩ := X.athrowLeaves B.exec (g := F0 m pc la ((((2, gStop) : gV) :: st).map (cv Z))) rfl rfl rfl (hout pc) (a := zA Z gStop.toNat) (rest := st.map (cv Z)) (by simp [cv]) (by rw [B.bytes]; exact hd) hlocks
      exact ⟨_, a1, thrown σ T locs hI h X (by rw [hT]; exact hP) (by rw [hT]; exact hS) _ rfl a2 a3 a4 a5⟩
    · intro σ pc ls hI h hh T locs la rest X hP hS hL
      obtain ⟨a1, a2, a3, a4, a5⟩ := X.leaveThrown (zA Z gStop.toNat) (g := F0 m pc la rest) rfl rfl rfl (hout pc) hlocks
      exact ⟨_, a1, thrown σ T locs hI h X hP hS _ rfl a2 a3 a4 a5⟩
    · intro σ pc t ls _ h
      rw [hnoh] at h
      cases h
end MT
