/-! numbers of the machine by numbers -/
theorem n_add (x y : Int) : Int32.ofInt (w32 (x + y)) = Int32.ofInt x + Int32.ofInt y := by rw [w32_of, Int32.ofInt_add]
theorem n_sub (x y : Int) : Int32.ofInt (w32 (x - y)) = Int32.ofInt x - Int32.ofInt y := by rw [w32_of, Int32.ofInt_sub]
theorem n_mul (x y : Int) : Int32.ofInt (w32 (x * y)) = Int32.ofInt x * Int32.ofInt y := by rw [w32_of, Int32.ofInt_mul]
theorem n_neg (x : Int) : Int32.ofInt (w32 (-x)) = -Int32.ofInt x := by rw [w32_of, Int32.ofInt_neg]
theorem n_ladd (x y : Int) : Int64.ofInt (w64 (x + y)) = Int64.ofInt x + Int64.ofInt y := by rw [w64_of, Int64.ofInt_add]
theorem n_lsub (x y : Int) : Int64.ofInt (w64 (x - y)) = Int64.ofInt x - Int64.ofInt y := by rw [w64_of, Int64.ofInt_sub]
theorem n_lmul (x y : Int) : Int64.ofInt (w64 (x * y)) = Int64.ofInt x * Int64.ofInt y := by rw [w64_of, Int64.ofInt_mul]
theorem n_lneg (x : Int) : Int64.ofInt (w64 (-x)) = -Int64.ofInt x := by rw [w64_of, Int64.ofInt_neg]
theorem n_div {x y : Int} (hx : i32 x) (hy : i32 y) : Int32.ofInt (w32 (x.tdiv y)) = Int32.ofInt x / Int32.ofInt y := by
  apply Int32.toInt_inj.mp
  rw [of32 (w32_i _), Int32.toInt_div, of32 hx, of32 hy]
  rfl
theorem n_ldiv {x y : Int} (hx : i64 x) (hy : i64 y) : Int64.ofInt (w64 (x.tdiv y)) = Int64.ofInt x / Int64.ofInt y := by
  apply Int64.toInt_inj.mp
  rw [of64 (w64_i _), Int64.toInt_div, of64 hx, of64 hy]
  rfl
theorem n_rem {x y : Int} (hx : i32 x) (hy : i32 y) : Int32.ofInt (x.tmod y) = Int32.ofInt x - Int32.ofInt x / Int32.ofInt y * Int32.ofInt y := by
  rw [← n_div hx hy, w32_of, ← Int32.ofInt_mul, ← Int32.ofInt_sub, Int.tmod_def, Int.mul_comm]
theorem n_lrem {x y : Int} (hx : i64 x) (hy : i64 y) : Int64.ofInt (x.tmod y) = Int64.ofInt x - Int64.ofInt x / Int64.ofInt y * Int64.ofInt y := by
  rw [← n_ldiv hx hy, w64_of, ← Int64.ofInt_mul, ← Int64.ofInt_sub, Int.tmod_def, Int.mul_comm]
theorem tmod_bd (x y : Int) : (0 ≤ x → 0 ≤ x.tmod y ∧ x.tmod y ≤ x) ∧ (x ≤ 0 → x ≤ x.tmod y ∧ x.tmod y ≤ 0) := by
  have h1 := Int.natAbs_tmod x y
  have h2 := Nat.mod_le x.natAbs y.natAbs
  refine ⟨fun h => ?_, fun h => ?_⟩
  · have h3 := Int.tmod_nonneg y h
    omega
  · have h3 := Int.tmod_nonneg y (a := -x) (by omega)
    rw [Int.neg_tmod] at h3
    omega
theorem n_remi {x : Int} (y : Int) (hx : i32 x) : i32 (x.tmod y) := by
  obtain ⟨h1, h2⟩ := tmod_bd x y
  unfold i32 at *
  rcases Int.le_total 0 x with h | h
  · have := h1 h; omega
  · have := h2 h; omega
theorem n_lremi {x : Int} (y : Int) (hx : i64 x) : i64 (x.tmod y) := by
  obtain ⟨h1, h2⟩ := tmod_bd x y
  unfold i64 at *
  rcases Int.le_total 0 x with h | h
  · have := h1 h; omega
  · have := h2 h; omega
theorem n_eq {x y : Int} (hx : i32 x) (hy : i32 y) : Int32.ofInt x = Int32.ofInt y ↔ x = y := ⟨fun h => by rw [← of32 hx, ← of32 hy, h], fun h => by rw [h]⟩
theorem n_lt {x y : Int} (hx : i32 x) (hy : i32 y) : Int32.ofInt x < Int32.ofInt y ↔ x < y := by rw [Int32.lt_iff_toInt_lt, of32 hx, of32 hy]
theorem n_le {x y : Int} (hx : i32 x) (hy : i32 y) : Int32.ofInt x ≤ Int32.ofInt y ↔ x ≤ y := by rw [Int32.le_iff_toInt_le, of32 hx, of32 hy]
theorem n_leq {x y : Int} (hx : i64 x) (hy : i64 y) : Int64.ofInt x = Int64.ofInt y ↔ x = y := ⟨fun h => by rw [← of64 hx, ← of64 hy, h], fun h => by rw [h]⟩
theorem n_llt {x y : Int} (hx : i64 x) (hy : i64 y) : Int64.ofInt x < Int64.ofInt y ↔ x < y := by rw [Int64.lt_iff_toInt_lt, of64 hx, of64 hy]
theorem n_z : (0 : Int32) = Int32.ofInt 0 := rfl
theorem i32_0 : i32 0 := by unfold i32; omega
theorem n_i2l {x : Int} (hx : i32 x) : (Int32.ofInt x).toInt64 = Int64.ofInt x ∧ i64 x := by
  have h : i64 x := by unfold i32 at hx; unfold i64; omega
  refine ⟨?_, h⟩
  apply Int64.toInt_inj.mp
  rw [Int32.toInt_toInt64, of32 hx, of64 h]
theorem n_l2i {x : Int} (hx : i64 x) : (Int64.ofInt x).toInt32 = Int32.ofInt (w32 x) := by
  apply Int32.toInt_inj.mp
  rw [Int64.toInt_toInt32, of64 hx, of32 (w32_i x)]
  rfl
theorem n_i2b {x : Int} (hx : i32 x) : (Int32.ofInt x).toInt8.toInt32 = Int32.ofInt (w8 x) := by
  apply Int32.toInt_inj.mp
  rw [Int8.toInt_toInt32, Int32.toInt_toInt8, of32 hx, of32 (w8_i32 x)]
  rfl
theorem n_i2c {x : Int} (hx : i32 x) : ((Int32.ofInt x).toUInt32 % 65536).toInt32 = Int32.ofInt (x % 65536) := by
  apply Int32.toBitVec_inj.mp
  apply BitVec.eq_of_toNat_eq
  show ((BitVec.ofInt 32 x) % 65536#32).toNat = (BitVec.ofInt 32 (x % 65536)).toNat
  rw [BitVec.toNat_umod, BitVec.toNat_ofInt, BitVec.toNat_ofInt]
  show (x % 4294967296).toNat % 65536 = (x % 65536 % 4294967296).toNat
  omega
theorem n_char {x : Int} (hx : 0 ≤ x ∧ x ≤ 65535) : narrow .char (.int (Int32.ofInt x)) = .int (Int32.ofInt x) := by
  have : (Int32.ofInt x).toUInt32.toUInt16.toUInt32.toInt32 = Int32.ofInt x := by
    apply Int32.toBitVec_inj.mp
    apply BitVec.eq_of_toNat_eq
    show (((BitVec.ofInt 32 x).setWidth 16).setWidth 32).toNat = (BitVec.ofInt 32 x).toNat
    rw [BitVec.toNat_setWidth, BitVec.toNat_setWidth, BitVec.toNat_ofInt]
    show (x % 4294967296).toNat % 65536 % 4294967296 = (x % 4294967296).toNat
    omega
  show Value.int _ = _
  rw [this]
theorem n_by {x : Int} (hx : i8 x) : narrow .byte (.int (Int32.ofInt x)) = .int (Int32.ofInt x) := by
  have h2 : w8 x = x := by
    unfold w8
    unfold i8 at hx
    exact Int.bmod_eq_of_le (by omega) (by omega)
  show Value.int _ = _
  rw [n_i2b (by unfold i8 at hx; unfold i32; omega), h2]
theorem n_in {i n : Int} (hi : i32 i) (h : 0 ≤ i ∧ i < n) : vp_in (Int32.ofInt i) n.toNat := by
  rw [vp_in_iff, of32 hi]
  omega
theorem n_cl {i : Int} (hi : i32 i) : (Int32.ofInt i).toNatClampNeg = i.toNat := by
  show (Int32.ofInt i).toInt.toNat = i.toNat
  rw [of32 hi]
theorem i_and_i (x y : Int) : i32 (i_and x y) := i32_toInt _
theorem n_byte {x : Int} (h : i32 x) : vp_nar .byte (Int32.ofInt x) = Int32.ofInt (w8 x) := by rw [vp_nar_byte, n_i2b h]
theorem n_bool {x : Int} (h : i1 x) : vp_nar .boolean (Int32.ofInt x) = Int32.ofInt x := by
  unfold i1 at h
  have : x = 0 ∨ x = 1 := by omega
  rcases this with rfl | rfl <;> decide +kernel
/-! instructions -/
section GX
variable {p : Program} {l : Launch} {e : Env} {R : Room} {s : State} {m : MethodId} {args : Array Value} {below : List Frame} {meth : Method} {c : Code} {Q : State → Prop} {cc : ByteArray} {nL : Nat} {Z : gZ} {own : String} {σ : gM} {pc len : Nat} {ls st : List gV} {ρ : Type} {r : ρ}
  {nx : List gV → List gV → gM → Option ρ} {jp : Nat → List gV → List gV → gM → Option ρ}
/-- what follows is good at a place -/
def gNx (p : Program) (l : Launch) (e : Env) (R : Room) (s : State) (m : MethodId) (args : Array Value) (below : List Frame) (meth : Method) (c : Code) (Q : State → Prop) (nL : Nat) (Z : gZ) (r : ρ) (nx : List gV → List gV → gM → Option ρ) (pc : Nat) : Prop :=
  ∀ (ls st : List gV) (σ : gM), gI (zN Z) σ → gcans ls → gcans st → nx ls st σ = some r → gAt p l e R s m args below meth c Q nL Z σ pc ls st
theorem gx_push {v : gV} (C : gCx p s m args c cc nL own Z) (hI : gI (zN Z) σ) (hls : gcans ls) (hst : gcans st) (hv : gcan v) (row : ∀ (H : Heap) (locs : List Loc) (la : Array Slot) (rest : List Value), gLoc Z nL la ls → W p l e R s m args below meth c H locs 0 0 Q (F0 m (pc + len) la (cv Z v :: rest)) → W p l e R s m args below meth c H locs 0 0 Q (F0 m pc la rest))
    (hnx : gNx p l e R s m args below meth c Q nL Z r nx (pc + len)) (h : nx ls (v :: st) σ = some r) : gAt p l e R s m args below meth c Q nL Z σ pc ls st := by
  intro H locs la hP hS hL
  exact row H locs la _ hL (hnx ls (v :: st) σ hI hls (gcans_cons.mpr ⟨hv, hst⟩) h H locs la hP hS hL)
/-- two ints become one -/
theorem gx_ii {f : Int → Int → Int} {F : Int32 → Int32 → Int32} (hI : gI (zN Z) σ) (hls : gcans ls) (hst : gcans st) (hf : ∀ x y, i32 x → i32 y → Int32.ofInt (f x y) = F (Int32.ofInt x) (Int32.ofInt y) ∧ i32 (f x y)) (row : ∀ (H : Heap) (locs : List Loc) (la : Array Slot) (x y : Int32) (rest : List Value), W p l e R s m args below meth c H locs 0 0 Q (F0 m (pc + len) la (.int (F x y) :: rest)) → W p l e R s m args below meth c H locs 0 0 Q (F0 m pc la (.int y :: .int x :: rest)))
    (hnx : gNx p l e R s m args below meth c Q nL Z r nx (pc + len)) (h : gii nx ls st σ f = some r) : gAt p l e R s m args below meth c Q nL Z σ pc ls st := by
  unfold gii at h
  obtain ⟨y, st1, rfl, h1⟩ := p1_spec h
  obtain ⟨x, st2, rfl, h2⟩ := p1_spec h1
  rw [gcans_cons, gcans_cons, gcan0, gcan0] at hst
  obtain ⟨hy, hx, hst⟩ := hst
  obtain ⟨e1, e2⟩ := hf x y hx hy
  intro H locs la hP hS hL
  refine row H locs la (Int32.ofInt x) (Int32.ofInt y) _ ?_
  rw [← e1]
  exact hnx ls ((0, f x y) :: st2) σ hI hls (gcans_cons.mpr ⟨gcan0.mpr e2, hst⟩) h2 H locs la hP hS hL
theorem gx_ll {f : Int → Int → Int} {F : Int64 → Int64 → Int64} (hI : gI (zN Z) σ) (hls : gcans ls) (hst : gcans st) (hf : ∀ x y, i64 x → i64 y → Int64.ofInt (f x y) = F (Int64.ofInt x) (Int64.ofInt y) ∧ i64 (f x y)) (row : ∀ (H : Heap) (locs : List Loc) (la : Array Slot) (x y : Int64) (rest : List Value), W p l e R s m args below meth c H locs 0 0 Q (F0 m (pc + len) la (.long (F x y) :: rest)) → W p l e R s m args below meth c H locs 0 0 Q (F0 m pc la (.long y :: .long x :: rest)))
    (hnx : gNx p l e R s m args below meth c Q nL Z r nx (pc + len)) (h : gll nx ls st σ f = some r) : gAt p l e R s m args below meth c Q nL Z σ pc ls st := by
  unfold gll at h
  obtain ⟨y, st1, rfl, h1⟩ := p1_spec h
  obtain ⟨x, st2, rfl, h2⟩ := p1_spec h1
  rw [gcans_cons, gcans_cons, gcan1, gcan1] at hst
  obtain ⟨hy, hx, hst⟩ := hst
  obtain ⟨e1, e2⟩ := hf x y hx hy
  intro H locs la hP hS hL
  refine row H locs la (Int64.ofInt x) (Int64.ofInt y) _ ?_
  rw [← e1]
  exact hnx ls ((1, f x y) :: st2) σ hI hls (gcans_cons.mpr ⟨gcan1.mpr e2, hst⟩) h2 H locs la hP hS hL
/-- one value becomes another -/
theorem gx_1 {v w : gV} {st2 : List gV} (hI : gI (zN Z) σ) (hls : gcans ls) (hst : gcans st2) (hw : gcan w) (row : ∀ (H : Heap) (locs : List Loc) (la : Array Slot) (rest : List Value), W p l e R s m args below meth c H locs 0 0 Q (F0 m (pc + len) la (cv Z w :: rest)) → W p l e R s m args below meth c H locs 0 0 Q (F0 m pc la (cv Z v :: rest)))
    (hnx : gNx p l e R s m args below meth c Q nL Z r nx (pc + len)) (h : nx ls (w :: st2) σ = some r) : gAt p l e R s m args below meth c Q nL Z σ pc ls (v :: st2) := by
  intro H locs la hP hS hL
  exact row H locs la _ (hnx ls (w :: st2) σ hI hls (gcans_cons.mpr ⟨hw, hst⟩) h H locs la hP hS hL)
/-- two values become one -/
theorem gx_2 {u v w : gV} {st2 : List gV} (hI : gI (zN Z) σ) (hls : gcans ls) (hst : gcans st2) (hw : gcan w) (row : ∀ (H : Heap) (locs : List Loc) (la : Array Slot) (rest : List Value), W p l e R s m args below meth c H locs 0 0 Q (F0 m (pc + len) la (cv Z w :: rest)) → W p l e R s m args below meth c H locs 0 0 Q (F0 m pc la (cv Z v :: cv Z u :: rest)))
    (hnx : gNx p l e R s m args below meth c Q nL Z r nx (pc + len)) (h : nx ls (w :: st2) σ = some r) : gAt p l e R s m args below meth c Q nL Z σ pc ls (v :: u :: st2) := by
  intro H locs la hP hS hL
  exact row H locs la _ (hnx ls (w :: st2) σ hI hls (gcans_cons.mpr ⟨hw, hst⟩) h H locs la hP hS hL)
theorem gx_ld {t k : Nat} (C : gCx p s m args c cc nL own Z) (hI : gI (zN Z) σ) (hls : gcans ls) (hst : gcans st) (ht : t ≤ 4) (row : ∀ (H : Heap) (locs : List Loc) (la : Array Slot) (x : Int) (rest : List Value), la[k]? = some (.val (cv Z (t, x))) → W p l e R s m args below meth c H locs 0 0 Q (F0 m (pc + len) la (cv Z (t, x) :: rest)) → W p l e R s m args below meth c H locs 0 0 Q (F0 m pc la rest))
    (hnx : gNx p l e R s m args below meth c Q nL Z r nx (pc + len)) (h : gld nx ls st σ t k = some r) : gAt p l e R s m args below meth c Q nL Z σ pc ls st := by
  unfold gld at h
  obtain ⟨u, x, h1, h⟩ := glk_spec h
  split at h
  · rename_i hb
    have := Nat.eq_of_beq_eq_true hb
    subst this
    exact gx_push (v := (u, x)) C hI hls hst (hls _ (List.mem_of_getElem? h1)) (fun H locs la rest hL hw => row H locs la x rest (hL.2.2 k (u, x) h1 ht) hw) hnx h
  · cases h
theorem gx_lda {k : Nat} (C : gCx p s m args c cc nL own Z) (hI : gI (zN Z) σ) (hls : gcans ls) (hst : gcans st) (row : ∀ (H : Heap) (locs : List Loc) (la : Array Slot) (x : Nat) (rest : List Value), la[k]? = some (.val (.ref x)) → W p l e R s m args below meth c H locs 0 0 Q (F0 m (pc + len) la (.ref x :: rest)) → W p l e R s m args below meth c H locs 0 0 Q (F0 m pc la rest))
    (rowN : ∀ (H : Heap) (locs : List Loc) (la : Array Slot) (rest : List Value), la[k]? = some (.val .null) → W p l e R s m args below meth c H locs 0 0 Q (F0 m (pc + len) la (.null :: rest)) → W p l e R s m args below meth c H locs 0 0 Q (F0 m pc la rest))
    (hnx : gNx p l e R s m args below meth c Q nL Z r nx (pc + len)) (h : glda nx ls st σ k = some r) : gAt p l e R s m args below meth c Q nL Z σ pc ls st := by
  unfold glda at h
  obtain ⟨u, x, h1, h⟩ := glk_spec h
  split at h
  · rename_i hb
    have := Nat.eq_of_beq_eq_true hb
    subst this
    exact gx_push (v := (2, x)) C hI hls hst gcan2 (fun H locs la rest hL hw => row H locs la _ rest (hL.2.2 k (2, x) h1 (by simp)) hw) hnx h
  · split at h
    · rename_i hb
      have := Nat.eq_of_beq_eq_true hb
      subst this
      exact gx_push (v := (3, x)) C hI hls hst gcan3 (fun H locs la rest hL hw => row H locs la _ rest (hL.2.2 k (3, x) h1 (by simp)) hw) hnx h
    · split at h
      · rename_i hb
        have := Nat.eq_of_beq_eq_true hb
        subst this
        exact gx_push (v := (4, x)) C hI hls hst gcan4 (fun H locs la rest hL hw => by
          have h9 := hL.2.2 k (4, x) h1 (by simp)
          rw [cv4] at h9 hw
          rcases gnv_cs Z x.toNat with q | ⟨a, q⟩
          · rw [q] at h9 hw
            exact rowN H locs la rest h9 hw
          · rw [q] at h9 hw
            exact row H locs la _ rest h9 hw) hnx h
      · cases h
theorem gx_st {v : gV} {k : Nat} {st2 : List gV} (hI : gI (zN Z) σ) (hls : gcans ls) (hst : gcans (v :: st2)) (hv : v.1 ≠ 1) (row : ∀ (H : Heap) (locs : List Loc) (la : Array Slot) (rest : List Value) (lv lv' : List (Nat × Value)), lv_has la nL lv → (k, cv Z v) :: lv.filter (fun q => !(q.1 == k) && !(q.1 + 1 == k && q.2.category == 2)) = lv' → (∀ la', lv_has la' nL lv' → W p l e R s m args below meth c H locs 0 0 Q (F0 m (pc + len) la' rest)) → W p l e R s m args below meth c H locs 0 0 Q (F0 m pc la (cv Z v :: rest)))
    (hnx : gNx p l e R s m args below meth c Q nL Z r nx (pc + len)) (h : nx (gset ls k v) st2 σ = some r) : gAt p l e R s m args below meth c Q nL Z σ pc ls (v :: st2) := by
  rw [gcans_cons] at hst
  intro H locs la hP hS hL
  refine row H locs la _ _ _ hL.has rfl fun la' hl' => ?_
  exact hnx (gset ls k v) st2 σ hI (gcans_set hls hst.1) hst.2 h H locs la' hP hS (gLoc.set (la := la) hv hl')
theorem gx_st2 {x : Int} {k : Nat} {st2 : List gV} (hI : gI (zN Z) σ) (hls : gcans ls) (hst : gcans ((1, x) :: st2)) (row : ∀ (H : Heap) (locs : List Loc) (la : Array Slot) (rest : List Value) (lv lv' : List (Nat × Value)), lv_has la nL lv → (k, cv Z (1, x)) :: lv.filter (fun q => !(q.1 == k) && (!(q.1 == k + 1) && !(q.1 + 1 == k && q.2.category == 2))) = lv' → (∀ la', lv_has la' nL lv' → W p l e R s m args below meth c H locs 0 0 Q (F0 m (pc + len) la' rest)) → W p l e R s m args below meth c H locs 0 0 Q (F0 m pc la (cv Z (1, x) :: rest)))
    (hnx : gNx p l e R s m args below meth c Q nL Z r nx (pc + len)) (h : nx (gset2 ls k (1, x)) st2 σ = some r) : gAt p l e R s m args below meth c Q nL Z σ pc ls ((1, x) :: st2) := by
  rw [gcans_cons] at hst
  intro H locs la hP hS hL
  refine row H locs la _ _ _ hL.has rfl fun la' hl' => ?_
  exact hnx (gset2 ls k (1, x)) st2 σ hI (gcans_set2 hls hst.1) hst.2 h H locs la' hP hS (gLoc.set2 (la := la) hl')
theorem gx_inc {k : Nat} {d : Int} (hI : gI (zN Z) σ) (hls : gcans ls) (hst : gcans st) (row : ∀ (H : Heap) (locs : List Loc) (la : Array Slot) (x v : Int32) (rest : List Value) (lv lv' : List (Nat × Value)), lv_has la nL lv → (k, .int x) ∈ lv → x + Int32.ofInt d = v → (k, .int v) :: lv.filter (fun q => !(q.1 == k) && !(q.1 + 1 == k && q.2.category == 2)) = lv' → (∀ la', lv_has la' nL lv' → W p l e R s m args below meth c H locs 0 0 Q (F0 m (pc + len) la' rest)) → W p l e R s m args below meth c H locs 0 0 Q (F0 m pc la rest))
    (hnx : gNx p l e R s m args below meth c Q nL Z r nx (pc + len)) (h : ginc nx ls st σ k d = some r) : gAt p l e R s m args below meth c Q nL Z σ pc ls st := by
  unfold ginc at h
  obtain ⟨u, x, h1, h⟩ := glk_spec h
  split at h
  · rename_i hb
    have := Nat.eq_of_beq_eq_true hb
    subst this
    rw [gsetK_eq] at h
    intro H locs la hP hS hL
    refine row H locs la (Int32.ofInt x) (Int32.ofInt (w32 (x + d))) _ _ _ hL.has (glv_mem.mpr ⟨(0, x), h1, by simp, rfl⟩) (n_add x d).symm rfl fun la' hl' => ?_
    exact hnx _ st σ hI (gcans_set hls (gcan0.mpr (w32_i _))) hst h H locs la' hP hS (gLoc.set (la := la) (v := (0, w32 (x + d))) (by simp) hl')
  · cases h
end GX
