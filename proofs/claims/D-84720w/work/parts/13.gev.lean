section GEX2
variable {p : Program} {l : Launch} {e : Env} {R : Room} {s : State} {m : MethodId} {args : Array Value} {below : List Frame} {meth : Method} {c : Code} {Q : State → Prop} {cc : ByteArray} {nL : Nat} {Z : gZ} {own : String} {σ : gM} {pc len : Nat} {ls st : List gV} {ρ : Type} {r : ρ}
  {nx : List gV → List gV → gM → Option ρ} {jp : Nat → List gV → List gV → gM → Option ρ} {ret thr : gM → Int → Option ρ} {E : gE} {n : Nat} {tg : List (Int × Nat)}
theorem g_of8 {v : Int} (h : -128 ≤ v ∧ v ≤ 127) : (Int8.ofInt v).toInt32 = Int32.ofInt v := by
  apply Int32.toInt_inj.mp
  rw [Int8.toInt_toInt32, Int8.toInt_ofInt, of32 (by unfold i32; omega)]
  show Int.bmod v 256 = v
  exact Int.bmod_eq_of_le (by omega) (by omega)
theorem g_of16 {v : Int} (h : -32768 ≤ v ∧ v ≤ 32767) : (Int16.ofInt v).toInt32 = Int32.ofInt v := by
  apply Int32.toInt_inj.mp
  rw [Int16.toInt_toInt32, Int16.toInt_ofInt, of32 (by unfold i32; omega)]
  show Int.bmod v 65536 = v
  exact Int.bmod_eq_of_le (by omega) (by omega)
theorem gx_cst {idx : Nat} {w : Bool} (C : gCx p s m args c cc nL own Z) (T : gTab p l e R s m args below meth c Q cc nL Z own E) (hI : gI (zN Z) σ) (hls : gcans ls) (hst : gcans st) (hd : (w = false ∧ decode cc pc = .ok (.ldc idx, 2) ∧ len = 2) ∨ (w = false ∧ decode cc pc = .ok (.ldc_w idx, 3) ∧ len = 3) ∨ (w = true ∧ decode cc pc = .ok (.ldc2_w idx, 3) ∧ len = 3))
    (hnx : gNx p l e R s m args below meth c Q nL Z r nx (pc + len)) (h : gcst E nx ls st σ w idx = some r) : gAt p l e R s m args below meth c Q nL Z σ pc ls st := by
  unfold gcst at h
  split at h
  · cases h
  · rename_i t x hv
    have hg := T.2.2.1 idx (t, x) hv
    split at h
    · cases h
    · rename_i hxor
      have C0 := C
      obtain ⟨hx, hb, hml, hown, hts, hKK, hinj, hnest, hstr⟩ := C
      rcases hg with ⟨x, hq, hw, hi⟩ | ⟨x, hq, hw, hi⟩ | ⟨k, tx, hq, hw⟩
      · cases hq
        have hwf : w = false := by cases w <;> simp at hxor ⊢
        refine gx_push C0 hI hls hst (gcan0.mpr hi) (fun H locs la rest hL hwk => ?_) hnx h
        have e0 : cv Z (0, x) = .int (Int32.ofInt x) := by simp [cv]
        rw [e0] at hwk
        rcases hd with ⟨-, hd, rfl⟩ | ⟨-, hd, rfl⟩ | ⟨hz, hd, rfl⟩
        · exact lv_ldc hx hb hown (hts _ hw) hd hwk
        · exact lv_ldcw hx hb hown (hts _ hw) hd hwk
        · rw [hwf] at hz; cases hz
      · cases hq
        have hwf : w = true := by cases w <;> simp at hxor ⊢
        refine gx_push C0 hI hls hst (gcan1.mpr hi) (fun H locs la rest hL hwk => ?_) hnx h
        have e0 : cv Z (1, x) = .long (Int64.ofInt x) := by simp [cv]
        rw [e0] at hwk
        rcases hd with ⟨hz, hd, rfl⟩ | ⟨hz, hd, rfl⟩ | ⟨-, hd, rfl⟩
        · rw [hwf] at hz; cases hz
        · rw [hwf] at hz; cases hz
        · exact lv_ldc2 hx hb hown (hts _ hw) hd hwk
      · cases hq
        have hwf : w = false := by cases w <;> simp at hxor ⊢
        refine gx_push C0 hI hls hst gcan3 (fun H locs la rest hL hwk => ?_) hnx h
        have e0 : cv Z (3, (k : Int)) = .ref (zS Z k) := by simp [cv]
        rw [e0] at hwk
        have hR := hstr.1 _ hw
        rcases hd with ⟨-, hd, rfl⟩ | ⟨-, hd, rfl⟩ | ⟨hz, hd, rfl⟩
        · exact va_ldcS hx hb hown hR hd hwk
        · exact va_ldcwS hx hb hown hR hd hwk
        · rw [hwf] at hz; cases hz
theorem g_lcmp {x y : Int} (hx : i64 x) (hy : i64 y) : lg_cmp (Int64.ofInt x) (Int64.ofInt y) = Int32.ofInt (l_cmp x y) := by
  unfold lg_cmp l_cmp
  simp only [n_llt hx hy, n_llt hy hx, n_leq hx hy]
  by_cases h1 : y < x
  · have : ¬ x < y := by omega
    have : ¬ x = y := by omega
    simp [*]
  · by_cases h2 : x = y
    · subst h2; simp
    · have h3 : x < y := by omega
      simp [*]
theorem g_cat1 {t : Nat} {x : Int} (h : Nat.beq t 1 = false) : (cv Z (t, x)).category = 1 := by
  rcases lv_cat (cv Z (t, x)) with q | q
  · exact q
  · have h2 := cv_cat q
    simp only at h2
    rw [h2] at h
    simp at h
theorem grk_spec {k : Nat} {x : Option ρ} (h : grk E k x = some r) : E.2.2.2.2.2.2 = k ∧ x = some r := by
  unfold grk at h
  split at h
  · rename_i hb
    exact ⟨Nat.eq_of_beq_eq_true hb, h⟩
  · cases h
theorem g0_spec {st2 : List gV} {x : Option ρ} (h : g0 st2 x = some r) : st2 = [] ∧ x = some r := by
  unfold g0 at h
  split at h
  · exact ⟨rfl, h⟩
  · cases h
theorem gN_i (a : Int) : 0 ≤ gN a ∧ gN a < 4294967296 := by
  unfold gN
  have := Nat.mod_lt (gNT >>> (32 * a.toNat)) (show 4294967296 > 0 by decide)
  constructor
  · exact Int.natCast_nonneg _
  · show ((_ : Nat) : Int) < _
    omega
set_option maxRecDepth 100000 in
theorem gN_all : (List.range gTot).all (fun a => decide (gN (a : Int) ≤ 2147483647)) = true := by decide +kernel
set_option maxRecDepth 100000 in
theorem gKT_lt : gKT < 2 ^ (8 * gTot) := by decide +kernel
theorem gK_lt {a : Nat} (h : gK a ≠ 0) : a < gTot := by
  by_cases hl : a < gTot
  · exact hl
  · exfalso
    apply h
    show (gKT >>> (8 * a)) % 256 = 0
    rw [Nat.shiftRight_eq_div_pow, Nat.div_eq_of_lt (Nat.lt_of_lt_of_le gKT_lt (Nat.pow_le_pow_right (by decide) (by omega)))]
theorem gN_i32 {a : Nat} (h : gK a ≠ 0) : i32 (gN a) := by
  have h1 := List.all_eq_true.mp gN_all a (List.mem_range.mpr (gK_lt h))
  simp only [decide_eq_true_eq] at h1
  have := gN_i a
  unfold i32
  omega
theorem gx_alen {o : Int} {st2 : List gV} (C : gCx p s m args c cc nL own Z) (hI : gI (zN Z) σ) (hls : gcans ls) (hst : gcans ((2, o) :: st2)) (hm : E.2.2.2.2.2.1.1 ≤ zN Z) (hd : decode cc pc = .ok (.arraylength, 1)) (hK : 1 ≤ gK o ∧ gK o ≤ 5) (hlt : o.toNat < E.2.2.2.2.2.1.1)
    (hnx : gNx p l e R s m args below meth c Q nL Z r nx (pc + 1)) (h : nx ls ((0, gN o) :: st2) σ = some r) : gAt p l e R s m args below meth c Q nL Z σ pc ls ((2, o) :: st2) := by
  obtain ⟨ho, hoe⟩ := gK_nat (c := gK o) (by omega) rfl
  generalize hae : o.toNat = a at hlt hoe
  subst hoe
  rw [gcans_cons] at hst
  obtain ⟨hx, hb, hml, hown, hts, hKK, hinj, hnest, -⟩ := C
  have haN : a < zN Z := by omega
  have hn := gN_i32 (a := a) (by omega)
  intro H locs la hP hS hL
  have e1 : cv Z (2, (a : Int)) = .ref (zA Z a) := by simp [cv]
  have e2 : cv Z (0, gN a) = .int (Int32.ofInt (gN a)) := by simp [cv]
  have go := hnx ls ((0, gN a) :: st2) σ hI hls (gcans_cons.mpr ⟨gcan0.mpr hn, hst.2⟩) h H locs la hP hS hL
  have e3 : Int32.ofNat (gN a).toNat = Int32.ofInt (gN a) := by
    have h0 := (gN_i a).1
    rw [show gN a = (((gN a).toNat : Nat) : Int) by omega]
    rfl
  show W p l e R s m args below meth c H locs 0 0 Q (F0 m pc la (cv Z (2, (a : Int)) :: st2.map (cv Z)))
  rw [e1]
  have h5 : gK a = 1 ∨ gK a = 2 ∨ gK a = 3 ∨ gK a = 4 ∨ gK a = 5 := by omega
  rcases h5 with q | q | q | q | q
  · exact va_alen hx hb hKK hP a 0 (by rw [gws_at haN, gpic_int q (Or.inl rfl)]) (gty1 (Or.inl ⟨rfl, rfl⟩)) e3 hd go
  · exact va_alen hx hb hKK hP a 1 (by rw [gws_at haN, gpic_int q (Or.inr (Or.inl rfl))]) (gty1 (Or.inr (Or.inl ⟨rfl, rfl⟩))) e3 hd go
  · exact va_alen hx hb hKK hP a 2 (by rw [gws_at haN, gpic_int q (Or.inr (Or.inr rfl))]) (gty1 (Or.inr (Or.inr (Or.inl ⟨rfl, rfl⟩)))) e3 hd go
  · exact va_alen hx hb hKK hP a 3 (by rw [gws_at haN, gpic_long q]) (gty1 (Or.inr (Or.inr (Or.inr (Or.inl ⟨rfl, rfl⟩))))) e3 hd go
  · exact va_alen hx hb hKK hP a 4 (by rw [gws_at haN, gpic_str q]) (gty1 (Or.inr (Or.inr (Or.inr (Or.inr ⟨rfl, rfl⟩))))) e3 hd go
theorem gnar_no {rk : Nat} {v : Int} (h : rk ≠ 6 ∧ rk ≠ 7 ∧ rk ≠ 8) : gnar rk v := ⟨fun q => absurd q h.1, fun q => absurd q h.2.1, fun q => absurd q h.2.2⟩
theorem gsl_i {k : Nat} (h : k < gStrN) : i32 (gsl k) := by
  have h1 : ∀ k, k < gStrN → gStrLen.getD k 0 < 1000 := by decide
  have := h1 k h
  unfold gsl i32
  rw [Int.toNat_natCast]
  omega
theorem gx_slen {x : Int} {st2 : List gV} (C : gCx p s m args c cc nL own Z) (hI : gI (zN Z) σ) (hls : gcans ls) (hst : gcans ((4, x) :: st2)) (hd : decode cc pc = .ok (.arraylength, 1))
    (hnx : gNx p l e R s m args below meth c Q nL Z r nx (pc + 1)) (h : gtx x (nx ls ((0, gsl x) :: st2) σ) = some r) : gAt p l e R s m args below meth c Q nL Z σ pc ls ((4, x) :: st2) := by
  obtain ⟨kx, rfl, hkx, h2⟩ := gtx_spec h
  obtain ⟨hx, hb, hml, hown, hts, hKK, hinj, hnest, hstr⟩ := C
  rw [gcans_cons] at hst
  intro H locs la hP hS hL
  have go := hnx ls ((0, gsl kx) :: st2) σ hI hls (gcans_cons.mpr ⟨gcan0.mpr (gsl_i hkx), hst.2⟩) h2 H locs la hP hS hL
  have e1 : cv Z (4, (kx : Int)) = .ref (zV Z kx) := gnv_lt hkx
  have e3 : cv Z (0, gsl kx) = .int (Int32.ofInt (gsl kx)) := by simp [cv]
  rw [List.map_cons, e3] at go
  rw [List.map_cons, e1]
  exact va_tlen hx hb ((hstr.2.1).1 kx hkx).2.2.2 hS rfl hd go
theorem gx_sta {idx : Nat} (C : gCx p s m args c cc nL own Z) (hI : gI (zN Z) σ) (hls : gcans ls) (hst : gcans st) (hF : ∀ idx c k t, gat E.2.1 idx = some (c, k, t) → gFld own idx c k t) (hd : decode cc pc = .ok (.getstatic idx, 3))
    (hnx : gNx p l e R s m args below meth c Q nL Z r nx (pc + 3)) (h : gsta E nx ls st σ idx = some r) : gAt p l e R s m args below meth c Q nL Z σ pc ls st := by
  unfold gsta at h
  split at h
  · cases h
  · rename_i co k t hg
    split at h
    · rename_i hco
      have hco := Nat.eq_of_beq_eq_true hco
      subst hco
      obtain ⟨hx, hb, hml, hown, hts, hKK, hinj, hnest, hstr⟩ := C
      rcases hF idx 101 k t hg with h0 | ⟨h0, -⟩ | ⟨-, h0⟩
      · have := gFld0_lt h0
        omega
      · omega
      · rcases h0 with ⟨rfl, rfl, hw⟩ | ⟨rfl, rfl, hw⟩
        · intro H locs la hP hS hL
          have go := hnx ls ((0, 1) :: st) σ hI hls (gcans_cons.mpr ⟨gcan0.mpr (by unfold i32; omega), hst⟩) h H locs la hP hS hL
          have e3 : cv Z (0, 1) = .int 1 := rfl
          rw [List.map_cons, e3] at go
          exact va_gets hx hb hstr.2.2.1 hS hown (hts _ hw) (fun _ h => h) hd go
        · intro H locs la hP hS hL
          have go := hnx ls ((4, (gStrN : Int)) :: st) σ hI hls (gcans_cons.mpr ⟨gcan4, hst⟩) h H locs la hP hS hL
          have e3 : cv Z (4, (gStrN : Int)) = gnv Z gStrN := rfl
          rw [List.map_cons, e3] at go
          exact va_gets hx hb hstr.2.2.2 hS hown (hts _ hw) (fun _ h => h) hd go
    · cases h
set_option maxHeartbeats 4000000 in
theorem gex_sound {i : Instr} (C : gCx p s m args c cc nL own Z) (T : gTab p l e R s m args below meth c Q cc nL Z own E) (F : gFin p l e R s m args below meth c Q cc nL Z E ret thr r) (hI : gI (zN Z) σ) (hls : gcans ls) (hst : gcans st) (hd : decode cc pc = .ok (i, len)) (hk : gok nL pc len i tg = true)
    (hnx : gNx p l e R s m args below meth c Q nL Z r nx (pc + len)) (hjp : ∀ t, gNx p l e R s m args below meth c Q nL Z r (jp t) t) (h : gex E n nx jp ret thr pc tg ls st σ i = some r) : gAt p l e R s m args below meth c Q nL Z σ pc ls st := by
  have hx := C.1
  have hb := C.2.1
  have hml := C.2.2.1
  cases i with
  | iconst v =>
    simp only [gok, Bool.and_eq_true, decide_eq_true_eq] at hk
    obtain ⟨⟨rfl, k1⟩, k2⟩ := hk
    exact gx_push (v := (0, v)) C hI hls hst (gcan0.mpr ⟨k1, k2⟩) (fun H locs la rest hL hw => lv_iconst hx hb hd rfl hw) hnx h
  | bipush v =>
    simp only [gok, Bool.and_eq_true, decide_eq_true_eq] at hk
    obtain ⟨⟨rfl, k1⟩, k2⟩ := hk
    exact gx_push (v := (0, v)) C hI hls hst (gcan0.mpr (by unfold i32; omega)) (fun H locs la rest hL hw => lv_bipush hx hb hd (g_of8 ⟨k1, k2⟩) hw) hnx h
  | sipush v =>
    simp only [gok, Bool.and_eq_true, decide_eq_true_eq] at hk
    obtain ⟨⟨rfl, k1⟩, k2⟩ := hk
    exact gx_push (v := (0, v)) C hI hls hst (gcan0.mpr (by unfold i32; omega)) (fun H locs la rest hL hw => lv_sipush hx hb hd (g_of16 ⟨k1, k2⟩) hw) hnx h
  | lconst v =>
    simp only [gok, decide_eq_true_eq] at hk
    subst hk
    refine gx_push (v := (1, (v.val : Int))) C hI hls hst (gcan1.mpr (by have := v.isLt; unfold i64; omega)) (fun H locs la rest hL hw => lv_lconst hx hb hd ?_ hw) hnx h
    rfl
  | ldc k =>
    simp only [gok, decide_eq_true_eq] at hk
    subst hk
    exact gx_cst C T hI hls hst (Or.inl ⟨rfl, hd, rfl⟩) hnx h
  | ldc_w k =>
    simp only [gok, decide_eq_true_eq] at hk
    subst hk
    exact gx_cst C T hI hls hst (Or.inr (Or.inl ⟨rfl, hd, rfl⟩)) hnx h
  | ldc2_w k =>
    simp only [gok, decide_eq_true_eq] at hk
    subst hk
    exact gx_cst C T hI hls hst (Or.inr (Or.inr ⟨rfl, hd, rfl⟩)) hnx h
  | iload k =>
    simp only [gok, decide_eq_true_eq] at hk
    subst hk
    exact gx_ld (k := k) (t := 0) C hI hls hst (by decide) (fun H locs la x rest hl hw => lv_iload hx hb hd hl hw) hnx h
  | iload_n k =>
    simp only [gok, decide_eq_true_eq] at hk
    subst hk
    exact gx_ld (k := k.val) (t := 0) C hI hls hst (by decide) (fun H locs la x rest hl hw => lv_iload_n hx hb hd rfl hl hw) hnx h
  | lload k =>
    simp only [gok, decide_eq_true_eq] at hk
    subst hk
    exact gx_ld (k := k) (t := 1) C hI hls hst (by decide) (fun H locs la x rest hl hw => lv_lload hx hb hd hl hw) hnx h
  | lload_n k =>
    simp only [gok, decide_eq_true_eq] at hk
    subst hk
    exact gx_ld (k := k.val) (t := 1) C hI hls hst (by decide) (fun H locs la x rest hl hw => lv_lload_n hx hb hd rfl hl hw) hnx h
  | aload k =>
    simp only [gok, decide_eq_true_eq] at hk
    subst hk
    exact gx_lda (k := k) C hI hls hst (fun H locs la x rest hl hw => lv_aload hx hb hd hl hw) (fun H locs la rest hl hw => lv_aloadN hx hb hd hl hw) hnx h
  | aload_n k =>
    simp only [gok, decide_eq_true_eq] at hk
    subst hk
    exact gx_lda (k := k.val) C hI hls hst (fun H locs la x rest hl hw => lv_aload_n hx hb hd rfl hl hw) (fun H locs la rest hl hw => lv_aload_nN hx hb hd rfl hl hw) hnx h
  | istore k =>
    simp only [gok, Bool.and_eq_true, decide_eq_true_eq] at hk
    obtain ⟨rfl, hkn⟩ := hk
    obtain ⟨x, st2, rfl, h1⟩ := p1_spec h
    rw [gsetK_eq] at h1
    exact gx_st (v := (0, x)) (k := k) hI hls hst (by simp) (fun H locs la rest lv lv' hl hf hw => lv_istore hx hb hd hl hkn hf hw) hnx h1
  | istore_n k =>
    simp only [gok, Bool.and_eq_true, decide_eq_true_eq] at hk
    obtain ⟨rfl, hkn⟩ := hk
    obtain ⟨x, st2, rfl, h1⟩ := p1_spec h
    rw [gsetK_eq] at h1
    exact gx_st (v := (0, x)) (k := k.val) hI hls hst (by simp) (fun H locs la rest lv lv' hl hf hw => lv_istore_n hx hb hd rfl hl hkn hf hw) hnx h1
  | lstore k =>
    simp only [gok, Bool.and_eq_true, decide_eq_true_eq] at hk
    obtain ⟨rfl, hkn⟩ := hk
    obtain ⟨x, st2, rfl, h1⟩ := p1_spec h
    rw [gsetK_eq, gput2K_eq] at h1
    exact gx_st2 (x := x) (k := k) hI hls hst (fun H locs la rest lv lv' hl hf hw => lv_lstore hx hb hd hl hkn hf hw) hnx h1
  | lstore_n k =>
    simp only [gok, Bool.and_eq_true, decide_eq_true_eq] at hk
    obtain ⟨rfl, hkn⟩ := hk
    obtain ⟨x, st2, rfl, h1⟩ := p1_spec h
    rw [gsetK_eq, gput2K_eq] at h1
    exact gx_st2 (x := x) (k := k.val) hI hls hst (fun H locs la rest lv lv' hl hf hw => lv_lstore_n hx hb hd rfl hl hkn hf hw) hnx h1
  | astore k =>
    simp only [gok, Bool.and_eq_true, decide_eq_true_eq] at hk
    obtain ⟨rfl, hkn⟩ := hk
    simp only [gex] at h
    obtain ⟨t, x, st2, ht, rfl, h1⟩ := p1r_spec h
    rw [gsetK_eq] at h1
    rcases ht with rfl | rfl | rfl
    · exact gx_st (v := (2, x)) (k := k) hI hls hst (by simp) (fun H locs la rest lv lv' hl hf hw => lv_astore hx hb hd hl hkn hf hw) hnx h1
    · exact gx_st (v := (3, x)) (k := k) hI hls hst (by simp) (fun H locs la rest lv lv' hl hf hw => lv_astore hx hb hd hl hkn hf hw) hnx h1
    · exact gx_st (v := (4, x)) (k := k) hI hls hst (by simp) (fun H locs la rest lv lv' hl hf hw => by
        rw [cv4] at hf ⊢
        rcases gnv_cs Z x.toNat with q | ⟨a, q⟩
        · rw [q] at hf ⊢
          exact lv_astoreN hx hb hd hl hkn hf hw
        · rw [q] at hf ⊢
          exact lv_astore hx hb hd hl hkn hf hw) hnx h1
  | astore_n k =>
    simp only [gok, Bool.and_eq_true, decide_eq_true_eq] at hk
    obtain ⟨rfl, hkn⟩ := hk
    simp only [gex] at h
    obtain ⟨t, x, st2, ht, rfl, h1⟩ := p1r_spec h
    rw [gsetK_eq] at h1
    rcases ht with rfl | rfl | rfl
    · exact gx_st (v := (2, x)) (k := k.val) hI hls hst (by simp) (fun H locs la rest lv lv' hl hf hw => lv_astore_n hx hb hd rfl hl hkn hf hw) hnx h1
    · exact gx_st (v := (3, x)) (k := k.val) hI hls hst (by simp) (fun H locs la rest lv lv' hl hf hw => lv_astore_n hx hb hd rfl hl hkn hf hw) hnx h1
    · exact gx_st (v := (4, x)) (k := k.val) hI hls hst (by simp) (fun H locs la rest lv lv' hl hf hw => by
        rw [cv4] at hf ⊢
        rcases gnv_cs Z x.toNat with q | ⟨a, q⟩
        · rw [q] at hf ⊢
          exact lv_astore_nN hx hb hd rfl hl hkn hf hw
        · rw [q] at hf ⊢
          exact lv_astore_n hx hb hd rfl hl hkn hf hw) hnx h1
  | iinc k d =>
    simp only [gok, Bool.and_eq_true, decide_eq_true_eq] at hk
    obtain ⟨rfl, hkn⟩ := hk
    exact gx_inc (k := k) (d := d) hI hls hst (fun H locs la x v rest lv lv' hl hm hv hf hw => by
      obtain ⟨j, hj⟩ := List.getElem?_of_mem hm
      exact lv_iinc hx hb hd hl hj hv hkn hf hw) hnx h
  | iadd =>
    simp only [gok, decide_eq_true_eq] at hk
    subst hk
    exact gx_ii hI hls hst (fun x y _ _ => ⟨n_add x y, w32_i _⟩) (fun H locs la x y rest hw => lv_iadd hx hb hd hw) hnx h
  | isub =>
    simp only [gok, decide_eq_true_eq] at hk
    subst hk
    exact gx_ii hI hls hst (fun x y _ _ => ⟨n_sub x y, w32_i _⟩) (fun H locs la x y rest hw => lv_isub hx hb hd hw) hnx h
  | imul =>
    simp only [gok, decide_eq_true_eq] at hk
    subst hk
    exact gx_ii hI hls hst (fun x y _ _ => ⟨n_mul x y, w32_i _⟩) (fun H locs la x y rest hw => lv_imul hx hb hd hw) hnx h
  | iand =>
    simp only [gok, decide_eq_true_eq] at hk
    subst hk
    exact gx_ii hI hls hst (fun x y _ _ => ⟨Int32.ofInt_toInt _, i32_toInt _⟩) (fun H locs la x y rest hw => lv_iand hx hb hd hw) hnx h
  | ior =>
    simp only [gok, decide_eq_true_eq] at hk
    subst hk
    exact gx_ii hI hls hst (fun x y _ _ => ⟨Int32.ofInt_toInt _, i32_toInt _⟩) (fun H locs la x y rest hw => lv_ior hx hb hd hw) hnx h
  | ixor =>
    simp only [gok, decide_eq_true_eq] at hk
    subst hk
    exact gx_ii hI hls hst (fun x y _ _ => ⟨Int32.ofInt_toInt _, i32_toInt _⟩) (fun H locs la x y rest hw => lv_ixor hx hb hd hw) hnx h
  | ishr =>
    simp only [gok, decide_eq_true_eq] at hk
    subst hk
    exact gx_ii hI hls hst (fun x y _ _ => ⟨Int32.ofInt_toInt _, i32_toInt _⟩) (fun H locs la x y rest hw => lv_ishr hx hb hd hw) hnx h
  | iushr =>
    simp only [gok, decide_eq_true_eq] at hk
    subst hk
    exact gx_ii (F := fun x y => (x.toUInt32 >>> (y.toUInt32 &&& Int32.toUInt32 31)).toInt32) hI hls hst (fun x y _ _ => ⟨Int32.ofInt_toInt _, i32_toInt _⟩) (fun H locs la x y rest hw => lv_iushr hx hb hd rfl hw) hnx h
  | ladd =>
    simp only [gok, decide_eq_true_eq] at hk
    subst hk
    exact gx_ll hI hls hst (fun x y _ _ => ⟨n_ladd x y, w64_i _⟩) (fun H locs la x y rest hw => lv_ladd hx hb hd hw) hnx h
  | lsub =>
    simp only [gok, decide_eq_true_eq] at hk
    subst hk
    exact gx_ll hI hls hst (fun x y _ _ => ⟨n_lsub x y, w64_i _⟩) (fun H locs la x y rest hw => lv_lsub hx hb hd hw) hnx h
  | lmul =>
    simp only [gok, decide_eq_true_eq] at hk
    subst hk
    exact gx_ll hI hls hst (fun x y _ _ => ⟨n_lmul x y, w64_i _⟩) (fun H locs la x y rest hw => lv_lmul hx hb hd hw) hnx h
  | land =>
    simp only [gok, decide_eq_true_eq] at hk
    subst hk
    exact gx_ll hI hls hst (fun x y _ _ => ⟨Int64.ofInt_toInt _, i64_toInt _⟩) (fun H locs la x y rest hw => lv_land hx hb hd hw) hnx h
  | lor =>
    simp only [gok, decide_eq_true_eq] at hk
    subst hk
    exact gx_ll hI hls hst (fun x y _ _ => ⟨Int64.ofInt_toInt _, i64_toInt _⟩) (fun H locs la x y rest hw => lv_lor hx hb hd hw) hnx h
  | lxor =>
    simp only [gok, decide_eq_true_eq] at hk
    subst hk
    exact gx_ll hI hls hst (fun x y _ _ => ⟨Int64.ofInt_toInt _, i64_toInt _⟩) (fun H locs la x y rest hw => lv_lxor hx hb hd hw) hnx h
  | idiv =>
    simp only [gok, decide_eq_true_eq] at hk
    subst hk
    obtain ⟨y, st1, rfl, h0⟩ := p1_spec h
    obtain ⟨x, st2, rfl, h1⟩ := p1_spec h0
    rw [gcans_cons, gcans_cons] at hst
    split at h1
    · cases h1
    · rename_i hy0
      have hy : i32 y := gcan0.mp hst.1
      have hxx : i32 x := gcan0.mp hst.2.1
      refine gx_2 (u := (0, x)) (v := (0, y)) (w := (0, w32 (x.tdiv y))) hI hls hst.2.2 (gcan0.mpr (w32_i _)) (fun H locs la rest hw => ?_) hnx h1
      refine lv_idiv hx hb hd (fun q => hy0 (by rw [← of32 hy, q]; rfl)) ?_
      rw [← n_div hxx hy]
      exact hw
  | irem =>
    simp only [gok, decide_eq_true_eq] at hk
    subst hk
    obtain ⟨y, st1, rfl, h0⟩ := p1_spec h
    obtain ⟨x, st2, rfl, h1⟩ := p1_spec h0
    rw [gcans_cons, gcans_cons] at hst
    split at h1
    · cases h1
    · rename_i hy0
      have hy : i32 y := gcan0.mp hst.1
      have hxx : i32 x := gcan0.mp hst.2.1
      refine gx_2 (u := (0, x)) (v := (0, y)) (w := (0, x.tmod y)) hI hls hst.2.2 (gcan0.mpr (n_remi y hxx)) (fun H locs la rest hw => ?_) hnx h1
      refine lv_irem hx hb hd (fun q => hy0 (by rw [← of32 hy, q]; rfl)) ?_
      rw [← n_rem hxx hy]
      exact hw
  | ldiv =>
    simp only [gok, decide_eq_true_eq] at hk
    subst hk
    obtain ⟨y, st1, rfl, h0⟩ := p1_spec h
    obtain ⟨x, st2, rfl, h1⟩ := p1_spec h0
    rw [gcans_cons, gcans_cons] at hst
    split at h1
    · cases h1
    · rename_i hy0
      have hy : i64 y := gcan1.mp hst.1
      have hxx : i64 x := gcan1.mp hst.2.1
      refine gx_2 (u := (1, x)) (v := (1, y)) (w := (1, w64 (x.tdiv y))) hI hls hst.2.2 (gcan1.mpr (w64_i _)) (fun H locs la rest hw => ?_) hnx h1
      refine lv_ldiv hx hb hd (fun q => hy0 (by rw [← of64 hy, q]; rfl)) ?_
      rw [← n_ldiv hxx hy]
      exact hw
  | lrem =>
    simp only [gok, decide_eq_true_eq] at hk
    subst hk
    obtain ⟨y, st1, rfl, h0⟩ := p1_spec h
    obtain ⟨x, st2, rfl, h1⟩ := p1_spec h0
    rw [gcans_cons, gcans_cons] at hst
    split at h1
    · cases h1
    · rename_i hy0
      have hy : i64 y := gcan1.mp hst.1
      have hxx : i64 x := gcan1.mp hst.2.1
      refine gx_2 (u := (1, x)) (v := (1, y)) (w := (1, x.tmod y)) hI hls hst.2.2 (gcan1.mpr (n_lremi y hxx)) (fun H locs la rest hw => ?_) hnx h1
      refine lv_lrem hx hb hd (fun q => hy0 (by rw [← of64 hy, q]; rfl)) ?_
      rw [← n_lrem hxx hy]
      exact hw
  | ineg =>
    simp only [gok, decide_eq_true_eq] at hk
    subst hk
    obtain ⟨x, st2, rfl, h1⟩ := p1_spec h
    rw [gcans_cons] at hst
    refine gx_1 (v := (0, x)) (w := (0, w32 (-x))) hI hls hst.2 (gcan0.mpr (w32_i _)) (fun H locs la rest hw => ?_) hnx h1
    refine lv_ineg hx hb hd ?_
    rw [← n_neg]
    exact hw
  | lneg =>
    simp only [gok, decide_eq_true_eq] at hk
    subst hk
    obtain ⟨x, st2, rfl, h1⟩ := p1_spec h
    rw [gcans_cons] at hst
    refine gx_1 (v := (1, x)) (w := (1, w64 (-x))) hI hls hst.2 (gcan1.mpr (w64_i _)) (fun H locs la rest hw => ?_) hnx h1
    refine lv_lneg hx hb hd ?_
    rw [← n_lneg]
    exact hw
  | lshl =>
    simp only [gok, decide_eq_true_eq] at hk
    subst hk
    obtain ⟨y, st1, rfl, h0⟩ := p1_spec h
    obtain ⟨x, st2, rfl, h1⟩ := p1_spec h0
    rw [gcans_cons, gcans_cons] at hst
    exact gx_2 (u := (1, x)) (v := (0, y)) (w := (1, l_shl x y)) hI hls hst.2.2 (gcan1.mpr (i64_toInt _)) (fun H locs la rest hw => lv_lshl hx hb hd (Int64.ofInt_toInt _).symm hw) hnx h1
  | lshr =>
    simp only [gok, decide_eq_true_eq] at hk
    subst hk
    obtain ⟨y, st1, rfl, h0⟩ := p1_spec h
    obtain ⟨x, st2, rfl, h1⟩ := p1_spec h0
    rw [gcans_cons, gcans_cons] at hst
    exact gx_2 (u := (1, x)) (v := (0, y)) (w := (1, l_shr x y)) hI hls hst.2.2 (gcan1.mpr (i64_toInt _)) (fun H locs la rest hw => lv_lshr hx hb hd (Int64.ofInt_toInt _).symm hw) hnx h1
  | lushr =>
    simp only [gok, decide_eq_true_eq] at hk
    subst hk
    obtain ⟨y, st1, rfl, h0⟩ := p1_spec h
    obtain ⟨x, st2, rfl, h1⟩ := p1_spec h0
    rw [gcans_cons, gcans_cons] at hst
    exact gx_2 (u := (1, x)) (v := (0, y)) (w := (1, l_ushr x y)) hI hls hst.2.2 (gcan1.mpr (i64_toInt _)) (fun H locs la rest hw => lv_lushr hx hb hd (Int64.ofInt_toInt _).symm hw) hnx h1
  | lcmp =>
    simp only [gok, decide_eq_true_eq] at hk
    subst hk
    obtain ⟨y, st1, rfl, h0⟩ := p1_spec h
    obtain ⟨x, st2, rfl, h1⟩ := p1_spec h0
    rw [gcans_cons, gcans_cons] at hst
    refine gx_2 (u := (1, x)) (v := (1, y)) (w := (0, l_cmp x y)) hI hls hst.2.2 (gcan0.mpr (by unfold i32 l_cmp; split <;> (try split) <;> omega)) (fun H locs la rest hw => ?_) hnx h1
    refine W.lcmp hx hb hd ?_
    rw [g_lcmp (gcan1.mp hst.2.1) (gcan1.mp hst.1)]
    exact hw
  | i2l =>
    simp only [gok, decide_eq_true_eq] at hk
    subst hk
    obtain ⟨x, st2, rfl, h1⟩ := p1_spec h
    rw [gcans_cons] at hst
    obtain ⟨e1, e2⟩ := n_i2l (gcan0.mp hst.1)
    exact gx_1 (v := (0, x)) (w := (1, x)) hI hls hst.2 (gcan1.mpr e2) (fun H locs la rest hw => lv_i2l hx hb hd e1 hw) hnx h1
  | l2i =>
    simp only [gok, decide_eq_true_eq] at hk
    subst hk
    obtain ⟨x, st2, rfl, h1⟩ := p1_spec h
    rw [gcans_cons] at hst
    exact gx_1 (v := (1, x)) (w := (0, w32 x)) hI hls hst.2 (gcan0.mpr (w32_i _)) (fun H locs la rest hw => lv_l2i hx hb hd (n_l2i (gcan1.mp hst.1)) hw) hnx h1
  | i2b =>
    simp only [gok, decide_eq_true_eq] at hk
    subst hk
    obtain ⟨x, st2, rfl, h1⟩ := p1_spec h
    rw [gcans_cons] at hst
    exact gx_1 (v := (0, x)) (w := (0, w8 x)) hI hls hst.2 (gcan0.mpr (w8_i32 _)) (fun H locs la rest hw => lv_i2b hx hb hd (n_i2b (gcan0.mp hst.1)) hw) hnx h1
  | dup =>
    simp only [gok, decide_eq_true_eq] at hk
    subst hk
    simp only [gex] at h
    split at h
    · cases h
    · rename_i t x rest0
      split at h
      · cases h
      · rename_i ht
        have h1 : (cv Z (t, x)).category = 1 := g_cat1 ht
        intro H locs la hP hS hL
        rw [gcans_cons] at hst
        exact lv_dup hx hb hd h1 (hnx ls _ σ hI hls (gcans_cons.mpr ⟨hst.1, gcans_cons.mpr hst⟩) h H locs la hP hS hL)
  | dup2 =>
    simp only [gok, decide_eq_true_eq] at hk
    subst hk
    simp only [gex] at h
    split at h
    · rename_i t x u y rest0
      split at h
      · cases h
      · rename_i ht
        simp only [Bool.or_eq_false_iff] at ht
        have h1 : (cv Z (t, x)).category = 1 := g_cat1 ht.1
        have h2 : (cv Z (u, y)).category = 1 := g_cat1 ht.2
        intro H locs la hP hS hL
        have hst0 := hst
        rw [gcans_cons, gcans_cons] at hst
        exact lv_dup2_11 hx hb hd h1 h2 (hnx ls _ σ hI hls (gcans_cons.mpr ⟨hst.1, gcans_cons.mpr ⟨hst.2.1, hst0⟩⟩) h H locs la hP hS hL)
    · cases h
  | pop =>
    simp only [gok, decide_eq_true_eq] at hk
    subst hk
    simp only [gex] at h
    split at h
    · cases h
    · rename_i t x rest0
      split at h
      · cases h
      · rename_i ht
        have h1 : (cv Z (t, x)).category = 1 := g_cat1 ht
        intro H locs la hP hS hL
        rw [gcans_cons] at hst
        exact lv_pop hx hb hd h1 (hnx ls _ σ hI hls hst.2 h H locs la hP hS hL)
  | ifCond k off =>
    simp only [gok, Bool.and_eq_true, decide_eq_true_eq] at hk
    obtain ⟨rfl, hkn⟩ := hk
    exact gx_if C hI hls hst hd hkn hnx hjp h
  | if_icmp k off =>
    simp only [gok, Bool.and_eq_true, decide_eq_true_eq] at hk
    obtain ⟨rfl, hkn⟩ := hk
    exact gx_icmp C hI hls hst hd hkn hnx hjp h
  | goto off =>
    simp only [gok, Bool.and_eq_true, decide_eq_true_eq] at hk
    obtain ⟨rfl, hkn⟩ := hk
    intro H locs la hP hS hL
    exact lv_goto hx hb hd (gtg_spec hkn) (hjp _ ls st σ hI hls hst h H locs la hP hS hL)
  | tableswitch d lo hi offs =>
    exact gx_tsw C hI hls hst hd hk hjp h
  | lookupswitch d ps =>
    exact gx_lsw C hI hls hst hd hk hjp h
  | getfield k =>
    simp only [gok, decide_eq_true_eq] at hk
    subst hk
    exact gx_get C hI hls hst T.2.1 T.1 hd hnx h
  | putfield k =>
    simp only [gok, decide_eq_true_eq] at hk
    subst hk
    exact gx_put C hI hls hst T.2.1 T.1 hd hnx h
  | iaload =>
    simp only [gok, decide_eq_true_eq] at hk
    subst hk
    exact gx_iald C hI hls hst T.1 hd hnx h
  | laload =>
    simp only [gok, decide_eq_true_eq] at hk
    subst hk
    exact gx_lald C hI hls hst T.1 hd hnx h
  | aaload =>
    simp only [gok, decide_eq_true_eq] at hk
    subst hk
    exact gx_aald C hI hls hst T.1 hd hnx h
  | baload =>
    simp only [gok, decide_eq_true_eq] at hk
    subst hk
    exact gx_balb C hI hls hst T.1 hd hnx h
  | iastore =>
    simp only [gok, decide_eq_true_eq] at hk
    subst hk
    exact gx_iast C hI hls hst T.1 hd hnx h
  | lastore =>
    simp only [gok, decide_eq_true_eq] at hk
    subst hk
    exact gx_last C hI hls hst T.1 hd hnx h
  | bastore =>
    simp only [gok, decide_eq_true_eq] at hk
    subst hk
    exact gx_bast C hI hls hst T.1 hd hnx h
  | arraylength =>
    simp only [gok, decide_eq_true_eq] at hk
    subst hk
    simp only [gex] at h
    split at h
    · cases h
    · rename_i u x rr
      split at h
      · rename_i hu
        have := Nat.eq_of_beq_eq_true hu
        subst this
        exact gx_slen C hI hls hst hd hnx h
      · obtain ⟨o, st2, e, h1⟩ := p1_spec h
        rw [e] at hst ⊢
        obtain ⟨hK, hlt, h2⟩ := gisa_spec h1
        exact gx_alen C hI hls hst T.1 hd hK hlt hnx h2
  | getstatic k =>
    simp only [gok, decide_eq_true_eq] at hk
    subst hk
    exact gx_sta C hI hls hst T.2.1 hd hnx h
  | i2c =>
    simp only [gok, decide_eq_true_eq] at hk
    subst hk
    obtain ⟨x, st2, rfl, h1⟩ := p1_spec h
    rw [gcans_cons] at hst
    exact gx_1 (v := (0, x)) (w := (0, x % 65536)) hI hls hst.2 (gcan0.mpr (by unfold i32; omega)) (fun H locs la rest hw => lv_i2c hx hb hd (n_i2c (gcan0.mp hst.1)) hw) hnx h1
  | invokevirtual k =>
    simp only [gok, decide_eq_true_eq] at hk
    subst hk
    exact gx_call (vi := true) C T F hI hls hst hd hnx hjp h
  | invokestatic k =>
    simp only [gok, decide_eq_true_eq] at hk
    subst hk
    exact gx_call (vi := false) C T F hI hls hst hd hnx hjp h
  | ireturn =>
    simp only [gok, decide_eq_true_eq] at hk
    subst hk
    obtain ⟨x, st2, rfl, h1⟩ := p1_spec h
    obtain ⟨rfl, h2⟩ := g0_spec h1
    have hc := (gcans_cons.mp hst).1
    unfold grz at h2
    split at h2
    · rename_i h7
      have hF := F.1 σ x pc ls hI (fun _ => by rw [h7]; exact hc) (by rw [h7]; exact gnar_no (by decide)) h2 (by rw [h7]; exact hd)
      rw [h7] at hF
      exact hF
    · rename_i h7
      obtain ⟨h3, h4⟩ := g01_spec h2
      have hF := F.1 σ x pc ls hI (fun _ => by rw [h7]; exact hc) (by rw [h7]; exact ⟨fun _ => h3, fun q => by omega, fun q => by omega⟩) h4 (by rw [h7]; exact hd)
      rw [h7] at hF
      exact hF
    · rename_i h7
      split at h2
      · rename_i h3
        have hF := F.1 σ x pc ls hI (fun _ => by rw [h7]; exact hc) (by rw [h7]; exact ⟨fun q => by omega, fun _ => h3, fun q => by omega⟩) h2 (by rw [h7]; exact hd)
        rw [h7] at hF
        exact hF
      · cases h2
    · rename_i h7
      split at h2
      · rename_i h3
        have hF := F.1 σ x pc ls hI (fun _ => by rw [h7]; exact hc) (by rw [h7]; exact ⟨fun q => by omega, fun q => by omega, fun _ => h3⟩) h2 (by rw [h7]; exact hd)
        rw [h7] at hF
        exact hF
      · cases h2
    · cases h2
  | lreturn =>
    simp only [gok, decide_eq_true_eq] at hk
    subst hk
    obtain ⟨h7, h0⟩ := grk_spec h
    obtain ⟨x, st2, rfl, h1⟩ := p1_spec h0
    obtain ⟨rfl, h2⟩ := g0_spec h1
    have hF := F.1 σ x pc ls hI (fun _ => by rw [h7]; exact (gcans_cons.mp hst).1) (by rw [h7]; exact gnar_no (by decide)) h2 (by rw [h7]; exact hd)
    rw [h7] at hF
    exact hF
  | areturn =>
    simp only [gok, decide_eq_true_eq] at hk
    subst hk
    obtain ⟨h7, h0⟩ := grk_spec h
    obtain ⟨x, st2, rfl, h1⟩ := p1_spec h0
    obtain ⟨rfl, h2⟩ := g0_spec h1
    have hF := F.1 σ x pc ls hI (fun _ => by rw [h7]; exact (gcans_cons.mp hst).1) (by rw [h7]; exact gnar_no (by decide)) h2 (by rw [h7]; exact hd)
    rw [h7] at hF
    exact hF
  | return_ =>
    simp only [gok, decide_eq_true_eq] at hk
    subst hk
    obtain ⟨h7, h0⟩ := grk_spec h
    obtain ⟨rfl, h2⟩ := g0_spec h0
    have hF := F.1 σ 0 pc ls hI (fun q => absurd h7 q) (by rw [h7]; exact gnar_no (by decide)) h2 (by rw [h7]; exact hd)
    rw [h7] at hF
    exact hF
  | athrow =>
    simp only [gok, decide_eq_true_eq] at hk
    subst hk
    obtain ⟨x, st2, rfl, h1⟩ := p1_spec h
    split at h1
    · rename_i hn
      exact F.2.1 σ x pc ls st2 hI h1 hn hd
    · cases h1
  | _ => cases h
end GEX2
