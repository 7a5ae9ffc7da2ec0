/-! fields and arrays -/
def gFld0 (own : String) (idx c : Nat) (k : Int) (t : Nat) : Prop := ∃ (C : String) (T : u_T) (nf kk : Nat), 10 ≤ c ∧ c ≠ 19 ∧ gcl[c - 10]? = some (C, T, nf) ∧ k = (kk : Int) ∧ kk < nf ∧ (gty c)[kk]? = some t ∧
  (Cond.fieldLink own idx (T kk).1 (T kk).2.1 (T kk).2.2.1 ∈ lw_all ∨ ∃ host, Cond.fieldLinkNest own idx (T kk).1 (T kk).2.1 (T kk).2.2.1 host ∈ lw_tbl)
/-- a field of ours, of a constant text, or a static one of a constant value -/
def gFld (own : String) (idx c : Nat) (k : Int) (t : Nat) : Prop := gFld0 own idx c k t ∨
  (c = 100 ∧ ((t = 0 ∧ Cond.fieldLink own idx "java/lang/String" "value" "[B" ∈ lw_all) ∨ (t = 1 ∧ Cond.fieldLink own idx "java/lang/String" "coder" "B" ∈ lw_all))) ∨
  (c = 101 ∧ ((t = 0 ∧ k = 1 ∧ Cond.fieldLink own idx "java/lang/String" "COMPACT_STRINGS" "Z" ∈ lw_all) ∨ (t = 4 ∧ k = (gStrN : Int) ∧ Cond.fieldLink own idx "jdk/internal/util/Preconditions" "SIOOBE_FORMATTER" "Ljava/util/function/BiFunction;" ∈ lw_all)))
theorem gFld0_lt {own : String} {idx c : Nat} {k : Int} {t : Nat} (h : gFld0 own idx c k t) : c < 21 := by
  obtain ⟨CN, T, nf, kk, c1, c2, hcl, -⟩ := h
  have := (List.getElem?_eq_some_iff.mp hcl).1
  simp [gcl] at this
  omega
theorem gcl_ok (ci : Nat) (C : String) (T : u_T) (nf : Nat) (h : gcl[ci]? = some (C, T, nf)) : (∀ w ∈ u_ws C T nf, w ∈ lw_all) ∧ ∃ ty0 : Nat → FieldType, (∀ k, k < nf → parseFieldDescriptor (T k).2.2.1 = some (ty0 k)) ∧ (∀ a, a < nf → ∀ b, b < nf → a ≠ b → (T a).2.1 ≠ (T b).2.1) := by
  unfold gcl at h
  match ci, h with
  | 0, h => cases h; exact ⟨in_X2, tyX2, tyX2_ok, nmX2⟩
  | 1, h => cases h; exact ⟨in_X3, tyX3, tyX3_ok, nmX3⟩
  | 2, h => cases h; exact ⟨in_X4, tyX4, tyX4_ok, nmX4⟩
  | 3, h => cases h; exact ⟨in_X5, tyX5, tyX5_ok, nmX5⟩
  | 4, h => cases h; exact ⟨in_X6, tyX6, tyX6_ok, nmX6⟩
  | 5, h => cases h; exact ⟨in_X7, tyX7, tyX7_ok, nmX7⟩
  | 6, h => cases h; exact ⟨in_X8, tyX8, tyX8_ok, nmX8⟩
  | 7, h => cases h; exact ⟨in_X9, tyX9, tyX9_ok, nmX9⟩
  | 8, h => cases h; exact ⟨in_X1, tyX1, tyX1_ok, nmX1⟩
  | 9, h => cases h; exact ⟨in_X11, tyX11, tyX11_ok, nmX11⟩
  | 10, h => cases h; exact ⟨in_X10, tyX10, tyX10_ok, nmX10⟩
  | n + 11, h => simp at h
def gtchk (t : Nat) (q : String × String × String × Bool) : Bool := (t != 0 || (q.2.2.1 == "I" && !q.2.2.2)) && (t != 1 || (q.2.2.1 == "J" && !q.2.2.2)) && (t != 7 || (q.2.2.1 == "Z" && !q.2.2.2)) && (t != 3 || (q.2.2.1 == "[B" && !q.2.2.2)) && (t != 4 || (q.2.2.1 == "LGraftTrees$Parser;" && !q.2.2.2))
set_option maxRecDepth 100000 in
theorem gtchk_ok : (List.range 11).all (fun ci => match gcl[ci]? with | some (_, T, _) => (gTys.getD ci []).zipIdx.all (fun q => gtchk q.1 (T q.2)) | none => false) = true := by decide +kernel
theorem gty_ok {c kk t : Nat} {C : String} {T : u_T} {nf : Nat} (hc : gcl[c - 10]? = some (C, T, nf)) (ht : (gty c)[kk]? = some t) : gtchk t (T kk) = true := by
  have h11 : c - 10 < 11 := by
    have := (List.getElem?_eq_some_iff.mp hc).1
    simpa [gcl] using this
  have h := List.all_eq_true.mp gtchk_ok (c - 10) (List.mem_range.mpr h11)
  rw [hc] at h
  exact List.all_eq_true.mp h (t, kk) (List.mem_zipIdx_iff_getElem?.mpr ht)
set_option maxRecDepth 100000 in
theorem gtall : (List.range 11).all (fun ci => ci == 9 || (gTys.getD ci []).all (fun t => t == 0 || t == 1 || t == 2 || t == 3 || t == 4 || t == 7 || t == 8)) = true := by decide +kernel
theorem gtys_in {co kk t : Nat} {C : String} {T : u_T} {nf : Nat} (c1 : 10 ≤ co) (c2 : co ≠ 19) (hc : gcl[co - 10]? = some (C, T, nf)) (ht : (gty co)[kk]? = some t) : t = 0 ∨ t = 1 ∨ t = 2 ∨ t = 3 ∨ t = 4 ∨ t = 7 ∨ t = 8 := by
  have h11 : co - 10 < 11 := by
    have := (List.getElem?_eq_some_iff.mp hc).1
    simpa [gcl] using this
  have h := List.all_eq_true.mp gtall (co - 10) (List.mem_range.mpr h11)
  have h9 : (co - 10 == 9) = false := by simp; omega
  rw [h9, Bool.false_or] at h
  have := List.all_eq_true.mp h t (List.mem_of_getElem? ht)
  simp at this
  omega
theorem gpic_obj {Z : gZ} {σ : gM} {a c : Nat} (h : gK a = c) (h1 : 10 ≤ c) (h2 : c ≠ 19) : gpic Z σ a = .inr (c - 10, gfs Z σ a c) := by
  subst h
  unfold gpic
  rw [if_neg (by omega), if_neg (by omega), if_neg (by omega), if_neg h2]
theorem gpic_int {Z : gZ} {σ : gM} {a : Nat} {c : Nat} (h : gK a = c) (h1 : c = 1 ∨ c = 2 ∨ c = 3) : gpic Z σ a = .inl (zC Z c, (gN a).toNat, .inl fun j => Int32.ofInt (σ a j)) := by
  subst h
  unfold gpic
  rw [if_pos h1]
theorem gpic_long {Z : gZ} {σ : gM} {a : Nat} (h : gK a = 4) : gpic Z σ a = .inl (zC Z 4, (gN a).toNat, .inr (.inl fun j => Int64.ofInt (σ a j))) := by
  unfold gpic
  rw [if_neg (by omega), if_pos h]
theorem gpic_str {Z : gZ} {σ : gM} {a : Nat} (h : gK a = 5) : gpic Z σ a = .inl (zC Z 5, (gN a).toNat, .inr (.inr (.inr (.inr fun j => some (zS Z (σ a j).toNat))))) := by
  unfold gpic
  rw [if_neg (by omega), if_neg (by omega), if_pos h]
theorem gR_pos (a k : Int) : ¬ gR a k < 0 := by unfold gR; exact Int.not_lt.mpr (Int.natCast_nonneg _)
section GM
variable {p : Program} {l : Launch} {e : Env} {R : Room} {s : State} {m : MethodId} {args : Array Value} {below : List Frame} {meth : Method} {c : Code} {Q : State → Prop} {cc : ByteArray} {nL : Nat} {Z : gZ} {own : String} {σ : gM} {pc len : Nat} {ls st : List gV} {ρ : Type} {r : ρ}
  {nx : List gV → List gV → gM → Option ρ} {E : gE}
theorem gx_get {idx : Nat} (C : gCx p s m args c cc nL own Z) (hI : gI (zN Z) σ) (hls : gcans ls) (hst : gcans st) (hF : ∀ idx c k t, gat E.2.1 idx = some (c, k, t) → gFld own idx c k t) (hm : E.2.2.2.2.2.1.1 ≤ zN Z) (hd : decode cc pc = .ok (.getfield idx, 3))
    (hnx : gNx p l e R s m args below meth c Q nL Z r nx (pc + 3)) (h : gget E nx ls st σ idx = some r) : gAt p l e R s m args below meth c Q nL Z σ pc ls st := by
  unfold gget at h
  split at h
  · cases h
  · rename_i co k t hg
    have hFF := hF idx co k t hg
    split at h
    · rename_i hc100
      rw [Nat.ble_eq] at hc100
      split at h
      · rename_i hc
        have hc := Nat.eq_of_beq_eq_true hc
        obtain ⟨x, st2, rfl, h1⟩ := p1_spec h
        obtain ⟨kx, rfl, hkx, h2⟩ := gtx_spec h1
        obtain ⟨hx, hb, hml, hown, hts, hKK, hinj, hnest, hstr⟩ := C
        rw [gcans_cons] at hst
        have hT := (hstr.2.1).1 kx hkx
        have e1 : cv Z (3, (kx : Int)) = .ref (zS Z kx) := by simp [cv]
        rcases hFF with h0 | ⟨-, h0⟩ | ⟨h0, -⟩
        · have := gFld0_lt h0
          omega
        · rcases h0 with ⟨rfl, hw⟩ | ⟨rfl, hw⟩
          · intro H locs la hP hS hL
            have go := hnx ls ((4, (kx : Int)) :: st2) σ hI hls (gcans_cons.mpr ⟨gcan4, hst.2⟩) h2 H locs la hP hS hL
            have e2 : cv Z (4, (kx : Int)) = .ref (zV Z kx) := gnv_lt hkx
            rw [List.map_cons, e2] at go
            rw [List.map_cons, e1]
            exact vk_getf hx hb hT.2.2.1 hS hown (hts _ hw) (fun _ h => h) hd go
          · intro H locs la hP hS hL
            have go := hnx ls ((0, 0) :: st2) σ hI hls (gcans_cons.mpr ⟨gcan0.mpr (by unfold i32; omega), hst.2⟩) h2 H locs la hP hS hL
            have e2 : cv Z (0, 0) = .int 0 := rfl
            rw [List.map_cons, e2] at go
            rw [List.map_cons, e1]
            exact vk_getf hx hb hT.2.1 hS hown (hts _ hw) (fun _ h => h) hd go
        · omega
      · cases h
    rename_i hc100
    have hF0 : gFld0 own idx co k t := by
      rcases hFF with h0 | ⟨h0, -⟩ | ⟨h0, -⟩
      · exact h0
      · subst h0; cases hc100
      · subst h0; cases hc100
    clear hFF
    obtain ⟨CN, T, nf, kk, c1, c2, hcl, rfl, hk, ht, hw⟩ := hF0
    obtain ⟨o, st2, rfl, h1⟩ := p1_spec h
    obtain ⟨hK, hlt, h2⟩ := gis_spec h1
    obtain ⟨ho, hoe⟩ := gK_nat (by omega) hK
    rw [gcans_cons] at hst
    generalize hae : o.toNat = a at hlt hoe
    subst hoe
    have haN : a < zN Z := by omega
    obtain ⟨hx, hb, hml, hown, hts, hKK, hinj, hnest, -⟩ := C
    obtain ⟨hin, ty0, hty, hnm⟩ := gcl_ok _ _ _ _ hcl
    have hfit := (hI a haN).2.2.2.2 (by omega) kk t (by rw [hK]; exact ht)
    have key : ∀ (v : gV), gcan v → cv Z v = gfv Z t (σ a kk) → nx ls (v :: st2) σ = some r → gAt p l e R s m args below meth c Q nL Z σ pc ls ((2, (a : Int)) :: st2) := by
      intro v hv hcv hn H locs la hP hS hL
      have hwk := hnx ls (v :: st2) σ hI hls (gcans_cons.mpr ⟨hv, hst.2⟩) hn H locs la hP hS hL
      have e0 : (gws Z σ)[a]? = some (zA Z a, .inr (co - 10, gfs Z σ a co)) := by rw [gws_at haN, gpic_obj hK c1 c2]
      have e1 : cv Z (2, (a : Int)) = .ref (zA Z a) := by simp [cv]
      rcases hw with hw | ⟨host, hw⟩
      · refine va_get (ref := (T kk).1) hx hb hts hin hown hKK hP a e0 hcl kk hk (hts _ hw) (fun _ h => h) (gfs_at ht) hd ?_
        rw [← hcv]
        exact hwk
      · refine va_getN (ref := (T kk).1) (host := host) hx hb hts hin hown hKK hP a e0 hcl kk hk (va_Nw.use rfl (hnest _ hw rfl)) (fun _ h => h) (gfs_at ht) hd ?_
        rw [← hcv]
        exact hwk
    split at h2
    · exact key (0, σ a kk) (gcan0.mpr (hfit.1 (Or.inl rfl))) (by simp [cv, gfv]) h2
    · exact key (1, σ a kk) (gcan1.mpr (hfit.2.1 rfl)) (by simp [cv, gfv]) h2
    · refine key (2, gR a kk) gcan2 ?_ h2
      rw [hfit.2.2.1 rfl]
      simp [cv, gfv, gref, gR_pos]
    · split at h2
      · rename_i hp
        exact key (2, σ a kk) gcan2 (by simp [cv, gfv, gref, Int.not_lt.mpr hp]) h2
      · cases h2
    · split at h2
      · rename_i hp
        refine key (2, gR a kk) gcan2 ?_ h2
        have h9 : σ a kk = gR a kk := by
          rcases hfit.2.2.2.2 rfl with q | q
          · omega
          · exact q
        rw [h9]
        simp [cv, gfv, gref, gR_pos]
      · cases h2
    · rename_i n0 n1 n2 n3 n4
      have ht0 := hfit
      refine key (0, σ a kk) (gcan0.mpr ?_) ?_ h2
      · have h7 : t = 7 ∨ t = 8 := by
          have := gtys_in c1 c2 hcl ht
          have a0 : t ≠ 0 := n0
          have a1 : t ≠ 1 := n1
          have a2 : t ≠ 2 := n2
          have a3 : t ≠ 3 := n3
          have a4 : t ≠ 4 := n4
          omega
        rcases h7 with h7 | h7
        · have := hfit.2.2.2.1 h7
          unfold i1 at this; unfold i32; omega
        · exact hfit.1 (Or.inr h7)
      · have : t ≠ 1 ∧ t ≠ 2 ∧ t ≠ 3 ∧ t ≠ 4 := ⟨n1, n2, n3, n4⟩
        simp [cv, gfv, this]
theorem gx_put {idx : Nat} (C : gCx p s m args c cc nL own Z) (hI : gI (zN Z) σ) (hls : gcans ls) (hst : gcans st) (hF : ∀ idx c k t, gat E.2.1 idx = some (c, k, t) → gFld own idx c k t) (hm : E.2.2.2.2.2.1.1 ≤ zN Z) (hd : decode cc pc = .ok (.putfield idx, 3))
    (hnx : gNx p l e R s m args below meth c Q nL Z r nx (pc + 3)) (h : gput E nx ls st σ idx = some r) : gAt p l e R s m args below meth c Q nL Z σ pc ls st := by
  unfold gput at h
  split at h
  · cases h
  · rename_i co k t hg
    have hFF := hF idx co k t hg
    split at h
    · cases h
    rename_i hc100
    have hF0 : gFld0 own idx co k t := by
      rcases hFF with h0 | ⟨h0, -⟩ | ⟨h0, -⟩
      · exact h0
      · subst h0; cases hc100
      · subst h0; cases hc100
    clear hFF
    obtain ⟨CN, T, nf, kk, c1, c2, hcl, rfl, hk, ht, hw⟩ := hF0
    obtain ⟨hx, hb, hml, hown, hts, hKK, hinj, hnest, -⟩ := C
    obtain ⟨hin, ty0, hty, hnm⟩ := gcl_ok _ _ _ _ hcl
    have hchk := gty_ok hcl ht
    have key : ∀ (w : gV) (a : Nat) (st2 : List gV) (ty : FieldType), gcans (w :: (2, (a : Int)) :: st2) → gK (a : Int) = co → a < zN Z → (T kk).2.2.2 = false → parseFieldDescriptor (T kk).2.2.1 = some ty → narrow ty (cv Z w) = cv Z w → fits ty (cv Z w) = true → cv Z w = gfv Z t w.2 →
        gfit t w.2 (gR a kk) → nx ls st2 (gW σ a kk w.2) = some r → gAt p l e R s m args below meth c Q nL Z σ pc ls (w :: (2, (a : Int)) :: st2) := by
      intro w a st2 ty hst hK haN hfin hdd hnr hft hcv hg hn H locs la hP hS hL
      rw [gcans_cons, gcans_cons] at hst
      have e0 : (gws Z σ)[a]? = some (zA Z a, .inr (co - 10, gfs Z σ a co)) := by rw [gws_at haN, gpic_obj hK c1 c2]
      have e1 : cv Z (2, (a : Int)) = .ref (zA Z a) := by simp [cv]
      have hI' : gI (zN Z) (gW σ a kk w.2) := by
        refine gI_W hI (fun z => by omega) (fun z => by omega) (fun z => by omega) (fun z => by omega) (fun _ k2 t2 e2 e3 => ?_)
        have : k2 = kk := by omega
        subst this
        rw [hK, ht] at e3
        cases e3
        exact hg
      have ew : (gws Z σ).set a (zA Z a, .inr (co - 10, (gfs Z σ a co).set kk (cv Z w))) = gws Z (gW σ a kk w.2) := gws_set haN (by rw [gpic_obj hK c1 c2, hcv, gfs_set ht])
      have go : ∀ (H1 : Heap) (locs1 : List Loc), va_P (zD Z) gcl ((gws Z σ).set a (zA Z a, .inr (co - 10, (gfs Z σ a co).set kk (cv Z w)))) H1 → va_D (gA Z) ((gws Z σ).set a (zA Z a, .inr (co - 10, (gfs Z σ a co).set kk (cv Z w)))) → va_S (gA Z) s.heap H1 locs1 → W p l e R s m args below meth c H1 locs1 0 0 Q (F0 m (pc + 3) la (st2.map (cv Z))) := by
        intro H1 locs1 hP1 _ hS1
        rw [ew] at hP1
        exact hnx ls st2 _ hI' hls hst.2.2 hn H1 locs1 la hP1 hS1 hL
      have hlen : kk < (gfs Z σ a co).length := by rw [gfs_len]; exact gty_lt ht
      show W p l e R s m args below meth c H locs 0 0 Q (F0 m pc la (cv Z w :: cv Z (2, (a : Int)) :: st2.map (cv Z)))
      rw [e1]
      rcases hw with hw | ⟨host, hw⟩
      · exact va_put (ref := (T kk).1) hx hb hts hin ty0 hty hnm hown hKK hP (gD hinj) hS a e0 hcl kk hk (hts _ hw) (fun _ h => h) hfin hdd hnr hft hlen hd go
      · exact va_putN (ref := (T kk).1) (host := host) hx hb hts hin ty0 hty hnm hown hKK hP (gD hinj) hS a e0 hcl kk hk (va_Nw.use rfl (hnest _ hw rfl)) (fun _ h => h) hfin hdd hnr hft hlen hd go
    have fin : ∀ (v o : Int) (st2 : List gV) (x : Option ρ), gis E.2.2.2.2.2.1.1 o co (gwe E o (kk : Int) x) = some r → ∃ a : Nat, o = (a : Int) ∧ gK (a : Int) = co ∧ a < zN Z ∧ x = some r := by
      intro v o st2 x hx
      obtain ⟨hK, hlt, h2⟩ := gis_spec hx
      obtain ⟨-, h2⟩ := gwe_spec h2
      obtain ⟨ho, hoe⟩ := gK_nat (by omega) hK
      exact ⟨o.toNat, hoe.symm, by rw [hoe]; exact hK, by omega, h2⟩
    split at h
    · obtain ⟨v, st1, rfl, h1⟩ := p1_spec h
      obtain ⟨o, st2, rfl, h2⟩ := p1_spec h1
      obtain ⟨a, rfl, hK, haN, h3⟩ := fin v o st2 _ h2
      have hq : (T kk).2.2.1 = "I" ∧ (T kk).2.2.2 = false := by simpa [gtchk] using hchk
      have hv : i32 v := gcan0.mp (gcans_cons.mp hst).1
      exact key (0, v) a st2 .int hst hK haN hq.2 (by rw [hq.1]; rfl) rfl rfl (by simp [cv, gfv]) ⟨fun _ => hv, fun q => by omega, fun q => by omega, fun q => by omega, fun q => by omega⟩ h3
    · obtain ⟨v, st1, rfl, h1⟩ := p1_spec h
      obtain ⟨o, st2, rfl, h2⟩ := p1_spec h1
      obtain ⟨a, rfl, hK, haN, h3⟩ := fin v o st2 _ h2
      have hq : (T kk).2.2.1 = "J" ∧ (T kk).2.2.2 = false := by simpa [gtchk] using hchk
      have hv : i64 v := gcan1.mp (gcans_cons.mp hst).1
      exact key (1, v) a st2 .long hst hK haN hq.2 (by rw [hq.1]; rfl) rfl rfl (by simp [cv, gfv]) ⟨fun q => by omega, fun _ => hv, fun q => by omega, fun q => by omega, fun q => by omega⟩ h3
    · obtain ⟨v, st1, rfl, h1⟩ := p1_spec h
      obtain ⟨o, st2, rfl, h2⟩ := p1_spec h1
      obtain ⟨a, rfl, hK, haN, h3⟩ := fin v o st2 _ h2
      split at h3
      · rename_i hv0
        have hq : (T kk).2.2.1 = "[B" ∧ (T kk).2.2.2 = false := by simpa [gtchk] using hchk
        have e2 : cv Z (2, v) = gfv Z 3 v := by simp [cv, gfv, gref, Int.not_lt.mpr hv0]
        have e3 : cv Z (2, v) = .ref (zA Z v.toNat) := by simp [cv]
        exact key (2, v) a st2 (.array .byte) hst hK haN hq.2 (by rw [hq.1]; decide +kernel) (by rw [e3]; rfl) (by rw [e3]; rfl) e2 ⟨fun q => by omega, fun q => by omega, fun q => by omega, fun q => by omega, fun q => by omega⟩ h3
      · cases h3
    · obtain ⟨v, st1, rfl, h1⟩ := p1_spec h
      obtain ⟨o, st2, rfl, h2⟩ := p1_spec h1
      obtain ⟨a, rfl, hK, haN, h3⟩ := fin v o st2 _ h2
      obtain ⟨hv0, h4⟩ := geq_spec h3
      subst hv0
      have hq : (T kk).2.2.1 = "LGraftTrees$Parser;" ∧ (T kk).2.2.2 = false := by simpa [gtchk] using hchk
      have e2 : cv Z (2, gR a kk) = gfv Z 4 (gR a kk) := by simp [cv, gfv, gref, gR_pos]
      have e3 : cv Z (2, gR a kk) = .ref (zA Z (gR a kk).toNat) := by simp [cv]
      exact key (2, gR a kk) a st2 (.object "GraftTrees$Parser") hst hK haN hq.2 (by rw [hq.1]; decide +kernel) (by rw [e3]; rfl) (by rw [e3]; rfl) e2 ⟨fun q => by omega, fun q => by omega, fun q => by omega, fun q => by omega, fun _ => Or.inr rfl⟩ h4
    · obtain ⟨v, st1, rfl, h1⟩ := p1_spec h
      obtain ⟨o, st2, rfl, h2⟩ := p1_spec h1
      obtain ⟨a, rfl, hK, haN, h3⟩ := fin v o st2 _ h2
      obtain ⟨hv, h4⟩ := g01_spec h3
      have hq : (T kk).2.2.1 = "Z" ∧ (T kk).2.2.2 = false := by simpa [gtchk] using hchk
      have hv' : v = 0 ∨ v = 1 := by unfold i1 at hv; omega
      have e3 : cv Z (0, v) = .int (Int32.ofInt v) := by simp [cv]
      refine key (0, v) a st2 .boolean hst hK haN hq.2 (by rw [hq.1]; rfl) ?_ ?_ (by simp [cv, gfv]) ⟨fun q => by omega, fun q => by omega, fun q => by omega, fun _ => hv, fun q => by omega⟩ h4
      · rw [e3]; rcases hv' with rfl | rfl <;> decide +kernel
      · rw [e3]; rcases hv' with rfl | rfl <;> decide +kernel
    · cases h
theorem gty1 {Z : gZ} {k : Nat} {ty : FieldType} (h : (k = 1 ∧ ty = .int) ∨ (k = 2 ∧ ty = .byte) ∨ (k = 3 ∧ ty = .boolean) ∨ (k = 4 ∧ ty = .long) ∨ (k = 5 ∧ ty = .object "java/lang/String")) : (gtys Z)[k - 1]? = some (zC Z k, ty) := by
  rcases h with ⟨rfl, rfl⟩ | ⟨rfl, rfl⟩ | ⟨rfl, rfl⟩ | ⟨rfl, rfl⟩ | ⟨rfl, rfl⟩ <;> rfl
/-- an element is read -/
theorem gx_ald {k t : Nat} (hI : gI (zN Z) σ) (hls : gcans ls) (hst : gcans st) (hm : E.2.2.2.2.2.1.1 ≤ zN Z) (hk0 : k ≠ 0)
    (row : ∀ (H : Heap) (locs : List Loc) (la : Array Slot) (a : Nat) (i : Int) (rest : List Value), va_P (zD Z) gcl (gws Z σ) H → a < zN Z → gK a = k → i32 i → 0 ≤ i ∧ i < gN a → gcan (t, σ a i) ∧ (W p l e R s m args below meth c H locs 0 0 Q (F0 m (pc + 1) la (cv Z (t, σ a i) :: rest)) → W p l e R s m args below meth c H locs 0 0 Q (F0 m pc la (.int (Int32.ofInt i) :: .ref (zA Z a) :: rest))))
    (hnx : gNx p l e R s m args below meth c Q nL Z r nx (pc + 1)) (h : gald E nx ls st σ k t = some r) : gAt p l e R s m args below meth c Q nL Z σ pc ls st := by
  unfold gald at h
  obtain ⟨i, st1, rfl, h1⟩ := p1_spec h
  obtain ⟨o, st2, rfl, h2⟩ := p1_spec h1
  obtain ⟨hK, hlt, h3⟩ := gis_spec h2
  obtain ⟨ho, hoe⟩ := gK_nat hk0 hK
  generalize hae : o.toNat = a at hlt hoe
  subst hoe
  rw [gcans_cons, gcans_cons, gcan0] at hst
  split at h3
  · rename_i hin
    intro H locs la hP hS hL
    obtain ⟨q1, q2⟩ := row H locs la a i (st2.map (cv Z)) hP (by omega) hK hst.1 hin
    have e1 : cv Z (2, (a : Int)) = .ref (zA Z a) := by simp [cv]
    have e2 : cv Z (0, i) = .int (Int32.ofInt i) := by simp [cv]
    show W p l e R s m args below meth c H locs 0 0 Q (F0 m pc la (cv Z (0, i) :: cv Z (2, (a : Int)) :: st2.map (cv Z)))
    rw [e1, e2]
    exact q2 (hnx ls ((t, σ a i) :: st2) σ hI hls (gcans_cons.mpr ⟨q1, hst.2.2⟩) h3 H locs la hP hS hL)
  · cases h3
theorem gel {i : Int} (h : i32 i) (h0 : 0 ≤ i) : (((Int32.ofInt i).toNatClampNeg : Nat) : Int) = i := by rw [n_cl h]; omega
theorem gx_iald (C : gCx p s m args c cc nL own Z) (hI : gI (zN Z) σ) (hls : gcans ls) (hst : gcans st) (hm : E.2.2.2.2.2.1.1 ≤ zN Z) (hd : decode cc pc = .ok (.iaload, 1))
    (hnx : gNx p l e R s m args below meth c Q nL Z r nx (pc + 1)) (h : gald E nx ls st σ 1 0 = some r) : gAt p l e R s m args below meth c Q nL Z σ pc ls st := by
  obtain ⟨hx, hb, hml, hown, hts, hKK, hinj, hnest, -⟩ := C
  refine gx_ald hI hls hst hm (by decide) (fun H locs la a i rest hP haN hK hi hin => ⟨gcan0.mpr ((hI a haN).1 hK i), fun hw => ?_⟩) hnx h
  refine va_iald hx hb hKK hP a 0 (by rw [gws_at haN, gpic_int hK (Or.inl rfl)]) (gty1 (Or.inl ⟨rfl, rfl⟩)) (n_in hi hin) hd ?_
  rw [gel hi hin.1]
  exact hw
theorem gx_lald (C : gCx p s m args c cc nL own Z) (hI : gI (zN Z) σ) (hls : gcans ls) (hst : gcans st) (hm : E.2.2.2.2.2.1.1 ≤ zN Z) (hd : decode cc pc = .ok (.laload, 1))
    (hnx : gNx p l e R s m args below meth c Q nL Z r nx (pc + 1)) (h : gald E nx ls st σ 4 1 = some r) : gAt p l e R s m args below meth c Q nL Z σ pc ls st := by
  obtain ⟨hx, hb, hml, hown, hts, hKK, hinj, hnest, -⟩ := C
  refine gx_ald hI hls hst hm (by decide) (fun H locs la a i rest hP haN hK hi hin => ⟨gcan1.mpr ((hI a haN).2.2.2.1 hK i), fun hw => ?_⟩) hnx h
  refine va_lald hx hb hKK hP a 3 (by rw [gws_at haN, gpic_long hK]) (gty1 (Or.inr (Or.inr (Or.inr (Or.inl ⟨rfl, rfl⟩))))) (n_in hi hin) hd ?_
  rw [gel hi hin.1]
  exact hw
theorem gx_aald (C : gCx p s m args c cc nL own Z) (hI : gI (zN Z) σ) (hls : gcans ls) (hst : gcans st) (hm : E.2.2.2.2.2.1.1 ≤ zN Z) (hd : decode cc pc = .ok (.aaload, 1))
    (hnx : gNx p l e R s m args below meth c Q nL Z r nx (pc + 1)) (h : gald E nx ls st σ 5 3 = some r) : gAt p l e R s m args below meth c Q nL Z σ pc ls st := by
  obtain ⟨hx, hb, hml, hown, hts, hKK, hinj, hnest, -⟩ := C
  refine gx_ald hI hls hst hm (by decide) (fun H locs la a i rest hP haN hK hi hin => ⟨gcan3, fun hw => ?_⟩) hnx h
  refine va_aldq hx hb hKK hP a 4 (by rw [gws_at haN, gpic_str hK]) (gty1 (Or.inr (Or.inr (Or.inr (Or.inr ⟨rfl, rfl⟩))))) (n_in hi hin) hd ?_
  rw [gel hi hin.1]
  exact hw
theorem gx_balb (C : gCx p s m args c cc nL own Z) (hI : gI (zN Z) σ) (hls : gcans ls) (hst : gcans st) (hm : E.2.2.2.2.2.1.1 ≤ zN Z) (hd : decode cc pc = .ok (.baload, 1))
    (hnx : gNx p l e R s m args below meth c Q nL Z r nx (pc + 1)) (h : galb E nx ls st σ = some r) : gAt p l e R s m args below meth c Q nL Z σ pc ls st := by
  obtain ⟨hx, hb, hml, hown, hts, hKK, hinj, hnest, hstr⟩ := C
  unfold galb at h
  obtain ⟨i, st1, rfl, h1⟩ := p1_spec h
  split at h1
  · cases h1
  rename_i u0 x0 r0
  split at h1
  · rename_i hu
    have hu := Nat.eq_of_beq_eq_true hu
    subst hu
    obtain ⟨kx, rfl, hkx, h2⟩ := gtx_spec h1
    rw [gcans_cons, gcans_cons, gcan0] at hst
    split at h2
    · rename_i hin
      intro H locs la hP hS hL
      have go := hnx ls ((0, gsc kx i) :: r0) σ hI hls (gcans_cons.mpr ⟨gcan0.mpr (i32_toInt _), hst.2.2⟩) h2 H locs la hP hS hL
      have e1 : cv Z (4, (kx : Int)) = .ref (zV Z kx) := gnv_lt hkx
      have e2 : cv Z (0, i) = .int (Int32.ofInt i) := by simp [cv]
      have e3 : cv Z (0, gsc kx i) = .int (Int32.ofInt (gsc kx i)) := by simp [cv]
      rw [List.map_cons, e3] at go
      rw [List.map_cons, List.map_cons, e1, e2]
      have hT := ((hstr.2.1).1 kx hkx).2.2.2
      have hin2 : vp_in (Int32.ofInt i) (gStrLen.getD kx 0) := n_in (n := gsl kx) hst.1 hin
      refine va_tb hx hb hT hS hin2 ?_ hd go
      rw [n_cl hst.1]
      unfold gsc
      rw [Int32.ofInt_toInt]
      rfl
    · cases h2
  obtain ⟨o, st2, e0, h2⟩ := p1_spec h1
  rw [e0] at hst ⊢
  obtain ⟨hK, hlt, h3⟩ := gisb_spec h2
  obtain ⟨ho, hoe⟩ : 0 ≤ o ∧ ((o.toNat : Nat) : Int) = o := by rcases hK with hK | hK <;> exact gK_nat (by decide) hK
  generalize hae : o.toNat = a at hlt hoe
  subst hoe
  rw [gcans_cons, gcans_cons, gcan0] at hst
  split at h3
  · rename_i hin
    have haN : a < zN Z := by omega
    intro H locs la hP hS hL
    have e1 : cv Z (2, (a : Int)) = .ref (zA Z a) := by simp [cv]
    have e2 : cv Z (0, i) = .int (Int32.ofInt i) := by simp [cv]
    have e3 : cv Z (0, σ a i) = .int (Int32.ofInt (σ a i)) := by simp [cv]
    show W p l e R s m args below meth c H locs 0 0 Q (F0 m pc la (cv Z (0, i) :: cv Z (2, (a : Int)) :: st2.map (cv Z)))
    rw [e1, e2]
    rcases hK with hK | hK
    · have hv : i32 (σ a i) := by have := (hI a haN).2.1 hK i; unfold i8 at this; unfold i32; omega
      refine va_bald hx hb hKK hP a 1 (by rw [gws_at haN, gpic_int hK (Or.inr (Or.inl rfl))]) (gty1 (Or.inr (Or.inl ⟨rfl, rfl⟩))) (n_in hst.1 hin) hd ?_
      rw [gel hst.1 hin.1]
      exact hnx ls ((0, σ a i) :: st2) σ hI hls (gcans_cons.mpr ⟨gcan0.mpr hv, hst.2.2⟩) h3 H locs la hP hS hL
    · have hv : i32 (σ a i) := by have := (hI a haN).2.2.1 hK i; unfold i1 at this; unfold i32; omega
      refine va_zald hx hb hKK hP a 2 (by rw [gws_at haN, gpic_int hK (Or.inr (Or.inr rfl))]) (gty1 (Or.inr (Or.inr (Or.inl ⟨rfl, rfl⟩)))) (n_in hst.1 hin) hd ?_
      rw [gel hst.1 hin.1]
      exact hnx ls ((0, σ a i) :: st2) σ hI hls (gcans_cons.mpr ⟨gcan0.mpr hv, hst.2.2⟩) h3 H locs la hP hS hL
  · cases h3
theorem gupd {σ : gM} {a : Nat} {i v : Int} (h : i32 i) (h0 : 0 ≤ i) : (upd (fun j : Nat => Int32.ofInt (σ a j)) (Int32.ofInt i).toNatClampNeg (Int32.ofInt v)) = fun j : Nat => Int32.ofInt (gW σ a i v a j) := by
  funext j
  rw [n_cl h]
  unfold upd gW
  by_cases hj : j = i.toNat
  · rw [if_pos hj, if_pos ⟨rfl, by omega⟩]
  · rw [if_neg hj, if_neg (fun q => hj (by omega))]
theorem gupdL {σ : gM} {a : Nat} {i v : Int} (h : i32 i) (h0 : 0 ≤ i) : (vp_updL (fun j : Nat => Int64.ofInt (σ a j)) (Int32.ofInt i).toNatClampNeg (Int64.ofInt v)) = fun j : Nat => Int64.ofInt (gW σ a i v a j) := by
  funext j
  rw [n_cl h]
  unfold vp_updL gW
  by_cases hj : j = i.toNat
  · rw [if_pos hj, if_pos ⟨rfl, by omega⟩]
  · rw [if_neg hj, if_neg (fun q => hj (by omega))]
theorem gx_iast (C : gCx p s m args c cc nL own Z) (hI : gI (zN Z) σ) (hls : gcans ls) (hst : gcans st) (hm : E.2.2.2.2.2.1.1 ≤ zN Z) (hd : decode cc pc = .ok (.iastore, 1))
    (hnx : gNx p l e R s m args below meth c Q nL Z r nx (pc + 1)) (h : gast E nx ls st σ 1 0 = some r) : gAt p l e R s m args below meth c Q nL Z σ pc ls st := by
  obtain ⟨hx, hb, hml, hown, hts, hKK, hinj, hnest, -⟩ := C
  unfold gast at h
  obtain ⟨v, st0, rfl, h0⟩ := p1_spec h
  obtain ⟨i, st1, rfl, h1⟩ := p1_spec h0
  obtain ⟨o, st2, rfl, h2⟩ := p1_spec h1
  obtain ⟨hK, hlt, h3⟩ := gis_spec h2
  obtain ⟨-, h3⟩ := gwe_spec h3
  obtain ⟨ho, hoe⟩ := gK_nat (by decide) hK
  generalize hae : o.toNat = a at hlt hoe
  subst hoe
  rw [gcans_cons, gcans_cons, gcans_cons, gcan0, gcan0] at hst
  split at h3
  · rename_i hin
    have haN : a < zN Z := by omega
    intro H locs la hP hS hL
    have e1 : cv Z (2, (a : Int)) = .ref (zA Z a) := by simp [cv]
    have e2 : cv Z (0, i) = .int (Int32.ofInt i) := by simp [cv]
    have e3 : cv Z (0, v) = .int (Int32.ofInt v) := by simp [cv]
    show W p l e R s m args below meth c H locs 0 0 Q (F0 m pc la (cv Z (0, v) :: cv Z (0, i) :: cv Z (2, (a : Int)) :: st2.map (cv Z)))
    rw [e1, e2, e3]
    refine va_iast hx hb hKK hP (gD hinj) hS a 0 (by rw [gws_at haN, gpic_int hK (Or.inl rfl)]) (gty1 (Or.inl ⟨rfl, rfl⟩)) (n_in hst.2.1 hin) hd (fun H1 locs1 hP1 _ hS1 => ?_)
    rw [gupd hst.2.1 hin.1, gws_set (i := i) (v := v) haN (by rw [gpic_int hK (Or.inl rfl)])] at hP1
    exact hnx ls st2 _ (gI_W hI (fun _ => hst.1) (fun q => by omega) (fun q => by omega) (fun q => by omega) (fun q => by omega)) hls hst.2.2.2 h3 H1 locs1 la hP1 hS1 hL
  · cases h3
theorem gx_last (C : gCx p s m args c cc nL own Z) (hI : gI (zN Z) σ) (hls : gcans ls) (hst : gcans st) (hm : E.2.2.2.2.2.1.1 ≤ zN Z) (hd : decode cc pc = .ok (.lastore, 1))
    (hnx : gNx p l e R s m args below meth c Q nL Z r nx (pc + 1)) (h : gast E nx ls st σ 4 1 = some r) : gAt p l e R s m args below meth c Q nL Z σ pc ls st := by
  obtain ⟨hx, hb, hml, hown, hts, hKK, hinj, hnest, -⟩ := C
  unfold gast at h
  obtain ⟨v, st0, rfl, h0⟩ := p1_spec h
  obtain ⟨i, st1, rfl, h1⟩ := p1_spec h0
  obtain ⟨o, st2, rfl, h2⟩ := p1_spec h1
  obtain ⟨hK, hlt, h3⟩ := gis_spec h2
  obtain ⟨-, h3⟩ := gwe_spec h3
  obtain ⟨ho, hoe⟩ := gK_nat (by decide) hK
  generalize hae : o.toNat = a at hlt hoe
  subst hoe
  rw [gcans_cons, gcans_cons, gcans_cons, gcan0, gcan1] at hst
  split at h3
  · rename_i hin
    have haN : a < zN Z := by omega
    intro H locs la hP hS hL
    have e1 : cv Z (2, (a : Int)) = .ref (zA Z a) := by simp [cv]
    have e2 : cv Z (0, i) = .int (Int32.ofInt i) := by simp [cv]
    have e3 : cv Z (1, v) = .long (Int64.ofInt v) := by simp [cv]
    show W p l e R s m args below meth c H locs 0 0 Q (F0 m pc la (cv Z (1, v) :: cv Z (0, i) :: cv Z (2, (a : Int)) :: st2.map (cv Z)))
    rw [e1, e2, e3]
    refine va_last hx hb hKK hP (gD hinj) hS a 3 (by rw [gws_at haN, gpic_long hK]) (gty1 (Or.inr (Or.inr (Or.inr (Or.inl ⟨rfl, rfl⟩))))) (n_in hst.2.1 hin) hd (fun H1 locs1 hP1 _ hS1 => ?_)
    rw [gupdL hst.2.1 hin.1, gws_set (i := i) (v := v) haN (by rw [gpic_long hK])] at hP1
    exact hnx ls st2 _ (gI_W hI (fun q => by omega) (fun q => by omega) (fun q => by omega) (fun _ => hst.1) (fun q => by omega)) hls hst.2.2.2 h3 H1 locs1 la hP1 hS1 hL
  · cases h3
theorem gx_bast (C : gCx p s m args c cc nL own Z) (hI : gI (zN Z) σ) (hls : gcans ls) (hst : gcans st) (hm : E.2.2.2.2.2.1.1 ≤ zN Z) (hd : decode cc pc = .ok (.bastore, 1))
    (hnx : gNx p l e R s m args below meth c Q nL Z r nx (pc + 1)) (h : gasb E nx ls st σ = some r) : gAt p l e R s m args below meth c Q nL Z σ pc ls st := by
  obtain ⟨hx, hb, hml, hown, hts, hKK, hinj, hnest, -⟩ := C
  unfold gasb at h
  obtain ⟨v, st0, rfl, h0⟩ := p1_spec h
  obtain ⟨i, st1, rfl, h1⟩ := p1_spec h0
  obtain ⟨o, st2, rfl, h2⟩ := p1_spec h1
  obtain ⟨hK, hlt, h3⟩ := gisb_spec h2
  obtain ⟨-, h3⟩ := gwe_spec h3
  obtain ⟨ho, hoe⟩ : 0 ≤ o ∧ ((o.toNat : Nat) : Int) = o := by rcases hK with hK | hK <;> exact gK_nat (by decide) hK
  generalize hae : o.toNat = a at hlt hoe
  subst hoe
  rw [gcans_cons, gcans_cons, gcans_cons, gcan0, gcan0] at hst
  split at h3
  · rename_i hin
    have haN : a < zN Z := by omega
    have e1 : cv Z (2, (a : Int)) = .ref (zA Z a) := by simp [cv]
    have e2 : cv Z (0, i) = .int (Int32.ofInt i) := by simp [cv]
    have e3 : cv Z (0, v) = .int (Int32.ofInt v) := by simp [cv]
    intro H locs la hP hS hL
    show W p l e R s m args below meth c H locs 0 0 Q (F0 m pc la (cv Z (0, v) :: cv Z (0, i) :: cv Z (2, (a : Int)) :: st2.map (cv Z)))
    rw [e1, e2, e3]
    rcases hK with hK | hK
    · rw [show Nat.beq (gK (a : Int)) 2 = true by rw [hK]; rfl] at h3
      refine va_bast hx hb hKK hP (gD hinj) hS a 1 (by rw [gws_at haN, gpic_int hK (Or.inr (Or.inl rfl))]) (gty1 (Or.inr (Or.inl ⟨rfl, rfl⟩))) (n_in hst.2.1 hin) hd (fun H1 locs1 hP1 _ hS1 => ?_)
      rw [n_byte hst.1, gupd hst.2.1 hin.1, gws_set (i := i) (v := w8 v) haN (by rw [gpic_int hK (Or.inr (Or.inl rfl))])] at hP1
      exact hnx ls st2 _ (gI_W hI (fun q => by omega) (fun _ => w8_i v) (fun q => by omega) (fun q => by omega) (fun q => by omega)) hls hst.2.2.2 h3 H1 locs1 la hP1 hS1 hL
    · rw [show Nat.beq (gK (a : Int)) 2 = false by rw [hK]; rfl] at h3
      obtain ⟨hv, h4⟩ := g01_spec h3
      refine va_zast hx hb hKK hP (gD hinj) hS a 2 (by rw [gws_at haN, gpic_int hK (Or.inr (Or.inr rfl))]) (gty1 (Or.inr (Or.inr (Or.inl ⟨rfl, rfl⟩)))) (n_in hst.2.1 hin) hd (fun H1 locs1 hP1 _ hS1 => ?_)
      rw [n_bool hv, gupd hst.2.1 hin.1, gws_set (i := i) (v := v) haN (by rw [gpic_int hK (Or.inr (Or.inr rfl))])] at hP1
      exact hnx ls st2 _ (gI_W hI (fun q => by omega) (fun q => by omega) (fun _ => hv) (fun q => by omega) (fun q => by omega)) hls hst.2.2.2 h4 H1 locs1 la hP1 hS1 hL
  · cases h3
end GM
