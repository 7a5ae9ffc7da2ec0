/-! the law, from its entry to its end -/
theorem gt_desc : yX1_init.cls ≠ "java/lang/invoke/MethodHandle" ∧ yX1_init.cls ≠ "java/lang/invoke/VarHandle" ∧ (parseMethodDescriptor yX1_init.desc).map (fun d => d.parameters.length) = some 1 := by decide +kernel
theorem md_desc : yX10_init.cls ≠ "java/lang/invoke/MethodHandle" ∧ yX10_init.cls ≠ "java/lang/invoke/VarHandle" ∧ (parseMethodDescriptor yX10_init.desc).map (fun d => d.parameters.length) = some 1 := by decide +kernel
/-- the cells in the order in which they come -/
abbrev lwN1 : List Nat := List.range 87 ++ [118] ++ List.range' 87 30
abbrev lwN2 : List Nat := List.range' 120 107
theorem lw_len1 : lwN1.length = 118 := by decide +kernel
theorem lw_len2 : lwN2.length = 107 := by decide +kernel
set_option maxRecDepth 100000 in
theorem lw_c3 : (∀ a ∈ ([] ++ [117] : List Nat) ++ lwN1 ++ [119], a ∈ List.range 120) ∧ (∀ a ∈ List.range 120, a ∈ ([] ++ [117] : List Nat) ++ lwN1 ++ [119]) ∧ (([] ++ [117] : List Nat) ++ lwN1 ++ [119]).Nodup := by decide +kernel
set_option maxRecDepth 100000 in
theorem lw_c4 : (∀ a ∈ ([] ++ [117] : List Nat) ++ lwN1 ++ [119] ++ lwN2, a < 227) ∧ (∀ a ∈ List.range 227, a ∈ ([] ++ [117] : List Nat) ++ lwN1 ++ [119] ++ lwN2) ∧ (([] ++ [117] : List Nat) ++ lwN1 ++ [119] ++ lwN2).Nodup := by decide +kernel
section WG
variable {p : Program} {l : Launch} {e : Env} {s : State} {m : MethodId} {below : List Frame} {meth : Method} {c : Code} {Z : gZ} {L : Nat} {xs : Nat → Int32}
set_option maxRecDepth 10000 in
set_option maxHeartbeats 4000000 in
theorem whole_go (hfl : l.flags = pinnedFlags ++ [noTraceFlag]) (hL : L ≤ 385) (C : gCx p s m #[Value.ref (zS Z 999)] c code 4 RX0 Z) (hth : gThw Z s) (hr : meth.sig.returnType = ret) (hlk : meth.locks = false) (hX : va_X (zS Z 999) L xs s s.heap) (hbl : zS Z 999 < s.heap.size) (hN : zN Z = 227) (hge : ∀ a, s.heap.size ≤ zA Z a)
    (ad1 : ∀ i, i < 87 → zA Z (0 + i) = s.heap.size + 1 + i) (ad2 : zA Z 118 = s.heap.size + 1 + 87) (ad3 : ∀ i, i < 30 → zA Z (87 + i) = s.heap.size + 1 + 88 + i) (ad4 : ∀ i, i < 107 → zA Z (120 + i) = s.heap.size + 120 + i) (a117 : zA Z 117 = s.heap.size) (a119 : zA Z 119 = s.heap.size + 119) :
    W p l e room_1 s m #[Value.ref (zS Z 999)] below meth c s.heap [] 0 0 (lw_Z below #[Value.ref (zS Z 999)] s) (entryFrame m ([Value.ref (zS Z 999)] : List Value).toArray 4) := by
  have hAZ : ∀ a, a < s.heap.size → (fun q : Nat => s.heap.size ≤ q) a → gA Z a := fun a h1 h2 => absurd h2 (Nat.not_le.mpr h1)
  have KC : kCx p s m #[Value.ref (zS Z 999)] c code 4 RX0 Z (fun q => s.heap.size ≤ q) := ⟨C, hth, hAZ, fun q h => h⟩
  have hbA : ¬ (fun q : Nat => s.heap.size ≤ q) (zS Z 999) := Nat.not_le.mpr hbl
  have okc : ∀ cs : List Nat, (∀ a ∈ cs, a < 227) → cs.Nodup → kOk Z (fun q => s.heap.size ≤ q) cs := fun cs h1 h2 => ⟨fun a ha => by rw [hN]; exact h1 a ha, h2, fun a _ => hge a⟩
  obtain ⟨S, M, e1, hSc, e2, CM⟩ := made_c (x := ceA L xs)
  obtain ⟨N, e3, hRL⟩ := made_m CM
  have hM : ∀ a : Nat, 119 ≤ a → ∀ j, M (a : Int) j = k0 (a : Int) j := CM.2.2.2.2.2.2.2
  have hx := C.1
  have hb := C.2.1
  have hi := C.2.2.2.2.2.2.1
  have fin : ∀ (i : Int) (M' : gM), kAt p l e room_1 s m #[Value.ref (zS Z 999)] below meth c (lw_Z below #[Value.ref (zS Z 999)] s) 4 (fun q => s.heap.size ≤ q) Z M' (([] ++ [117] : List Nat) ++ lwN1 ++ [119] ++ lwN2) (s.heap.size + 1 + lwN1.length + 1 + lwN2.length) (0 + 1 + 118 + 1 + 107) (0 + 10 + 1838129 + 156 + 1545579) 644 (lwL i) [] := by
    intro i M'
    refine k_const (v := 1) C (Or.inl ⟨rfl, rfl⟩) (by decide +kernel) ?_
    intro H locs la hP hn hS hLo
    exact W.forget (locs := []) (L := locs) hS.2.2 (W.widen (k := 899015) (n := 6404400) (by decide) (by decide) (lw_ret hx hb hr hlk (by decide +kernel)))
  have body : kAt p l e room_1 s m #[Value.ref (zS Z 999)] below meth c (lw_Z below #[Value.ref (zS Z 999)] s) 4 (fun q => s.heap.size ≤ q) Z k0 [] s.heap.size 0 0 0 (gpad 4 [(3, 999)]) [] := by
    refine k_new (co := 18) (a := 117) C (by decide) (by decide) (CN := RX1) (T := TX1) (nf := 10) rfl (by decide +kernel) a117 q249 q250 q227 (k0_new (by decide +kernel) (by decide)) (by decide) (by decide) (by decide +kernel) ?_
    refine k_dup C (show (2 : Nat) ≠ 1 by decide) (by decide +kernel) ?_
    refine k_aload (k := 0) C (t := 3) (x := 999) rfl (Or.inr rfl) (by decide +kernel) ?_
    refine k_const (v := 0) C (Or.inl ⟨rfl, rfl⟩) (by decide +kernel) ?_
    refine k_cell KC hX hbl hbA hL (by decide) (by decide) (by decide) (by decide) (by simp [cv, Value.category]) (by decide +kernel) ?_
    refine kx_ctor (as := [(0, ceA L xs)]) (o := 117) (st := [(2, 117)]) (cs0 := [117]) (nw := lwN1) (k := 1) KC (km_gt hi hN ad1 ad2 ad3 (fun _ _ _ _ => rfl) fr_I e1 hSc (sp_I hSc) (gt_I hSc) e2 (ceA_i L xs)) q253 q227 (Or.inl q251) q252 rfl gt_desc rfl rfl rfl ⟨by decide, by decide⟩ ⟨by decide, by decide⟩ (okc _ (by decide) (by decide)) (by decide) (fun a h1 h2 => absurd h1 h2) (by simp [cv, Value.category]) (by decide +kernel) ?_
    intro I1
    refine k_astore (k := 1) C (by decide) (by decide +kernel) ?_
    refine k_new (co := 20) (a := 119) C (by decide) (by decide) (CN := RX10) (T := TX10) (nf := 156) rfl (by decide +kernel) (by rw [lw_len1]; omega) q1987 q1988 q242 (kNew.of (k0_new (by decide +kernel) (by decide)) (hM 119 (Nat.le_refl 119))) (by decide) (by decide) (by decide +kernel) ?_
    refine k_dup C (show (2 : Nat) ≠ 1 by decide) (by decide +kernel) ?_
    refine k_aload (k := 0) C (t := 3) (x := 999) rfl (Or.inr rfl) (by decide +kernel) ?_
    refine k_const (v := 0) C (Or.inl ⟨rfl, rfl⟩) (by decide +kernel) ?_
    refine k_cell KC hX hbl hbA hL (by decide) (by decide) (by decide) (by decide) (by simp [cv, Value.category]) (by decide +kernel) ?_
    refine kx_ctor (as := [(0, ceA L xs)]) (o := 119) (st := [(2, 119)]) (cs0 := List.range 120) (nw := lwN2) (k := 1) KC (km_md hfl hi hN (fun i h => by rw [lw_len1]; have := ad4 i h; omega) (fun i h j => hM (121 + i) (by omega) j) (md_I hM I1) e3 (ceA_i L xs)) q1991 q242 (Or.inl q1989) q1990 rfl md_desc rfl rfl rfl ⟨by decide, by decide⟩ ⟨by decide, by decide⟩ (okc _ (fun a ha => by have := List.mem_range.mp (lw_c3.1 a ha); omega) lw_c3.2.2) lw_c3.2.1 (fun a h1 h2 => absurd (lw_c3.1 a h1) h2) (by simp [cv, Value.category]) (by decide +kernel) ?_
    intro I2
    refine k_astore (k := 2) C (by decide) (by decide +kernel) ?_
    refine k_const (v := 1) C (Or.inl ⟨rfl, rfl⟩) (by decide +kernel) ?_
    refine k_istore (k := 3) C (by decide) (by decide +kernel) ?_
    have HC : lawC p s m #[Value.ref (zS Z 999)] c room_1 Z (fun q => s.heap.size ≤ q) (([] ++ [117] : List Nat) ++ lwN1 ++ [119] ++ lwN2) (0 + 1 + 118 + 1 + 107) (0 + 10 + 1838129 + 156 + 1545579) L xs := ⟨C, ⟨hX, hbl, hbA, hL⟩, hN, okc _ lw_c4.1 lw_c4.2.2, fun a ha => lw_c4.2.1 a (List.mem_range.mpr ha), lw_c4.1, hAZ, by decide, by decide, by decide, by decide⟩
    exact lc_loop HC fin 70 1 N (by decide) (by decide) (by omega) I2 (hRL I2)
  rw [lg_entry_eq]
  exact body s.heap [] _ (fun a ha => by cases ha) rfl va_S.rf (gent (as := [(3, 999)]) rfl)
end WG
/-- from the entry, for every script of at most 385 ints, the law comes to its end with true -/
theorem whole_start {p : Program} {e : Env} {s : State} {m : MethodId} {below : List Frame} {meth : Method} {c : Code} (l : Launch) (hfl : l.flags = pinnedFlags ++ [noTraceFlag]) {b L : Nat} {xs : Nat → Int32} (hL : L ≤ 385) (C0 : lw_At p s m meth c b L xs) : W p l e room_1 s m #[Value.ref b] below meth c s.heap [] 0 0 (lw_Z below #[Value.ref b] s) (entryFrame m ([Value.ref b] : List Value).toArray 4) := by
  obtain ⟨hx, hb, hr, hml, hown, hts, hX, hbl, hlk, hg⟩ := C0
  obtain ⟨D, zs, zc, zx, hK, hnest, hstr, hth, hz9⟩ := ent_Z (b := b) hts hg
  subst hz9
  exact whole_go (Z := zMk D s.heap.size zs zc zx) hfl hL ⟨hx, hb, hml, hown, fun w h => hts w (List.mem_filter.mp h).1, hK, zMk_inj, hnest, hstr⟩ hth hr hlk hX hbl rfl (fun a => Nat.le_add_right ..) zMk_1 zMk_2 zMk_3 zMk_4 zMk_117 zMk_119
