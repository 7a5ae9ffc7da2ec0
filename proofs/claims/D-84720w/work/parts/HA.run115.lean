/-! constructors: Parser, Machine -/
theorem kOk.list {Z : gZ} {cs0 L : List Nat} {a k n n0 : Nat} (hN : zN Z = 227) (had : ∀ i, i < k → zA Z (a + i) = n + i) (h1 : ∀ b ∈ L, b < 227) (h2 : L.Nodup) (h3 : ∀ b ∈ L, b ∈ cs0 ∨ (a ≤ b ∧ b < a + k)) (hn : n0 ≤ n := by omega) : kOk Z (kA Z cs0 n0) L := by
  refine ⟨fun b hb => by rw [hN]; exact h1 b hb, h2, fun b hb => ?_⟩
  rcases h3 b hb with q | q
  · exact Or.inl ⟨b, q, rfl⟩
  · refine Or.inr ?_
    have := had (b - a) (by omega)
    rw [show a + (b - a) = b by omega] at this
    rw [this]
    omega
theorem k_ad {Z : gZ} {a a' b c k n n' : Nat} (had : ∀ i, i < k → zA Z (a + i) = n + i) (hb : b + c ≤ k) (ha : a' = a + b) (hn : n' = n + b) : ∀ i, i < c → zA Z (a' + i) = n' + i := by
  intro i hi
  have := had (b + i) (by omega)
  rw [show a' + i = a + (b + i) by omega, this]
  omega
theorem k_hz {σ : gM} {a a' b c k : Nat} (hz : ∀ i, i < k → ∀ j, σ ((a + i : Nat) : Int) j = k0 ((a + i : Nat) : Int) j) (hb : b + c ≤ k) (ha : a' = a + b) : ∀ i, i < c → ∀ j, σ ((a' + i : Nat) : Int) j = k0 ((a' + i : Nat) : Int) j := by
  intro i hi j
  have := hz (b + i) (by omega) j
  rw [show a + (b + i) = a' + i by omega] at this
  exact this
theorem hd_wl : yX4_init.cls ≠ "java/lang/invoke/MethodHandle" ∧ yX4_init.cls ≠ "java/lang/invoke/VarHandle" ∧ (parseMethodDescriptor yX4_init.desc).map (fun d => d.parameters.length) = some 0 := by decide +kernel
theorem hd_tk : yX8_init.cls ≠ "java/lang/invoke/MethodHandle" ∧ yX8_init.cls ≠ "java/lang/invoke/VarHandle" ∧ (parseMethodDescriptor yX8_init.desc).map (fun d => d.parameters.length) = some 0 := by decide +kernel
/-- memory when a Whole has come -/
def wlM (o kk w : Nat) (σ : gM) : gM := gW (kmem kf_wl w (w + 1) gs_wl0 σ) o kk w
theorem wlM_c {o kk w : Nat} {b : Int} {σ : gM} (h1 : b ≠ o) (h2 : b ≠ w) : wlM o kk w σ b = σ b := by
  unfold wlM
  rw [gW_cell h1, kmem_c h2]
section KW2
variable {p : Program} {l : Launch} {e : Env} {R : Room} {s : State} {m : MethodId} {args : Array Value} {below : List Frame} {meth : Method} {c : Code} {Q : State → Prop} {cc : ByteArray} {nL : Nat} {Z : gZ} {own : String} {A : Nat → Prop} {σ σ' : gM} {cs : List Nat} {n cells slots pc : Nat} {ls : List gV}
/-- a Whole is made and kept in a field -/
theorem k_whole {idx j f kk o w : Nat} (C : kCx p s m args c cc nL own Z A) (hnm : meth.name = "<init>") (hls : ls[0]? = some (2, (o : Int))) (hN : zN Z = 227) (ok : kOk Z A cs) (ok' : kOk Z A (cs ++ [w])) (ok2 : kOk Z A (cs ++ [w] ++ List.range' (w + 1) 2)) (ho : o ∈ cs) (w1 : Cond.classLink own idx RX4 ∈ lw_all) (w3 : ∃ host, Cond.methodLinkNest own j yX4_init host ∈ lw_tbl) (hf : kFld own f (gK o) kk 2)
    (d1 : decode cc pc = .ok (.aload_n 0, 1)) (d2 : decode cc (pc + 1) = .ok (.new idx, 3)) (d3 : decode cc (pc + 1 + 3) = .ok (.dup, 1)) (d4 : decode cc (pc + 1 + 3 + 1) = .ok (.invokespecial j, 3)) (d5 : decode cc (pc + 1 + 3 + 1 + 3) = .ok (.putfield f, 3))
    (hw : w + 3 ≤ 227) (hk : gK w = 12) (chk : kchk cX4_init kc_wl kf_wl (w + 1) 4 gs_wl0 = true) (hk' : ∀ i, i < 2 → gK ((w + 1 + i : Nat) : Int) < 5) (had0 : zA Z w = n) (had : ∀ i, i < 2 → zA Z (w + 1 + i) = n + 1 + i) (hwc : w ∉ cs) (hz0 : ∀ j, σ w j = k0 w j) (hz : ∀ i, i < 2 → ∀ j, σ ((w + 1 + i : Nat) : Int) j = k0 ((w + 1 + i : Nat) : Int) j)
    (r1 : 2 ≤ R.frames) (r2 : 32 ≤ R.locals) (r3 : cells + 3 ≤ R.cells) (r4 : slots + 16 ≤ R.slots)
    (K : kAt p l e R s m args below meth c Q nL A Z (wlM o kk w σ) (cs ++ [w] ++ List.range' (w + 1) 2) (n + 3) (cells + 3) (slots + 16) (pc + 11) ls []) : kAt p l e R s m args below meth c Q nL A Z σ cs n cells slots pc ls [] := by
  refine k_aload (k := 0) C.1 hls (Or.inl rfl) d1 ?_
  refine k_new (co := 12) (a := w) C.1 (by decide) (by decide) (CN := RX4) (T := TX4) (nf := 4) rfl hk had0 w1 q340 q230 (kNew.of (k0_new hk (by decide)) hz0) (by omega) (by omega) d2 ?_
  refine k_dup C.1 (show (2 : Nat) ≠ 1 by decide) d3 ?_
  refine kx_ctor (as := []) (o := w) (st := [(2, (w : Int)), (2, (o : Int))]) (cs0 := [w]) (nw := List.range' (w + 1) 2) (k := 0) C (km_wl C.1.2.2.2.2.2.2.1 hN hw hk chk hk' had hz) q343 q230 (Or.inr w3) q342 rfl hd_wl rfl rfl rfl ⟨by show 1 + 1 ≤ R.frames; omega, by show 8 + (1 + 11) + 12 ≤ R.locals; omega⟩ ⟨by omega, by omega⟩ ok' (fun a ha => List.mem_append_right _ ha) (fun a ha h0 j => by rw [kmem_c (fun q => h0 (List.mem_singleton.mpr (by omega)))]) (by simp [cv, Value.category]) d4 fun _ => ?_
  refine k_putr C.1 hnm ok2 (List.mem_append_left _ (List.mem_append_left _ ho)) hf d5 ?_
  exact K
end KW2
section KM2
variable {l : Launch} {Z : gZ} {σ : gM} {n : Nat}
theorem km_ps (hi : gInj Z) (hN : zN Z = 227) (had : ∀ i, i < 18 → zA Z (69 + i) = n + i) (hz : ∀ i, i < 18 → ∀ j, σ ((69 + i : Nat) : Int) j = k0 ((69 + i : Nat) : Int) j) :
    kMet l Z yX7_init (ws_ yX7_init cX7_init 1 none) ⟨2, 18, 39310, 32⟩ [(2, 68)] σ (kmem kf_ps 68 70 gs_ps0 (gW σ 68 0 69)) [68] (List.range' 69 18) n 18 39310 := by
  refine kMet.of (by decide +kernel) rfl hi (fun a ha => by rw [List.mem_singleton.mp ha, hN]; decide) rfl ?_
  intro p e s m args below meth c C hnm hr hlk
  refine k_aload (k := 0) C.1 (t := 2) (x := 68) rfl (Or.inl rfl) (by decide +kernel) ?_
  refine k_obj C.1 q802 (by decide) (by decide) (by decide +kernel) ?_
  refine k_aload (k := 0) C.1 (t := 2) (x := 68) rfl (Or.inl rfl) (by decide +kernel) ?_
  refine k_new (co := 16) (a := 69) C.1 (by decide) (by decide) (CN := RX8) (T := TX8) (nf := 10) rfl (by decide +kernel) (had 0 (by decide)) q803 q804 q239 (kNew.of (k0_new (by decide +kernel) (by decide)) (hz 0 (by decide))) (by decide) (by decide) (by decide +kernel) ?_
  refine k_dup C.1 (by decide) (by decide +kernel) ?_
  have ok : kOk Z (kA Z [68] n) ([68] ++ [69]) := kOk.list hN had (by decide) (by decide) (by decide)
  refine kx_ctor (as := []) (o := 69) (st := [(2, 69), (2, 68)]) (cs0 := [69]) (nw := []) (k := 0) C (km_tk hi hN) q807 q239 (Or.inr ⟨_, q805⟩) q806 rfl hd_tk rfl rfl rfl ⟨by decide, by decide⟩ ⟨by decide, by decide⟩ ok (by decide) (fun a ha h0 j => rfl) (by simp [cv, Value.category]) (by decide +kernel) fun _ => ?_
  have ok2 : kOk Z (kA Z [68] n) ([68] ++ [69] ++ []) := kOk.list hN had (by decide) (by decide) (by decide)
  refine k_putr (o := 68) (b := 69) C.1 hnm ok2 (by decide) (gall_spec KF_ps 12 0 rfl) (by decide +kernel) ?_
  refine k_grps (o := 68) C hnm KC_ps KF_ps rfl gs_ps0 (gW σ 68 0 69) ([68] ++ [69] ++ []) 70 (n + 1) 1 10 15 (by decide +kernel) ok2 (by decide) (fun q h => Or.inr (by omega)) (k_fs (k := 17) (by rw [hN]; decide) (k_ad had (b := 1) (by decide) rfl rfl) (by decide) (by decide +kernel) (fun i hi j => by rw [gW_c (by omega)]; exact k_hz hz (b := 1) (c := 17) (by decide) rfl i hi j)) (by decide) (by decide) ?_
  exact k_ret C.1 hr hlk (by decide) rfl (by decide +kernel)
/-- memory behind a Machine's constructor -/
def mcM (x : Int) (σ : gM) : gM := gW (gW (gW (gW (gW (gW (wlM 87 46 114 (wlM 87 45 111 (wlM 87 44 108 (wlM 87 43 105 (kmem kf_mc 87 88 gs_mc0 σ))))) 87 0 0) 87 1 8) 87 2 42) 87 3 52) 87 4 68) 87 5 x
theorem km_mc {x : Int} (hi : gInj Z) (hN : zN Z = 227) (had : ∀ i, i < 29 → zA Z (88 + i) = n + i) (hz : ∀ i, i < 29 → ∀ j, σ ((88 + i : Nat) : Int) j = k0 ((88 + i : Nat) : Int) j) :
    kMet l Z yX9_init (ws_ yX9_init cX9_init 7 none) ⟨2, 29, 51324, 32⟩ [(2, 87), (2, 0), (2, 8), (2, 42), (2, 52), (2, 68), (0, x)] σ (mcM x σ) [87] (List.range' 88 29) n 29 51324 := by
  refine kMet.of (by decide +kernel) rfl hi (fun a ha => by rw [List.mem_singleton.mp ha, hN]; decide) rfl ?_
  intro p e s m args below meth c C hnm hr hlk
  refine k_aload (k := 0) C.1 (t := 2) (x := 87) rfl (Or.inl rfl) (by decide +kernel) ?_
  refine k_obj C.1 q944 (by decide) (by decide) (by decide +kernel) ?_
  refine k_grps (o := 87) C hnm KC_mc KF_mc rfl gs_mc0 σ [87] 88 n 0 0 4 (by decide +kernel) (kOk.list hN had (by decide) (by decide) (by decide)) (List.mem_singleton.mpr rfl) (fun q h => Or.inr h) (k_fs (k := 17) (by rw [hN]; decide) (k_ad had (b := 0) (by decide) rfl rfl) (by decide) (by decide +kernel) (k_hz hz (b := 0) (by decide) rfl)) (by decide) (by decide) ?_
  refine k_whole (o := 87) (w := 105) (kk := 43) (f := 69) C hnm rfl hN (kOk.list hN had (by decide) (by decide +kernel) (by decide)) (kOk.list hN had (by decide) (by decide +kernel) (by decide)) (kOk.list hN had (by decide) (by decide +kernel) (by decide)) (by decide) q945 ⟨_, q946⟩ (gall_spec KF_mc 69 43 rfl) (by decide +kernel) (by decide +kernel) (by decide +kernel) (by decide +kernel) (by decide +kernel) (by decide) (by decide +kernel) (by decide +kernel) (by decide +kernel) (had 17 (by decide)) (k_ad had (b := 18) (by decide) rfl rfl) (by decide) (fun j => by rw [kmem_c (by decide)]; exact hz 17 (by decide) j) (fun i hi j => by rw [kmem_c (by omega)]; exact k_hz hz (b := 18) (c := 2) (a' := 106) (by decide) rfl i hi j) (by decide) (by decide) (by decide) (by decide) ?_
  refine k_whole (o := 87) (w := 108) (kk := 44) (f := 73) C hnm rfl hN (kOk.list hN had (by decide) (by decide +kernel) (by decide)) (kOk.list hN had (by decide) (by decide +kernel) (by decide)) (kOk.list hN had (by decide) (by decide +kernel) (by decide)) (by decide) q945 ⟨_, q946⟩ (gall_spec KF_mc 73 44 rfl) (by decide +kernel) (by decide +kernel) (by decide +kernel) (by decide +kernel) (by decide +kernel) (by decide) (by decide +kernel) (by decide +kernel) (by decide +kernel) (had 20 (by decide)) (k_ad had (b := 21) (by decide) rfl rfl) (by decide) (fun j => by rw [wlM_c (by decide) (by decide), kmem_c (by decide)]; exact hz 20 (by decide) j) (fun i hi j => by rw [wlM_c (by omega) (by omega), kmem_c (by omega)]; exact k_hz hz (b := 21) (c := 2) (a' := 109) (by decide) rfl i hi j) (by decide) (by decide) (by decide) (by decide) ?_
  refine k_whole (o := 87) (w := 111) (kk := 45) (f := 76) C hnm rfl hN (kOk.list hN had (by decide) (by decide +kernel) (by decide)) (kOk.list hN had (by decide) (by decide +kernel) (by decide)) (kOk.list hN had (by decide) (by decide +kernel) (by decide)) (by decide) q945 ⟨_, q946⟩ (gall_spec KF_mc 76 45 rfl) (by decide +kernel) (by decide +kernel) (by decide +kernel) (by decide +kernel) (by decide +kernel) (by decide) (by decide +kernel) (by decide +kernel) (by decide +kernel) (had 23 (by decide)) (k_ad had (b := 24) (by decide) rfl rfl) (by decide) (fun j => by rw [wlM_c (by decide) (by decide), wlM_c (by decide) (by decide), kmem_c (by decide)]; exact hz 23 (by decide) j) (fun i hi j => by rw [wlM_c (by omega) (by omega), wlM_c (by omega) (by omega), kmem_c (by omega)]; exact k_hz hz (b := 24) (c := 2) (a' := 112) (by decide) rfl i hi j) (by decide) (by decide) (by decide) (by decide) ?_
  refine k_whole (o := 87) (w := 114) (kk := 46) (f := 79) C hnm rfl hN (kOk.list hN had (by decide) (by decide +kernel) (by decide)) (kOk.list hN had (by decide) (by decide +kernel) (by decide)) (kOk.list hN had (by decide) (by decide +kernel) (by decide)) (by decide) q945 ⟨_, q946⟩ (gall_spec KF_mc 79 46 rfl) (by decide +kernel) (by decide +kernel) (by decide +kernel) (by decide +kernel) (by decide +kernel) (by decide) (by decide +kernel) (by decide +kernel) (by decide +kernel) (had 26 (by decide)) (k_ad had (b := 27) (by decide) rfl rfl) (by decide) (fun j => by rw [wlM_c (by decide) (by decide), wlM_c (by decide) (by decide), wlM_c (by decide) (by decide), kmem_c (by decide)]; exact hz 26 (by decide) j) (fun i hi j => by rw [wlM_c (by omega) (by omega), wlM_c (by omega) (by omega), wlM_c (by omega) (by omega), kmem_c (by omega)]; exact k_hz hz (b := 27) (c := 2) (a' := 115) (by decide) rfl i hi j) (by decide) (by decide) (by decide) (by decide) ?_
  have ok : kOk Z (kA Z [87] n) ([87] ++ List.range' 88 17 ++ [105] ++ List.range' 106 2 ++ [108] ++ List.range' 109 2 ++ [111] ++ List.range' 112 2 ++ [114] ++ List.range' 115 2) := kOk.list hN had (by decide) (by decide +kernel) (by decide)
  refine k_aload (k := 0) C.1 (t := 2) (x := 87) rfl (Or.inl rfl) (by decide +kernel) ?_
  refine k_aload (k := 1) C.1 (t := 2) (x := 0) rfl (Or.inl rfl) (by decide +kernel) ?_
  refine k_putr (o := 87) (b := 0) C.1 hnm ok (by decide) (gall_spec KF_mc 82 0 rfl) (by decide +kernel) ?_
  refine k_aload (k := 0) C.1 (t := 2) (x := 87) rfl (Or.inl rfl) (by decide +kernel) ?_
  refine k_aload (k := 2) C.1 (t := 2) (x := 8) rfl (Or.inl rfl) (by decide +kernel) ?_
  refine k_putr (o := 87) (b := 8) C.1 hnm ok (by decide) (gall_spec KF_mc 86 1 rfl) (by decide +kernel) ?_
  refine k_aload (k := 0) C.1 (t := 2) (x := 87) rfl (Or.inl rfl) (by decide +kernel) ?_
  refine k_aload (k := 3) C.1 (t := 2) (x := 42) rfl (Or.inl rfl) (by decide +kernel) ?_
  refine k_putr (o := 87) (b := 42) C.1 hnm ok (by decide) (gall_spec KF_mc 90 2 rfl) (by decide +kernel) ?_
  refine k_aload (k := 0) C.1 (t := 2) (x := 87) rfl (Or.inl rfl) (by decide +kernel) ?_
  refine k_aloadw (k := 4) C.1 (t := 2) (x := 52) rfl (Or.inl rfl) (by decide +kernel) ?_
  refine k_putr (o := 87) (b := 52) C.1 hnm ok (by decide) (gall_spec KF_mc 94 3 rfl) (by decide +kernel) ?_
  refine k_aload (k := 0) C.1 (t := 2) (x := 87) rfl (Or.inl rfl) (by decide +kernel) ?_
  refine k_aloadw (k := 5) C.1 (t := 2) (x := 68) rfl (Or.inl rfl) (by decide +kernel) ?_
  refine k_putr (o := 87) (b := 68) C.1 hnm ok (by decide) (gall_spec KF_mc 98 4 rfl) (by decide +kernel) ?_
  refine k_aload (k := 0) C.1 (t := 2) (x := 87) rfl (Or.inl rfl) (by decide +kernel) ?_
  refine k_iloadw (k := 6) C.1 (x := x) rfl (by decide +kernel) ?_
  refine k_puti (o := 87) (v := x) C.1 hnm ok (by decide) KI_mc_5 (Or.inl rfl) (by decide +kernel) ?_
  exact k_ret C.1 hr hlk (by decide) rfl (by decide +kernel)
end KM2
