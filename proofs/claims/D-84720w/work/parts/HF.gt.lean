/-! GraftTrees' constructor -/
theorem hd_hp : yX2_init.cls ≠ "java/lang/invoke/MethodHandle" ∧ yX2_init.cls ≠ "java/lang/invoke/VarHandle" ∧ (parseMethodDescriptor yX2_init.desc).map (fun d => d.parameters.length) = some 0 := by decide +kernel
theorem hd_fr : yX3_init.cls ≠ "java/lang/invoke/MethodHandle" ∧ yX3_init.cls ≠ "java/lang/invoke/VarHandle" ∧ (parseMethodDescriptor yX3_init.desc).map (fun d => d.parameters.length) = some 1 := by decide +kernel
theorem hd_sp : yX5_init.cls ≠ "java/lang/invoke/MethodHandle" ∧ yX5_init.cls ≠ "java/lang/invoke/VarHandle" ∧ (parseMethodDescriptor yX5_init.desc).map (fun d => d.parameters.length) = some 1 := by decide +kernel
theorem hd_cd : yX6_init.cls ≠ "java/lang/invoke/MethodHandle" ∧ yX6_init.cls ≠ "java/lang/invoke/VarHandle" ∧ (parseMethodDescriptor yX6_init.desc).map (fun d => d.parameters.length) = some 1 := by decide +kernel
theorem hd_ps : yX7_init.cls ≠ "java/lang/invoke/MethodHandle" ∧ yX7_init.cls ≠ "java/lang/invoke/VarHandle" ∧ (parseMethodDescriptor yX7_init.desc).map (fun d => d.parameters.length) = some 0 := by decide +kernel
theorem hd_mc : yX9_init.cls ≠ "java/lang/invoke/MethodHandle" ∧ yX9_init.cls ≠ "java/lang/invoke/VarHandle" ∧ (parseMethodDescriptor yX9_init.desc).map (fun d => d.parameters.length) = some 6 := by decide +kernel
/-- a new system's threshold -/
def kTh (x : Int) : Int := if 1 < (if x < 100 then x else 100) then (if x < 100 then x else 100) else 1
/-- memory as the constructor goes on -/
def gt1 (σ : gM) : gM := gW (kmem kf_hp 0 1 gs_hp0 σ) 117 0 0
def gt2 (S : gM) : gM := gW S 117 1 8
def gt3 (S : gM) : gM := gW (spC (spM (gt2 S))) 117 2 42
def gt4 (S : gM) : gM := gW (gW (kmem kf_cd 52 53 gs_cd0 (gt3 S)) 52 0 8) 117 3 52
def gt5 (S : gM) : gM := gW (kmem kf_ps 68 70 gs_ps0 (gW (gt4 S) 68 0 69)) 117 4 68
def gt7 (S : gM) : gM := gW (kmem kf_gt 117 118 gs_gt0 (gt5 S)) 117 9 (-1)
def gt8 (x : Int) (S : gM) : gM := gW (mcM (kTh x) (gt7 S)) 117 5 87
theorem kOk.gt {Z : gZ} {L : List Nat} {n : Nat} (hN : zN Z = 227) (hge : ∀ b, b < 119 → b ≠ 117 → n ≤ zA Z b) (h1 : ∀ b ∈ L, b < 119) (h2 : L.Nodup) : kOk Z (kA Z [117] n) L := by
  refine ⟨fun b hb => by rw [hN]; have := h1 b hb; omega, h2, fun b hb => ?_⟩
  by_cases q : b = 117
  · exact Or.inl ⟨b, by rw [q]; exact List.mem_singleton.mpr rfl, rfl⟩
  · exact Or.inr (hge b (h1 b hb) q)
theorem spM_c {σ : gM} {a : Nat} {j : Int} (h : ¬ a ≤ 47) : spC (spM σ) (a : Int) j = σ (a : Int) j := by
  unfold spC spM
  rw [gW_c (by omega), gW_c (by omega), gW_c (by omega), gW_c (by omega), gW_c (by omega), gW_c (by omega), gW_c (by omega), gW_c (by omega), gW_c (by omega), kmem_c (by omega)]
theorem mcM_c {x : Int} {σ : gM} {b : Int} (h : b < 87 ∨ (87 < b ∧ b < 105) ∨ 116 < b) : mcM x σ b = σ b := by
  unfold mcM
  rw [gW_cell (by omega), gW_cell (by omega), gW_cell (by omega), gW_cell (by omega), gW_cell (by omega), gW_cell (by omega), wlM_c (by omega) (by omega), wlM_c (by omega) (by omega), wlM_c (by omega) (by omega), wlM_c (by omega) (by omega), kmem_c (by omega)]
section KGT
variable {l : Launch} {Z : gZ} {σ S M : gM} {n : Nat} {x y z : Int}
set_option maxRecDepth 4000 in
theorem km_gt (hi : gInj Z) (hN : zN Z = 227) (ad1 : ∀ i, i < 87 → zA Z (0 + i) = n + i) (ad2 : zA Z 118 = n + 87) (ad3 : ∀ i, i < 30 → zA Z (87 + i) = n + 88 + i) (hz : ∀ i, i < 119 → i ≠ 117 → ∀ j, σ ((i : Nat) : Int) j = k0 ((i : Nat) : Int) j)
    (hI1 : gI 42 (frM (gt1 σ))) (hS1 : fr_clear (frM (gt1 σ)) = some (S, y)) (hSc : ∀ a : Nat, 42 ≤ a → ∀ j, S (a : Int) j = gt1 σ (a : Int) j) (hI2 : gI 42 S → gI 52 (spM (gt2 S))) (hI3 : gI 42 S → gI 119 (gt8 x S)) (hS2 : mc_clear (gt8 x S) = some (M, z)) (hx : i32 x) :
    kMet l Z yX1_init (ws_ yX1_init cX1_init 2 none) ⟨8, 118, 1838129, 233⟩ [(2, 117), (0, x)] σ M [117] (List.range 87 ++ [118] ++ List.range' 87 30) n 118 1838129 (gI 119 M) := by
  have hge : ∀ b, b < 119 → b ≠ 117 → n ≤ zA Z b := by
    intro b h1 h2
    by_cases q1 : b < 87
    · have := ad1 b q1
      rw [Nat.zero_add] at this
      omega
    · by_cases q2 : b = 118
      · rw [q2, ad2]; omega
      · have := ad3 (b - 87) (by omega)
        rw [show 87 + (b - 87) = b by omega] at this
        omega
  have hzr : ∀ a k : Nat, a + k ≤ 117 → ∀ i, i < k → ∀ j, σ ((a + i : Nat) : Int) j = k0 ((a + i : Nat) : Int) j := fun a k h i hi j => hz (a + i) (by omega) (by omega) j
  obtain ⟨nn, hnn⟩ := ((mc_clear_l (gt8 x S)).2 _).mp hS2
  refine kMet.of (by decide +kernel) rfl hi (fun a ha => by rw [List.mem_singleton.mp ha, hN]; decide) rfl ?_
  intro p e s m args below meth c C hnm hr hlk
  refine k_aload (k := 0) C.1 (t := 2) (x := 117) rfl (Or.inl rfl) (by decide +kernel) ?_
  refine k_obj C.1 q254 (by decide) (by decide) (by decide +kernel) ?_
  refine k_aload (k := 0) C.1 (t := 2) (x := 117) rfl (Or.inl rfl) (by decide +kernel) ?_
  refine k_new (co := 10) (a := 0) C.1 (by decide) (by decide) (CN := RX2) (T := TX2) (nf := 15) rfl (by decide +kernel) (ad1 0 (by decide)) q257 q258 q228 (kNew.of (k0_new (by decide +kernel) (by decide)) (hz 0 (by decide) (by decide))) (by decide) (by decide) (by decide +kernel) ?_
  refine k_dup C.1 (show (2 : Nat) ≠ 1 by decide) (by decide +kernel) ?_
  refine kx_ctor (as := []) (o := 0) (st := [(2, 0), (2, 117)]) (cs0 := [0]) (nw := List.range' 1 7) (k := 0) C (km_hp hi hN (k_ad ad1 (b := 1) (by decide) rfl rfl) (hzr 1 7 (by decide))) q261 q228 (Or.inr ⟨_, q259⟩) q260 rfl hd_hp rfl rfl rfl ⟨by decide, by decide⟩ ⟨by decide, by decide⟩ (kOk.gt hN hge (by decide +kernel) (by decide +kernel) : kOk Z (kA Z [117] n) ([117] ++ [0])) (by decide) (fun a ha h0 j => by rw [kmem_c (fun q => h0 (List.mem_singleton.mpr (by omega)))]) (by simp [cv, Value.category]) (by decide +kernel) fun _ => ?_
  refine k_putr (o := 117) (b := 0) C.1 hnm (kOk.gt hN hge (by decide +kernel) (by decide +kernel) : kOk Z (kA Z [117] n) ([117] ++ [0] ++ List.range' 1 7)) (by decide +kernel) (gall_spec KF_gt 10 0 rfl) (by decide +kernel) ?_
  refine k_aload (k := 0) C.1 (t := 2) (x := 117) rfl (Or.inl rfl) (by decide +kernel) ?_
  refine k_new (co := 11) (a := 8) C.1 (by decide) (by decide) (CN := RX3) (T := TX3) (nf := 42) rfl (by decide +kernel) (ad1 8 (by decide)) q331 q332 q229 (kNew.of (k0_new (by decide +kernel) (by decide)) (fun j => by rw [gW_c (by decide), kmem_c (by decide)]; exact hz 8 (by decide) (by decide) j)) (by decide) (by decide) (by decide +kernel) ?_
  refine k_dup C.1 (show (2 : Nat) ≠ 1 by decide) (by decide +kernel) ?_
  refine k_aload (k := 0) C.1 (t := 2) (x := 117) rfl (Or.inl rfl) (by decide +kernel) ?_
  refine k_get (o := 117) (b := 0) C.1 (by decide) (gall_spec KF_gt 10 0 rfl) (gW_at ..) (by decide +kernel) ?_
  refine kx_ctor (as := [(2, 0)]) (o := 8) (st := [(2, 8), (2, 117)]) (cs0 := List.range 9) (nw := List.range' 9 33) (k := 1) C (km_fr (σ := gt1 σ) hi hN (k_ad ad1 (b := 9) (by decide) rfl rfl) (fun i hi j => by unfold gt1; rw [gW_c (by omega), kmem_c (by omega)]; exact hzr 9 33 (by decide) i hi j) hI1 hS1) q335 q229 (Or.inl q333) q334 rfl hd_fr rfl rfl rfl ⟨by decide, by decide⟩ ⟨by decide, by decide⟩ (kOk.gt hN hge (by decide +kernel) (by decide +kernel) : kOk Z (kA Z [117] n) ([117] ++ [0] ++ List.range' 1 7 ++ [8])) (by decide +kernel) (fun a ha h0 j => hSc a (Nat.le_of_not_lt fun q => absurd (show a ∈ List.range 9 from (show ∀ a ∈ [117] ++ [0] ++ List.range' 1 7 ++ [8], a < 42 → a ∈ List.range 9 by decide +kernel) a ha q) h0) j) (by simp [cv, Value.category]) (by decide +kernel) fun X1 => ?_
  refine k_putr (o := 117) (b := 8) C.1 hnm (kOk.gt hN hge (by decide +kernel) (by decide +kernel) : kOk Z (kA Z [117] n) ([117] ++ [0] ++ List.range' 1 7 ++ [8] ++ List.range' 9 33)) (by decide +kernel) (gall_spec KF_gt 21 1 rfl) (by decide +kernel) ?_
  have s117 : S 117 0 = 0 := (hSc 117 (by decide) 0).trans (gW_at ..)
  refine k_aload (k := 0) C.1 (t := 2) (x := 117) rfl (Or.inl rfl) (by decide +kernel) ?_
  refine k_new (co := 13) (a := 42) C.1 (by decide) (by decide) (CN := RX5) (T := TX5) (nf := 13) rfl (by decide +kernel) (ad1 42 (by decide)) q649 q650 q236 (kNew.of (k0_new (by decide +kernel) (by decide)) (fun j => by rw [gW_c (by decide), hSc 42 (by decide) j]; unfold gt1; rw [gW_c (by decide), kmem_c (by decide)]; exact hz 42 (by decide) (by decide) j)) (by decide) (by decide) (by decide +kernel) ?_
  refine k_dup C.1 (show (2 : Nat) ≠ 1 by decide) (by decide +kernel) ?_
  refine k_aload (k := 0) C.1 (t := 2) (x := 117) rfl (Or.inl rfl) (by decide +kernel) ?_
  refine k_get (o := 117) (b := 0) C.1 (by decide) (gall_spec KF_gt 10 0 rfl) (by rw [gW_i (by decide)]; exact s117) (by decide +kernel) ?_
  refine kx_ctor (as := [(2, 0)]) (o := 42) (st := [(2, 42), (2, 117)]) (cs0 := List.range 43) (nw := List.range' 43 9) (k := 1) C (km_sp (σ := gt2 S) hi hN (k_ad ad1 (b := 43) (by decide) rfl rfl) (fun i hi j => by rw [gt2, gW_c (by omega), hSc _ (by omega) j]; unfold gt1; rw [gW_c (by omega), kmem_c (by omega)]; exact hzr 43 9 (by decide) i hi j) (hI2 X1)) q653 q236 (Or.inl q651) q652 rfl hd_sp rfl rfl rfl ⟨by decide, by decide⟩ ⟨by decide, by decide⟩ (kOk.gt hN hge (by decide +kernel) (by decide +kernel) : kOk Z (kA Z [117] n) ([117] ++ [0] ++ List.range' 1 7 ++ [8] ++ List.range' 9 33 ++ [42])) (by decide +kernel) (fun a ha h0 j => spM_c (fun q => h0 ((show ∀ a ∈ [117] ++ [0] ++ List.range' 1 7 ++ [8] ++ List.range' 9 33 ++ [42], a ≤ 47 → a ∈ List.range 43 by decide +kernel) a ha q))) (by simp [cv, Value.category]) (by decide +kernel) fun _ => ?_
  refine k_putr (o := 117) (b := 42) C.1 hnm (kOk.gt hN hge (by decide +kernel) (by decide +kernel) : kOk Z (kA Z [117] n) ([117] ++ [0] ++ List.range' 1 7 ++ [8] ++ List.range' 9 33 ++ [42] ++ List.range' 43 9)) (by decide +kernel) (gall_spec KF_gt 28 2 rfl) (by decide +kernel) ?_
  have c2 : ∀ a : Nat, 42 ≤ a → a < 119 → a ≠ 117 → ∀ j, gt2 S (a : Int) j = k0 (a : Int) j := fun a h1 h2 h3 j => by rw [gt2, gW_c (by omega), hSc a h1 j, gt1, gW_c (by omega), kmem_c (by omega)]; exact hz a h2 h3 j
  have c3 : ∀ a : Nat, 47 < a → a < 119 → a ≠ 117 → ∀ j, gt3 S (a : Int) j = k0 (a : Int) j := fun a h1 h2 h3 j => by rw [gt3, gW_c (by omega), spM_c (by omega)]; exact c2 a (by omega) h2 h3 j
  have c4 : ∀ a : Nat, 52 < a → a < 119 → a ≠ 117 → ∀ j, gt4 S (a : Int) j = k0 (a : Int) j := fun a h1 h2 h3 j => by rw [gt4, gW_c (by omega), gW_c (by omega), kmem_c (by omega)]; exact c3 a (by omega) h2 h3 j
  have c5 : ∀ a : Nat, 68 < a → a < 119 → a ≠ 117 → ∀ j, gt5 S (a : Int) j = k0 (a : Int) j := fun a h1 h2 h3 j => by rw [gt5, gW_c (by omega), kmem_c (by omega), gW_c (by omega)]; exact c4 a (by omega) h2 h3 j
  have c7 : ∀ a : Nat, 68 < a → a < 117 → ∀ j, gt7 S (a : Int) j = k0 (a : Int) j := fun a h1 h2 j => by rw [gt7, gW_c (by omega), kmem_c (by omega)]; exact c5 a h1 (by omega) (by omega) j
  have g3 : ∀ k : Int, k ≠ 2 → gt3 S 117 k = gt2 S 117 k := fun k h => by rw [gt3, gW_i h]; exact spM_c (a := 117) (by decide)
  have g30 : gt3 S 117 0 = 0 := (g3 0 (by decide)).trans (by rw [gt2, gW_i (by decide)]; exact s117)
  have g31 : gt3 S 117 1 = 8 := (g3 1 (by decide)).trans (gW_at ..)
  have g32 : gt3 S 117 2 = 42 := gW_at ..
  have g4 : ∀ k : Int, k ≠ 3 → gt4 S 117 k = gt3 S 117 k := fun k h => by rw [gt4, gW_i h, gW_c (by decide), kmem_c (by decide)]
  have g5 : ∀ k : Int, k ≠ 4 → gt5 S 117 k = gt4 S 117 k := fun k h => by rw [gt5, gW_i h, kmem_c (by decide), gW_c (by decide)]
  have g7 : ∀ k : Int, k ≠ 6 → k ≠ 9 → gt7 S 117 k = gt5 S 117 k := fun k h h9 => by
    rw [gt7, gW_i h9]
    show gW (gt5 S) 117 6 118 117 k = _
    exact gW_i h
  have g70 : gt7 S 117 0 = 0 := (g7 0 (by decide) (by decide)).trans ((g5 0 (by decide)).trans ((g4 0 (by decide)).trans g30))
  have g71 : gt7 S 117 1 = 8 := (g7 1 (by decide) (by decide)).trans ((g5 1 (by decide)).trans ((g4 1 (by decide)).trans g31))
  have g72 : gt7 S 117 2 = 42 := (g7 2 (by decide) (by decide)).trans ((g5 2 (by decide)).trans ((g4 2 (by decide)).trans g32))
  have g73 : gt7 S 117 3 = 52 := (g7 3 (by decide) (by decide)).trans ((g5 3 (by decide)).trans (gW_at ..))
  have g74 : gt7 S 117 4 = 68 := (g7 4 (by decide) (by decide)).trans (gW_at ..)
  refine k_aload (k := 0) C.1 (t := 2) (x := 117) rfl (Or.inl rfl) (by decide +kernel) ?_
  refine k_new (co := 14) (a := 52) C.1 (by decide) (by decide) (CN := RX6) (T := TX6) (nf := 20) rfl (by decide +kernel) (ad1 52 (by decide)) q711 q712 q237 (kNew.of (k0_new (by decide +kernel) (by decide)) (c3 52 (by decide) (by decide) (by decide))) (by decide) (by decide) (by decide +kernel) ?_
  refine k_dup C.1 (show (2 : Nat) ≠ 1 by decide) (by decide +kernel) ?_
  refine k_aload (k := 0) C.1 (t := 2) (x := 117) rfl (Or.inl rfl) (by decide +kernel) ?_
  refine k_get (o := 117) (b := 8) C.1 (by decide) (gall_spec KF_gt 21 1 rfl) g31 (by decide +kernel) ?_
  refine kx_ctor (as := [(2, 8)]) (o := 52) (st := [(2, 52), (2, 117)]) (cs0 := [52]) (nw := List.range' 53 15) (k := 1) C (km_cd (σ := gt3 S) hi hN (k_ad ad1 (b := 53) (by decide) rfl rfl) (fun i hi j => c3 (53 + i) (by omega) (by omega) (by omega) j)) q715 q237 (Or.inl q713) q714 rfl hd_cd rfl rfl rfl ⟨by decide, by decide⟩ ⟨by decide, by decide⟩ (kOk.gt hN hge (by decide +kernel) (by decide +kernel) : kOk Z (kA Z [117] n) ([117] ++ [0] ++ List.range' 1 7 ++ [8] ++ List.range' 9 33 ++ [42] ++ List.range' 43 9 ++ [52])) (by decide +kernel) (fun a ha h0 j => by have h1 : a ≠ 52 := fun q => h0 (List.mem_singleton.mpr q); rw [gW_c (by omega), kmem_c (by omega)]; rfl) (by simp [cv, Value.category]) (by decide +kernel) fun _ => ?_
  refine k_putr (o := 117) (b := 52) C.1 hnm (kOk.gt hN hge (by decide +kernel) (by decide +kernel) : kOk Z (kA Z [117] n) ([117] ++ [0] ++ List.range' 1 7 ++ [8] ++ List.range' 9 33 ++ [42] ++ List.range' 43 9 ++ [52] ++ List.range' 53 15)) (by decide +kernel) (gall_spec KF_gt 37 3 rfl) (by decide +kernel) ?_
  refine k_aload (k := 0) C.1 (t := 2) (x := 117) rfl (Or.inl rfl) (by decide +kernel) ?_
  refine k_new (co := 15) (a := 68) C.1 (by decide) (by decide) (CN := RX7) (T := TX7) (nf := 23) rfl (by decide +kernel) (ad1 68 (by decide)) q797 q798 q238 (kNew.of (k0_new (by decide +kernel) (by decide)) (c4 68 (by decide) (by decide) (by decide))) (by decide) (by decide) (by decide +kernel) ?_
  refine k_dup C.1 (show (2 : Nat) ≠ 1 by decide) (by decide +kernel) ?_
  refine kx_ctor (as := []) (o := 68) (st := [(2, 68), (2, 117)]) (cs0 := [68]) (nw := List.range' 69 18) (k := 0) C (km_ps (σ := gt4 S) hi hN (k_ad ad1 (b := 69) (by decide) rfl rfl) (fun i hi j => c4 (69 + i) (by omega) (by omega) (by omega) j)) q801 q238 (Or.inr ⟨_, q799⟩) q800 rfl hd_ps rfl rfl rfl ⟨by decide, by decide⟩ ⟨by decide, by decide⟩ (kOk.gt hN hge (by decide +kernel) (by decide +kernel) : kOk Z (kA Z [117] n) ([117] ++ [0] ++ List.range' 1 7 ++ [8] ++ List.range' 9 33 ++ [42] ++ List.range' 43 9 ++ [52] ++ List.range' 53 15 ++ [68])) (by decide +kernel) (fun a ha h0 j => by have h1 : a ≠ 68 := fun q => h0 (List.mem_singleton.mpr q); rw [kmem_c (by omega), gW_c (by omega)]; rfl) (by simp [cv, Value.category]) (by decide +kernel) fun _ => ?_
  refine k_putr (o := 117) (b := 68) C.1 hnm (kOk.gt hN hge (by decide +kernel) (by decide +kernel) : kOk Z (kA Z [117] n) ([117] ++ [0] ++ List.range' 1 7 ++ [8] ++ List.range' 9 33 ++ [42] ++ List.range' 43 9 ++ [52] ++ List.range' 53 15 ++ [68] ++ List.range' 69 18)) (by decide +kernel) (gall_spec KF_gt 44 4 rfl) (by decide +kernel) ?_
  refine k_grps (o := 117) C hnm KC_gt KF_gt rfl gs_gt0 (gt5 S) ([117] ++ [0] ++ List.range' 1 7 ++ [8] ++ List.range' 9 33 ++ [42] ++ List.range' 43 9 ++ [52] ++ List.range' 53 15 ++ [68] ++ List.range' 69 18) 118 (n + 87) 87 1782757 71 (by decide +kernel) (kOk.gt hN hge (by decide +kernel) (by decide +kernel) : kOk Z (kA Z [117] n) ([117] ++ [0] ++ List.range' 1 7 ++ [8] ++ List.range' 9 33 ++ [42] ++ List.range' 43 9 ++ [52] ++ List.range' 53 15 ++ [68] ++ List.range' 69 18)) (by decide +kernel) (fun q h => Or.inr (by omega)) (k_fs (k := 1) (by rw [hN]; decide) (fun i hi => by rw [show i = 0 by omega]; exact ad2) (by decide +kernel) (by decide +kernel) (fun i hi j => c5 (118 + i) (by omega) (by omega) (by omega) j)) (by decide) (by decide) ?_
  refine k_aload (k := 0) C.1 (t := 2) (x := 117) rfl (Or.inl rfl) (by decide +kernel) ?_
  refine k_const (v := -1) C.1 (Or.inl ⟨rfl, rfl⟩) (by decide +kernel) ?_
  refine k_puti (o := 117) (v := -1) C.1 hnm (kOk.gt hN hge (by decide +kernel) (by decide +kernel) : kOk Z (kA Z [117] n) ([117] ++ [0] ++ List.range' 1 7 ++ [8] ++ List.range' 9 33 ++ [42] ++ List.range' 43 9 ++ [52] ++ List.range' 53 15 ++ [68] ++ List.range' 69 18 ++ List.range' 118 1)) (by decide +kernel) KI_gt_9 (Or.inr rfl) (by decide +kernel) ?_
  refine k_aload (k := 0) C.1 (t := 2) (x := 117) rfl (Or.inl rfl) (by decide +kernel) ?_
  refine k_new (co := 17) (a := 87) C.1 (by decide) (by decide) (CN := RX9) (T := TX9) (nf := 48) rfl (by decide +kernel) (ad3 0 (by decide)) q933 q934 q240 (kNew.of (k0_new (by decide +kernel) (by decide)) (c7 87 (by decide) (by decide))) (by decide) (by decide) (by decide +kernel) ?_
  refine k_dup C.1 (show (2 : Nat) ≠ 1 by decide) (by decide +kernel) ?_
  refine k_aload (k := 0) C.1 (t := 2) (x := 117) rfl (Or.inl rfl) (by decide +kernel) ?_
  refine k_get (o := 117) (b := 0) C.1 (by decide) (gall_spec KF_gt 10 0 rfl) g70 (by decide +kernel) ?_
  refine k_aload (k := 0) C.1 (t := 2) (x := 117) rfl (Or.inl rfl) (by decide +kernel) ?_
  refine k_get (o := 117) (b := 8) C.1 (by decide) (gall_spec KF_gt 21 1 rfl) g71 (by decide +kernel) ?_
  refine k_aload (k := 0) C.1 (t := 2) (x := 117) rfl (Or.inl rfl) (by decide +kernel) ?_
  refine k_get (o := 117) (b := 42) C.1 (by decide) (gall_spec KF_gt 28 2 rfl) g72 (by decide +kernel) ?_
  refine k_aload (k := 0) C.1 (t := 2) (x := 117) rfl (Or.inl rfl) (by decide +kernel) ?_
  refine k_get (o := 117) (b := 52) C.1 (by decide) (gall_spec KF_gt 37 3 rfl) g73 (by decide +kernel) ?_
  refine k_aload (k := 0) C.1 (t := 2) (x := 117) rfl (Or.inl rfl) (by decide +kernel) ?_
  refine k_get (o := 117) (b := 68) C.1 (by decide) (gall_spec KF_gt 44 4 rfl) g74 (by decide +kernel) ?_
  refine k_const (v := 1) C.1 (Or.inl ⟨rfl, rfl⟩) (by decide +kernel) ?_
  refine k_const (v := 100) C.1 (Or.inr (Or.inl ⟨rfl, rfl, by unfold i8; omega⟩)) (by decide +kernel) ?_
  refine k_iload (k := 1) C.1 (x := x) rfl (by decide +kernel) ?_
  have hm1 : jm_min (gt7 S) 100 x = some (gt7 S, if x < 100 then x else 100) := by
    rw [jm_min_e]
    by_cases h : x < 100
    · rw [if_pos h, if_pos h]
    · rw [if_neg h, if_neg h]
  have hm2 : jm_max (gt7 S) 1 (if x < 100 then x else 100) = some (gt7 S, kTh x) := by
    rw [jm_max_e]
    unfold kTh
    by_cases h : 1 < (if x < 100 then x else 100)
    · rw [if_pos h, if_pos h]
    · rw [if_neg h, if_neg h]
  have hx1 : i32 (if x < 100 then x else 100) := by
    split
    · exact hx
    · unfold i32; omega
  obtain ⟨n1, hn1⟩ := ((jm_min_l (gt7 S) 100 x).2 _).mp hm1
  obtain ⟨n2, hn2⟩ := ((jm_max_l (gt7 S) 1 (if x < 100 then x else 100)).2 _).mp hm2
  have okB : kOk Z (kA Z [117] n) ([117] ++ [0] ++ List.range' 1 7 ++ [8] ++ List.range' 9 33 ++ [42] ++ List.range' 43 9 ++ [52] ++ List.range' 53 15 ++ [68] ++ List.range' 69 18 ++ List.range' 118 1 ++ [87]) := kOk.gt hN hge (by decide +kernel) (by decide +kernel)
  have i1 : i32 1 := by unfold i32; omega
  have i100 : i32 100 := by unfold i32; omega
  have nil : gcans [] := fun v hv => by cases hv
  have st8 : gcans [(2, 68), (2, 52), (2, 42), (2, 8), (2, 0), (2, 87), (2, 87), (2, 117)] := by simp only [gcans_cons]; exact ⟨gcan2, gcan2, gcan2, gcan2, gcan2, gcan2, gcan2, gcan2, nil⟩
  refine kx_call (N := 0) (vi := false) (w0 := 9) (as := [(0, 100), (0, x)]) (st := [(0, 1), (2, 68), (2, 52), (2, 42), (2, 8), (2, 0), (2, 87), (2, 87), (2, 117)]) (σ' := gt7 S) (v := if x < 100 then x else 100) (nn := n1) C.1 (gm_jm_min (m := 0) (zlim_inj hi (Nat.zero_le _)) (Nat.le_refl 0)) (Or.inl q935) (by decide) (by decide) (by decide) (by decide) (Nat.zero_le _) (fun a h => absurd h (Nat.not_lt_zero a)) okB C.2.2.1 (by decide) (gft_inl hn1) (fun a h => absurd h (Nat.not_lt_zero a)) (gcans_cons.mpr ⟨gcan0.mpr i100, gcans_cons.mpr ⟨gcan0.mpr hx, nil⟩⟩) (gcans_cons.mpr ⟨gcan0.mpr i1, st8⟩) rfl (Or.inl rfl) (by simp [cv, Value.category]) (fun a _ _ j => rfl) ⟨fun h => (by cases h), fun h => absurd rfl h⟩ (by decide +kernel) ?_
  intro _ _
  refine kx_call (N := 0) (vi := false) (w0 := 8) (as := [(0, 1), (0, if x < 100 then x else 100)]) (st := [(2, 68), (2, 52), (2, 42), (2, 8), (2, 0), (2, 87), (2, 87), (2, 117)]) (σ' := gt7 S) (v := kTh x) (nn := n2) C.1 (gm_jm_max (m := 0) (zlim_inj hi (Nat.zero_le _)) (Nat.le_refl 0)) (Or.inl q938) (by decide) (by decide) (by decide) (by decide) (Nat.zero_le _) (fun a h => absurd h (Nat.not_lt_zero a)) okB C.2.2.1 (by decide) (gft_inl hn2) (fun a h => absurd h (Nat.not_lt_zero a)) (gcans_cons.mpr ⟨gcan0.mpr i1, gcans_cons.mpr ⟨gcan0.mpr hx1, nil⟩⟩) st8 rfl (Or.inl rfl) (by simp [cv, Value.category]) (fun a _ _ j => rfl) ⟨fun h => (by cases h), fun h => absurd rfl h⟩ (by decide +kernel) ?_
  intro _ _
  refine kx_ctor (as := [(2, 0), (2, 8), (2, 42), (2, 52), (2, 68), (0, kTh x)]) (o := 87) (st := [(2, 87), (2, 117)]) (cs0 := [87]) (nw := List.range' 88 29) (k := 6) C (km_mc (σ := gt7 S) hi hN (k_ad ad3 (b := 1) (by decide) rfl rfl) (fun i hi j => c7 (88 + i) (by omega) (by omega) j)) q943 q240 (Or.inl q941) q942 rfl hd_mc rfl rfl rfl ⟨by decide, by decide⟩ ⟨by decide, by decide⟩ okB (by decide +kernel) (fun a ha h0 j => by have h1 : a ≠ 87 := fun q => h0 (List.mem_singleton.mpr q); have h2 : a < 88 ∨ 116 < a := (show ∀ a ∈ [117] ++ [0] ++ List.range' 1 7 ++ [8] ++ List.range' 9 33 ++ [42] ++ List.range' 43 9 ++ [52] ++ List.range' 53 15 ++ [68] ++ List.range' 69 18 ++ List.range' 118 1 ++ [87], a < 88 ∨ 116 < a by decide +kernel) a ha; rw [mcM_c (by omega)]) (by simp [cv, Value.category]) (by decide +kernel) fun _ => ?_
  refine k_putr (o := 117) (b := 87) C.1 hnm (kOk.gt hN hge (by decide +kernel) (by decide +kernel) : kOk Z (kA Z [117] n) ([117] ++ [0] ++ List.range' 1 7 ++ [8] ++ List.range' 9 33 ++ [42] ++ List.range' 43 9 ++ [52] ++ List.range' 53 15 ++ [68] ++ List.range' 69 18 ++ List.range' 118 1 ++ [87] ++ List.range' 88 29)) (by decide +kernel) (gall_spec KF_gt 70 5 rfl) (by decide +kernel) ?_
  refine k_aload (k := 0) C.1 (t := 2) (x := 117) rfl (Or.inl rfl) (by decide +kernel) ?_
  refine k_get (o := 117) (b := 87) C.1 (by decide) (gall_spec KF_gt 70 5 rfl) (gW_at ..) (by decide +kernel) ?_
  refine kx_call (N := 119) (vi := true) (w0 := 8) (as := [(2, 87)]) (st := []) (σ' := M) (v := z) (nn := nn) C.1 (gm_mc_clear (m := 119) (zlim_inj hi (by rw [hN]; decide)) (Nat.le_refl 119)) (Or.inl q1116) (by decide) (by decide) (by decide) (by decide) (by rw [hN]; decide) (by decide +kernel) (kOk.gt hN hge (by decide +kernel) (by decide +kernel) : kOk Z (kA Z [117] n) ([117] ++ [0] ++ List.range' 1 7 ++ [8] ++ List.range' 9 33 ++ [42] ++ List.range' 43 9 ++ [52] ++ List.range' 53 15 ++ [68] ++ List.range' 69 18 ++ List.range' 118 1 ++ [87] ++ List.range' 88 29)) C.2.2.1 (by decide) (gft_inl hnn) (hI3 X1) (gcans_cons.mpr ⟨gcan2, nil⟩) nil rfl (Or.inr (Or.inr ⟨by decide, by decide, 87, [], rfl, by decide +kernel, by show 87 < 119; decide⟩)) (show (0 : Nat) ≤ 8 by decide) (fun a ha h52 => absurd ((show ∀ a ∈ [117] ++ [0] ++ List.range' 1 7 ++ [8] ++ List.range' 9 33 ++ [42] ++ List.range' 43 9 ++ [52] ++ List.range' 53 15 ++ [68] ++ List.range' 69 18 ++ List.range' 118 1 ++ [87] ++ List.range' 88 29, a < 119 by decide +kernel) a ha) (by omega)) ⟨fun _ => by decide, fun _ => rfl⟩ (by decide +kernel) ?_
  intro hX _
  exact k_ret C.1 hr hlk (by decide +kernel) rfl (by decide +kernel) hX
end KGT
