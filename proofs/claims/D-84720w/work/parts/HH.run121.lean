/-! the model's constructor -/
/-- memory as the model's constructor goes on -/
def md2 (σ : gM) : gM := kmem kf_md 119 121 gs_md0 (gW σ 119 0 120)
def md3 (σ : gM) : gM := gW (gW (md2 σ) 119 129 (-1)) 119 130 (-1)
def md5 (σ : gM) : gM := gW (kmem kf_md 119 208 gs_md1 (md3 σ)) 119 155 (-1)
def md6 (x : Int) (σ : gM) : gM := gW (md5 σ) 119 1 (kTh x)
section KMD
variable {p : Program} {l : Launch} {e : Env} {R : Room} {s : State} {m : MethodId} {args : Array Value} {below : List Frame} {meth : Method} {c : Code} {Q : State → Prop} {cc : ByteArray} {nL : Nat} {Z : gZ} {own : String} {A : Nat → Prop} {σ M : gM} {cs : List Nat} {n cells slots pc : Nat} {ls st : List gV} {x y z : Int}
theorem k_ge {off : Int} {tgt : Nat} (C : gCx p s m args c cc nL own Z) (hx : i32 x) (hy : i32 y) (hd : decode cc pc = .ok (.if_icmp .ge off, 3)) (ht : (pc : Int) + off = (tgt : Int))
    (K1 : y ≤ x → kAt p l e R s m args below meth c Q nL A Z σ cs n cells slots tgt ls st) (K2 : x < y → kAt p l e R s m args below meth c Q nL A Z σ cs n cells slots (pc + 3) ls st) : kAt p l e R s m args below meth c Q nL A Z σ cs n cells slots pc ls ((0, y) :: (0, x) :: st) := by
  intro H locs la hP hn hS hL
  exact lv_icmp_ge C.1 C.2.1 hd ht (fun q => K1 ((n_le hy hx).mp q) H locs la hP hn hS hL) (fun q => K2 (Int.not_le.mp fun z => q ((n_le hy hx).mpr z)) H locs la hP hn hS hL)
theorem k_le {off : Int} {tgt : Nat} (C : gCx p s m args c cc nL own Z) (hx : i32 x) (hy : i32 y) (hd : decode cc pc = .ok (.if_icmp .le off, 3)) (ht : (pc : Int) + off = (tgt : Int))
    (K1 : x ≤ y → kAt p l e R s m args below meth c Q nL A Z σ cs n cells slots tgt ls st) (K2 : y < x → kAt p l e R s m args below meth c Q nL A Z σ cs n cells slots (pc + 3) ls st) : kAt p l e R s m args below meth c Q nL A Z σ cs n cells slots pc ls ((0, y) :: (0, x) :: st) := by
  intro H locs la hP hn hS hL
  exact lv_icmp_le C.1 C.2.1 hd ht (fun q => K1 ((n_le hx hy).mp q) H locs la hP hn hS hL) (fun q => K2 (Int.not_le.mp fun z => q ((n_le hx hy).mpr z)) H locs la hP hn hS hL)
theorem k_goto {off : Int} {tgt : Nat} (C : gCx p s m args c cc nL own Z) (hd : decode cc pc = .ok (.goto off, 3)) (ht : (pc : Int) + off = (tgt : Int))
    (K : kAt p l e R s m args below meth c Q nL A Z σ cs n cells slots tgt ls st) : kAt p l e R s m args below meth c Q nL A Z σ cs n cells slots pc ls st := by
  intro H locs la hP hn hS hL
  exact lv_goto C.1 C.2.1 hd ht (K H locs la hP hn hS hL)
theorem km_md (hfl : l.flags = pinnedFlags ++ [noTraceFlag]) (hi : gInj Z) (hN : zN Z = 227) (had : ∀ i, i < 107 → zA Z (120 + i) = n + i) (hz : ∀ i, i < 106 → ∀ j, σ ((121 + i : Nat) : Int) j = k0 ((121 + i : Nat) : Int) j) (hI : gI 227 (md6 x σ)) (hS : md_houseBegins (md6 x σ) = some (M, z)) (hx : i32 x) :
    kMet l Z yX10_init (ws_ yX10_init cX10_init 2 none) ⟨6, 107, 1545579, 128⟩ [(2, 119), (0, x)] σ M (List.range 120) (List.range' 120 107) n 107 1545579 (gI 227 M) := by
  obtain ⟨nn, hnn⟩ := ((md_houseBegins_l (md6 x σ)).2 _).mp hS
  refine kMet.of (by decide +kernel) rfl hi (fun a ha => by rw [hN]; have := List.mem_range.mp ha; omega) rfl ?_
  intro p e s m args below meth c C hnm hr hlk
  refine k_aload (k := 0) C.1 (t := 2) (x := 119) rfl (Or.inl rfl) (by decide +kernel) ?_
  refine k_obj C.1 q1992 (by decide) (by decide) (by decide +kernel) ?_
  refine k_aload (k := 0) C.1 (t := 2) (x := 119) rfl (Or.inl rfl) (by decide +kernel) ?_
  refine k_stop (ic := 9) (idx := 7) C hfl (had 0 (by decide)) q1993 q2032 (by decide) (by decide) (by decide) (by decide) (by simp [cv, Value.category]) (by decide +kernel) (by decide +kernel) (by decide +kernel) ?_
  have ok1 : kOk Z (kA Z (List.range 120) n) (List.range 120 ++ [120]) := kOk.list hN had (by decide +kernel) (by decide +kernel) (by decide +kernel)
  refine k_putr (o := 119) (b := 120) C.1 hnm ok1 (by decide +kernel) (gall_spec KF_md 10 0 rfl) (by decide +kernel) ?_
  refine k_grps (o := 119) C hnm KC_md KF_md rfl gs_md0 (gW σ 119 0 120) (List.range 120 ++ [120]) 121 (n + 1) 1 6 15 (by decide +kernel) ok1 (by decide +kernel) (fun q h => Or.inr (by omega)) (k_fs (k := 87) (by rw [hN]; decide) (k_ad had (b := 1) (by decide) rfl rfl) (by decide +kernel) (by decide +kernel) (fun i hi j => by rw [gW_c (by omega)]; exact k_hz hz (b := 0) (c := 87) (a' := 121) (by decide) rfl i hi j)) (by decide +kernel) (by decide +kernel) ?_
  have ok2 : kOk Z (kA Z (List.range 120) n) (List.range 120 ++ [120] ++ List.range' 121 87) := kOk.list hN had (by decide +kernel) (by decide +kernel) (by decide +kernel)
  refine k_aload (k := 0) C.1 (t := 2) (x := 119) rfl (Or.inl rfl) (by decide +kernel) ?_
  refine k_const (v := -1) C.1 (Or.inl ⟨rfl, rfl⟩) (by decide +kernel) ?_
  refine k_puti (o := 119) (v := -1) C.1 hnm ok2 (by decide +kernel) KI_md_129 (Or.inr rfl) (by decide +kernel) ?_
  refine k_aload (k := 0) C.1 (t := 2) (x := 119) rfl (Or.inl rfl) (by decide +kernel) ?_
  refine k_const (v := -1) C.1 (Or.inl ⟨rfl, rfl⟩) (by decide +kernel) ?_
  refine k_puti (o := 119) (v := -1) C.1 hnm ok2 (by decide +kernel) KI_md_130 (Or.inr rfl) (by decide +kernel) ?_
  refine k_grps (o := 119) C hnm KC_md KF_md rfl gs_md1 (md3 σ) (List.range 120 ++ [120] ++ List.range' 121 87) 208 (n + 88) 88 1362563 763 (by decide +kernel) ok2 (by decide +kernel) (fun q h => Or.inr (by omega)) (k_fs (k := 19) (by rw [hN]; decide) (k_ad had (b := 88) (by decide) rfl rfl) (by decide +kernel) (by decide +kernel) (fun i hi j => by rw [md3, gW_c (by omega), gW_c (by omega), md2, kmem_c (by omega), gW_c (by omega)]; exact k_hz hz (b := 87) (c := 19) (a' := 208) (by decide) rfl i hi j)) (by decide +kernel) (by decide +kernel) ?_
  have ok3 : kOk Z (kA Z (List.range 120) n) (List.range 120 ++ [120] ++ List.range' 121 87 ++ List.range' 208 19) := kOk.list hN had (by decide +kernel) (by decide +kernel) (by decide +kernel)
  refine k_aload (k := 0) C.1 (t := 2) (x := 119) rfl (Or.inl rfl) (by decide +kernel) ?_
  refine k_const (v := -1) C.1 (Or.inl ⟨rfl, rfl⟩) (by decide +kernel) ?_
  refine k_puti (o := 119) (v := -1) C.1 hnm ok3 (by decide +kernel) KI_md_155 (Or.inr rfl) (by decide +kernel) ?_
  have nil : gcans [] := fun v hv => by cases hv
  have last : kAt p l e ⟨6, 107, 1545579, 128⟩ s m args below meth c (MQ below (kQc Z M (List.range 120) (List.range 120 ++ List.range' 120 107) n (n + (List.range' 120 107).length) (gI 227 M)) args s 107 1545579 (kA Z (List.range 120) n)) 2 (kA Z (List.range 120) n) Z (md5 σ) (List.range 120 ++ [120] ++ List.range' 121 87 ++ List.range' 208 19) (n + 107) 107 1545579 953 (gpad 2 [(2, 119), (0, x)]) [(0, kTh x), (2, 119)] := by
    refine k_puti (o := 119) (v := kTh x) C.1 hnm ok3 (by decide +kernel) KI_md_1 (Or.inl rfl) (by decide +kernel) ?_
    refine k_aload (k := 0) C.1 (t := 2) (x := 119) rfl (Or.inl rfl) (by decide +kernel) ?_
    refine kx_call (N := 227) (vi := true) (w0 := 8) (as := [(2, 119)]) (st := []) (σ' := M) (v := z) (nn := nn) C.1 (gm_md_houseBegins (m := 227) (zlim_inj hi (by rw [hN]; decide)) (Nat.le_refl 227) (show gStop.toNat < 227 by decide)) (Or.inl q2059) (by decide) (by decide) (by decide) (by decide) (by rw [hN]; decide) (by decide +kernel) ok3 C.2.2.1 (by decide) (gft_inl hnn) hI (gcans_cons.mpr ⟨gcan2, nil⟩) nil rfl (Or.inr (Or.inr ⟨by decide, by decide, 119, [], rfl, by decide +kernel, by show 119 < 227; decide⟩)) (show (0 : Nat) ≤ 8 by decide) (fun a ha h52 => absurd ((show ∀ a ∈ List.range 120 ++ [120] ++ List.range' 121 87 ++ List.range' 208 19, a < 227 by decide +kernel) a ha) (by omega)) ⟨fun _ => by decide, fun _ => rfl⟩ (by decide +kernel) ?_
    intro hX _
    exact k_ret C.1 hr hlk (by decide +kernel) rfl (by decide +kernel) hX
  have i1 : i32 1 := by unfold i32; omega
  have i100 : i32 100 := by unfold i32; omega
  refine k_aload (k := 0) C.1 (t := 2) (x := 119) rfl (Or.inl rfl) (by decide +kernel) ?_
  refine k_iload (k := 1) C.1 (x := x) rfl (by decide +kernel) ?_
  refine k_const (v := 1) C.1 (Or.inl ⟨rfl, rfl⟩) (by decide +kernel) ?_
  refine k_ge (tgt := 941) C.1 hx i1 (off := 7) (by decide +kernel) (by decide) (fun h1 => ?_) (fun h1 => ?_)
  · refine k_iload (k := 1) C.1 (x := x) rfl (by decide +kernel) ?_
    refine k_const (v := 100) C.1 (Or.inr (Or.inl ⟨rfl, rfl, by unfold i8; omega⟩)) (by decide +kernel) ?_
    refine k_le (tgt := 952) C.1 hx i100 (off := 8) (by decide +kernel) (by decide) (fun h2 => ?_) (fun h2 => ?_)
    · refine k_iload (k := 1) C.1 (x := x) rfl (by decide +kernel) ?_
      have : kTh x = x := by unfold kTh; repeat' split <;> omega
      rw [this] at last
      exact last
    · refine k_const (v := 100) C.1 (Or.inr (Or.inl ⟨rfl, rfl, by unfold i8; omega⟩)) (by decide +kernel) ?_
      refine k_goto (tgt := 953) C.1 (off := 4) (by decide +kernel) (by decide) ?_
      have : kTh x = 100 := by unfold kTh; repeat' split <;> omega
      rw [this] at last
      exact last
  · refine k_const (v := 1) C.1 (Or.inl ⟨rfl, rfl⟩) (by decide +kernel) ?_
    refine k_goto (tgt := 953) C.1 (off := 15) (by decide +kernel) (by decide) ?_
    have : kTh x = 1 := by unfold kTh; repeat' split <;> omega
    rw [this] at last
    exact last
end KMD
