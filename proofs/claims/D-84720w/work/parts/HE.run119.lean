/-! Forest's constructor -/
theorem gft_inl {f : gFn} {n : Nat} {as : List gV} {σ S : gM} {x : Int} (h : f n as σ = some (S, x)) : gft (.inl f) n as σ = some (S, some x) := by
  unfold gft
  simp only [h]
  rfl
theorem lo_same {f : gFn} : gLo (.inl f) (.inl f) := fun _ _ _ _ _ h => h
theorem lo_jcopy {w : Nat} : gLo (.inl (jcopy (119, w))) (.inl (jcopy (42, w))) := by
  intro n as σ ha
  unfold jcopy
  split
  · rename_i a sp b dp n
    have h1 := gLv_cons.mp ha
    have h2 := gLv_cons.mp (gLv_cons.mp h1.2).2
    exact oL.xis (h1.1 rfl) fun _ => oL.xis (h2.1 rfl) fun _ => oL.xwr (fun _ h => h)
  · exact oL.nn
theorem lo_hp_begin : gLo (.inl (fn_hp_begin 119)) (.inl (fn_hp_begin 42)) := gF_lo (E := e_hp_begin 119) (cl := (e_hp_begin 42).2.2.2.1) (by decide +kernel) trivial
theorem lo_hp_clear : gLo (.inl (fn_hp_clear 119)) (.inl (fn_hp_clear 42)) := gF_lo (E := e_hp_clear 119) (cl := (e_hp_clear 42).2.2.2.1) (by decide +kernel) ⟨⟨rfl, rfl, rfl, rfl⟩, by decide, lo_hp_begin, trivial⟩
theorem lo_hp_is : gLo (.inl (fn_hp_is 119)) (.inl (fn_hp_is 42)) := gF_lo (E := e_hp_is 119) (cl := (e_hp_is 42).2.2.2.1) (by decide +kernel) trivial
theorem lo_hp_string : gLo (.inl (fn_hp_string 119)) (.inl (fn_hp_string 42)) := gF_lo (E := e_hp_string 119) (cl := (e_hp_string 42).2.2.2.1) (by decide +kernel) ⟨⟨rfl, rfl, rfl, rfl⟩, by decide, lo_hp_is, ⟨rfl, rfl, rfl, rfl⟩, by decide, lo_jcopy, trivial⟩
theorem lo_fr_spell : gLo (.inl (fn_fr_spell 119)) (.inl (fn_fr_spell 42)) := gF_lo (E := e_fr_spell 119) (cl := (e_fr_spell 42).2.2.2.1) (by decide +kernel) ⟨⟨rfl, rfl, rfl, rfl⟩, by decide, lo_same, ⟨rfl, rfl, rfl, rfl⟩, by decide, lo_same, trivial⟩
theorem lo_fr_function : gLo (.inl (fn_fr_function 119)) (.inl (fn_fr_function 42)) := gF_lo (E := e_fr_function 119) (cl := (e_fr_function 42).2.2.2.1) (by decide +kernel) ⟨⟨rfl, rfl, rfl, rfl⟩, by decide, lo_hp_string, trivial⟩
theorem lo_fr_rootOf : gLo (.inl (fn_fr_rootOf 119)) (.inl (fn_fr_rootOf 42)) := gF_lo (E := e_fr_rootOf 119) (cl := (e_fr_rootOf 42).2.2.2.1) (by decide +kernel) trivial
theorem lo_fr_plant : gLo (.inl (fn_fr_plant 119)) (.inl (fn_fr_plant 42)) := gF_lo (E := e_fr_plant 119) (cl := (e_fr_plant 42).2.2.2.1) (by decide +kernel) ⟨⟨rfl, rfl, rfl, rfl⟩, by decide, lo_fr_spell, ⟨rfl, rfl, rfl, rfl⟩, by decide, lo_fr_function, ⟨rfl, rfl, rfl, rfl⟩, by decide, lo_fr_rootOf, trivial⟩
theorem lo_fr_text : gLo (.inl (fn_fr_text 119)) (.inl (fn_fr_text 42)) := gF_lo (E := e_fr_text 119) (cl := (e_fr_text 42).2.2.2.1) (by decide +kernel) ⟨⟨rfl, rfl, rfl, rfl⟩, by decide, lo_fr_spell, ⟨rfl, rfl, rfl, rfl⟩, by decide, lo_hp_string, trivial⟩
theorem lo_fr_clear : gLo (.inl (fn_fr_clear 119)) (.inl (fn_fr_clear 42)) := gF_lo (E := e_fr_clear 119) (cl := (e_fr_clear 42).2.2.2.1) (by decide +kernel) ⟨⟨rfl, rfl, rfl, rfl⟩, by decide, lo_hp_clear, ⟨rfl, rfl, rfl, rfl⟩, by decide, lo_fr_plant, ⟨rfl, rfl, rfl, rfl⟩, by decide, lo_fr_text, trivial⟩
theorem fr_clear_42 {σ S : gM} {x : Int} (h : fr_clear σ = some (S, x)) : ∃ n, fn_fr_clear 42 n [(2, 8)] σ = some (S, x) := by
  obtain ⟨n, hn⟩ := ((fr_clear_l σ).2 _).mp h
  exact ⟨n, lo_fr_clear n [(2, 8)] σ (gLv_cons.mpr ⟨fun _ => (show (8 : Int) < 42 by decide), gLv_nil⟩) _ hn⟩
theorem sp_clear_52 (σ : gM) : fn_sp_clear 52 2 [(2, 42)] σ = some (gW (gW (gW (gW (gW (gW (gW (gW σ 42 6 1) 43 0 (-1)) 44 0 (-1)) 45 0 (-1)) 46 0 (-1)) 47 0 0) 42 10 0) 42 11 0, 0) := rfl
/-- memory before Forest's constructor clears -/
def frM (σ : gM) : gM := gW (kmem kf_fr 8 40 gs_fr1 (gW (wlM 8 38 36 (kmem kf_fr 8 9 gs_fr0 σ)) 8 39 39)) 8 0 0
def spM (σ : gM) : gM := gW (kmem kf_sp 42 43 gs_sp0 σ) 42 0 0
def spC (σ : gM) : gM := gW (gW (gW (gW (gW (gW (gW (gW σ 42 6 1) 43 0 (-1)) 44 0 (-1)) 45 0 (-1)) 46 0 (-1)) 47 0 0) 42 10 0) 42 11 0
section KF
variable {l : Launch} {Z : gZ} {σ S : gM} {n : Nat} {x : Int}
theorem km_fr (hi : gInj Z) (hN : zN Z = 227) (had : ∀ i, i < 33 → zA Z (9 + i) = n + i) (hz : ∀ i, i < 33 → ∀ j, σ ((9 + i : Nat) : Int) j = k0 ((9 + i : Nat) : Int) j) (hI : gI 42 (frM σ)) (hS : fr_clear (frM σ) = some (S, x)) :
    kMet l Z yX3_init (ws_ yX3_init cX3_init 2 none) ⟨7, 33, 815362, 212⟩ [(2, 8), (2, 0)] σ S (List.range 9) (List.range' 9 33) n 33 815362 (gI 42 S) := by
  obtain ⟨nn, hnn⟩ := fr_clear_42 hS
  refine kMet.of (by decide +kernel) rfl hi (fun a ha => by rw [hN]; have := List.mem_range.mp ha; omega) rfl ?_
  intro p e s m args below meth c C hnm hr hlk
  refine k_aload (k := 0) C.1 (t := 2) (x := 8) rfl (Or.inl rfl) (by decide +kernel) ?_
  refine k_obj C.1 q336 (by decide) (by decide) (by decide +kernel) ?_
  refine k_grps (o := 8) C hnm KC_fr KF_fr rfl gs_fr0 σ (List.range 9) 9 n 0 0 4 (by decide +kernel) (kOk.list hN had (by decide) (by decide) (by decide)) (by decide) (fun q h => Or.inr h) (k_fs (k := 27) (by rw [hN]; decide) (k_ad had (b := 0) (by decide) rfl rfl) (by decide) (by decide +kernel) (k_hz hz (b := 0) (by decide) rfl)) (by decide) (by decide) ?_
  refine k_whole (o := 8) (w := 36) (kk := 38) (f := 99) C hnm rfl hN (kOk.list hN had (by decide) (by decide +kernel) (by decide)) (kOk.list hN had (by decide) (by decide +kernel) (by decide)) (kOk.list hN had (by decide) (by decide +kernel) (by decide)) (by decide) q339 ⟨_, q341⟩ (gall_spec KF_fr 99 38 rfl) (by decide +kernel) (by decide +kernel) (by decide +kernel) (by decide +kernel) (by decide +kernel) (by decide) (by decide +kernel) (by decide +kernel) (by decide +kernel) (had 27 (by decide)) (k_ad had (b := 28) (by decide) rfl rfl) (by decide) (fun j => by rw [kmem_c (by decide)]; exact hz 27 (by decide) j) (fun i hi j => by rw [kmem_c (by omega)]; exact k_hz hz (b := 28) (c := 2) (a' := 37) (by decide) rfl i hi j) (by decide) (by decide) (by decide) (by decide) ?_
  refine k_aload (k := 0) C.1 (t := 2) (x := 8) rfl (Or.inl rfl) (by decide +kernel) ?_
  refine k_const (v := 7) C.1 (Or.inr (Or.inl ⟨rfl, rfl, by unfold i8; omega⟩)) (by decide +kernel) ?_
  have a39 : zA Z 39 = n + 27 + 3 := had 30 (by decide)
  refine kq_new C a39 q362 (by decide) (by decide) (by decide +kernel) ?_
  have hA39 : kA Z (List.range 9) n (zA Z 39) := Or.inr (by rw [a39]; omega)
  have h39 : ∀ a ∈ List.range 9 ++ List.range' 9 27 ++ [36] ++ List.range' 37 2, zA Z a ≠ zA Z 39 := by
    intro a ha q
    have h1 : a < 39 := (show ∀ a ∈ List.range 9 ++ List.range' 9 27 ++ [36] ++ List.range' 37 2, a < 39 by decide) a ha
    have := hi a 39 (by rw [hN]; omega) (by rw [hN]; decide) q
    omega
  refine kq_st (i := 0) (k := 7) (idx := 105) (tx := "number") C hA39 h39 (by decide) (by decide) (by decide +kernel) (Or.inl ⟨rfl, rfl⟩) (by decide +kernel) (by decide +kernel) (by decide +kernel) (by decide +kernel) ?_
  refine kq_st (i := 1) (k := 7) (idx := 105) (tx := "number") C hA39 h39 (by decide) (by decide) (by decide +kernel) (Or.inl ⟨rfl, rfl⟩) (by decide +kernel) (by decide +kernel) (by decide +kernel) (by decide +kernel) ?_
  refine kq_st (i := 2) (k := 8) (idx := 107) (tx := "string") C hA39 h39 (by decide) (by decide) (by decide +kernel) (Or.inl ⟨rfl, rfl⟩) (by decide +kernel) (by decide +kernel) (by decide +kernel) (by decide +kernel) ?_
  refine kq_st (i := 3) (k := 6) (idx := 109) (tx := "truth") C hA39 h39 (by decide) (by decide) (by decide +kernel) (Or.inl ⟨rfl, rfl⟩) (by decide +kernel) (by decide +kernel) (by decide +kernel) (by decide +kernel) ?_
  refine kq_st (i := 4) (k := 5) (idx := 111) (tx := "null") C hA39 h39 (by decide) (by decide) (by decide +kernel) (Or.inl ⟨rfl, rfl⟩) (by decide +kernel) (by decide +kernel) (by decide +kernel) (by decide +kernel) ?_
  refine kq_st (i := 5) (k := 9) (idx := 113) (tx := "function") C hA39 h39 (by decide) (by decide) (by decide +kernel) (Or.inl ⟨rfl, rfl⟩) (by decide +kernel) (by decide +kernel) (by decide +kernel) (by decide +kernel) ?_
  refine kq_st (i := 6) (k := 10) (idx := 115) (tx := "object") C hA39 h39 (by decide) (by decide) (by decide +kernel) (Or.inr ⟨rfl, rfl⟩) (by decide +kernel) (by decide +kernel) (by decide +kernel) (by decide +kernel) ?_
  refine kq_end (fun j hj => ?_) ?_
  · have e39 : ∀ j, wlM 8 38 36 (kmem kf_fr 8 9 gs_fr0 σ) 39 j = k0 39 j := fun j => by
      rw [wlM_c (by decide) (by decide), kmem_c (by decide)]
      exact hz 30 (by decide) j
    rw [e39]
    have hk : ∀ j : Fin 7, (k0 39 (j.val : Int)).toNat = [7, 7, 8, 6, 5, 9, 10].getD j.val 0 := by decide +kernel
    rw [hk ⟨j, hj⟩]
    have hj7 : j = 0 ∨ j = 1 ∨ j = 2 ∨ j = 3 ∨ j = 4 ∨ j = 5 ∨ j = 6 := by omega
    rcases hj7 with h | h | h | h | h | h | h <;> subst h <;> rfl
  have ok2 : kOk Z (kA Z (List.range 9) n) (List.range 9 ++ List.range' 9 27 ++ [36] ++ List.range' 37 2 ++ [39]) := kOk.list hN had (by decide) (by decide +kernel) (by decide)
  refine k_putr (o := 8) (b := 39) C.1 hnm ok2 (by decide) (gall_spec KF_fr 117 39 rfl) (by decide +kernel) ?_
  refine k_grps (o := 8) C hnm KC_fr KF_fr rfl gs_fr1 (gW (wlM 8 38 36 (kmem kf_fr 8 9 gs_fr0 σ)) 8 39 39) (List.range 9 ++ List.range' 9 27 ++ [36] ++ List.range' 37 2 ++ [39]) 40 (n + 31) 31 815343 289 (by decide +kernel) ok2 (by decide) (fun q h => Or.inr (by omega)) (k_fs (k := 2) (by rw [hN]; decide) (k_ad had (b := 31) (by decide) rfl rfl) (by decide) (by decide +kernel) (fun i hi j => by rw [gW_c (by omega), wlM_c (by omega) (by omega), kmem_c (by omega)]; exact k_hz hz (b := 31) (c := 2) (a' := 40) (by decide) rfl i hi j)) (by decide) (by decide) ?_
  have ok3 : kOk Z (kA Z (List.range 9) n) (List.range 9 ++ List.range' 9 27 ++ [36] ++ List.range' 37 2 ++ [39] ++ List.range' 40 2) := kOk.list hN had (by decide) (by decide +kernel) (by decide)
  refine k_aload (k := 0) C.1 (t := 2) (x := 8) rfl (Or.inl rfl) (by decide +kernel) ?_
  refine k_aload (k := 1) C.1 (t := 2) (x := 0) rfl (Or.inl rfl) (by decide +kernel) ?_
  refine k_putr (o := 8) (b := 0) C.1 hnm ok3 (by decide) (gall_spec KF_fr 128 0 rfl) (by decide +kernel) ?_
  refine k_aload (k := 0) C.1 (t := 2) (x := 8) rfl (Or.inl rfl) (by decide +kernel) ?_
  refine kx_call (N := 42) (vi := true) (as := [(2, 8)]) (st := []) (σ' := S) (v := x) (nn := nn) C.1 (gm_fr_clear (m := 42) (zlim_inj hi (by rw [hN]; decide)) (Nat.le_refl 42)) (Or.inl q370) (by decide) (by decide) (by decide) (by decide) (by rw [hN]; decide) (by decide +kernel) ok3 C.2.2.1 (by decide) (gft_inl hnn) hI (gcans_cons.mpr ⟨gcan2, fun v hv => by cases hv⟩) (fun v hv => by cases hv) rfl (Or.inr (Or.inr ⟨by decide, by decide, 8, [], rfl, by decide +kernel, by show 8 < 42; decide⟩)) (show (0 : Nat) ≤ 8 by decide) (fun a ha h42 => absurd ((show ∀ a ∈ List.range 9 ++ List.range' 9 27 ++ [36] ++ List.range' 37 2 ++ [39] ++ List.range' 40 2, a < 42 by decide +kernel) a ha) (by omega)) ⟨fun _ => by decide, fun _ => rfl⟩ (by decide +kernel) ?_
  intro hX _
  exact k_ret C.1 hr hlk (by decide +kernel) rfl (by decide +kernel) hX
theorem km_sp (hi : gInj Z) (hN : zN Z = 227) (had : ∀ i, i < 9 → zA Z (43 + i) = n + i) (hz : ∀ i, i < 9 → ∀ j, σ ((43 + i : Nat) : Int) j = k0 ((43 + i : Nat) : Int) j) (hI : gI 52 (spM σ)) :
    kMet l Z yX5_init (ws_ yX5_init cX5_init 2 none) ⟨1, 9, 41412, 40⟩ [(2, 42), (2, 0)] σ (spC (spM σ)) (List.range 43) (List.range' 43 9) n 9 41412 (gI 52 (spC (spM σ))) := by
  refine kMet.of (by decide +kernel) rfl hi (fun a ha => by rw [hN]; have := List.mem_range.mp ha; omega) rfl ?_
  intro p e s m args below meth c C hnm hr hlk
  refine k_aload (k := 0) C.1 (t := 2) (x := 42) rfl (Or.inl rfl) (by decide +kernel) ?_
  refine k_obj C.1 q654 (by decide) (by decide) (by decide +kernel) ?_
  refine k_grps (o := 42) C hnm KC_sp KF_sp rfl gs_sp0 σ (List.range 43) 43 n 0 0 4 (by decide +kernel) (kOk.list hN had (by decide) (by decide +kernel) (by decide)) (by decide) (fun q h => Or.inr h) (k_fs (k := 9) (by rw [hN]; decide) had (by decide) (by decide +kernel) hz) (by decide) (by decide) ?_
  have ok3 : kOk Z (kA Z (List.range 43) n) (List.range 43 ++ List.range' 43 9) := kOk.list hN had (by decide) (by decide +kernel) (by decide)
  refine k_aload (k := 0) C.1 (t := 2) (x := 42) rfl (Or.inl rfl) (by decide +kernel) ?_
  refine k_aload (k := 1) C.1 (t := 2) (x := 0) rfl (Or.inl rfl) (by decide +kernel) ?_
  refine k_putr (o := 42) (b := 0) C.1 hnm ok3 (by decide) (gall_spec KF_sp 41 0 rfl) (by decide +kernel) ?_
  refine k_aload (k := 0) C.1 (t := 2) (x := 42) rfl (Or.inl rfl) (by decide +kernel) ?_
  refine kx_call (N := 52) (vi := true) (as := [(2, 42)]) (st := []) (σ' := spC (spM σ)) (v := 0) (nn := 2) C.1 (gm_sp_clear (m := 52) (zlim_inj hi (by rw [hN]; decide)) (Nat.le_refl 52)) (Or.inl q656) (by decide) (by decide) (by decide) (by decide) (by rw [hN]; decide) (by decide +kernel) ok3 C.2.2.1 (by decide) (gft_inl (sp_clear_52 (spM σ))) hI (gcans_cons.mpr ⟨gcan2, fun v hv => by cases hv⟩) (fun v hv => by cases hv) rfl (Or.inr (Or.inr ⟨by decide, by decide, 42, [], rfl, by decide +kernel, by show 42 < 52; decide⟩)) (show (0 : Nat) ≤ 8 by decide) (fun a ha h52 => absurd ((show ∀ a ∈ List.range 43 ++ List.range' 43 9, a < 52 by decide +kernel) a ha) (by omega)) ⟨fun _ => by decide, fun _ => rfl⟩ (by decide +kernel) ?_
  intro hX _
  exact k_ret C.1 hr hlk (by decide +kernel) rfl (by decide +kernel) hX
end KF
