/-! memory behind GraftTrees' constructor -/
theorem kTh_i {x : Int} : i32 (kTh x) := by
  unfold kTh i32
  repeat' split
  all_goals omega
theorem wlM_v {o kk w k : Nat} {σ : gM} {b : Nat → Int} (hw : (o : Int) ≠ w) (h : σ o k = b k) : wlM o kk w σ o k = if k = kk then (w : Int) else b k := by
  unfold wlM
  refine gW_v ?_
  rw [kmem_c hw]
  exact h
theorem wlM_w {o kk w k : Nat} {σ : gM} (hw : (w : Int) ≠ o) (h : σ w k = k0 w k) : wlM o kk w σ w k = kval kf_wl w (w + 1) gs_wl0 (fun k => k0 w k) k := by
  unfold wlM
  rw [gW_c hw]
  exact kmem_v h
section GTI
variable {S : gM} {x : Int}
theorem gt_I (hSc : ∀ a : Nat, 42 ≤ a → ∀ j, S (a : Int) j = gt1 k0 (a : Int) j) (h : gI 42 S) : gI 119 (gt8 x S) := by
  have I52 : gI 52 (spC (spM (gt2 S))) := spC_I (sp_I hSc h)
  have c2 : ∀ a : Nat, 42 ≤ a → a ≠ 117 → ∀ j, gt2 S (a : Int) j = k0 (a : Int) j := fun a h1 h3 j => by rw [gt2, gW_c (by omega), hSc a h1 j, gt1, gW_c (by omega), kmem_c (by omega)]
  have c3 : ∀ a : Nat, 47 < a → a ≠ 117 → ∀ j, gt3 S (a : Int) j = k0 (a : Int) j := fun a h1 h3 j => by rw [gt3, gW_c (by omega), spM_c (by omega)]; exact c2 a (by omega) h3 j
  have c4 : ∀ a : Nat, 52 < a → a ≠ 117 → ∀ j, gt4 S (a : Int) j = k0 (a : Int) j := fun a h1 h3 j => by rw [gt4, gW_c (by omega), gW_c (by omega), kmem_c (by omega)]; exact c3 a (by omega) h3 j
  have c5 : ∀ a : Nat, 68 < a → a ≠ 117 → ∀ j, gt5 S (a : Int) j = k0 (a : Int) j := fun a h1 h3 j => by rw [gt5, gW_c (by omega), kmem_c (by omega), gW_c (by omega)]; exact c4 a (by omega) h3 j
  have c7 : ∀ a : Nat, 68 < a → a ≠ 117 → ∀ j, gt7 S (a : Int) j = k0 (a : Int) j := fun a h1 h3 j => by rw [gt7, gW_c (by omega), kmem_c (by omega)]; exact c5 a h1 h3 j
  have r8 : ∀ b : Nat, b ≠ 117 → ∀ j, gt8 x S (b : Int) j = mcM (kTh x) (gt7 S) b j := fun b h1 j => by rw [gt8, gW_c (by omega)]
  have r7 : ∀ b : Nat, b ≠ 117 → ∀ j, gt7 S (b : Int) j = gt5 S b j := fun b h1 j => by rw [gt7, gW_c (by omega), kmem_c (by omega)]
  have m7 : ∀ b : Nat, b < 87 → ∀ j, gt8 x S (b : Int) j = gt5 S b j := fun b h1 j => by rw [r8 b (by omega), mcM_c (by omega), r7 b (by omega)]
  have g3 : ∀ k : Int, k ≠ 2 → gt3 S 117 k = gt2 S 117 k := fun k h => by rw [gt3, gW_i h]; exact spM_c (a := 117) (by decide)
  intro b hb
  by_cases h52 : b < 52
  · refine gIc.mv (I52 b h52) fun j => ?_
    rw [m7 b (by omega), gt5, gW_c (by omega), kmem_c (by omega), gW_c (by omega), gt4, gW_c (by omega), gW_c (by omega), kmem_c (by omega), gt3, gW_c (by omega)]
  by_cases e52 : b = 52
  · subst e52
    refine gIc_obj0 (co := 14) (v := fun k => if k = 0 then 8 else kval kf_cd 52 53 gs_cd0 (fun k => k0 52 k) k) (by decide +kernel) (by decide) (fun k => ?_) (by decide +kernel) (by decide)
    rw [m7 52 (by decide), gt5, gW_c (by decide), kmem_c (by decide), gW_c (by decide), gt4, gW_c (by decide)]
    exact gW_v (o := 52) (k := k) (i := 0) (v := 8) (b := kval kf_cd 52 53 gs_cd0 (fun k => k0 52 k)) (kmem_v (c3 52 (by decide) (by decide) k))
  by_cases e68 : b = 68
  · subst e68
    refine gIc_obj0 (co := 15) (v := kval kf_ps 68 70 gs_ps0 (fun k => if k = 0 then 69 else k0 68 k)) (by decide +kernel) (by decide) (fun k => ?_) (by decide +kernel) (by decide)
    rw [m7 68 (by decide), gt5, gW_c (by decide)]
    exact kmem_v (gW_v (o := 68) (k := k) (i := 0) (v := 69) (b := fun k => k0 68 k) (c4 68 (by decide) (by decide) k))
  by_cases e69 : b = 69
  · subst e69
    refine gIc_obj0 (co := 16) (v := fun k => k0 69 k) (by decide +kernel) (by decide) (fun k => ?_) (by decide +kernel) (by decide)
    rw [m7 69 (by decide)]
    exact c5 69 (by decide) (by decide) k
  by_cases e87 : b = 87
  · subst e87
    refine gIc_obj (co := 17) (ex := 5) (v := fun k => if k = 5 then 0 else if k = 4 then 68 else if k = 3 then 52 else if k = 2 then 42 else if k = 1 then 8 else if k = 0 then 0 else if k = 46 then 114 else if k = 45 then 111 else if k = 44 then 108 else if k = 43 then 105 else kval kf_mc 87 88 gs_mc0 (fun k => k0 87 k) k) (by decide +kernel) (by decide) (fun k hk5 => ?_) (by decide +kernel) (fun t ht => ?_)
    · rw [r8 87 (by decide)]
      have e5 : ∀ b : Nat → Int, (if k = 5 then (0 : Int) else b k) = b k := fun b => if_neg hk5
      rw [e5 (fun k => if k = 4 then 68 else if k = 3 then 52 else if k = 2 then 42 else if k = 1 then 8 else if k = 0 then 0 else if k = 46 then 114 else if k = 45 then 111 else if k = 44 then 108 else if k = 43 then 105 else kval kf_mc 87 88 gs_mc0 (fun k => k0 87 k) k)]
      unfold mcM
      refine (gW_i (a := 87) (i := 5) (j := (k : Int)) (show (k : Int) ≠ 5 by omega)).trans ?_
      exact gW_v (o := 87) (k := k) (i := 4) (v := 68) (b := fun k => if k = 3 then 52 else if k = 2 then 42 else if k = 1 then 8 else if k = 0 then 0 else if k = 46 then 114 else if k = 45 then 111 else if k = 44 then 108 else if k = 43 then 105 else kval kf_mc 87 88 gs_mc0 (fun k => k0 87 k) k) (gW_v (o := 87) (k := k) (i := 3) (v := 52) (b := fun k => if k = 2 then 42 else if k = 1 then 8 else if k = 0 then 0 else if k = 46 then 114 else if k = 45 then 111 else if k = 44 then 108 else if k = 43 then 105 else kval kf_mc 87 88 gs_mc0 (fun k => k0 87 k) k) (gW_v (o := 87) (k := k) (i := 2) (v := 42) (b := fun k => if k = 1 then 8 else if k = 0 then 0 else if k = 46 then 114 else if k = 45 then 111 else if k = 44 then 108 else if k = 43 then 105 else kval kf_mc 87 88 gs_mc0 (fun k => k0 87 k) k) (gW_v (o := 87) (k := k) (i := 1) (v := 8) (b := fun k => if k = 0 then 0 else if k = 46 then 114 else if k = 45 then 111 else if k = 44 then 108 else if k = 43 then 105 else kval kf_mc 87 88 gs_mc0 (fun k => k0 87 k) k) (gW_v (o := 87) (k := k) (i := 0) (v := 0) (b := fun k => if k = 46 then 114 else if k = 45 then 111 else if k = 44 then 108 else if k = 43 then 105 else kval kf_mc 87 88 gs_mc0 (fun k => k0 87 k) k) (wlM_v (o := 87) (w := 114) (kk := 46) (k := k) (b := fun k => if k = 45 then 111 else if k = 44 then 108 else if k = 43 then 105 else kval kf_mc 87 88 gs_mc0 (fun k => k0 87 k) k) (by decide) (wlM_v (o := 87) (w := 111) (kk := 45) (k := k) (b := fun k => if k = 44 then 108 else if k = 43 then 105 else kval kf_mc 87 88 gs_mc0 (fun k => k0 87 k) k) (by decide) (wlM_v (o := 87) (w := 108) (kk := 44) (k := k) (b := fun k => if k = 43 then 105 else kval kf_mc 87 88 gs_mc0 (fun k => k0 87 k) k) (by decide) (wlM_v (o := 87) (w := 105) (kk := 43) (k := k) (b := kval kf_mc 87 88 gs_mc0 (fun k => k0 87 k)) (by decide) (kmem_v (c7 87 (by decide) (by decide) k))))))))))
    · rw [r8 87 (by decide)]
      have ev : mcM (kTh x) (gt7 S) ((87 : Nat) : Int) ((5 : Nat) : Int) = kTh x := gW_at ..
      rw [ev]
      cases ht
      exact ⟨fun _ => kTh_i, fun e => by omega, fun e => by omega, fun e => by omega, fun e => by omega⟩
  have wl : ∀ w : Nat, w = 105 ∨ w = 108 ∨ w = 111 ∨ w = 114 → ∀ k : Nat, gt8 x S w k = kval kf_wl w (w + 1) gs_wl0 (fun k => k0 w k) k := by
    intro w hw k
    rw [r8 w (by omega)]
    unfold mcM
    rw [gW_c (by omega), gW_c (by omega), gW_c (by omega), gW_c (by omega), gW_c (by omega), gW_c (by omega)]
    rcases hw with e | e | e | e <;> subst e
    · rw [wlM_c (by decide) (by decide), wlM_c (by decide) (by decide), wlM_c (by decide) (by decide)]
      exact wlM_w (by decide) (by rw [kmem_c (by decide)]; exact c7 105 (by decide) (by decide) k)
    · rw [wlM_c (by decide) (by decide), wlM_c (by decide) (by decide)]
      exact wlM_w (by decide) (by rw [wlM_c (by decide) (by decide), kmem_c (by decide)]; exact c7 108 (by decide) (by decide) k)
    · rw [wlM_c (by decide) (by decide)]
      exact wlM_w (by decide) (by rw [wlM_c (by decide) (by decide), wlM_c (by decide) (by decide), kmem_c (by decide)]; exact c7 111 (by decide) (by decide) k)
    · exact wlM_w (by decide) (by rw [wlM_c (by decide) (by decide), wlM_c (by decide) (by decide), wlM_c (by decide) (by decide), kmem_c (by decide)]; exact c7 114 (by decide) (by decide) k)
  by_cases e105 : b = 105
  · subst e105; exact gIc_wl (by decide +kernel) (wl 105 (by decide)) (by decide +kernel)
  by_cases e108 : b = 108
  · subst e108; exact gIc_wl (by decide +kernel) (wl 108 (by decide)) (by decide +kernel)
  by_cases e111 : b = 111
  · subst e111; exact gIc_wl (by decide +kernel) (wl 111 (by decide)) (by decide +kernel)
  by_cases e114 : b = 114
  · subst e114; exact gIc_wl (by decide +kernel) (wl 114 (by decide)) (by decide +kernel)
  by_cases e117 : b = 117
  · subst e117
    refine gIc_obj0 (co := 18) (v := fun k => if k = 5 then 87 else if k = 9 then -1 else if k = 6 then 118 else if k = 4 then 68 else if k = 3 then 52 else if k = 2 then 42 else if k = 1 then 8 else if k = 0 then 0 else k0 117 k) (by decide +kernel) (by decide) (fun k => ?_) (by decide +kernel) (by decide)
    refine gW_v (o := 117) (k := k) (i := 5) (v := 87) (b := fun k => if k = 9 then -1 else if k = 6 then 118 else if k = 4 then 68 else if k = 3 then 52 else if k = 2 then 42 else if k = 1 then 8 else if k = 0 then 0 else k0 117 k) ?_
    rw [mcM_c (by decide)]
    refine gW_v (o := 117) (k := k) (i := 9) (v := -1) (b := fun k => if k = 6 then 118 else if k = 4 then 68 else if k = 3 then 52 else if k = 2 then 42 else if k = 1 then 8 else if k = 0 then 0 else k0 117 k) ?_
    refine gW_v (o := 117) (k := k) (i := 6) (v := 118) (b := fun k => if k = 4 then 68 else if k = 3 then 52 else if k = 2 then 42 else if k = 1 then 8 else if k = 0 then 0 else k0 117 k) ?_
    refine gW_v (o := 117) (k := k) (i := 4) (v := 68) (b := fun k => if k = 3 then 52 else if k = 2 then 42 else if k = 1 then 8 else if k = 0 then 0 else k0 117 k) ?_
    rw [kmem_c (by decide), gW_c (by decide)]
    refine gW_v (o := 117) (k := k) (i := 3) (v := 52) (b := fun k => if k = 2 then 42 else if k = 1 then 8 else if k = 0 then 0 else k0 117 k) ?_
    rw [gW_c (by decide), kmem_c (by decide)]
    refine gW_v (o := 117) (k := k) (i := 2) (v := 42) (b := fun k => if k = 1 then 8 else if k = 0 then 0 else k0 117 k) ?_
    rw [spM_c (by decide)]
    refine gW_v (o := 117) (k := k) (i := 1) (v := 8) (b := fun k => if k = 0 then 0 else k0 117 k) ?_
    rw [hSc 117 (by decide)]
    refine gW_v (o := 117) (k := k) (i := 0) (v := 0) (b := fun k => k0 117 k) ?_
    rw [kmem_c (by decide)]
    rfl
  have hk := List.all_eq_true.mp (show (List.range 119).all (fun b => Nat.ble b 52 || Nat.blt (gK (b : Nat)) 10 || [68, 69, 87, 105, 108, 111, 114, 117].contains b) = true by decide +kernel) b (List.mem_range.mpr hb)
  have hk : gK (b : Int) < 10 := by
    simp only [Bool.or_eq_true, Nat.ble_eq, Nat.blt_eq, List.contains_iff_mem, List.mem_cons, List.not_mem_nil, or_false] at hk
    rcases hk with (q | q) | q
    · omega
    · exact q
    · omega
  refine gIc_k hk fun j => ?_
  by_cases q : b < 68
  · rw [m7 b (by omega), gt5, gW_c (by omega), kmem_c (by omega), gW_c (by omega)]
    exact c4 b (by omega) e117 j
  · rw [r8 b e117]
    have : mcM (kTh x) (gt7 S) (b : Int) j = gt7 S b j := by
      unfold mcM
      rw [gW_c (by omega), gW_c (by omega), gW_c (by omega), gW_c (by omega), gW_c (by omega), gW_c (by omega), wlM_c (by omega) (by omega), wlM_c (by omega) (by omega), wlM_c (by omega) (by omega), wlM_c (by omega) (by omega), kmem_c (by omega)]
    rw [this]
    exact c7 b (by omega) e117 j
end GTI
