/-! memory behind the model's constructor -/
theorem md_I {M : gM} {x : Int} (hM : ∀ a : Nat, 119 ≤ a → ∀ j, M (a : Int) j = k0 (a : Int) j) (h : gI 119 M) : gI 227 (md6 x M) := by
  have c : ∀ b : Nat, b ≠ 119 → ∀ j, md6 x M (b : Int) j = M b j := fun b hb j => by
    rw [md6, gW_c (by omega), md5, gW_c (by omega), kmem_c (by omega), md3, gW_c (by omega), gW_c (by omega), md2, kmem_c (by omega), gW_c (by omega)]
  intro b hb
  by_cases h0 : b < 119
  · exact gIc.mv (h b h0) (c b (by omega))
  by_cases e119 : b = 119
  · subst e119
    refine gIc_obj (co := 20) (ex := 1) (v := fun k => if k = 155 then -1 else kval kf_md 119 208 gs_md1 (fun k => if k = 130 then -1 else if k = 129 then -1 else kval kf_md 119 121 gs_md0 (fun k => if k = 0 then 120 else k0 119 k) k) k) (by decide +kernel) (by decide) (fun k hk1 => ?_) (by decide +kernel) (fun t ht => ?_)
    · refine (gW_i (a := 119) (i := 1) (j := (k : Int)) (show (k : Int) ≠ 1 by omega)).trans ?_
      refine gW_v (o := 119) (k := k) (i := 155) (v := -1) (b := kval kf_md 119 208 gs_md1 (fun k => if k = 130 then -1 else if k = 129 then -1 else kval kf_md 119 121 gs_md0 (fun k => if k = 0 then 120 else k0 119 k) k)) (kmem_v ?_)
      refine gW_v (o := 119) (k := k) (i := 130) (v := -1) (b := fun k => if k = 129 then -1 else kval kf_md 119 121 gs_md0 (fun k => if k = 0 then 120 else k0 119 k) k) ?_
      refine gW_v (o := 119) (k := k) (i := 129) (v := -1) (b := kval kf_md 119 121 gs_md0 (fun k => if k = 0 then 120 else k0 119 k)) (kmem_v ?_)
      exact gW_v (o := 119) (k := k) (i := 0) (v := 120) (b := fun k => k0 119 k) (hM 119 (by decide) k)
    · have ev : md6 x M ((119 : Nat) : Int) ((1 : Nat) : Int) = kTh x := gW_at ..
      rw [ev]
      cases ht
      exact ⟨fun _ => kTh_i, fun e => by omega, fun e => by omega, fun e => by omega, fun e => by omega⟩
  by_cases e120 : b = 120
  · subst e120
    refine gIc_obj0 (co := 19) (v := fun k => k0 120 k) (by decide +kernel) (by decide) (fun k => ?_) (by decide +kernel) (by decide)
    exact (c 120 (by decide) k).trans (hM 120 (by decide) k)
  have hk := List.all_eq_true.mp (show (List.range 227).all (fun b => Nat.ble b 120 || Nat.blt (gK (b : Nat)) 10) = true by decide +kernel) b (List.mem_range.mpr hb)
  have hk : gK (b : Int) < 10 := by
    simp only [Bool.or_eq_true, Nat.ble_eq, Nat.blt_eq] at hk
    omega
  exact gIc_k hk fun j => (c b e119 j).trans (hM b (by omega) j)
