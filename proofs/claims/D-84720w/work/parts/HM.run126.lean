/-! both systems when they have just been made: the model, and the law's relation -/
section MDM
variable {M : gM} {x : Int}
theorem md6_c {b : Int} (hb : b ≠ 119) : md6 x M b = M b := by
  rw [md6, gW_cell hb, md5, gW_cell hb, kmem_c hb, md3, gW_cell hb, gW_cell hb, md2, kmem_c hb, gW_cell hb]
theorem md6_v (hM : ∀ a : Nat, 119 ≤ a → ∀ j, M (a : Int) j = k0 (a : Int) j) (k : Nat) (hk1 : k ≠ 1) : md6 x M 119 k = if k = 155 then -1 else kval kf_md 119 208 gs_md1 (fun k => if k = 130 then -1 else if k = 129 then -1 else kval kf_md 119 121 gs_md0 (fun k => if k = 0 then 120 else k0 119 k) k) k := by
  refine (gW_i (a := 119) (i := 1) (j := (k : Int)) (show (k : Int) ≠ 1 by omega)).trans ?_
  refine gW_v (o := 119) (k := k) (i := 155) (v := -1) (b := kval kf_md 119 208 gs_md1 (fun k => if k = 130 then -1 else if k = 129 then -1 else kval kf_md 119 121 gs_md0 (fun k => if k = 0 then 120 else k0 119 k) k)) (kmem_v ?_)
  refine gW_v (o := 119) (k := k) (i := 130) (v := -1) (b := fun k => if k = 129 then -1 else kval kf_md 119 121 gs_md0 (fun k => if k = 0 then 120 else k0 119 k) k) ?_
  refine gW_v (o := 119) (k := k) (i := 129) (v := -1) (b := kval kf_md 119 121 gs_md0 (fun k => if k = 0 then 120 else k0 119 k)) (kmem_v ?_)
  exact gW_v (o := 119) (k := k) (i := 0) (v := 120) (b := fun k => k0 119 k) (hM 119 (by decide) k)
theorem gI_b8 {N : gM} (h : gI 227 N) : gb8 227 N := fun a h1 h2 i => by
  obtain ⟨h3, h4⟩ := gK_nat (by decide) h1
  have := (h a.toNat h2).2.1 (by rw [h4]; exact h1) i
  rw [h4] at this
  exact this
theorem made_m (C : CMk x M) : ∃ N, md_houseBegins (md6 x M) = some (N, 0) ∧ (gI 227 N → RL N) := by
  obtain ⟨C1, sp, cd, z87, t5, fd, h39, hM⟩ := C
  generalize eτ : md6 x M = τ
  have v1 : ∀ a, a ≠ 119 → dcT τ a = τ a := fun a q => by unfold dcT; rw [gW_cell q, gW_cell q, gW_cell q]
  have v2 : ∀ i, i ≠ 12 → i ≠ 13 → i ≠ 16 → dcT τ 119 i = τ 119 i := fun i q1 q2 q3 => by unfold dcT; rw [gW_i q3, gW_i q2, gW_i q1]
  have v3 : dcT τ 119 12 = 60000 ∧ dcT τ 119 13 = 0 ∧ dcT τ 119 16 = 2000 := by
    unfold dcT
    exact ⟨by rw [gW_i (by decide), gW_i (by decide), gW_at], by rw [gW_i (by decide), gW_at], by rw [gW_at]⟩
  have z : ∀ b : Nat, 119 < b → gK (b : Int) < 5 → ∀ j, dcT τ (b : Int) j = 0 := fun b h1 h2 j => by rw [v1 b (by omega), ← eτ, md6_c (by omega), hM b (by omega) j, k0_arr h2]
  obtain ⟨T, h1, K, -, f1, f2⟩ := house_m (τ := dcT τ) v3.1 v3.2.1 (fun i => by rw [show (121 : Int) = ((121 : Nat) : Int) from rfl, z 121 (by decide) (by decide +kernel)]; unfold i8; omega) (fun i => by rw [show (225 : Int) = ((225 : Nat) : Int) from rfl, z 225 (by decide) (by decide +kernel)]; unfold i8; omega)
  have ov := ov_inl (δ := τ) ri_md_houseBegins (md_houseBegins_l (dcT τ)) (md_houseBegins_l (gO τ (dcT τ))) h1
  rw [dcT_ag.e] at ov
  refine ⟨gO τ T, ov, fun hI => ?_⟩
  have w : ∀ a, a ≠ 119 → gO τ T a = T a := fun a q => funext fun k => gO_n (by unfold gDr; rw [decide_eq_false q]; rfl)
  have eN : ∀ a, a < 119 → gO τ T a = M a := fun a q => by rw [w a (by omega), f1 a (by omega) (by omega) (by omega) (by omega) (by omega) (by omega) (by omega) (by omega) (by omega) (by omega), v1 a (by omega), ← eτ, md6_c (by omega)]
  have eT : ∀ i : Nat, i ≠ 1 → i ≠ 9 → i ≠ 10 → i ≠ 15 → i ≠ 55 → i ≠ 56 → i ≠ 57 → i ≠ 89 → i ≠ 92 → i ≠ 93 → i ≠ 94 → i ≠ 104 → i ≠ 12 → i ≠ 13 → i ≠ 16 → T 119 (i : Int) = if i = 155 then -1 else kval kf_md 119 208 gs_md1 (fun k => if k = 130 then -1 else if k = 129 then -1 else kval kf_md 119 121 gs_md0 (fun k => if k = 0 then 120 else k0 119 k) k) i := fun i q1 q2 q3 q4 q5 q6 q7 q8 q9 q10 q11 q12 q13 q14 q15 => by
    rw [f2 i (by omega) (by omega) (by omega) (by omega) (by omega) (by omega) (by omega) (by omega) (by omega) (by omega) (by omega), v2 i (by omega) (by omega) (by omega), ← eτ]
    exact md6_v hM i q1
  have t1 : T 119 1 = kTh x := by
    rw [f2 1 (by decide) (by decide) (by decide) (by decide) (by decide) (by decide) (by decide) (by decide) (by decide) (by decide) (by decide), v2 1 (by decide) (by decide) (by decide), ← eτ]
    exact gW_at ..
  have t16 : T 119 16 = 2000 := by
    rw [f2 16 (by decide) (by decide) (by decide) (by decide) (by decide) (by decide) (by decide) (by decide) (by decide) (by decide) (by decide)]
    exact v3.2.2
  refine base_RL (T := T) (fun a k h => (gO_n h).symm) ?_ K t16 ?_ ?_ ?_ ?_ ?_ ?_ ?_ (gI_b8 hI) ?_
  · exact C1.w (fun a q => eN a (by omega)) (fun i _ => by rw [eN 0 (by decide)]) (by rw [eN 0 (by decide)]; exact C1.1.2.2.1)
  · rw [eN 42 (by decide), eN 43 (by decide), eN 45 (by decide), eN 46 (by decide), eN 47 (by decide)]
    exact sp
  · rw [eN 52 (by decide)]
    exact cd
  · intro i q
    rw [eN 87 (by decide)]
    exact z87 i q
  · intro i q
    rcases q with q | q | q | q | q | q <;> rw [q]
    · exact (eT 95 (by decide) (by decide) (by decide) (by decide) (by decide) (by decide) (by decide) (by decide) (by decide) (by decide) (by decide) (by decide) (by decide) (by decide) (by decide)).trans (by decide +kernel)
    · exact (eT 117 (by decide) (by decide) (by decide) (by decide) (by decide) (by decide) (by decide) (by decide) (by decide) (by decide) (by decide) (by decide) (by decide) (by decide) (by decide)).trans (by decide +kernel)
    · exact (eT 118 (by decide) (by decide) (by decide) (by decide) (by decide) (by decide) (by decide) (by decide) (by decide) (by decide) (by decide) (by decide) (by decide) (by decide) (by decide)).trans (by decide +kernel)
    · exact (eT 121 (by decide) (by decide) (by decide) (by decide) (by decide) (by decide) (by decide) (by decide) (by decide) (by decide) (by decide) (by decide) (by decide) (by decide) (by decide)).trans (by decide +kernel)
    · exact (eT 122 (by decide) (by decide) (by decide) (by decide) (by decide) (by decide) (by decide) (by decide) (by decide) (by decide) (by decide) (by decide) (by decide) (by decide) (by decide)).trans (by decide +kernel)
    · exact (eT 126 (by decide) (by decide) (by decide) (by decide) (by decide) (by decide) (by decide) (by decide) (by decide) (by decide) (by decide) (by decide) (by decide) (by decide) (by decide)).trans (by decide +kernel)
  · rw [eN 87 (by decide), t1, t5]
  · rw [eN 117 (by decide)]
    exact fd
  · exact ⟨(eT 153 (by decide) (by decide) (by decide) (by decide) (by decide) (by decide) (by decide) (by decide) (by decide) (by decide) (by decide) (by decide) (by decide) (by decide) (by decide)).trans (by decide +kernel), (eT 154 (by decide) (by decide) (by decide) (by decide) (by decide) (by decide) (by decide) (by decide) (by decide) (by decide) (by decide) (by decide) (by decide) (by decide) (by decide)).trans (by decide +kernel), (eT 155 (by decide) (by decide) (by decide) (by decide) (by decide) (by decide) (by decide) (by decide) (by decide) (by decide) (by decide) (by decide) (by decide) (by decide) (by decide)).trans (by decide +kernel)⟩
  · intro k q1 q2
    rw [eN 39 (by decide)]
    exact h39 k q1 q2
end MDM
