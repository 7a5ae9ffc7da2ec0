/-! both systems when they have just been made: the component -/
theorem k0_39 (k : Int) : k0 39 k = kX k := by
  have e : gK 39 = 5 := by decide +kernel
  unfold k0
  rw [e]
  rfl
theorem frM_c {σ : gM} {b : Int} (h8 : b ≠ 8) (h36 : b ≠ 36) : frM σ b = σ b := by
  unfold frM
  rw [gW_cell h8, kmem_c h8, gW_cell h8, wlM_c h8 h36, kmem_c h8]
theorem gt1_c {σ : gM} {b : Int} (h0 : b ≠ 0) (h : b ≠ 117) : gt1 σ b = σ b := by
  unfold gt1
  rw [gW_cell h, kmem_c h0]
section MDC
variable {S : gM} {x : Int}
theorem gt8_lo {b : Int} (h : b < 42) : gt8 x S b = S b := by
  rw [gt8, gW_cell (by omega), mcM_c (by omega), gt7, gW_cell (by omega), kmem_c (by omega), gt5, gW_cell (by omega), kmem_c (by omega), gW_cell (by omega), gt4, gW_cell (by omega), gW_cell (by omega), kmem_c (by omega), gt3, gW_cell (by omega), spC, gW_cell (by omega), gW_cell (by omega), gW_cell (by omega), gW_cell (by omega), gW_cell (by omega), gW_cell (by omega), gW_cell (by omega), gW_cell (by omega), spM, gW_cell (by omega), kmem_c (by omega), gt2, gW_cell (by omega)]
theorem gt8_md {b : Int} (h : 42 ≤ b) (h2 : b < 52) : gt8 x S b = spC (spM (gt2 S)) b := by
  rw [gt8, gW_cell (by omega), mcM_c (by omega), gt7, gW_cell (by omega), kmem_c (by omega), gt5, gW_cell (by omega), kmem_c (by omega), gW_cell (by omega), gt4, gW_cell (by omega), gW_cell (by omega), kmem_c (by omega), gt3, gW_cell (by omega)]
theorem gt8_hi {b : Nat} (h : 117 < b) (hSc : ∀ a : Nat, 42 ≤ a → ∀ j, S (a : Int) j = gt1 k0 (a : Int) j) (j : Int) : gt8 x S (b : Int) j = k0 (b : Int) j := by
  rw [gt8, gW_c (by omega), mcM_c (by omega), gt7, gW_c (by omega), kmem_c (by omega), gt5, gW_c (by omega), kmem_c (by omega), gW_c (by omega), gt4, gW_c (by omega), gW_c (by omega), kmem_c (by omega), gt3, gW_c (by omega), spM_c (by omega), gt2, gW_c (by omega), hSc b (by omega) j, gt1_c (by omega) (by omega)]
theorem gt8_52 (hSc : ∀ a : Nat, 42 ≤ a → ∀ j, S (a : Int) j = gt1 k0 (a : Int) j) (k : Nat) : gt8 x S 52 k = if k = 0 then 8 else kval kf_cd 52 53 gs_cd0 (fun k => k0 52 k) k := by
  rw [gt8, gW_c (by decide), mcM_c (by decide), gt7, gW_c (by decide), kmem_c (by decide), gt5, gW_c (by decide), kmem_c (by decide), gW_c (by decide), gt4, gW_c (by decide)]
  refine gW_v (o := 52) (k := k) (i := 0) (v := 8) (b := kval kf_cd 52 53 gs_cd0 (fun k => k0 52 k)) (kmem_v ?_)
  rw [gt3, gW_c (by decide), spM_c (a := 52) (by decide), gt2, gW_c (by decide), hSc 52 (by decide) k, gt1_c (by decide) (by decide)]
  rfl
theorem gt8_117 (hSc : ∀ a : Nat, 42 ≤ a → ∀ j, S (a : Int) j = gt1 k0 (a : Int) j) (k : Nat) : gt8 x S 117 k = if k = 5 then 87 else if k = 9 then -1 else if k = 6 then 118 else if k = 4 then 68 else if k = 3 then 52 else if k = 2 then 42 else if k = 1 then 8 else if k = 0 then 0 else k0 117 k := by
  refine gW_v (o := 117) (k := k) (i := 5) (v := 87) (b := fun k => if k = 9 then -1 else if k = 6 then 118 else if k = 4 then 68 else if k = 3 then 52 else if k = 2 then 42 else if k = 1 then 8 else if k = 0 then 0 else k0 117 k) ?_
  rw [mcM_c (by decide)]
  refine gW_v (o := 117) (k := k) (i := 9) (v := -1) (b := fun k => if k = 6 then 118 else if k = 4 then 68 else if k = 3 then 52 else if k = 2 then 42 else if k = 1 then 8 else if k = 0 then 0 else k0 117 k) ?_
  refine gW_v (o := 117) (k := k) (i := 6) (v := 118) (b := fun k => if k = 4 then 68 else if k = 3 then 52 else if k = 2 then 42 else if k = 1 then 8 else if k = 0 then 0 else k0 117 k) ?_
  refine gW_v (o := 117) (k := k) (i := 4) (v := 68) (b := fun k => if k = 3 then 52 else if k = 2 then 42 else if k = 1 then 8 else if k = 0 then 0 else k0 117 k) ?_
  rw [kmem_c (by decide), gW_c (by decide)]
  refine gW_v (o := 117) (k := k) (i := 3) (v := 52) (b := fun k => if k = 2 then 42 else if k = 1 then 8 else if k = 0 then 0 else k0 117 k) ?_
  rw [gW_c (by decide), kmem_c (by decide)]
  refine gW_v (o := 117) (k := k) (i := 2) (v := 42) (b := fun k => if k = 1 then 8 else if k = 0 then 0 else k0 117 k) ?_
  rw [spM_c (by decide)]
  refine gW_v (o := 117) (k := k) (i := 1) (v := 8) (b := fun k => if k = 0 then 0 else k0 117 k) ?_
  rw [hSc 117 (by decide)]
  refine gW_v (o := 117) (k := k) (i := 0) (v := 0) (b := fun k => k0 117 k) ?_
  rw [kmem_c (by decide)]
  rfl
/-- the component's memory when it has just been made -/
def CMk (x : Int) (M : gM) : Prop := CK 7 M ∧ (M 42 6 = 1 ∧ M 42 10 = 0 ∧ M 42 11 = 0 ∧ M 43 0 = -1 ∧ M 45 0 = -1 ∧ M 46 0 = -1 ∧ M 47 0 = 0) ∧ (M 52 10 = 0 ∧ M 52 11 = 0 ∧ M 52 12 = 0 ∧ M 52 19 = 0) ∧ (∀ i, i = 19 ∨ i = 20 ∨ i = 23 ∨ i = 24 ∨ i = 31 ∨ i = 34 ∨ (36 ≤ i ∧ i ≤ 42) → M 87 i = 0) ∧ M 87 5 = kTh x ∧ (M 117 7 = 0 ∧ M 117 8 = 0 ∧ M 117 9 = -1) ∧ (∀ k, 0 ≤ k → k < 7 → M 39 k = kX k) ∧ ∀ a : Nat, 119 ≤ a → ∀ j, M (a : Int) j = k0 (a : Int) j
theorem made_c : ∃ S M, fr_clear (frM (gt1 k0)) = some (S, 0) ∧ (∀ a : Nat, 42 ≤ a → ∀ j, S (a : Int) j = gt1 k0 (a : Int) j) ∧ mc_clear (gt8 x S) = some (M, 0) ∧ CMk x M := by
  obtain ⟨S, e1, C1, f1⟩ := clear_c (σ := frM (gt1 k0)) (fun k _ _ => by rw [frM_c (by decide) (by decide), gt1_c (by decide) (by decide)]; exact k0_39 k)
  have hSc : ∀ a : Nat, 42 ≤ a → ∀ j, S (a : Int) j = gt1 k0 (a : Int) j := fun a h j => by rw [f1 a (by omega) (by omega) (by omega), frM_c (by omega) (by omega)]
  obtain ⟨N, n1, n2, n3, n4, n5, n6⟩ := none_s (σ := gt8 x S)
  generalize eM : gW (gW (gW (gW (gW (gW (gW N 87 36 0) 87 37 0) 87 38 0) 87 39 0) 87 40 0) 87 41 0) 87 42 0 = M
  have s1 : ∀ a, a ≠ 87 → M a = N a := fun a q => by rw [← eM, gW_cell q, gW_cell q, gW_cell q, gW_cell q, gW_cell q, gW_cell q, gW_cell q]
  have s2 : ∀ i, (i < 36 ∨ 42 < i) → M 87 i = N 87 i := fun i q => by rw [← eM, gW_i (by omega), gW_i (by omega), gW_i (by omega), gW_i (by omega), gW_i (by omega), gW_i (by omega), gW_i (by omega)]
  have s3 : M 87 36 = 0 ∧ M 87 37 = 0 ∧ M 87 38 = 0 ∧ M 87 39 = 0 ∧ M 87 40 = 0 ∧ M 87 41 = 0 ∧ M 87 42 = 0 := by
    rw [← eM]
    simp [gW]
  have sA : ∀ a, a ≠ 0 → a ≠ 87 → M a = gt8 x S a := fun a q1 q2 => by rw [s1 a q2, n2 a q1 q2]
  refine ⟨S, M, e1, hSc, ?_, ?_, ?_, ?_, ?_, ?_, ?_, ?_, ?_⟩
  · rw [mc_clear_e, n1]
    simp only [Option.bind_some]
    rw [eM]
  · exact C1.w (fun a q => by rw [sA a (by omega) (by omega), gt8_lo (by omega)]) (fun i q => by rw [s1 0 (by decide), n3 i (Or.inl q), gt8_lo (by decide)]) ⟨by rw [s1 0 (by decide)]; exact n4.1, by rw [s1 0 (by decide)]; exact n4.2.1, by rw [s1 0 (by decide)]; exact n4.2.2.1, by rw [s1 0 (by decide)]; exact n4.2.2.2⟩
  · rw [sA 42 (by decide) (by decide), sA 43 (by decide) (by decide), sA 45 (by decide) (by decide), sA 46 (by decide) (by decide), sA 47 (by decide) (by decide), gt8_md (by decide) (by decide), gt8_md (by decide) (by decide), gt8_md (by decide) (by decide), gt8_md (by decide) (by decide), gt8_md (by decide) (by decide)]
    generalize spM (gt2 S) = U
    unfold spC
    simp [gW]
  · rw [sA 52 (by decide) (by decide)]
    exact ⟨(gt8_52 hSc 10).trans (by decide +kernel), (gt8_52 hSc 11).trans (by decide +kernel), (gt8_52 hSc 12).trans (by decide +kernel), (gt8_52 hSc 19).trans (by decide +kernel)⟩
  · intro i q
    rcases q with q | q | q | q | q | q | q
    · rw [q, s2 19 (by decide), n6 19 (by decide)]
    · rw [q, s2 20 (by decide), n6 20 (by decide)]
    · rw [q, s2 23 (by decide), n6 23 (by decide)]
    · rw [q, s2 24 (by decide), n6 24 (by decide)]
    · rw [q, s2 31 (by decide), n6 31 (by decide)]
    · rw [q, s2 34 (by decide), n6 34 (by decide)]
    · have c : i = 36 ∨ i = 37 ∨ i = 38 ∨ i = 39 ∨ i = 40 ∨ i = 41 ∨ i = 42 := by omega
      obtain ⟨z1, z2, z3, z4, z5, z6, z7⟩ := s3
      rcases c with c | c | c | c | c | c | c <;> rw [c] <;> assumption
  · rw [s2 5 (by decide), n5 5 (by decide) (by decide) (by decide) (by decide) (by decide) (by decide) (by decide) (by decide), gt8, gW_c (by decide), mcM]
    exact gW_at ..
  · rw [sA 117 (by decide) (by decide)]
    exact ⟨(gt8_117 hSc 7).trans (by decide +kernel), (gt8_117 hSc 8).trans (by decide +kernel), (gt8_117 hSc 9).trans (by decide +kernel)⟩
  · intro k k0' k1
    rw [sA 39 (by decide) (by decide), gt8_lo (by decide), f1 39 (by decide) (by decide) (by decide), frM_c (by decide) (by decide), gt1_c (by decide) (by decide)]
    exact k0_39 k
  · intro a h j
    rw [sA a (by omega) (by omega)]
    exact gt8_hi (by omega) hSc j
end MDC
