/-! define: both sides -/
section DP
variable {σ τ S T U : gM} {p v y : Int}
theorem sameC.tr (h : sameC σ S) (h2 : sameC S T) : sameC σ T := by
  obtain ⟨a, b⟩ := h
  obtain ⟨c, d⟩ := h2
  exact ⟨fun x q => by rw [c x q, a x q], by simp only [d]; exact b⟩
theorem sameT.tr (h : sameT σ S) (h2 : sameT S T) : sameT σ T := by
  obtain ⟨a, b⟩ := h
  obtain ⟨c, d⟩ := h2
  exact ⟨fun x q => by rw [c x q, a x q], by simp only [d]; exact b⟩
theorem keepT.tr (h : keepT σ S) (h2 : keepT S T) : keepT σ T := by
  obtain ⟨a, b⟩ := h
  obtain ⟨c, d⟩ := h2
  exact ⟨fun x q => by rw [c x q, a x q], fun i q1 q2 q3 q4 q5 q6 => by rw [d i q1 q2 q3 q4 q5 q6, b i q1 q2 q3 q4 q5 q6]⟩
theorem rPr.mv (h : rPr σ τ) (e1 : keepC σ S) (e2 : keepT τ T) : rPr S T := by
  refine ⟨h.1.mv e1.sm e2.sm, fun r r0 r1 => ?_⟩
  rw [e1.2.2.1 31 (by decide) (by decide)] at r1
  rw [e1.1 24 (by decide), e1.1 25 (by decide)]
  exact h.2 r r0 r1
theorem define_pair (h : rPr σ τ) (h1 : vS σ v) (h2 : vM τ y) (h3 : cS σ v = mS τ y) (h4 : σ 3 v ≤ 200) (h134 : ∀ i, i8 (τ 134 i)) (i31 : i32 v)
    (rc : cRm σ 200) (rm : mRm τ 200) (r31 : 4 ≤ σ 8 31) (r12 : σ 8 12 + 200 ≤ 15600) (r16 : σ 8 16 + 1602 ≤ 64000) :
    (∃ S T e, (e = 11 ∨ e = 9) ∧ keepC σ S ∧ keepT τ T ∧ (∀ i, i8 (T 134 i)) ∧ mc_define σ p 2 v = ((mc_fails S e p).bind fun p3 => g01 p3.2 (some (p3.1, p3.2))) ∧ md_defines τ p 4 y = ((md_error T e p).bind fun p2 => gthr p2.1 p2.2)) ∨
    (∃ S T Z X, keepC σ S ∧ keepT τ T ∧ (∀ i, i8 (X 134 i)) ∧ mc_define σ p 2 v = some (Z, 1) ∧ md_defines τ p 4 y = some (X, some 0) ∧ rPr Z X ∧ dFr 200 (S 68 19) S T Z X ∧ 1 ≤ S 68 19 ∧ Z 8 12 ≤ σ 8 12 + 200 ∧ Z 8 16 ≤ σ 8 16 + 3 * 200 + 100 ∧ nwD S Z X) := by
  have P := h.1
  have hI' := P.1.1
  have mI' := P.1.2.1
  have h8 := P.1.2.2
  have vv := hI'.v h1
  have vy := mI'.v h2
  have sz := lt_sz h3 (by omega) (by omega)
  have le : ∀ k, 0 ≤ k → k < σ 3 v → σ 1 (σ 2 v + k) = τ 121 (τ 122 y + k) := by
    intro k k0 k1
    have e : lt (σ 1) (σ 2 v) (σ 3 v).toNat = lt (τ 121) (τ 122 y) (σ 3 v).toNat := by
      have := h3
      unfold cS mS at this
      rw [sz] at this
      exact this
    have := lt_eq.mp e k.toNat (by omega)
    rw [show ((k.toNat : Nat) : Int) = k by omega] at this
    exact this
  have sv : (0 ≤ v ∧ v < 108000) := ⟨vv.1, vv.2.1⟩
  have t0 : ∀ a, a ≠ 119 → gW τ 119 23 (τ 123 y) a = τ a := fun a q => by funext i; rw [gW_c q]
  have f0 : ∀ i, i ≠ 23 → gW τ 119 23 (τ 123 y) 119 i = τ 119 i := fun i q => by rw [gW_i q]
  have mI0 : mI (gW τ 119 23 (τ 123 y)) := mI_mv mI' (f0 9 (by decide)) (f0 10 (by decide)) (f0 12 (by decide)) (f0 13 (by decide)) fun a q1 q2 => t0 a (by omega)
  obtain ⟨T1, e1, e2, e3, e4⟩ := defines_l (p := p) (y := y) mI0 (by rw [t0 121 (by decide)]; exact h8) (by unfold vM at h2 ⊢; rw [f0 10 (by decide), f0 13 (by decide)]; exact h2) (by rw [gW_at, t0 123 (by decide)]) (by rw [t0 123 (by decide)]; omega) (τ 123 y).toNat 0 (gW τ 119 23 (τ 123 y)) (by decide) (by rw [t0 123 (by decide)]; omega) (fun _ _ => rfl) (fun i q1 q2 => by omega) (fun _ _ => rfl)
  rw [t0 123 (by decide)] at e3 e4
  rw [t0 121 (by decide), t0 122 (by decide)] at e3
  rw [t0 134 (by decide)] at e4
  have k1 : keepT τ T1 := ⟨fun a q => by rw [e2 a (by omega), t0 a (by omega)], fun i q1 q2 q3 q4 q5 q6 => by rw [e2 119 (by decide), f0 i (by omega)]⟩
  have i134 : ∀ i, i8 (T1 134 i) := fun i => by
    by_cases z : i < 0 ∨ τ 123 y ≤ i
    · rw [e4 i z]; exact h134 i
    · rw [e3 i (by omega) (by omega)]; exact h8 _
  have eD : md_defines τ p 4 y = ((md_readText T1).bind fun p1 => gtry p1.2 (fun _ => md_defines_b70 p1.1 p 1) (md_defines_b70 p1.1 p 0)) := by
    rw [md_defines_e, if_pos rfl, md_sizeOf_s (by omega)]
    simp only [Option.bind_some]
    exact e1
  have eC : mc_define σ p 2 v = ((ps_read σ 1 (σ 2 v) (σ 3 v)).bind fun p1 => if p1.2 = 0 then ((mc_fails p1.1 11 p).bind fun p3 => g01 p3.2 (some (p3.1, p3.2))) else (if 60 < w32 ((p1.1 8 31) + (p1.1 68 19)) then ((mc_fails p1.1 9 p).bind fun p2 => g01 p2.2 (some (p2.1, p2.2))) else (mc_define_b93 p1.1 v 0))) := by
    rw [mc_define_e, if_pos rfl, w32_e (by omega) (by omega), if_pos sv, if_pos sv]
  have hX : tX (gW (gW (gW (gW (gW (gW (gW σ 68 10 0) 68 19 0) 69 0 1) 69 1 (σ 2 v)) 69 2 (σ 3 v)) 69 3 0) 69 8 0) (gW (gW (gW (gW T1 119 24 0) 119 28 0) 119 54 0) 119 43 0) := by
    have t23 : T1 119 23 = τ 123 y := by rw [e2 119 (by decide), gW_at]
    unfold tX
    simp only [gW, show ((69 : Int) = 68) = False by decide, show ((1 : Int) = 68) = False by decide, show ((1 : Int) = 69) = False by decide, show ((134 : Int) = 119) = False by decide, false_and, true_and, if_false, if_true, show ((0 : Int) = 8) = False by decide, show ((0 : Int) = 3) = False by decide, show ((0 : Int) = 2) = False by decide, show ((0 : Int) = 1) = False by decide, show ((1 : Int) = 8) = False by decide, show ((1 : Int) = 3) = False by decide, show ((1 : Int) = 2) = False by decide, show ((2 : Int) = 8) = False by decide, show ((2 : Int) = 3) = False by decide, show ((23 : Int) = 43) = False by decide, show ((23 : Int) = 54) = False by decide, show ((23 : Int) = 28) = False by decide, show ((23 : Int) = 24) = False by decide]
    refine ⟨Or.inl (by omega), by omega, by omega, fun k k0 k1 => ?_⟩
    rw [e3 k k0 (by omega)]
    exact ⟨le k k0 k1, h8 _⟩
  rw [eC, eD]
  rcases read_al2 (σ := σ) (τ := T1) (c := 1) (p := σ 2 v) (n := σ 3 v) (by decide) hX with ⟨S, T, r1, r2, r3, r4, r5, rq, r6, r7, r8⟩ | ⟨S, T, r1, r2, r3⟩
  · have kc := ps_read_fr r1
    have kt := md_readText_fr r2
    have kT := k1.tr kt.1
    have i8T : ∀ i, i8 (T 134 i) := by rw [kt.2.1]; exact i134
    have P2 := h.mv kc kT
    have s31 := P2.1.2.2.2.2.2.2.2.1.1.1
    have s19 := r3.2.2.2.2.2.2.1
    rw [r1, r2]
    simp only [Option.bind_some, gtry, md_defines_b70_e]
    simp only [show ((1 : Int) = 0) = False by decide, if_false]
    rw [w32_e (x := S 8 31 + S 68 19) (by omega) (by omega), w32_e (x := T 119 55 + T 119 54) (by omega) (by omega)]
    by_cases z : 60 < S 8 31 + S 68 19
    · left
      rw [if_pos z, if_pos (by omega)]
      exact ⟨S, T, 9, Or.inr rfl, kc, kT, i8T, rfl, rfl⟩
    · right
      rw [if_neg z, if_neg (by omega)]
      have t69 := r3.1
      have pl : 0 ≤ S 68 10 ∧ S 68 10 ≤ S 69 5 ∧ S 69 5 ≤ S 69 2 := by
        have a := r3.2.2.2.1
        have b := r3.2.1.1
        unfold tKp at b
        omega
      have ro := room_le r4 s19.1 pl.1
      have Rm : dRm S T (S 68 19).toNat 0 := by
        have k0 := kc.2.1
        have k8 := kc.2.2.1
        have kt' := kT.2
        obtain ⟨c1, c2, c3, c4, c5⟩ := rc
        obtain ⟨m1, m2, m3, m4, m5⟩ := rm
        have k16 := k8 16 (by decide) (by decide)
        have k12 := k8 12 (by decide) (by decide)
        have k31 := k8 31 (by decide) (by decide)
        refine ⟨?_, ?_, by omega, by omega, ?_⟩
        · unfold cRm
          rw [k0 7 (by decide) (by decide), k0 8 (by decide) (by decide), k0 9 (by decide) (by decide), k8 19 (by decide) (by decide)]
          omega
        · unfold mRm
          rw [kt' 10 (by decide) (by decide) (by decide) (by decide) (by decide) (by decide), kt' 9 (by decide) (by decide) (by decide) (by decide) (by decide) (by decide), kt' 15 (by decide) (by decide) (by decide) (by decide) (by decide) (by decide), kt' 56 (by decide) (by decide) (by decide) (by decide) (by decide) (by decide)]
          omega
        · rw [k16]
          omega
      have DG : dG S T := by
        refine ⟨r4, t69, i8T, fun _ => ?_, s19, ?_, rq.2, r3.2.2.2.2.1⟩
        · rw [r7, r8, kc.2.1 8 (by decide) (by decide)]
          rcases h1 with q | q
          · have := hI'.2.2.1 v q.1 q.2; omega
          · have := hI'.2.2.2.2.2 v q.1 q.2; omega
        · have a := r3.2.2.2.1
          have b := r3.2.1.1
          have c := t69.2.1
          unfold tKp at b
          omega
      have v' : vS S v := by
        unfold vS at h1 ⊢
        rw [kc.2.1 7 (by decide) (by decide), kc.2.1 10 (by decide) (by decide)]
        exact h1
      obtain ⟨Z, X, q1, q2, q3, q4, q5, q6, q7⟩ := def_loop sv (S 68 19).toNat S T 0 P2 DG (by decide) (by omega) Rm v' r6 (by rw [r7, kc.1 2 (by decide)])
      rw [show (((S 68 19).toNat : Nat) : Int) = S 68 19 by omega] at q4
      refine ⟨S, T, Z, X, kc, kT, ?_, q1, ?_, q3, q4.le (by omega), r5, ?_, ?_, q7⟩
      · rw [q4.2.2.1 134 (by decide)]; exact i8T
      · rw [md_define_e, q2]
        rfl
      · have := kc.2.2.1 12 (by decide) (by decide)
        omega
      · have := kc.2.2.1 16 (by decide) (by decide)
        omega
  · left
    have kc := ps_read_fr r1
    have kt := md_readText_fr r2
    rw [r1, r2]
    simp only [Option.bind_some, gtry, md_defines_b70_e, if_true]
    exact ⟨S, T, 11, Or.inl rfl, kc, k1.tr kt.1, by rw [kt.2.1]; exact i134, rfl, rfl⟩
end DP
