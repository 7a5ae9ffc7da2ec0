/-! load: both sides, whole -/
section LP
variable {σ τ S T Z X : gM} {x : Int}
theorem dG.w (h : dG σ τ) (cc : ∀ e, 68 ≤ e → e ≤ 86 → Z e = σ e) (c118 : Z 118 = σ 118) (h69 : σ 69 0 = 118) (tt : ∀ e, 134 ≤ e → e ≤ 154 → e ≠ 144 → X e = τ e) (t : ∀ i, i = 23 ∨ i = 43 ∨ i = 54 → X 119 i = τ 119 i) : dG Z X := by
  obtain ⟨h1, ⟨x1, x2, x3, x4⟩, h3, h4, h5, h6, h7⟩ := h
  have eg : ∀ f, eG Z f = eG σ f := fun f => by unfold eG; rw [cc 68 (by decide) (by decide), cc 81 (by decide) (by decide)]
  have c69 := cc 69 (by decide) (by decide)
  have c68 := cc 68 (by decide) (by decide)
  refine ⟨fun f f0 f1 => ?_, ⟨?_, ?_, ?_, ?_⟩, ?_, ?_, ?_, ?_, ?_⟩
  · rw [c68] at f1
    rw [eg, c68]
    exact ⟨(h1 f f0 f1).1.mv cc tt, (h1 f f0 f1).2⟩
  · rw [c69]; exact x1
  · rw [c69]; exact x2
  · rw [c69, t 23 (by decide)]; exact x3
  · rw [c69, tt 134 (by decide) (by decide) (by decide)]
    intro k k0 k1
    refine ⟨?_, (x4 k k0 k1).2⟩
    rw [← (x4 k k0 k1).1, h69, c118]
  · rw [tt 134 (by decide) (by decide) (by decide)]; exact h3
  · rw [c69]; intro z; omega
  · rw [c68, t 54 (by decide)]; exact h5
  · rw [c68]; exact h6
  · have e43 := t 43 (by decide)
    have ndS : ∀ i, nd Z i = nd σ i := fun i => nd_congr fun j _ _ => by rw [cc 70 (by decide) (by decide)]
    refine ⟨fun j j0 j1 => ?_, by rw [e43, c68, ndS]; exact h7.2⟩
    rw [e43] at j1
    rw [tt 141 (by decide) (by decide) (by decide)]
    exact h7.1 j j0 j1
/-- a text that can be read becomes the program -/
theorem load_ok {S1 T1 : gM} (fg : fG S1 T1) (fa : FA S1 T1) (f1 : 1 ≤ S1 68 19) (gq : Gq S1 ≤ S1 69 5 ∧ J1 T1) (e0 : S1 69 0 = 118) (e1 : S1 69 1 = 0) (i134 : ∀ i, i8 (T1 134 i)) (h39 : ∀ k, 0 ≤ k → k < 7 → S1 39 k = kX k) (h12 : T1 119 12 = 60000) (h13 : T1 119 13 = 0) (h16 : T1 119 16 = 2000) (b1 : ∀ i, i8 (T1 121 i)) (b2 : ∀ i, i8 (T1 225 i)) (tn : ∀ i, i = 95 ∨ i = 117 ∨ i = 118 ∨ i = 121 ∨ i = 122 ∨ i = 126 → T1 119 i = 0) (t1 : T1 119 1 = S1 87 5) :
    ∃ Z X, gt_load_b75 (gW S1 117 8 0) 1 (-1) = some (Z, Z 8 31) ∧ ((md_houseBegins (gW (gW T1 119 154 0) 119 155 (-1))).bind fun p4 => (md_define p4.1).bind fun p5 => some (p5.1, p5.1 119 55)) = some (X, Z 8 31) ∧ ((∀ i, i8 (Z 1 i)) → RN0 Z X) ∧ (Z 117 8 = 0 ∧ Z 117 9 = -1 ∧ X 119 154 = 0 ∧ X 119 155 = -1) ∧ (Z 117 7 = S1 117 7 ∧ X 119 153 = T1 119 153) := by
  generalize eA : gW (gW S1 117 8 0) 117 9 (-1) = A
  have a1 : ∀ a, a ≠ 117 → A a = S1 a := fun a q => by rw [← eA, gW_cell q, gW_cell q]
  have a8 : A 117 8 = 0 ∧ A 117 9 = -1 := by rw [← eA]; exact ⟨by rw [gW_i (by decide), gW_at], by rw [gW_at]⟩
  obtain ⟨B, c0, c1, c2, c3, c4, c5, c6⟩ := clears_c (σ := A) (by rw [a1 39 (by decide)]; exact h39)
  generalize eN : gW (gW T1 119 154 0) 119 155 (-1) = N
  have n1 : ∀ a, a ≠ 119 → N a = T1 a := fun a q => by rw [← eN, gW_cell q, gW_cell q]
  have n2 : ∀ i, i ≠ 154 → i ≠ 155 → N 119 i = T1 119 i := fun i q1 q2 => by rw [← eN, gW_i q2, gW_i q1]
  have n3 : N 119 154 = 0 ∧ N 119 155 = -1 := by rw [← eN]; exact ⟨by rw [gW_i (by decide), gW_at], by rw [gW_at]⟩
  obtain ⟨Y, d0, d1, d2, d3, d4⟩ := house_m (τ := N) (by rw [n2 12 (by decide) (by decide)]; exact h12) (by rw [n2 13 (by decide) (by decide)]; exact h13) (by rw [n1 121 (by decide)]; exact b1) (by rw [n1 225 (by decide)]; exact b2)
  have yF : ∀ i, i = 1 ∨ i = 16 ∨ i = 23 ∨ i = 43 ∨ i = 54 ∨ i = 95 ∨ i = 117 ∨ i = 118 ∨ i = 121 ∨ i = 122 ∨ i = 126 → Y 119 i = T1 119 i := fun i q => by rw [d4 i (by omega) (by omega) (by omega) (by omega) (by omega) (by omega) (by omega) (by omega) (by omega) (by omega) (by omega), n2 i (by omega) (by omega)]
  have yA : ∀ e, (131 < e ∧ e < 155) ∨ e = 179 ∨ e = 223 → Y e = T1 e := fun e q => by rw [d3 e (by omega) (by omega) (by omega) (by omega) (by omega) (by omega) (by omega) (by omega) (by omega) (by omega), n1 e (by omega)]
  have P0 : rPr B Y := base_pr c1 d1 (by rw [yF 16 (by decide)]; exact h16) c2 c3
  have pl : 0 ≤ S1 68 10 ∧ S1 68 10 ≤ S1 69 5 ∧ S1 69 5 ≤ S1 69 2 := by
    have a := fg.2.2.2.1
    have b := fg.2.1.1
    unfold tKp at b
    omega
  have t69 := fg.1
  have s19 := fg.2.2.2.2.2.2.1
  have D0 : dG S1 T1 := ⟨fa, t69, i134, fun q => by omega, s19, by have := t69.2.1; omega, gq.2, fg.2.2.2.2.1⟩
  have bA : ∀ a, 52 < a → a ≠ 87 → a ≠ 117 → B a = S1 a := fun a q1 q2 q3 => by rw [c4 a q1 q2, a1 a q3]
  have DB : dG B Y := D0.w (fun e q1 q2 => bA e (by omega) (by omega) (by omega)) (bA 118 (by decide) (by decide) (by decide)) e0 (fun e q1 q2 _ => yA e (by omega)) (fun i q => yF i (by omega))
  have ro := room_le fa s19.1 pl.1
  have ew : wSu B (S1 68 19).toNat 0 = wSu S1 (S1 68 19).toNat 0 := wSu_mv (fun e q1 q2 => bA e (by omega) (by omega) (by omega)) _ _
  have en : nCu B (S1 68 19).toNat 0 = nCu S1 (S1 68 19).toNat 0 := nCu_mv (fun e q1 q2 => bA e (by omega) (by omega) (by omega)) _ _
  have b68 : B 68 = S1 68 := bA 68 (by decide) (by decide) (by decide)
  have b69 : B 69 = S1 69 := bA 69 (by decide) (by decide) (by decide)
  obtain ⟨⟨k1, ⟨k2, k3, k4, k5⟩, k6, ⟨k10, k11, k12, k13⟩, -⟩, k16, -⟩ := id c1
  obtain ⟨⟨-, ⟨m1, m2⟩, ⟨m3, m4⟩, -⟩, -, -, -, m10, ⟨m15, m57, -⟩, -, m224⟩ := id d1
  have t2 := t69.2.1
  have Rm : dRm B Y (S1 68 19).toNat 0 := by
    refine ⟨?_, ?_, by omega, ?_, ?_⟩
    · unfold cRm
      rw [ew, k5, k12]
      omega
    · unfold mRm
      rw [ew, m15, m4]
      omega
    · rw [en, k10]
      omega
    · rw [en, k11]
      omega
  obtain ⟨Z, X, q1, q2, q3, q4, q5, q6, q7⟩ := ld_loop (S1 68 19).toNat B Y 0 P0 DB (by decide) (by rw [b68]; omega) Rm c3.1 (by rw [b69]; exact e0) (by rw [b69]; exact e1)
  rw [ew, show (((S1 68 19).toNat : Nat) : Int) = S1 68 19 by omega] at q4
  rw [en] at q5 q6
  rw [show (((S1 68 19).toNat : Nat) : Int) = S1 68 19 by omega] at q6
  have q4' := q4
  obtain ⟨-, ⟨g1, -, -, -, -, -, -, -, -, -, g11, g12, g13, g14, g15⟩, ⟨r1, r2, -, -, -, -, -, r8, r9, r10, r11⟩⟩ := q4'
  have zA : ∀ a, 52 < a → a ≠ 61 → a ≠ 87 → a ≠ 117 → Z a = S1 a := fun a w1 w2 w3 w4 => by rw [g1 a (by omega) w2, bA a w1 w3 w4]
  have z87 : Z 87 = B 87 := g1 87 (by decide) (by decide)
  have z117 : Z 117 = A 117 := by rw [g1 117 (by decide) (by decide), c4 117 (by decide) (by decide)]
  have z42 : Z 42 = B 42 := g1 42 (by decide) (by decide)
  have xF : ∀ i, i = 1 ∨ i = 95 ∨ i = 117 ∨ i = 118 ∨ i = 121 ∨ i = 122 ∨ i = 126 → X 119 i = T1 119 i := fun i w => by rw [r2 i (by omega) (by omega) (by omega) (by omega) (by omega) (by omega), yF i (by omega)]
  have x55 : X 119 55 = Z 8 31 := q3.1.2.2.2.2.2.2.2.1.1.1.2.2
  have hS6 : Z 42 6 = 1 := by rw [z42]; exact c2.1
  refine ⟨Z, X, ?_, ?_, fun zb => ?_, ⟨by rw [z117]; exact a8.1, by rw [z117]; exact a8.2, ?_, ?_⟩, ⟨by rw [z117, ← eA, gW_i (by decide), gW_i (by decide)], ?_⟩⟩
  · rw [gt_load_b75_e, if_neg (by decide), eA, c0]
    exact q1
  · rw [d0]
    simp only [Option.bind_some]
    rw [md_define_e, q2]
    simp only [Option.bind_some]
    rw [x55]
  · refine ⟨⟨⟨q3, ⟨fun n n0 n1 => ?_, fun r n r0 r1 n0 n1 => ?_⟩, ?_, zb, ?_⟩, ?_, ?_, ?_, ?_, ?_, ?_, ?_, ?_, ?_⟩, ?_, ?_, ?_, Or.inr ?_⟩
    · obtain ⟨w1, w2, w3⟩ := q7.1 n (by omega) n1
      unfold nIv
      rw [w1, w2, w3]
      exact ⟨fun _ => ⟨by decide, fun _ => rfl⟩, fun _ _ => ⟨fun _ => by decide, fun _ => rfl⟩, fun _ => ⟨Or.inl rfl, fun _ => by decide⟩⟩
    · have hN := q3.1.2.2.2.2.2.2.2.2.1.2.1 r r0 r1
      obtain ⟨w1, w2, w3⟩ := q7.1 n (by omega) (by omega)
      unfold sI2
      rw [w1]
      intro _ y
      omega
    · unfold rRm cRm mRm
      rw [hS6]
      exact ⟨⟨by omega, by omega, by omega, by omega, by omega⟩, ⟨by omega, by omega, by omega, by omega, by omega⟩, ⟨by omega, by omega⟩, ⟨by omega, by omega⟩, by omega⟩
    · rw [r1 134 (by decide), yA 134 (by decide)]
      exact i134
    · unfold rTo
      rw [r1 224 (by decide), z87, m224 9 (by decide) (by decide), m224 10 (by decide) (by decide), m224 11 (by decide) (by decide), m224 12 (by decide) (by decide), m224 13 (by decide) (by decide), m224 14 (by decide) (by decide), m224 15 (by decide) (by decide), c5 36 (by decide), c5 37 (by decide), c5 38 (by decide), c5 39 (by decide), c5 40 (by decide), c5 41 (by decide), c5 42 (by decide)]
      decide
    · rw [xF 117 (by decide), z87, c5 23 (by decide)]; exact tn 117 (by decide)
    · rw [xF 118 (by decide), z87, c5 24 (by decide)]; exact tn 118 (by decide)
    · rw [xF 121 (by decide), z87, c5 19 (by decide)]; exact tn 121 (by decide)
    · rw [xF 122 (by decide), z87, c5 20 (by decide)]; exact tn 122 (by decide)
    · rw [xF 95 (by decide), z87, c5 31 (by decide)]; exact tn 95 (by decide)
    · rw [xF 126 (by decide), z87, c5 34 (by decide)]; exact ⟨tn 126 (by decide), by decide⟩
    · intro i i0 i1 i2
      rw [z87, c5 34 (by decide)] at i2
      omega
    · rw [xF 1 (by decide), z87, c6, a1 87 (by decide)]
      exact t1
    · rw [z87]; exact c5 19 (by decide)
    · rw [z87]; exact c5 23 (by decide)
    · rw [z87]; exact c5 34 (by decide)
    · unfold slk
      rw [hS6]
      exact ⟨by omega, by omega, by omega⟩
  · rw [r2 154 (by decide) (by decide) (by decide) (by decide) (by decide) (by decide), d4 154 (by decide) (by decide) (by decide) (by decide) (by decide) (by decide) (by decide) (by decide) (by decide) (by decide) (by decide)]; exact n3.1
  · rw [r2 155 (by decide) (by decide) (by decide) (by decide) (by decide) (by decide), d4 155 (by decide) (by decide) (by decide) (by decide) (by decide) (by decide) (by decide) (by decide) (by decide) (by decide) (by decide)]; exact n3.2
  · rw [r2 153 (by decide) (by decide) (by decide) (by decide) (by decide) (by decide), d4 153 (by decide) (by decide) (by decide) (by decide) (by decide) (by decide) (by decide) (by decide) (by decide) (by decide) (by decide), n2 153 (by decide) (by decide)]
end LP
