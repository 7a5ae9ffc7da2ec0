/-! define in a run: both sides -/
section DF
variable {σ τ S T Z X : gM} {pT hT : Int → Int} {m : Nat} {br co θ n : Int}
/-- a text was read: the run stays related -/
theorem RQ.keep (R : RQ σ τ pT hT) (kc : keepC σ S) (kt : keepT τ T) (i1 : ∀ i, i8 (T 134 i)) : RQ S T pT hT ∧ ∀ k x t y, rVal σ τ k x t y → rVal S T k x t y := by
  have R' := R
  obtain ⟨⟨⟨P1, P2⟩, ⟨N1, N2⟩, M, B⟩, A, ⟨V2, V3⟩, K1, C, F⟩ := R'
  have ht := A.2.2.2.2.1
  have P := rPr.mv (σ := σ) (τ := τ) ⟨P1, P2⟩ kc kt
  obtain ⟨c, k0, k8, k42, k52, k87, -⟩ := kc
  obtain ⟨d, d119⟩ := kt
  have s1 : sameC σ S := ⟨fun a q => c a (by omega), k0 7 (by decide) (by decide), k0 8 (by decide) (by decide), k0 9 (by decide) (by decide), k0 10 (by decide) (by decide), k0 11 (by decide) (by decide), k0 12 (by decide) (by decide), k0 13 (by decide) (by decide), k8 12 (by decide) (by decide), k8 16 (by decide) (by decide), k8 19 (by decide) (by decide), k8 31 (by decide) (by decide), k42 6 (by decide) (by decide), k42 10 (by decide) (by decide), k42 11 (by decide) (by decide), k52 10 (by decide) (by decide), k52 11 (by decide) (by decide), k52 12 (by decide) (by decide), k52 19 (by decide) (by decide), k87 31 (by decide) (by decide)⟩
  have t : ∀ i, (0 ≤ i ∧ i < 23) ∨ (44 < i ∧ i < 54) ∨ (54 < i ∧ i < 156) → T 119 i = τ 119 i := fun i q => d119 i (by omega) (by omega) (by omega) (by omega) (by omega) (by omega)
  have s2 : sameT τ T := ⟨fun a q => d a (by omega), t 9 (by decide), t 10 (by decide), t 12 (by decide), t 13 (by decide), t 15 (by decide), t 16 (by decide), t 55 (by decide), t 56 (by decide), t 57 (by decide), t 89 (by decide), t 92 (by decide), t 93 (by decide), t 94 (by decide), t 104 (by decide)⟩
  have rv : ∀ k x t y, rVal S T k x t y ↔ rVal σ τ k x t y := (rVal_mv s1 s2).1
  refine ⟨RQm.toQ (R.toM.hq P ⟨?_, ?_⟩ ?_ ⟨by rw [c 1 (by decide)]; exact B.1, i1, B.2.2.mv (fun a q => d a (by omega)) (t 56 (by decide))⟩ ?_ ?_ ?_ (fun k x t y q => (rv k x t y).mpr q) (fun a q => c a (by omega)) (k52 10 (by decide) (by decide)) (by rw [k8 31 (by decide) (by decide)]; exact Int.le_refl _) (fun a r q1 q2 _ => by rw [c a (by omega)]) (fun a p q1 q2 _ => by rw [c a (by omega)]) (fun j _ => by rw [c 14 (by decide)]) (fun i q => k87 i (by omega) (by omega)) (fun a q1 q2 => d a (by omega)) (fun a j q _ => by rw [d a (by omega)]) (fun i q => t i (by omega))) ?_, fun k x t y q => (rv k x t y).mpr q⟩
  · unfold nIv at N1 ⊢
    rw [k8 12 (by decide) (by decide), c 9 (by decide), c 11 (by decide), c 18 (by decide), d 179 (by decide)]
    exact N1
  · unfold sI2 at N2 ⊢
    rw [k8 31 (by decide) (by decide), c 9 (by decide), c 11 (by decide), c 13 (by decide), c 26 (by decide), c 27 (by decide), c 35 (by decide)]
    exact N2
  · unfold rRm cRm mRm at M ⊢
    rw [k0 7 (by decide) (by decide), k0 8 (by decide) (by decide), k0 9 (by decide) (by decide), k8 12 (by decide) (by decide), k8 16 (by decide) (by decide), k8 19 (by decide) (by decide), k8 31 (by decide) (by decide), k42 6 (by decide) (by decide), t 9 (by decide), t 10 (by decide), t 15 (by decide), t 56 (by decide)]
    exact M
  · unfold rOb at V3 ⊢
    rw [k87 31 (by decide) (by decide), t 95 (by decide), c 100 (by decide), c 101 (by decide), c 102 (by decide), k42 6 (by decide) (by decide), c 47 (by decide), d 193 (by decide), d 194 (by decide), d 195 (by decide)]
    simp only [rv]
    exact V3
  · unfold rCt at C ⊢
    rw [k87 23 (by decide) (by decide), k87 24 (by decide) (by decide), k87 20 (by decide) (by decide), k87 34 (by decide) (by decide), k87 5 (by decide) (by decide), c 103 (by decide), k0 13 (by decide) (by decide), d 223 (by decide), t 117 (by decide), t 118 (by decide), t 122 (by decide), t 126 (by decide), t 11 (by decide), t 1 (by decide), t 127 (by decide), t 12 (by decide), t 13 (by decide)]
    exact C
  · unfold rTo at ht ⊢
    rw [d 224 (by decide), k87 36 (by decide) (by decide), k87 37 (by decide) (by decide), k87 38 (by decide) (by decide), k87 39 (by decide) (by decide), k87 40 (by decide) (by decide), k87 41 (by decide) (by decide), k87 42 (by decide) (by decide)]
    exact ht
  · unfold rFa cFa at F ⊢
    rw [k87 21 (by decide) (by decide), c 93 (by decide), c 9 (by decide), c 11 (by decide), c 18 (by decide), c 19 (by decide), c 20 (by decide), c 22 (by decide), c 29 (by decide), c 54 (by decide), c 55 (by decide), c 62 (by decide), c 64 (by decide), c 65 (by decide)]
    exact F
/-- functions were defined: the run stays related, but for the code that it is in -/
theorem RQ.dfd {N : Int} (R : RQ σ τ pT hT) (P : rPr Z X) (F : dFr 200 N σ τ Z X) (nw : nwD σ Z X) (n1 : 1 ≤ N) (b12 : Z 8 12 ≤ σ 8 12 + 200) (b16 : Z 8 16 ≤ σ 8 16 + 700) (b1 : ∀ i, i8 (Z 1 i)) (b2 : ∀ i, i8 (X 134 i)) : RQm Z X pT hT := by
  have R' := R
  obtain ⟨⟨⟨P1, P2⟩, ⟨N1, N2⟩, M, B⟩, A, ⟨V2, V3⟩, K1, C, -⟩ := R'
  have ht := A.2.2.2.2.1
  obtain ⟨⟨rv, -⟩, ⟨f1, f2, f3, f4, f5, f6, f7, f8, f9, f10, f11, f12, f13, f14, f15⟩, ⟨g1, g2, g3, g4, g5, g6, g7, g8, g9, g10, g11⟩⟩ := F
  have hN := P1.2.2.2.2.2.2.2.2.1
  have hN' := P.1.2.2.2.2.2.2.2.2.1
  have hRo := P1.2.2.2.2.2.2.2.2.2.2.2.2.2.1
  have cc : ∀ a, 39 ≤ a → a ≠ 61 → Z a = σ a := fun a q1 q2 => f1 a (by omega) q2
  have dd : ∀ a, 187 ≤ a → a ≠ 203 → X a = τ a := fun a q1 q2 => g1 a (by omega)
  have hgr := P.1.2.2.2.2.1
  refine R.toM.hq P ⟨fun j j0 j1 => ?_, fun r j r0 r1 j0 j1 => ?_⟩ ?_ ⟨b1, b2, B.2.2.gr P1.2.1.2.1 g11.2.2 g11.1 g3⟩ ?_ ?_ ?_ rv (fun a q => cc a (by omega) (by omega)) (by rw [cc 52 (by decide) (by decide)]) (by omega) (fun a r q1 q2 q3 => f5 a r (by omega) (by omega) (by omega) q3) (fun a p q1 q2 q3 => f4 a p q1 q2 (Or.inl q3)) (fun j q => f3 14 j (by decide) (by decide) q) (fun i q => by rw [cc 87 (by decide) (by decide)]) (fun a q1 q2 => dd a (by omega) (by omega)) (fun a j q1 q2 => g6 a j (by omega) (by omega) q2) (fun i q => g2 i (by omega) (by omega) (by omega) (by omega) (by omega) (by omega))
  · unfold nIv
    by_cases q : j < σ 8 12
    · have w := N1 j j0 q
      unfold nIv at w
      rw [f3 9 j (by decide) (by decide) q, f3 11 j (by decide) (by decide) q, f3 18 j (by decide) (by decide) q, g6 179 j (by decide) (by decide) q]
      exact w
    · obtain ⟨w1, w2, w3⟩ := nw.1 j (by omega) j1
      rw [w1, w2, w3]
      exact ⟨fun _ => ⟨by decide, fun _ => rfl⟩, fun _ _ => ⟨fun _ => by decide, fun _ => rfl⟩, fun _ => ⟨Or.inl rfl, fun _ => by decide⟩⟩
  · unfold sI2
    by_cases q : r < σ 8 31
    · rw [f5 26 r (by decide) (by decide) (by decide) q] at j0 j1
      rw [f5 27 r (by decide) (by decide) (by decide) q] at j1
      have u := hN.2.1 r r0 q
      have jl : j < σ 8 12 := by omega
      have w := N2 r j r0 q j0 j1
      unfold sI2 at w
      have v := (hRo r r0 q)
      rw [f3 9 j (by decide) (by decide) jl, f3 11 j (by decide) (by decide) jl, f3 13 j (by decide) (by decide) jl]
      intro k9 a1 a2
      have b13 := v.2.2.2.2.2 j j0 j1 (by omega)
      have b31 := v.1
      rw [f6 _ (by omega)]
      exact w k9 a1 a2
    · have u := hN'.2.1 r r0 r1
      have v := nw.2 r (by omega) r1
      obtain ⟨w1, -⟩ := nw.1 j (by omega) (by omega)
      rw [w1]
      intro _ q1
      omega
  · obtain ⟨⟨m1, m2, m3, m4, m5⟩, ⟨m6, m7, m8, m9, m10⟩, ⟨m11, m12⟩, ⟨m13, m14⟩, m15⟩ := M
    have e42 : Z 42 6 = σ 42 6 := by rw [cc 42 (by decide) (by decide)]
    have z09 := hgr.1
    have z15 := hgr.2.1
    exact ⟨⟨by omega, by omega, by omega, by omega, by omega⟩, ⟨by omega, by omega, by omega, by omega, by omega⟩, ⟨by omega, by omega⟩, ⟨by omega, by omega⟩, by omega⟩
  · obtain ⟨o1, o2⟩ := V3
    unfold rOb
    rw [cc 87 (by decide) (by decide), g2 95 (by decide) (by decide) (by decide) (by decide) (by decide) (by decide), cc 100 (by decide) (by decide), cc 101 (by decide) (by decide), cc 102 (by decide) (by decide), cc 42 (by decide) (by decide), cc 47 (by decide) (by decide), dd 193 (by decide) (by decide), dd 194 (by decide) (by decide), dd 195 (by decide) (by decide)]
    refine ⟨o1, fun o q1 q2 => ?_⟩
    obtain ⟨y1, y2, y3⟩ := o2 o q1 q2
    exact ⟨y1, y2, fun p p0 p1 => rv _ _ _ _ (y3 p p0 p1)⟩
  · have w : ∀ i, i = 1 ∨ (11 ≤ i ∧ i ≤ 13) ∨ i = 117 ∨ i = 118 ∨ i = 122 ∨ i = 126 ∨ i = 127 → X 119 i = τ 119 i := fun i q => g2 i (by omega) (by omega) (by omega) (by omega) (by omega) (by omega)
    unfold rCt at C ⊢
    rw [cc 87 (by decide) (by decide), cc 103 (by decide) (by decide), f8 13 (by decide) (by decide) (by decide), dd 223 (by decide) (by decide), w 117 (by decide), w 118 (by decide), w 122 (by decide), w 126 (by decide), w 11 (by decide), w 1 (by decide), w 127 (by decide), w 12 (by decide), w 13 (by decide)]
    exact C
  · unfold rTo at ht ⊢
    rw [dd 224 (by decide) (by decide), cc 87 (by decide) (by decide)]
    exact ht
end DF
