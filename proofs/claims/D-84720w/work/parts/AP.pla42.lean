/-! a function more: all stays related -/
section SJ
variable {σ τ Z W X : gM} {f b fn g w : Int}
theorem rPg.new (h : rPg σ τ) (F : sFr σ τ Z X fn g) (nf : nwF σ τ Z W f b fn g) (rt : rtM W X g) (w55 : W 119 55 = σ 8 31) (h60 : 4 ≤ σ 8 31 ∧ σ 8 31 < 60) (h16 : Z 8 16 ≤ 64000) (h12 : Z 8 12 ≤ 16000) (r1 : Z 0 9 ≤ 2000) (r2 : X 119 15 ≤ 2000) : rPg Z X := by
  obtain ⟨⟨p1, p2, p3⟩, hv, hn, hk, hg, hs, hc, hb, hN, hCs, hIn, ⟨hU, hP, hV⟩, hQ, hR, hK, hS, hCh⟩ := h
  obtain ⟨⟨n1, n2, n3⟩, n4, n5, ⟨n6, n7, n8, n9, n10⟩, ⟨z25, z26, z27, z28, z29, z30, z31, z32, z33, z34, z35⟩, ⟨w158, w159, w160, w161⟩, nw0, npar, tr, i17, i16, ⟨m1, m2, m3, m4, m5⟩, m6⟩ := nf
  have rt' := rt
  obtain ⟨q1, q2, ⟨q3, q4, q5, q6, q7, q8⟩, q9, q10, q11, q12, q13⟩ := rt'
  rw [w55] at q3 q4 q5 q6 q7 q8 q9
  have cX : ∀ a i, a ≠ 119 → a ≠ 156 → a ≠ 157 → (a < 163 ∨ 167 < a) → X a i = W a i := q10
  have cXf : ∀ a, a ≠ 119 → a ≠ 156 → a ≠ 157 → (a < 163 ∨ 167 < a) → X a = W a := fun a x1 x2 x3 x4 => funext fun i => q10 a i x1 x2 x3 x4
  have nw : ∀ x, σ 8 12 ≤ x → x < Z 8 12 → nwN Z X (Z 8 12) (σ 8 31) (σ 84 f) x := fun x x0 x1 => (nw0 x x0 x1).mvX rt
  have rfn : rFn Z X fn g := by
    refine ⟨⟨n1, n2⟩, ⟨n4.1, by rw [q2 56 (by decide)]; exact n4.2⟩, ?_⟩
    rw [cX 155 g (by decide) (by decide) (by decide) (by decide), mS_mv (T := W) fun a x1 x2 => cXf a (by omega) (by omega) (by omega) (by omega)]
    exact n5
  have hv' := hv.fr F rfn n3 q4
  have hn' := hn.fr F hv rfn z25 q3
  have hRt := rRt.fr F hb.1 h60.2 hv' hn' ⟨z32, z33, z34⟩ ⟨q5, q6, q7⟩ hb.2.1.1
  have ks : ∀ n, 0 ≤ n → n < Z 8 12 → kst Z X n ∧ 0 ≤ Z 9 n ∧ Z 9 n ≤ 28 := fun n x0 x1 => by
    by_cases z : n < σ 8 12
    · obtain ⟨k1, k2, k3⟩ := hK.1 n x0 z
      have a2 := F.2.2.2.2.2.1.2.1
      exact ⟨k1.fr F hv.1 hv.2.1 hg z, by rw [a2 9 n (by decide) (by decide) z]; exact ⟨k2, k3⟩⟩
    · obtain ⟨-, -, -, -, -, k1, -, k2⟩ := nw n (by omega) x1
      exact ⟨k1, k2⟩
  have trX : RX Z X (σ 8 12) (Z 8 12) (-1) (-1) 2 (X 162 (σ 8 31)) 0 (σ 8 16) (Z 8 16 - 2) := by
    obtain ⟨d, tr⟩ := tr
    rw [cX 162 _ (by decide) (by decide) (by decide) (by decide)]
    exact ⟨d, RT_fr (fun a n x _ _ => cX a n (by omega) (by omega) (by omega) (by omega)) (fun _ _ _ => rfl) d 2 _ _ _ _ _ _ (fun _ _ _ => ⟨rfl, rfl, rfl⟩) tr⟩
  have h16' := hIn.1.1
  have hN' : rNd Z X := rNd.fr F hN nw ⟨h12, by rw [q2 57 (by decide)]; exact n8⟩ ⟨z26, z27⟩ ⟨by rw [cX 158 _ (by decide) (by decide) (by decide) (by decide)]; exact w158, by rw [cX 159 _ (by decide) (by decide) (by decide) (by decide)]; exact w159⟩ m6
  have e31 : Z 8 31 = σ 8 31 + 1 := n6
  refine ⟨⟨F.1, F.2.1, F.2.2.2.2.1⟩, hv', hn', hk.fr F, hg.fr F r1 r2, hs.fr F, hc.fr F hs, ⟨hRt, hb.2.fr F⟩, hN', rCs.fr F hCs (fun n x0 x1 => (ks n x0 x1).1) nw, ?_, ⟨hU.fr F hb.2, hP.fr F hb.2 hIn hN h16, hV.fr F hb.2 hIn hN hU hP h16⟩, hQ.fr F, fun r x0 x1 => ?_, ⟨ks, fun r x0 x1 => ?_, fun f' q0 q1 q2 q3 => ?_⟩, fun r l x0 x1 x2 x3 => ?_, fun r x0 x1 => ?_⟩
  · refine rIn.fr F hIn hN h16 ⟨z26, z27, z28, z29⟩ ⟨n9, n10⟩ fun p p0 p1 => ?_
    by_cases z : p < Z 8 16 - 2
    · obtain ⟨d, trX⟩ := trX
      exact RT_pt d 2 _ _ _ _ _ _ trX (by omega) (by omega) (by decide) (by decide) p p0 z
    · by_cases y : p = Z 8 16 - 2
      · rw [y]; exact i17.ip (by decide) (by omega) (by decide)
      · rw [show p = Z 8 16 - 1 by omega]; exact i16.ip (by decide) (by omega) (by decide)
  · by_cases z : r = σ 8 31
    · unfold rR1
      rw [z, z26, z27, z28, z29, z30, z31, show σ 8 12 + (Z 8 12 - σ 8 12) = Z 8 12 by omega, show σ 8 16 + (Z 8 16 - σ 8 16) - 2 = Z 8 16 - 2 by omega, show σ 8 16 + (Z 8 16 - σ 8 16) - 1 = Z 8 16 - 1 by omega, cX 160 _ (by decide) (by decide) (by decide) (by decide), cX 161 _ (by decide) (by decide) (by decide) (by decide)]
      exact ⟨⟨w160, w161, ⟨m1, m2⟩, ⟨m3, m4⟩, m5⟩, npar, trX, i17, i16, fun n x2 x3 => (nw n x2 x3).2.2.2.2.2.2.1⟩
    · exact (hR r x0 (by omega)).fr F hN hIn x0 (by omega)
  · have F' := F
    obtain ⟨-, -, -, -, -, ⟨-, -, -, -, -, -, -, -, -, -, -, a12, -⟩, ⟨-, -, -, -, -, -, -, b8, -⟩⟩ := F'
    rw [a12 27 r (by decide) (by decide) (by omega), a12 31 r (by decide) (by decide) (by omega), b8 159 r (by decide) (by decide) (by omega), b8 161 r (by decide) (by decide) (by omega)]
    exact hK.2.1 r x0 x1
  · have F' := F
    obtain ⟨-, -, -, -, -, ⟨-, -, -, -, a5, -, -, -, a9, a10, -⟩, -⟩ := F'
    by_cases z : f' = fn
    · rw [z, n3] at q3
      omega
    · by_cases y : f' < σ 8 19
      · rw [(a9 f' y).2 z] at q2 q3 ⊢
        rw [(a9 f' y).1, (a5 _ (Or.inl (hv.1.2.1 f' q0 y).1)).2.1]
        exact hK.2.2 f' q0 y q2 q3
      · rw [a10 f' (by omega) q1 z] at q2
        omega
  · by_cases z : r = σ 8 31
    · rw [z, q9 l x2 x3, z35 l x2 x3]
      exact ⟨rfl, by decide, by decide⟩
    · have a13 := F.2.2.2.2.2.1.2.2.2.2.2.2.2.2.2.2.2.2
      have b9 := F.2.2.2.2.2.2.2.2.2.2.2.2.2.2.1
      rw [a13 _ (by omega), b9 _ (by omega)]
      exact hS r l x0 (by omega) x2 x3
  · by_cases z : r = σ 8 31
    · rw [z, q8, z26, z27]
      exact (show (0 : Int) = w32 0 from rfl).trans (congrArg w32 (chN_0 _ fun i hi => (nw _ (by omega) (by omega)).2.2.1.2.1)).symm
    · have F' := F
      obtain ⟨-, -, -, -, -, ⟨-, a2, -, -, -, -, -, -, -, -, -, a12, -⟩, ⟨-, -, -, -, -, -, -, b8, -⟩⟩ := F'
      rw [b8 166 r (by decide) (by decide) z, a12 26 r (by decide) (by decide) (by omega), a12 27 r (by decide) (by decide) (by omega), hCh r x0 (by omega)]
      by_cases y : r < 4
      · rw [(hK.2.1 r x0 y).1]; rfl
      obtain ⟨-, -, k3, k4, k5, -⟩ := hN.2.1 r (by omega) (by omega)
      exact (congrArg w32 (chN_mv _ fun i hi => a2 12 _ (by decide) (by decide) (by omega))).symm
end SJ
