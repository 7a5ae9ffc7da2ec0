/-! what may be asked between calls: codes, frames, shapes, results -/
/-- the given functions' rows -/
abbrev gvR := gvX
section OBS2
variable {σ τ S T Z X : gM} {x y z : Int}
theorem obs_code (R : RW σ τ) (hy : y ≤ 2147483647) : ∃ r, gt_code σ x y = some (σ, r) ∧ md_code τ x y = some (τ, r) := by
  have hb := R.b.1.1.1.2.2.2.2.2.2.2.1.2
  obtain ⟨c1, c2, c3⟩ := hb
  rw [gt_code_e, md_code_e, c1.2.2]
  by_cases x0 : x < 0
  · rw [if_pos x0, if_pos x0]; exact ⟨_, rfl, rfl⟩
  rw [if_neg x0, if_neg x0]
  by_cases x1 : x < σ 52 10
  · rw [if_pos x1, if_pos x1]
    have x100 : 0 ≤ x ∧ x < 100 := by omega
    obtain ⟨e53, e55, e56, e57, e58, e59, e60, e61, e54, eU⟩ := c3 x (by omega) x1
    by_cases y9 : 9 < y
    · rw [if_pos y9, if_neg (by omega), if_pos x100, if_pos x100, w32_e (x := y - 10) (by omega) (by omega), e55.1]
      by_cases yu : y - 10 < σ 55 x
      · have u := (eU (y - 10) (by omega) yu).1.1
        rw [if_pos yu, if_pos yu, if_pos x100, md_unit_e, w32_e (x := 152 * x) (by omega) (by omega), w32_e (x := 152 * x + (y - 10)) (by omega) (by omega), w32_e (x := σ 54 x + y) (by omega) (by omega), w32_e (x := σ 54 x + y - 10) (by omega) (by omega), if_pos (by omega)]
        simp only [Option.bind_some]
        rw [if_pos (by omega), u, show σ 54 x + y - 10 = σ 54 x + (y - 10) by omega]
        exact ⟨_, rfl, rfl⟩
      · rw [if_neg yu, if_neg yu, gt_code_b62_e, if_neg (by omega), if_neg (by omega), if_neg (by omega), if_neg (by omega), if_neg (by omega), if_neg (by omega), if_neg (by omega), if_neg (by omega), if_pos x100]
        exact ⟨_, rfl, rfl⟩
    · rw [if_neg y9, if_pos (by omega), gt_code_b62_e, e53.1, e55.1, e56, e57, e58.1, e59, e60, e61.1]
      by_cases h0 : y = 0
      · rw [if_pos h0, if_pos h0, if_pos x100, if_pos x100]; exact ⟨_, rfl, rfl⟩
      rw [if_neg h0, if_neg h0]
      by_cases h1 : y = 1
      · rw [if_pos h1, if_pos h1, if_pos x100, if_pos x100]
        by_cases q : σ 61 x = 0
        · rw [if_pos q, if_pos q]; exact ⟨_, rfl, rfl⟩
        · rw [if_neg q, if_neg q]; exact ⟨_, rfl, rfl⟩
      rw [if_neg h1, if_neg h1]
      by_cases h2 : y = 2
      · rw [if_pos h2, if_pos h2, if_pos x100, if_pos x100]; exact ⟨_, rfl, rfl⟩
      rw [if_neg h2, if_neg h2]
      by_cases h3 : y = 3
      · rw [if_pos h3, if_pos h3, if_pos x100, if_pos x100]; exact ⟨_, rfl, rfl⟩
      rw [if_neg h3, if_neg h3]
      by_cases h4 : y = 4
      · rw [if_pos h4, if_pos h4, if_pos x100, if_pos x100]; exact ⟨_, rfl, rfl⟩
      rw [if_neg h4, if_neg h4]
      by_cases h5 : y = 5
      · rw [if_pos h5, if_pos h5, if_pos x100, if_pos x100]; exact ⟨_, rfl, rfl⟩
      rw [if_neg h5, if_neg h5]
      by_cases h6 : y = 6
      · rw [if_pos h6, if_pos h6, if_pos x100, if_pos x100]; exact ⟨_, rfl, rfl⟩
      rw [if_neg h6, if_neg h6]
      by_cases h7 : y = 7
      · rw [if_pos h7, if_pos h7, if_pos x100, if_pos x100]; exact ⟨_, rfl, rfl⟩
      rw [if_neg h7, if_neg h7]
      exact ⟨_, rfl, rfl⟩
  · rw [if_neg x1, if_neg x1]; exact ⟨_, rfl, rfl⟩
theorem obs_frame (R : RW σ τ) (hy : y ≤ 2147483647) : ∃ r, gt_frame σ x y = some (σ, r) ∧ md_frame τ x y = some (τ, r) := by
  have B := R.b
  have st := R.st
  have e121 := B.2.2.2.2.1
  rw [gt_frame_e, md_frame_e, st.1, e121]
  by_cases s1 : σ 87 23 = 1
  · rw [if_pos s1]
    obtain ⟨pT, hT, m, br, co, θ, w⟩ : ∃ (pT hT : Int → Int) (m : Nat) (br co θ : Int), RR σ (gW τ 119 127 0) pT hT m br co θ := by
      obtain ⟨-, -, R⟩ := R
      rcases R with ⟨-, -, w⟩ | ⟨-, -, ⟨w, -⟩ | ⟨w, -⟩⟩ | w
      · omega
      · omega
      · omega
      · exact w
    have A := w.1.2.1.2.1
    have V2 := w.1.2.2.1.1
    have ro := w.1.1.1.1.2.2.2.2.2.2.2.2.2.2.2.2.2.1
    have c : ∀ a, a ≠ 119 → gW τ 119 127 0 a = τ a := fun a q => gW_cell q
    by_cases x0 : x < 0
    · rw [if_pos x0, if_pos x0]; exact ⟨_, rfl, rfl⟩
    rw [if_neg x0, if_neg x0]
    by_cases x1 : x < σ 87 19
    · have m59 := A.1
      rw [if_pos x1, if_pos x1, w32_e (x := σ 87 19 - 1) (by omega) (by omega), w32_e (x := σ 87 19 - 1 - x) (by omega) (by omega)]
      generalize ek : σ 87 19 - 1 - x = k
      have k0 : 0 ≤ k ∧ k < σ 87 19 := by omega
      have k60 : 0 ≤ k ∧ k < 60 := by omega
      obtain ⟨⟨a1, a2, a3, a4, -⟩, a5, -⟩ := A.2.2 k k0.1 k0.2
      rw [c 208 (by decide)] at a1
      rw [c 209 (by decide)] at a2
      rw [c 210 (by decide)] at a3
      rw [c 214 (by decide)] at a4
      have r1 := (ro _ a5.1 a5.2).1
      rw [c 160 (by decide), c 161 (by decide)] at r1
      have r60 := B.1.1.1.2.2.2.2.2.2.2.1.1.1
      have b80 : ∀ v, md_frame_b80 τ v k = (if v = 0 then some (τ, σ 90 k) else if v = 1 then some (τ, σ 93 k) else if v = 2 then some (τ, σ 94 k) else if v = 3 then (if σ 96 k = 0 then some (τ, 0) else some (τ, 1)) else some (τ, -1)) := fun v => by
        rw [md_frame_b80_e, a1, a2, a3, a4]
        simp only [k60, and_self, if_true]
      have b77 : ∀ v, gt_frame_b77 σ v k = (if v = 0 then some (σ, σ 90 k) else if v = 1 then some (σ, σ 93 k) else if v = 2 then some (σ, σ 94 k) else if v = 3 then (if σ 96 k = 0 then some (σ, 0) else some (σ, 1)) else some (σ, -1)) := fun v => by
        rw [gt_frame_b77_e]
        simp only [k60, and_self, if_true]
      by_cases y9 : 9 < y
      · rw [if_neg (by omega), if_pos k60, if_pos (by omega), w32_e (x := 10 + σ 31 (σ 90 k)) (by omega) (by omega), if_pos y9]
        have bn : gt_frame_b77 σ y k = some (σ, -1) := by rw [b77, if_neg (by omega), if_neg (by omega), if_neg (by omega), if_neg (by omega)]
        have mn : md_frame_b80 τ y k = some (τ, -1) := by rw [b80, if_neg (by omega), if_neg (by omega), if_neg (by omega), if_neg (by omega)]
        by_cases yl : y < 10 + σ 31 (σ 90 k)
        · have v := (V2 k (y - 10) k0.1 k0.2 (by omega) (by omega)).1
          rw [c 215 (by decide)] at v
          rw [if_pos yl, if_pos (show y < 22 by omega), if_pos k60, a1, if_pos (show 0 ≤ σ 90 k ∧ σ 90 k < 60 by omega), w32_e (x := y - 10) (by omega) (by omega), r1.2.1, if_pos (show y - 10 < σ 31 (σ 90 k) by omega), w32_e (x := 12 * k) (by omega) (by omega), w32_e (x := 12 * k + y) (by omega) (by omega), w32_e (x := 12 * k + y - 10) (by omega) (by omega), if_pos (by omega), if_pos (by omega), show 12 * k + y - 10 = 12 * k + (y - 10) by omega, v]
          exact ⟨_, rfl, rfl⟩
        · rw [if_neg yl, bn]
          by_cases y22 : y < 22
          · rw [if_pos y22, if_pos k60, a1, if_pos (by omega), w32_e (x := y - 10) (by omega) (by omega), r1.2.1, if_neg (by omega)]
            exact ⟨_, rfl, rfl⟩
          · rw [if_neg y22, mn]
            exact ⟨_, rfl, rfl⟩
      · rw [if_pos (by omega), if_neg y9, b77, b80]
        by_cases h0 : y = 0
        · rw [if_pos h0, if_pos h0]; exact ⟨_, rfl, rfl⟩
        rw [if_neg h0, if_neg h0]
        by_cases h1 : y = 1
        · rw [if_pos h1, if_pos h1]; exact ⟨_, rfl, rfl⟩
        rw [if_neg h1, if_neg h1]
        by_cases h2 : y = 2
        · rw [if_pos h2, if_pos h2]; exact ⟨_, rfl, rfl⟩
        rw [if_neg h2, if_neg h2]
        by_cases h3 : y = 3
        · rw [if_pos h3, if_pos h3]
          by_cases q : σ 96 k = 0
          · rw [if_pos q, if_pos q]; exact ⟨_, rfl, rfl⟩
          · rw [if_neg q, if_neg q]; exact ⟨_, rfl, rfl⟩
        rw [if_neg h3, if_neg h3]
        exact ⟨_, rfl, rfl⟩
    · rw [if_neg x1, if_neg x1]; exact ⟨_, rfl, rfl⟩
  · rw [if_neg s1, st.2 s1]
    by_cases x0 : x < 0
    · rw [if_pos x0]; exact ⟨_, rfl, rfl⟩
    · rw [if_neg x0, if_neg x0]; exact ⟨_, rfl, rfl⟩
/-- letters of two equal rows -/
theorem lt_same {f g : Int → Int} {a b : Int} {n m : Nat} (h : lt f a n = lt g b m) {i : Int} (i0 : 0 ≤ i) (i1 : i < n) : f (a + i) = g (b + i) := by
  have e := lt_n h
  have h1 := lt_get (f := f) (a := a) (n := n) (i := i.toNat) (by omega)
  have h2 := lt_get (f := g) (a := b) (n := m) (i := i.toNat) (by omega)
  rw [h, h2] at h1
  have := Option.some.inj h1
  rw [show ((i.toNat : Nat) : Int) = i by omega] at this
  exact this.symm
theorem obs_shape (R : RW σ τ) (G : gvR σ τ) (hy : y ≤ 2147483647) : ∃ r, gt_shape σ x y = some (σ, r) ∧ md_shape τ x y = some (τ, r) := by
  have sh := R.b.1.1.1.2.2.2.2.2.1
  have hm := R.b.1.1.1.1.2.1
  rw [gt_shape_e, md_shape_e, sh.1.2.2]
  by_cases x0 : x < 0
  · rw [if_pos x0, if_pos x0]; exact ⟨_, rfl, rfl⟩
  rw [if_neg x0, if_neg x0]
  by_cases x1 : x < σ 42 6
  · have x200 : 0 ≤ x ∧ x < 200 := by have := sh.1; omega
    have e190 := (sh.2.2.2.2.2.1 x (by omega) x1).1
    rw [if_pos x1, if_pos x1, if_pos x200]
    have b73 : ∀ v, gt_shape_b73 σ x v = (if v = 0 then some (σ, σ 43 x) else if v = 1 then some (σ, σ 45 x) else if v = 2 then some (σ, σ 46 x) else if v = 3 then some (σ, σ 47 x) else some (σ, -1)) := fun v => by
      rw [gt_shape_b73_e]
      simp only [x200, and_self, if_true]
    by_cases y3 : 3 < y
    · have bn : gt_shape_b73 σ x y = some (σ, -1) := by rw [b73, if_neg (by omega), if_neg (by omega), if_neg (by omega), if_neg (by omega)]
      rw [if_neg (by omega), if_pos y3, bn]
      by_cases xp : 0 < x
      · obtain ⟨t1, t2, t3, t4, t5, t6, t7, t8, t9⟩ := sh.2.2.2.2.1 x (by omega) x1
        have nm := sh.2.2.2.2.2.2.1 _ t3.1 t3.2
        have k200 : 0 ≤ σ 44 x ∧ σ 44 x < 200 := by have := sh.1; have := sh.2.1; omega
        have h11 := sh.2.2.1
        have h10 := sh.2.1
        have h6 := sh.1
        have mv := hm.v (Or.inl t8)
        have sz : τ 123 (τ 192 x) = σ 50 (σ 44 x) := by
          have := lt_n t9
          omega
        rw [if_pos xp, if_pos k200, if_pos xp, if_pos x200, w32_e (x := y - 4) (by omega) (by omega), md_letter_s hm (Or.inl t8) (by unfold i32; omega), sz]
        simp only [Option.bind_some]
        by_cases yl : y - 4 < σ 50 (σ 44 x)
        · rw [if_pos yl, if_pos k200, w32_e (x := σ 49 (σ 44 x) + y) (by omega) (by omega), w32_e (x := σ 49 (σ 44 x) + y - 4) (by omega) (by omega), if_pos (by omega), if_pos (by omega), show σ 49 (σ 44 x) + y - 4 = σ 49 (σ 44 x) + (y - 4) by omega]
          have := lt_same t9 (i := y - 4) (by omega) (by omega)
          rw [this]
          exact ⟨_, rfl, rfl⟩
        · rw [if_neg yl, if_neg (by omega)]
          exact ⟨_, rfl, rfl⟩
      · rw [if_neg xp, if_neg xp]
        exact ⟨_, rfl, rfl⟩
    · rw [if_pos (by omega), if_neg y3, b73, e190, if_pos x200, if_pos x200, if_pos x200, if_pos x200]
      have e : τ 188 x = σ 43 x ∧ τ 191 x = σ 47 x ∧ (if 0 < x then some (τ, τ 189 x) else some (τ, -1)) = some (τ, σ 45 x) := by
        by_cases xp : 0 < x
        · obtain ⟨t1, t2, t3, t4, t5, t6, t7, t8, t9⟩ := sh.2.2.2.2.1 x (by omega) x1
          exact ⟨t2, t7, by rw [if_pos xp, t5]⟩
        · have e0 : x = 0 := by omega
          rw [e0, if_neg (by decide), sh.2.2.2.1.1, sh.2.2.2.1.2.1, G.2.1, G.2.2.1, G.2.2.2]
          exact ⟨rfl, rfl, rfl⟩
      rw [e.1, e.2.1, e.2.2]
      by_cases h0 : y = 0
      · rw [if_pos h0, if_pos h0]; exact ⟨_, rfl, rfl⟩
      rw [if_neg h0, if_neg h0]
      by_cases h1 : y = 1
      · rw [if_pos h1, if_pos h1]; exact ⟨_, rfl, rfl⟩
      rw [if_neg h1, if_neg h1]
      by_cases h2 : y = 2
      · rw [if_pos h2, if_pos h2]; exact ⟨_, rfl, rfl⟩
      rw [if_neg h2, if_neg h2]
      by_cases h3 : y = 3
      · rw [if_pos h3, if_pos h3]; exact ⟨_, rfl, rfl⟩
      rw [if_neg h3, if_neg h3]
      exact ⟨_, rfl, rfl⟩
  · rw [if_neg x1, if_neg x1]; exact ⟨_, rfl, rfl⟩
end OBS2
