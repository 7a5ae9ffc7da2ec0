/-! instructions and tasks: how the loops of both sides go on -/
section OP
variable {σ τ S T : gM} {pT hT : Int → Int} {m : Nat} {br co θ : Int}
theorem pcT.next {k pc P : Int} (h : pcT σ k pc P) (hP : P + 1 < σ 28 (σ 90 k) + σ 29 (σ 90 k)) : pcT σ k (pc + 1) (P + 1) := by
  obtain ⟨h1, h2, h3⟩ := h
  exact ⟨by omega, fun q => by have := h2 q; omega, fun q => by have := h3 q; omega⟩
/-- the instruction that is there -/
theorem aA.op {P o t n : Int} (A : aA σ τ pT) (e : pT (σ 87 21) = P) (i : cI σ P o t n) (i2 : rIn σ) (hr : σ 8 16 ≤ 64000) : (0 ≤ σ 87 22 ∧ σ 87 22 < 164000) ∧ pcT σ (σ 87 21) (σ 87 22) P ∧ σ 22 (σ 87 22) = n ∧ (σ 20 (σ 87 22) = o ∨ (o = 3 ∧ σ 20 (σ 87 22) = 18 ∧ 0 ≤ σ 93 (σ 87 21) ∧ σ 9 n ≤ 15) ∨ (o = 1 ∧ σ 20 (σ 87 22) = 19)) ∧ (isJ o → σ 28 (σ 90 (σ 87 21)) ≤ t → t < σ 28 (σ 90 (σ 87 21)) + σ 29 (σ 90 (σ 87 21)) → pcT σ (σ 87 21) (σ 21 (σ 87 22)) t) := by
  obtain ⟨hb, ha, hcp, hap, htt, ⟨hm, hc⟩, hf⟩ := A
  have p := hap (σ 87 21) (by omega) (by omega)
  obtain ⟨-, r4, ac, -⟩ := ha.2.2 (σ 87 21) (by omega) (by omega)
  unfold pcA at p
  rw [if_pos rfl, e] at p
  have g := i2.2 _ r4.1 r4.2
  obtain ⟨i1, i3, i4⟩ := i
  rcases Int.lt_or_le (σ 93 (σ 87 21)) 0 with z | z
  · have e1 : σ 93 (σ 87 21) = -1 := by
      rcases ac with y | y
      · exact y.1
      · omega
    have pe := p.2.1 e1
    have p1 := p.1
    rw [pe] at p ⊢
    refine ⟨by omega, p, i4, Or.inl i1, fun _ q1 q2 => ?_⟩
    rw [i3]
    exact ⟨⟨q1, q2⟩, fun _ => rfl, fun q => by omega⟩
  · obtain ⟨w1, w2, ⟨w3, w4, w5⟩, w6⟩ := p.wk hcp ac z hb.2.1.2.1
    refine ⟨by omega, p, by rw [w4, i4], ?_, fun j q1 q2 => ?_⟩
    · rcases w5 with y | ⟨y1, y2, y3⟩ | ⟨y1, y2⟩
      · exact Or.inl (by rw [y, i1])
      · exact Or.inr (Or.inl ⟨by rw [← i1, y1], y2, z, by rw [← i4]; exact y3⟩)
      · exact Or.inr (Or.inr ⟨by rw [← i1, y1], y2⟩)
    · have w6 := w6 (by rw [i1]; exact j)
      rw [w6, i3]
      exact ⟨⟨q1, q2⟩, fun q => by omega, fun _ => rfl⟩
/-- the loops go on alike -/
def cG (σ S : gM) : Prop := (∀ x1 x2, mc_go_b2 σ x1 x2 = mc_go_b2 S x1 x2) ∧ (gb8 119 σ → gb8 119 S)
def mG (τ T : gM) : Prop := md_goOn_b15 τ = md_goOn_b15 T
theorem cG.tr {S' : gM} (h : cG σ S) (h2 : cG S S') : cG σ S' := ⟨fun x1 x2 => (h.1 x1 x2).trans (h2.1 x1 x2), fun q => h2.2 (h.2 q)⟩
theorem mG.tr {T' : gM} (h : mG τ T) (h2 : mG T T') : mG τ T' := Eq.trans h h2
theorem cG_of {o n : Int} (h1 : σ 87 23 = 1) (hp : 0 ≤ σ 87 22 ∧ σ 87 22 < 164000) (eo : σ 20 (σ 87 22) = o) (en : σ 22 (σ 87 22) = n) (ho : o ≠ 10 ∧ o ≠ 13) (e : mc_work σ o n = some (S, 0)) : cG σ S := ⟨fun x1 x2 => by
  rw [mc_go_b2_e, if_pos h1, if_pos hp, eo, en, if_neg ho.1, if_neg ho.2, if_pos hp, e]
  exact mc_go_b135_e S x1 x2, fun q => b8_inl bm_mc_work (mc_work_l σ o n) e q⟩
theorem cG_end {o n : Int} (h1 : σ 87 23 = 1) (hp : 0 ≤ σ 87 22 ∧ σ 87 22 < 164000) (eo : σ 20 (σ 87 22) = o) (en : σ 22 (σ 87 22) = n) (ho : o ≠ 10 ∧ o ≠ 13) (e : mc_work σ o n = some (S, 0)) (hs : S 87 23 ≠ 1) (x1 x2 : Int) : mc_go_b2 σ x1 x2 = some (S, x2) := by
  rw [(cG_of h1 hp eo en ho e).1 x1 x2, mc_go_b2_e, if_neg hs]
theorem mG_of {v : Int} (h1 : τ 119 117 = 1) (h2 : τ 119 127 = 0) (e : md_work τ = some (T, some v)) : mG τ T := by
  unfold mG
  rw [md_goOn_b15_e, if_pos h1, if_pos h2, e]
  rfl
theorem mG_fail (h1 : τ 119 117 = 1) (h2 : τ 119 127 = 0) (e : md_work τ = some (T, none)) : md_goOn_b15 τ = some (gW (gW T 119 117 3) 119 121 0, 0) := by
  rw [md_goOn_b15_e, if_pos h1, if_pos h2, e]
  show md_goOn_b46 (gW T 119 117 3) = _
  rw [md_goOn_b46_e, gW_at, if_neg (by decide)]
theorem work_n {n i v : Int} (e0 : τ 119 124 = i + 1) (hi : 0 ≤ i ∧ i < 42000) (en : τ 218 i = n) (hn : 0 ≤ n ∧ n < 20000) (e : md_works τ i n (τ 168 n) = some (T, some v)) : md_work τ = some (T, some 0) := by
  rw [md_work_e, e0, show i + 1 - 1 = i by omega, w32_e (by omega) (by omega), if_pos hi, en, if_neg (by omega), if_neg (by omega), if_pos hn, e]
  rfl
theorem work_nf {n i : Int} (e0 : τ 119 124 = i + 1) (hi : 0 ≤ i ∧ i < 42000) (en : τ 218 i = n) (hn : 0 ≤ n ∧ n < 20000) (e : md_works τ i n (τ 168 n) = some (T, none)) : md_work τ = some (T, none) := by
  rw [md_work_e, e0, show i + 1 - 1 = i by omega, w32_e (by omega) (by omega), if_pos hi, en, if_neg (by omega), if_neg (by omega), if_pos hn, e]
  rfl
/-- a task more -/
def tkW (τ : gM) (n x : Int) : gM := gW (gW (gW (gW τ 218 (τ 119 124) n) 219 (τ 119 124) 0) 220 (τ 119 124) x) 119 124 (τ 119 124 + 1)
theorem md_task_s {n x : Int} (h : 0 ≤ τ 119 124 ∧ τ 119 124 < 42000) : md_task τ n x = some (tkW τ n x, 0) := by
  rw [md_task_e, if_pos h, if_pos h, if_pos h, w32_e (by omega) (by omega)]
  rfl
theorem tkW_n {n x i : Int} (e : τ 119 124 = i) : tkW τ n x 218 i = n ∧ tkW τ n x 219 i = 0 ∧ tkW τ n x 220 i = x ∧ tkW τ n x 119 124 = i + 1 := by
  unfold tkW
  rw [e]
  exact ⟨by rw [gW_c (by decide), gW_c (by decide), gW_c (by decide), gW_at], by rw [gW_c (by decide), gW_c (by decide), gW_at], by rw [gW_c (by decide), gW_at], by rw [gW_at]⟩
theorem tkW_o {n x a i : Int} (h : (a < 218 ∧ a ≠ 119) ∨ 220 < a ∨ (a ≠ 119 ∧ i ≠ τ 119 124) ∨ (a = 119 ∧ i ≠ 124)) : tkW τ n x a i = τ a i := by
  unfold tkW
  rcases h with h | h | h | h
  · rw [gW_c (by omega), gW_c (by omega), gW_c (by omega), gW_c (by omega)]
  · rw [gW_c (by omega), gW_c (by omega), gW_c (by omega), gW_c (by omega)]
  · rw [gW_c h.1, gW_j h.2, gW_j h.2, gW_j h.2]
  · rw [h.1, gW_i h.2, gW_c (by decide), gW_c (by decide), gW_c (by decide)]
/-- one value more -/
def puC (σ : gM) (k x : Int) : gM := gW (gW (gW σ 88 (σ 87 8) k) 89 (σ 87 8) x) 87 8 (σ 87 8 + 1)
def puM (τ : gM) (t y : Int) : gM := gW (gW (gW τ 221 (τ 119 125) t) 222 (τ 119 125) y) 119 125 (τ 119 125 + 1)
theorem mc_push_s {k x : Int} (h : 0 ≤ σ 87 8 ∧ σ 87 8 < 18240) : mc_push σ k x = some (puC σ k x, 0) := by
  rw [mc_push_e, if_pos h, if_pos h, w32_e (by omega) (by omega)]
  rfl
theorem md_push_s {t y : Int} (h : 0 ≤ τ 119 125 ∧ τ 119 125 < 24000) : md_push τ t y = some (puM τ t y, 0) := by
  rw [md_push_e, if_pos h, if_pos h, w32_e (by omega) (by omega)]
  rfl
theorem puC_n {k x : Int} : puC σ k x 88 (σ 87 8) = k ∧ puC σ k x 89 (σ 87 8) = x ∧ puC σ k x 87 8 = σ 87 8 + 1 := by
  unfold puC
  exact ⟨by rw [gW_c (by decide), gW_c (by decide), gW_at], by rw [gW_c (by decide), gW_at], by rw [gW_at]⟩
theorem puC_o {k x a i : Int} (h : (a ≠ 87 ∧ a ≠ 88 ∧ a ≠ 89) ∨ (a ≠ 87 ∧ i ≠ σ 87 8) ∨ (a = 87 ∧ i ≠ 8)) : puC σ k x a i = σ a i := by
  unfold puC
  rcases h with h | h | h
  · rw [gW_c h.1, gW_c h.2.2, gW_c h.2.1]
  · rw [gW_c h.1, gW_j h.2, gW_j h.2]
  · rw [h.1, gW_i h.2, gW_c (by decide), gW_c (by decide)]
theorem puM_n {t y : Int} : puM τ t y 221 (τ 119 125) = t ∧ puM τ t y 222 (τ 119 125) = y ∧ puM τ t y 119 125 = τ 119 125 + 1 := by
  unfold puM
  exact ⟨by rw [gW_c (by decide), gW_c (by decide), gW_at], by rw [gW_c (by decide), gW_at], by rw [gW_at]⟩
theorem puM_o {t y a i : Int} (h : (a ≠ 119 ∧ a ≠ 221 ∧ a ≠ 222) ∨ (a ≠ 119 ∧ i ≠ τ 119 125) ∨ (a = 119 ∧ i ≠ 125)) : puM τ t y a i = τ a i := by
  unfold puM
  rcases h with h | h | h
  · rw [gW_c h.1, gW_c h.2.2, gW_c h.2.1]
  · rw [gW_c h.1, gW_j h.2, gW_j h.2]
  · rw [h.1, gW_i h.2, gW_c (by decide), gW_c (by decide)]
end OP
