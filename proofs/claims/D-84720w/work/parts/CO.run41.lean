/-! a new activation enters a code: the books -/
section AE
variable {σ τ S T : gM} {pT hT : Int → Int} {m : Nat} {br co θ n : Int}
def aeF (σ τ S T : gM) (k : Int) : Prop := (∀ a, a ≠ 32 → a ≠ 52 → a ≠ 58 → a ≠ 67 → a ≠ 87 → a ≠ 93 → a ≠ 94 → S a = σ a) ∧ (∀ i, i ≠ 19 → S 52 i = σ 52 i) ∧ (∀ i, i ≠ 22 → i ≠ 37 → S 87 i = σ 87 i) ∧ (∀ i, i ≠ k → S 93 i = σ 93 i ∧ S 94 i = σ 94 i) ∧ (∀ a, a ≠ 119 → a ≠ 163 → a ≠ 185 → a ≠ 200 → a ≠ 209 → a ≠ 210 → a ≠ 224 → T a = τ a) ∧ (∀ i, i ≠ 89 → T 119 i = τ 119 i) ∧ ∀ i, i ≠ k → T 209 i = τ 209 i ∧ T 210 i = τ 210 i
theorem more_c {s : gM} {x : Int} (q : 0 ≤ x ∧ x ≤ 1000000000) : cd_more s x = some (s, if x < 1000000000 then x + 1 else x) := cd_more_s q
theorem more_m {s : gM} {x : Int} (q : 0 ≤ x ∧ x ≤ 1000000000) : md_more s x = some (s, if x < 1000000000 then x + 1 else x) := by
  rw [md_more_e]
  split
  · rw [w32_e (by omega) (by omega)]
  · rfl
theorem more_b {x : Int} (q : 0 ≤ x ∧ x ≤ 1000000000) : 0 ≤ (if x < 1000000000 then x + 1 else x) ∧ (if x < 1000000000 then x + 1 else x) ≤ 1000000000 := by split <;> omega
/-- a code is entered: the books -/
theorem ent_bk {r k D : Int} (hb : rBk σ τ) (ht : rTo σ τ) (hk : 0 ≤ k ∧ k < 60) (ek : σ 87 21 = k) (er : τ 208 k = r) (hr : 4 ≤ r ∧ r < σ 8 31) (eD : σ 34 r = D) (h : 0 ≤ D) : ∃ S T, mc_enters σ D = some (S, 0) ∧ md_enterCode τ k = some (T, 0) ∧ cd_start S (S 93 k) 0 = some (S, σ 65 (σ 54 D)) ∧ (∀ w, rBk (gW S 87 22 w) T ∧ rTo (gW S 87 22 w) T) ∧ (∀ a, a ≠ 58 → a ≠ 87 → a ≠ 93 → a ≠ 94 → S a = σ a) ∧ (∀ i, i ≠ 37 → S 87 i = σ 87 i) ∧ (∀ i, S 93 i = if i = k then D else σ 93 i) ∧ (∀ i, S 94 i = if i = k then 0 else σ 94 i) ∧ (∀ a, a ≠ 200 → a ≠ 209 → a ≠ 210 → a ≠ 224 → T a = τ a) ∧ (∀ i, T 209 i = if i = k then D else τ 209 i) ∧ ∀ i, T 210 i = if i = k then 0 else τ 210 i := by
  have g := hb.1.2 r (by omega) hr.2
  have k100 : 0 ≤ D ∧ D < 100 := by have := hb.2.1; have := g.2.1.2.2.1; omega
  have r60 : 0 ≤ r ∧ r < 60 := by have := hb.1.1; omega
  have gk := hb.2.2.2 D h (by have := g.2.1.2.2.1; omega)
  generalize eS : gW (gW (gW (gW σ 93 k D) 94 k 0) 58 D (if σ 58 D < 1000000000 then σ 58 D + 1 else σ 58 D)) 87 37 (if σ 87 37 < 1000000000 then σ 87 37 + 1 else σ 87 37) = S
  generalize eT : gW (gW (gW (gW τ 209 k D) 210 k 0) 200 D (if σ 58 D < 1000000000 then σ 58 D + 1 else σ 58 D)) 224 10 (if σ 87 37 < 1000000000 then σ 87 37 + 1 else σ 87 37) = T
  have kS : ∀ a, a ≠ 58 → a ≠ 87 → a ≠ 93 → a ≠ 94 → S a = σ a := fun a q1 q2 q3 q4 => funext fun i => by rw [← eS, gW_c q2, gW_c q1, gW_c q4, gW_c q3]
  have s87 : ∀ i, i ≠ 37 → S 87 i = σ 87 i := fun i q => by rw [← eS, gW_i q, gW_c (by decide), gW_c (by decide), gW_c (by decide)]
  have s37 : S 87 37 = if σ 87 37 < 1000000000 then σ 87 37 + 1 else σ 87 37 := by rw [← eS, gW_at]
  have s93 : ∀ i, S 93 i = if i = k then D else σ 93 i := fun i => by rw [← eS, gW_c (by decide), gW_c (by decide), gW_c (by decide), gW_if]
  have s94 : ∀ i, S 94 i = if i = k then 0 else σ 94 i := fun i => by rw [← eS, gW_c (by decide), gW_c (by decide), gW_if, gW_c (by decide)]
  have s58 : ∀ i, S 58 i = if i = D then (if σ 58 D < 1000000000 then σ 58 D + 1 else σ 58 D) else σ 58 i := fun i => by rw [← eS, gW_c (by decide), gW_if, gW_c (by decide), gW_c (by decide)]
  have kT : ∀ a, a ≠ 200 → a ≠ 209 → a ≠ 210 → a ≠ 224 → T a = τ a := fun a q1 q2 q3 q4 => funext fun i => by rw [← eT, gW_c q4, gW_c q1, gW_c q3, gW_c q2]
  have t209 : ∀ i, T 209 i = if i = k then D else τ 209 i := fun i => by rw [← eT, gW_c (by decide), gW_c (by decide), gW_c (by decide), gW_if]
  have t210 : ∀ i, T 210 i = if i = k then 0 else τ 210 i := fun i => by rw [← eT, gW_c (by decide), gW_c (by decide), gW_if, gW_c (by decide)]
  have t200 : ∀ i, T 200 i = if i = D then (if σ 58 D < 1000000000 then σ 58 D + 1 else σ 58 D) else τ 200 i := fun i => by rw [← eT, gW_c (by decide), gW_if, gW_c (by decide), gW_c (by decide)]
  have t224 : ∀ i, T 224 i = if i = 10 then (if σ 87 37 < 1000000000 then σ 87 37 + 1 else σ 87 37) else τ 224 i := fun i => by rw [← eT, gW_if, gW_c (by decide), gW_c (by decide), gW_c (by decide)]
  have e1 : mc_enters σ D = some (S, 0) := by
    rw [mc_enters_e, ek, if_pos hk, if_pos hk, if_pos k100, more_c gk.2.2.2.2.1.2]
    simp only [Option.bind_some]
    rw [if_pos k100, gW_c (show (87 : Int) ≠ 94 by decide), gW_c (show (87 : Int) ≠ 93 by decide), more_c ht.2.2.2.2.2.2.2.1]
    simp only [Option.bind_some]
    rw [eS]
  have e2 : md_enterCode τ k = some (T, 0) := by
    have t10 : (0 : Int) ≤ 10 ∧ (10 : Int) < 16 := by decide
    rw [md_enterCode_e, if_pos hk, er, if_pos r60, g.2.1.1, eD, if_neg (by omega), if_pos hk, if_pos hk, if_pos k100, gk.2.2.2.2.1.1, more_m gk.2.2.2.2.1.2]
    simp only [Option.bind_some]
    rw [if_pos k100, if_pos t10, gW_c (show (224 : Int) ≠ 210 by decide), gW_c (show (224 : Int) ≠ 209 by decide), ht.2.1, more_m ht.2.2.2.2.2.2.2.1]
    simp only [Option.bind_some]
    rw [if_pos t10, eT]
  have b54 : 0 ≤ σ 54 D ∧ σ 54 D < 16000 := by have := gk.2.2.2.2.2.2.2.2.1; have := hb.2.2.1; have := hb.2.1; omega
  have e3 : cd_start S (S 93 k) 0 = some (S, σ 65 (σ 54 D)) := by
    rw [s93, if_pos rfl, cd_start_e, if_pos k100, Int.add_zero, kS 54 (by decide) (by decide) (by decide) (by decide), kS 65 (by decide) (by decide) (by decide) (by decide), w32_e (by omega) (by omega), if_pos b54]
  clear eS eT
  refine ⟨S, T, e1, e2, e3, fun w => ⟨?_, ?_⟩, kS, s87, s93, s94, kT, t209, t210⟩
  · have lS : ∀ a, a ≠ 58 → a ≠ 87 → a ≠ 93 → a ≠ 94 → gW S 87 22 w a = σ a := fun a q1 q2 q3 q4 => by rw [gW_cell q2, kS a q1 q2 q3 q4]
    exact hb.up (fun a q => lS a (by omega) (by omega) (by omega) (by omega)) (by rw [lS 8 (by decide) (by decide) (by decide) (by decide)]) (by rw [lS 52 (by decide) (by decide) (by decide) (by decide)]) (by rw [lS 52 (by decide) (by decide) (by decide) (by decide)]) (fun a q => kT a (by omega) (by omega) (by omega) (by omega)) (by rw [kT 119 (by decide) (by decide) (by decide) (by decide)]) (by rw [kT 119 (by decide) (by decide) (by decide) (by decide)]) fun i i0 i1 => by
      have gi := hb.2.2.2 i i0 i1
      rw [gW_cell (show (58 : Int) ≠ 87 by decide), s58, t200, kT 201 (by decide) (by decide) (by decide) (by decide), kT 202 (by decide) (by decide) (by decide) (by decide), lS 59 (by decide) (by decide) (by decide) (by decide), lS 60 (by decide) (by decide) (by decide) (by decide)]
      refine ⟨?_, gi.2.2.2.2.2.1, gi.2.2.2.2.2.2.1⟩
      by_cases z : i = D
      · rw [if_pos z, if_pos z]
        exact ⟨rfl, more_b gk.2.2.2.2.1.2⟩
      · rw [if_neg z, if_neg z]
        exact gi.2.2.2.2.1
  · have l87 : ∀ i, i ≠ 22 → i ≠ 37 → gW S 87 22 w 87 i = σ 87 i := fun i q1 q2 => by rw [gW_i q1, s87 i q2]
    unfold rTo at ht ⊢
    rw [t224, t224, t224, t224, t224, t224, t224, if_neg (show ¬ (9 : Int) = 10 by decide), if_pos (show (10 : Int) = 10 by decide), if_neg (show ¬ (11 : Int) = 10 by decide), if_neg (show ¬ (12 : Int) = 10 by decide), if_neg (show ¬ (13 : Int) = 10 by decide), if_neg (show ¬ (14 : Int) = 10 by decide), if_neg (show ¬ (15 : Int) = 10 by decide), gW_i (show (37 : Int) ≠ 22 by decide), s37, l87 36 (by decide) (by decide), l87 38 (by decide) (by decide), l87 39 (by decide) (by decide), l87 40 (by decide) (by decide), l87 41 (by decide) (by decide), l87 42 (by decide) (by decide)]
    exact ⟨ht.1, rfl, ht.2.2.1, ht.2.2.2.1, ht.2.2.2.2.1, ht.2.2.2.2.2.1, ht.2.2.2.2.2.2.1, more_b ht.2.2.2.2.2.2.2.1, ht.2.2.2.2.2.2.2.2⟩
/-- warmth, and the code that there is -/
theorem act_ent {r k a0 a1 ar : Int} (hb : rBk σ τ) (hU : rUn σ) (hV : rVc σ) (hQ : rQu σ τ) (ht : rTo σ τ) (hk : 0 ≤ k ∧ k < 60) (ek : σ 87 21 = k) (er : τ 208 k = r) (hr : 4 ≤ r ∧ r < σ 8 31) (h1 : τ 119 1 = σ 87 5) : ∃ S T,
    ((cd_heats σ r (σ 87 5)).bind fun p1 => if 0 ≤ r ∧ r < 60 then (if p1.1 34 r < 0 then (mc_activate_b310 p1.1 r a0 ar) else (if 0 ≤ r ∧ r < 60 then ((mc_enters p1.1 (p1.1 34 r)).bind fun p2 => if 0 ≤ k ∧ k < 60 then ((cd_start p2.1 (p2.1 93 k) 0).bind fun p3 => mc_activate_b310 (gW p3.1 87 22 p3.2) r a0 ar) else none) else none)) else none) = mc_activate_b313 S r a0 ar 0 ∧
    ((md_heat τ r).bind fun p1 => (md_enterCode p1.1 k).bind fun p2 => md_activate_b252 p2.1 r a1 ar k) = md_activate_b255 T r a1 ar k 0 ∧ rBk S T ∧ rQu S T ∧ rTo S T ∧ aeF σ τ S T k ∧
    ((S 93 k = σ 93 k ∧ S 94 k = σ 94 k ∧ S 87 22 = σ 87 22 ∧ T 209 k = τ 209 k ∧ T 210 k = τ 210 k) ∨ ∃ D, (0 ≤ D ∧ D < σ 52 10) ∧ S 93 k = D ∧ S 94 k = 0 ∧ S 87 22 = σ 65 (σ 54 D) ∧ T 209 k = D ∧ T 210 k = 0 ∧ σ 62 (σ 54 D) = r ∧ 1 ≤ σ 55 D ∧ cFa σ D) := by
  obtain ⟨S1, T1, s1, s2, s3, s4, c, c52, d, d119⟩ := cd_heats_s hb.1 hQ hr.1 hr.2 h1
  have kS : ∀ a, a ≠ 32 → a ≠ 52 → a ≠ 67 → S1 a = σ a := fun a q1 q2 q3 => funext fun i => c a i q1 q2 q3
  have kT : ∀ a, a ≠ 163 → a ≠ 119 → a ≠ 185 → T1 a = τ a := fun a q1 q2 q3 => funext fun i => d a i q1 q2 q3
  have k8 := kS 8 (by decide) (by decide) (by decide)
  have k87 := kS 87 (by decide) (by decide) (by decide)
  have HB : rBk S1 T1 := by
    refine ⟨s3, ?_⟩
    have hb := hb.2
    unfold rCo at hb ⊢
    simp only [c52 10 (by decide), c52 11 (by decide), d119 104 (by decide)]
    rw [k8, kS 53 (by decide) (by decide) (by decide), kS 54 (by decide) (by decide) (by decide), kS 55 (by decide) (by decide) (by decide), kS 56 (by decide) (by decide) (by decide), kS 57 (by decide) (by decide) (by decide), kS 58 (by decide) (by decide) (by decide), kS 59 (by decide) (by decide) (by decide), kS 60 (by decide) (by decide) (by decide), kS 61 (by decide) (by decide) (by decide), kS 62 (by decide) (by decide) (by decide), kS 63 (by decide) (by decide) (by decide), kS 64 (by decide) (by decide) (by decide), kT 196 (by decide) (by decide) (by decide), kT 197 (by decide) (by decide) (by decide), kT 198 (by decide) (by decide) (by decide), kT 199 (by decide) (by decide) (by decide), kT 200 (by decide) (by decide) (by decide), kT 201 (by decide) (by decide) (by decide), kT 202 (by decide) (by decide) (by decide), kT 203 (by decide) (by decide) (by decide), kT 204 (by decide) (by decide) (by decide), kT 205 (by decide) (by decide) (by decide), kT 206 (by decide) (by decide) (by decide)]
    exact hb
  have HT : rTo S1 T1 := by
    unfold rTo at ht ⊢
    rw [kT 224 (by decide) (by decide) (by decide), k87]
    exact ht
  have r60 : 0 ≤ r ∧ r < 60 := by have := hb.1.1; omega
  have er1 : T1 208 k = r := by rw [kT 208 (by decide) (by decide) (by decide)]; exact er
  rw [s1, s2]
  simp only [Option.bind_some]
  rw [if_pos r60]
  by_cases z : S1 34 r < 0
  · refine ⟨S1, T1, ?_, ?_, HB, s4, HT, ⟨fun a q1 q2 q3 q4 q5 q6 q7 => kS a q1 q2 q4, c52, fun i _ _ => by rw [k87], fun i _ => ⟨by rw [kS 93 (by decide) (by decide) (by decide)], by rw [kS 94 (by decide) (by decide) (by decide)]⟩, fun a q1 q2 q3 q4 q5 q6 q7 => kT a q2 q1 q3, d119, fun i _ => ⟨by rw [kT 209 (by decide) (by decide) (by decide)], by rw [kT 210 (by decide) (by decide) (by decide)]⟩⟩, Or.inl ⟨by rw [kS 93 (by decide) (by decide) (by decide)], by rw [kS 94 (by decide) (by decide) (by decide)], by rw [k87], by rw [kT 209 (by decide) (by decide) (by decide)], by rw [kT 210 (by decide) (by decide) (by decide)]⟩⟩
    · rw [if_pos z, mc_activate_b310_e]
    · have g := HB.1.2 r (by omega) (by rw [k8]; exact hr.2)
      rw [md_enterCode_e, if_pos hk, er1, if_pos r60, g.2.1.1, if_pos z]
      simp only [Option.bind_some]
      rw [md_activate_b252_e]
  · have g := hb.1.2 r (by omega) hr.2
    have e34 : S1 34 r = σ 34 r := by rw [kS 34 (by decide) (by decide) (by decide)]
    rw [e34] at z
    rw [e34]
    obtain ⟨S, T, e1, e2, e3, e4, f1, f2, f3, f4, f5, f6, f7⟩ := ent_bk (D := σ 34 r) HB HT hk (by rw [k87]; exact ek) er1 (by rw [k8]; exact hr) e34 (by omega)
    clear e34
    have gc := g.2.1.2.2.2 (by omega)
    have D1 : 0 ≤ σ 34 r ∧ σ 34 r < σ 52 10 := ⟨by omega, g.2.1.2.2.1⟩
    have u0 := hU _ D1.1 D1.2
    have gk := hb.2.2.2 _ D1.1 D1.2
    generalize σ 34 r = D at *
    generalize eW : S1 65 (S1 54 D) = W at *
    have eW' : W = σ 65 (σ 54 D) := by rw [← eW, kS 65 (by decide) (by decide) (by decide), kS 54 (by decide) (by decide) (by decide)]
    have zS : ∀ a, a ≠ 87 → gW S 87 22 W a = S a := fun a q => gW_cell q
    refine ⟨gW S 87 22 W, T, ?_, ?_, (e4 W).1, ?_, (e4 W).2, ⟨fun a q1 q2 q3 q4 q5 q6 q7 => by rw [zS a q5, f1 a q3 q5 q6 q7, kS a q1 q2 q4], fun i q => by rw [zS 52 (by decide), f1 52 (by decide) (by decide) (by decide) (by decide), c52 i q], fun i q1 q2 => by rw [gW_i q1, f2 i q2, k87], fun i q => ⟨by rw [zS 93 (by decide), f3, if_neg q, kS 93 (by decide) (by decide) (by decide)], by rw [zS 94 (by decide), f4, if_neg q, kS 94 (by decide) (by decide) (by decide)]⟩, fun a q1 q2 q3 q4 q5 q6 q7 => by rw [f5 a q4 q5 q6 q7, kT a q2 q1 q3], fun i q => by rw [f5 119 (by decide) (by decide) (by decide) (by decide), d119 i q], fun i q => ⟨by rw [f6, if_neg q, kT 209 (by decide) (by decide) (by decide)], by rw [f7, if_neg q, kT 210 (by decide) (by decide) (by decide)]⟩⟩, Or.inr ⟨D, D1, by rw [zS 93 (by decide), f3, if_pos rfl], by rw [zS 94 (by decide), f4, if_pos rfl], by rw [gW_at]; exact eW', by rw [f6, if_pos rfl], by rw [f7, if_pos rfl], by rw [u0.1, gc.1], by have := gk.2.2.2.2.2.2.2.2.1; omega, hV D D1.1 D1.2 gc.2⟩⟩
    · rw [if_neg z, if_pos r60, e1]
      simp only [Option.bind_some]
      rw [if_pos hk, e3]
      simp only [Option.bind_some]
      rw [mc_activate_b310_e]
    · rw [e2]
      simp only [Option.bind_some]
      rw [md_activate_b252_e]
    · unfold rQu at s4 ⊢
      rw [zS 8 (by decide), zS 52 (by decide), zS 67 (by decide), f1 8 (by decide) (by decide) (by decide) (by decide), f1 52 (by decide) (by decide) (by decide) (by decide), f1 67 (by decide) (by decide) (by decide) (by decide), f5 119 (by decide) (by decide) (by decide) (by decide), f5 185 (by decide) (by decide) (by decide) (by decide)]
      exact s4
end AE
