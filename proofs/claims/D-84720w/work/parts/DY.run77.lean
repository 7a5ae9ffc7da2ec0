/-! a property is written: what it needs, both sides -/
section PU1
variable {σ τ S T Z X : gM} {pT hT : Int → Int} {n o : Int}
/-- what is kept for the rest of the work -/
def kz (σ τ Z X : gM) (f : Int) : Prop := kq σ τ Z X f ∧ Z 8 = σ 8 ∧ Z 87 34 = σ 87 34
theorem kz.rf {f : Int} : kz σ τ σ τ f := ⟨kq.rf, rfl, rfl⟩
theorem kz.tr {f : Int} (h : kz σ τ S T f) (h' : kz S T Z X f) : kz σ τ Z X f := ⟨h.1.tr h.2.1 h'.1, by rw [h'.2.1, h.2.1], by rw [h'.2.2, h.2.2]⟩
theorem kz.nd {f : Int} (nd : ndX σ τ S T) (e8 : S 8 = σ 8) : kz σ τ S T f := by
  obtain ⟨⟨y1, y2, y3, y4⟩, y5, y6, y7, y8, y9⟩ := nd
  refine ⟨⟨⟨fun j _ => by rw [y1 14 (by decide)], fun a p q1 q2 _ => by rw [y1 a (by omega)], fun a r q1 q2 _ => by rw [y1 a (by omega)]⟩, fun a q => ?_, fun i q => y2 i (by omega), fun a j q _ => by rw [y3 a (by omega)], fun a q => ?_, fun a j q1 q2 _ => by rw [y7 a q1 (by omega)], fun i q => y8 i (by omega), y4, y9⟩, e8, y2 34 (by decide)⟩
  · by_cases w : a = 88 ∨ a = 89
    · exact y5 a w
    · exact y1 a (by omega)
  · by_cases w : 221 ≤ a
    · exact y7 a (by omega) (by omega)
    · exact y3 a (by omega)
theorem kz.sh {f : Int} (K : kq σ τ Z X f) (F : shF σ τ Z X) : kz σ τ Z X f := ⟨K, F.2.2.1.1 8 (by decide) (by decide) (by decide), by rw [F.2.2.1.1 87 (by decide) (by decide) (by decide)]⟩
/-- what strings know of names changes -/
theorem RQ.ca (R : RQ σ τ pT hT) (cS' : ∀ a, a ≠ 4 → a ≠ 5 → S a = σ a) (hca : sCa S) : RQ S τ pT hT ∧ ndX σ τ S τ := by
  have R' := R
  obtain ⟨⟨⟨P1, P2⟩, N, M, B⟩, A, ⟨V2, V3⟩, K1, C, F⟩ := R'
  have ht := A.2.2.2.2.1
  have s1 : sameC4 σ S := by
    refine ⟨fun a q => cS' a (by omega) (by omega), ?_⟩
    rw [cS' 0 (by decide) (by decide), cS' 8 (by decide) (by decide), cS' 42 (by decide) (by decide), cS' 52 (by decide) (by decide), cS' 87 (by decide) (by decide)]
    exact ⟨rfl, rfl, rfl, rfl, rfl, rfl, rfl, rfl, rfl, rfl, rfl, rfl, rfl, rfl, rfl, rfl, rfl, rfl, rfl⟩
  have s2 : sameT τ τ := ⟨fun _ _ => rfl, rfl, rfl, rfl, rfl, rfl, rfl, rfl, rfl, rfl, rfl, rfl, rfl, rfl, rfl⟩
  have sn : ∀ k, sN S k = sN σ k := fun k => by unfold sN; rw [cS' 48 (by decide) (by decide), cS' 49 (by decide) (by decide), cS' 50 (by decide) (by decide)]
  have cs : ∀ t, cS S t = cS σ t := fun t => cS_mv (cS' 1 (by decide) (by decide)) (cS' 2 (by decide) (by decide)) (cS' 3 (by decide) (by decide))
  have rv := (rVal_mv4 s1 s2).1
  refine ⟨RQm.toQ (R.toM.hq ⟨P1.ca s1 s2 hca, ?_⟩ (N.mv (fun a q => cS' a (by omega) (by omega)) rfl) ?_ ⟨by rw [cS' 1 (by decide) (by decide)]; exact B.1, B.2⟩ ?_ ?_ ?_ (fun k x t u q => (rv k x t u).mpr q) (fun a q => cS' a (by omega) (by omega)) (by rw [cS' 52 (by decide) (by decide)]) (by rw [cS' 8 (by decide) (by decide)]; exact Int.le_refl _) (fun a r q1 q2 _ => by rw [cS' a (by omega) (by omega)]) (fun a p q1 q2 _ => by rw [cS' a (by omega) (by omega)]) (fun j _ => by rw [cS' 14 (by decide) (by decide)]) (fun i q => by rw [cS' 87 (by decide) (by decide)]) (fun _ _ _ => rfl) (fun _ _ _ _ => rfl) (fun _ _ => rfl)) ?_, ⟨⟨fun a q => cS' a (by omega) (by omega), fun i q => by rw [cS' 87 (by decide) (by decide)], fun _ _ => rfl, ?_⟩, fun a q => cS' a (by omega) (by omega), by rw [cS' 87 (by decide) (by decide)], fun _ _ _ => rfl, fun _ _ => rfl, fun k x t u q => (rv k x t u).mpr q⟩⟩
  · unfold rRp at P2 ⊢
    rw [cS' 8 (by decide) (by decide), cS' 24 (by decide) (by decide), cS' 25 (by decide) (by decide)]
    exact P2
  · unfold rRm cRm at M ⊢
    rw [cS' 0 (by decide) (by decide), cS' 8 (by decide) (by decide), cS' 42 (by decide) (by decide)]
    exact M
  · unfold rOb at V3 ⊢
    rw [cS' 87 (by decide) (by decide), cS' 100 (by decide) (by decide), cS' 101 (by decide) (by decide), cS' 102 (by decide) (by decide), cS' 42 (by decide) (by decide), cS' 47 (by decide) (by decide)]
    simp only [rv]
    exact V3
  · unfold rCt at C ⊢
    rw [cS' 87 (by decide) (by decide), cS' 103 (by decide) (by decide), cS' 0 (by decide) (by decide)]
    exact C
  · unfold rTo at ht ⊢
    rw [cS' 87 (by decide) (by decide)]
    exact ht
  · unfold rFa cFa at F ⊢
    rw [cS' 87 (by decide) (by decide), cS' 93 (by decide) (by decide), cS' 9 (by decide) (by decide), cS' 11 (by decide) (by decide), cS' 18 (by decide) (by decide), cS' 19 (by decide) (by decide), cS' 20 (by decide) (by decide), cS' 22 (by decide) (by decide), cS' 29 (by decide) (by decide), cS' 54 (by decide) (by decide), cS' 55 (by decide) (by decide), cS' 62 (by decide) (by decide), cS' 64 (by decide) (by decide), cS' 65 (by decide) (by decide)]
    exact F
  · rw [ccN_eq (S := S) (σ := σ) _ fun j _ _ => by rw [cS' 93 (by decide) (by decide)]]
/-- an object that moves ends with its newest shape -/
theorem mv_end {t : Int} (h : rSh σ τ) (o400 : 0 ≤ o ∧ o < 400) : ∀ (d : Nat) (S Z : gM), S 46 = σ 46 → 0 ≤ S 100 o → S 100 o < σ 42 6 → cn1 σ (S 100 o) ≤ d → sp_last_b2 σ (S 100 o) = some (σ, t) → mc_moves_b0 S o = some (Z, 0) → Z 100 o = t := fun d S Z e46 s0 s1 hd hl hm => by
  have hr := h.2.2.2.2.2.1 (S 100 o) s0 s1
  have s200 : 0 ≤ S 100 o ∧ S 100 o < 200 := by have := h.1; omega
  rw [mc_moves_b0_e, if_pos o400, if_pos s200, e46] at hm
  rw [sp_last_b2_e, if_pos s200] at hl
  by_cases z : σ 46 (S 100 o) < 0
  · rw [if_pos z] at hm hl
    have e1 : S = Z := congrArg Prod.fst (Option.some.inj hm)
    have e2 : S 100 o = t := congrArg Prod.snd (Option.some.inj hl)
    rw [← e1, ← e2]
  · rcases hr.2 with y | ⟨y1, y2, y3, y4⟩
    · omega
    · match d, hd with
      | 0, hd => omega
      | d + 1, hd =>
        rw [if_neg z, if_pos o400, if_pos s200, if_pos o400] at hm
        rw [if_neg z, if_pos s200] at hl
        have e100 : gW (gW S 100 o (σ 46 (S 100 o))) 87 40 (w32 (S 87 40 + 1)) 100 o = σ 46 (S 100 o) := by rw [gW_c (by decide), gW_at]
        exact mv_end h o400 d _ Z (by rw [gW_cell (by decide), gW_cell (by decide)]; exact e46) (by rw [e100]; exact y1.1) (by rw [e100]; exact y1.2) (by rw [e100]; omega) (by rw [e100]; exact hl) hm
/-- the model's moves rest on these cells alone -/
theorem mv_two (h : rSh σ τ) (o400 : 0 ≤ o ∧ o < 400) : ∀ (d : Nat) (T1 T2 X : gM), (∀ s, 0 ≤ s → s < σ 42 6 → T1 190 s = τ 190 s ∧ T2 190 s = τ 190 s) → T2 193 = T1 193 → T2 224 = T1 224 → 0 ≤ T1 193 o → T1 193 o < σ 42 6 → cn1 σ (T1 193 o) ≤ d → md_moves_b0 T1 o = some (X, 0) → ∃ Y, md_moves_b0 T2 o = some (Y, 0) ∧ Y 193 = X 193 ∧ Y 224 = X 224 := fun d T1 T2 X e190 e193 e224 s0 s1 hd hm => by
  have hr := h.2.2.2.2.2.1 (T1 193 o) s0 s1
  have s200 : 0 ≤ T1 193 o ∧ T1 193 o < 200 := by have := h.1; omega
  have t13 : (0 : Int) ≤ 13 ∧ (13 : Int) < 16 := by decide
  obtain ⟨a1, a2⟩ := e190 _ s0 s1
  rw [hr.1] at a1 a2
  rw [md_moves_b0_e, if_pos o400, if_pos s200, a1] at hm
  rw [md_moves_b0_e, if_pos o400, e193, if_pos s200, a2]
  by_cases z : σ 46 (T1 193 o) < 0
  · rw [if_pos z] at hm ⊢
    have e1 : T1 = X := congrArg Prod.fst (Option.some.inj hm)
    exact ⟨T2, rfl, by rw [← e1]; exact e193, by rw [← e1]; exact e224⟩
  · rcases hr.2 with y | ⟨y1, y2, y3, y4⟩
    · omega
    · match d, hd with
      | 0, hd => omega
      | d + 1, hd =>
        rw [if_neg z, if_pos o400, if_pos s200, if_pos o400, if_pos t13, if_pos t13] at hm ⊢
        have k1 : gW (gW T1 193 o (σ 46 (T1 193 o))) 224 13 (w32 (T1 224 13 + 1)) 193 o = σ 46 (T1 193 o) := by rw [gW_c (by decide), gW_at]
        refine mv_two h o400 d _ _ X (fun s q1 q2 => ?_) ?_ ?_ (by rw [k1]; exact y1.1) (by rw [k1]; exact y1.2) (by rw [k1]; omega) hm
        · rw [gW_c (by decide), gW_c (by decide), gW_c (by decide), gW_c (by decide)]
          exact e190 s q1 q2
        · funext j
          rw [gW_c (by decide), gW_c (show (193 : Int) ≠ 224 by decide)]
          by_cases w : j = o
          · rw [w, gW_at, gW_at]
          · rw [gW_i w, gW_i w, e193]
        · funext j
          by_cases w : j = 13
          · rw [w, gW_at, gW_at, e224]
          · rw [gW_i w, gW_i w, gW_c (by decide), gW_c (by decide), e224]
/-- a value is written into an object, whose shape may change -/
def wrC (σ : gM) (o p k x : Int) : gM := gW (gW σ 101 (12 * o + p) k) 102 (12 * o + p) x
def wrM (τ : gM) (o p t y : Int) : gM := gW (gW τ 194 (12 * o + p) t) 195 (12 * o + p) y
theorem wrC_c {p k x a : Int} (h1 : a ≠ 101) (h2 : a ≠ 102) : wrC σ o p k x a = σ a := by unfold wrC; rw [gW_cell h2, gW_cell h1]
theorem wrM_c {p t y a : Int} (h1 : a ≠ 194) (h2 : a ≠ 195) : wrM τ o p t y a = τ a := by unfold wrM; rw [gW_cell h2, gW_cell h1]
theorem put_obj {s' p k x t y : Int} (R : RQ σ τ pT hT) (ho : 0 ≤ o ∧ o < σ 87 31) (hs : 0 ≤ s' ∧ s' < σ 42 6) (hp : 0 ≤ p ∧ p < 12) (hm : ∀ j, 0 ≤ j → j < σ 47 s' → j = p ∨ j < σ 47 (σ 100 o)) (v : rVal σ τ k x t y) : RQ (wrC (gW σ 100 o s') o p k x) (wrM (gW τ 193 o s') o p t y) pT hT ∧ ndX σ τ (wrC (gW σ 100 o s') o p k x) (wrM (gW τ 193 o s') o p t y) := by
  have V3 := R.2.2.1.2
  have sh := R.1.1.1.2.2.2.2.2.1
  have ht := R.2.1.2.2.2.2.1
  have z1 : ∀ a, a ≠ 100 → a ≠ 101 → a ≠ 102 → wrC (gW σ 100 o s') o p k x a = σ a := fun a q1 q2 q3 => by rw [wrC_c q2 q3, gW_cell q1]
  have z2 : ∀ j, j ≠ o → wrC (gW σ 100 o s') o p k x 100 j = σ 100 j := fun j q => by rw [wrC_c (by decide) (by decide), gW_i q]
  have z3 : wrC (gW σ 100 o s') o p k x 100 o = s' := by rw [wrC_c (by decide) (by decide), gW_at]
  have z4 : ∀ j, j ≠ 12 * o + p → wrC (gW σ 100 o s') o p k x 101 j = σ 101 j ∧ wrC (gW σ 100 o s') o p k x 102 j = σ 102 j := fun j q => by
    unfold wrC
    exact ⟨by rw [gW_c (by decide), gW_i q, gW_c (by decide)], by rw [gW_i q, gW_c (by decide), gW_c (by decide)]⟩
  have z5 : wrC (gW σ 100 o s') o p k x 101 (12 * o + p) = k ∧ wrC (gW σ 100 o s') o p k x 102 (12 * o + p) = x := by
    unfold wrC
    exact ⟨by rw [gW_c (by decide), gW_at], by rw [gW_at]⟩
  have x1 : ∀ a, a ≠ 193 → a ≠ 194 → a ≠ 195 → wrM (gW τ 193 o s') o p t y a = τ a := fun a q1 q2 q3 => by rw [wrM_c q2 q3, gW_cell q1]
  have x2 : ∀ j, j ≠ o → wrM (gW τ 193 o s') o p t y 193 j = τ 193 j := fun j q => by rw [wrM_c (by decide) (by decide), gW_i q]
  have x3 : wrM (gW τ 193 o s') o p t y 193 o = s' := by rw [wrM_c (by decide) (by decide), gW_at]
  have x4 : ∀ j, j ≠ 12 * o + p → wrM (gW τ 193 o s') o p t y 194 j = τ 194 j ∧ wrM (gW τ 193 o s') o p t y 195 j = τ 195 j := fun j q => by
    unfold wrM
    exact ⟨by rw [gW_c (by decide), gW_i q, gW_c (by decide)], by rw [gW_i q, gW_c (by decide), gW_c (by decide)]⟩
  have x5 : wrM (gW τ 193 o s') o p t y 194 (12 * o + p) = t ∧ wrM (gW τ 193 o s') o p t y 195 (12 * o + p) = y := by
    unfold wrM
    exact ⟨by rw [gW_c (by decide), gW_at], by rw [gW_at]⟩
  generalize wrC (gW σ 100 o s') o p k x = Z at *
  generalize wrM (gW τ 193 o s') o p t y = X at *
  have s1 : sameC σ Z := by
    refine ⟨fun a q => z1 a (by omega) (by omega) (by omega), ?_⟩
    rw [z1 0 (by decide) (by decide) (by decide), z1 8 (by decide) (by decide) (by decide), z1 42 (by decide) (by decide) (by decide), z1 52 (by decide) (by decide) (by decide), z1 87 (by decide) (by decide) (by decide)]
    exact ⟨rfl, rfl, rfl, rfl, rfl, rfl, rfl, rfl, rfl, rfl, rfl, rfl, rfl, rfl, rfl, rfl, rfl, rfl, rfl⟩
  have s2 : sameT τ X := by
    refine ⟨fun a q => x1 a (by omega) (by omega) (by omega), ?_⟩
    rw [x1 119 (by decide) (by decide) (by decide)]
    exact ⟨rfl, rfl, rfl, rfl, rfl, rfl, rfl, rfl, rfl, rfl, rfl, rfl, rfl, rfl⟩
  have rv := (rVal_mv s1 s2).1
  refine R.obj (fun a q1 q2 => z1 a (by omega) (by omega) (by omega)) (fun i _ => by rw [z1 87 (by decide) (by decide) (by decide)]) (fun a q1 q2 => x1 a (by omega) (by omega) (by omega)) ?_ ?_
  · obtain ⟨b1, hob⟩ := V3
    refine ⟨by rw [z1 87 (by decide) (by decide) (by decide), x1 119 (by decide) (by decide) (by decide)]; exact b1, fun u u0 u1 => ?_⟩
    rw [z1 87 (by decide) (by decide) (by decide)] at u1
    rw [z1 42 (by decide) (by decide) (by decide), z1 47 (by decide) (by decide) (by decide)]
    by_cases e : u = o
    · rw [e, z3, x3]
      refine ⟨rfl, hs, fun j j0 j1 => (rv _ _ _ _).mpr ?_⟩
      by_cases w : j = p
      · rw [w, z5.1, z5.2, x5.1, x5.2]
        exact v
      · rw [(z4 _ (by omega)).1, (z4 _ (by omega)).2, (x4 _ (by omega)).1, (x4 _ (by omega)).2]
        exact (hob o ho.1 ho.2).2.2 j j0 (by rcases hm j j0 j1 with y | y <;> omega)
    · obtain ⟨w1, w2, w3⟩ := hob u u0 u1
      rw [z2 u e, x2 u e]
      refine ⟨w1, w2, fun j j0 j1 => (rv _ _ _ _).mpr ?_⟩
      have m12 := many_r sh w2.1 w2.2
      rw [(z4 _ (by omega)).1, (z4 _ (by omega)).2, (x4 _ (by omega)).1, (x4 _ (by omega)).2]
      exact w3 j j0 j1
  · unfold rTo at ht ⊢
    rw [x1 224 (by decide) (by decide) (by decide), z1 87 (by decide) (by decide) (by decide)]
    exact ht
/-- an entry is made while an object's value is not written yet -/
theorem RQ.en2 {x2 x3 x4 x5 y2 y3 y4 : Int} (R : RQ Z X pT hT) (c : ∀ a, a ≠ 101 → a ≠ 102 → σ a = Z a) (d : ∀ a, a ≠ 194 → a ≠ 195 → τ a = X a) (hn : σ 26 (σ 90 (σ 87 21)) ≤ n ∧ n < σ 26 (σ 90 (σ 87 21)) + σ 27 (σ 90 (σ 87 21))) (hE : nE σ n x3 x4 x5 y2 y3 y4) (hx : 1 ≤ x2 ∧ x2 ≤ 3) (h23 : σ 9 n = 23 → x2 = 2) (h18x : σ 18 n ≤ x2) :
    ∃ S T, mc_settles σ n x2 x3 x4 x5 = some (S, 0) ∧ md_enter τ n y2 y3 y4 x2 = some (T, 0) ∧ enC σ S n ∧ enM τ T n ∧ ∀ S' T', (∀ a, a ≠ 101 → a ≠ 102 → S' a = S a) → (∀ a, a = 101 ∨ a = 102 → S' a = Z a) → (∀ a, a ≠ 194 → a ≠ 195 → T' a = T a) → (∀ a, a = 194 ∨ a = 195 → T' a = X a) → RQ S' T' pT hT ∧ ndX Z X S' T' := by
  obtain ⟨c1, c2, c3, c4, c5, c6⟩ := R.cu
  have R' := R
  obtain ⟨⟨⟨P1, -⟩, ⟨N1, N2⟩, -⟩, A, -, -, -, F⟩ := R'
  have P1' : rPg σ τ := by
    refine P1.mv ⟨fun a q => c a (by omega) (by omega), ?_⟩ ⟨fun a q => d a (by omega) (by omega), ?_⟩
    · rw [c 0 (by decide) (by decide), c 8 (by decide) (by decide), c 42 (by decide) (by decide), c 52 (by decide) (by decide), c 87 (by decide) (by decide)]
      exact ⟨rfl, rfl, rfl, rfl, rfl, rfl, rfl, rfl, rfl, rfl, rfl, rfl, rfl, rfl, rfl, rfl, rfl, rfl, rfl⟩
    · rw [d 119 (by decide) (by decide)]
      exact ⟨rfl, rfl, rfl, rfl, rfl, rfl, rfl, rfl, rfl, rfl, rfl, rfl, rfl, rfl⟩
  have A' : aA σ τ pT := A.mv (fun a q => c a (by omega) (by omega)) (by rw [c 8 (by decide) (by decide)]) (fun i _ _ => by rw [c 52 (by decide) (by decide)]) (fun i _ => by rw [c 87 (by decide) (by decide)]) (fun a q => d a (by omega) (by omega)) (fun i _ => by rw [d 119 (by decide) (by decide)])
  have hN := P1.2.2.2.2.2.2.2.2.1
  have n8 := hN.2.1 _ c2.1 c2.2
  have kn : Z 9 n = 21 ∨ Z 9 n = 22 ∨ Z 9 n = 23 := by
    rw [← c 9 (by decide) (by decide)]
    rcases hE.2 with z | z | z <;> omega
  have hn' : Z 26 (Z 90 (Z 87 21)) ≤ n ∧ n < Z 26 (Z 90 (Z 87 21)) + Z 27 (Z 90 (Z 87 21)) := by
    rw [← c 26 (by decide) (by decide), ← c 27 (by decide) (by decide), ← c 90 (by decide) (by decide), ← c 87 (by decide) (by decide)]
    exact hn
  have iv := (N1 n (by omega) (by omega)).2.2 kn
  obtain ⟨S, T, s1, s2, s3, s4, s5, s6, s7, s8, s9, s10⟩ := settles_pair P1' A' rfl (by rw [c 90 (by decide) (by decide), c 87 (by decide) (by decide), c 8 (by decide) (by decide)]; exact c2) hn hE (by rw [c 11 (by decide) (by decide), c 18 (by decide) (by decide)]; exact iv.1) hx h18x
  refine ⟨S, T, s1, s2, s5, s6, fun S' T' g1 g2 g3 g4 => ?_⟩
  have f5 : enC Z S' n := by
    obtain ⟨f1, f2, f3, f4, f5⟩ := s5
    refine ⟨fun a i q1 q2 q3 q4 q5 q6 q7 q8 q9 q10 q11 => ?_, fun i q => ?_, fun i q => ?_, fun i q1 q2 q3 => ?_, fun i => ?_⟩
    · by_cases w : a = 101 ∨ a = 102
      · rw [g2 a w]
      · rw [g1 a (by omega) (by omega), f1 a i q1 q2 q3 q4 q5 q6 q7 q8 q9 q10 q11, c a (by omega) (by omega)]
    · rw [g1 11 (by decide) (by decide), g1 12 (by decide) (by decide), g1 18 (by decide) (by decide), ← c 11 (by decide) (by decide), ← c 12 (by decide) (by decide), ← c 18 (by decide) (by decide)]
      exact f2 i q
    · rw [g1 19 (by decide) (by decide), ← c 19 (by decide) (by decide)]
      exact f3 i q
    · rw [g1 87 (by decide) (by decide), ← c 87 (by decide) (by decide)]
      exact f4 i q1 q2 q3
    · rw [g1 61 (by decide) (by decide), ← c 61 (by decide) (by decide)]
      exact f5 i
  have f6 : enM X T' n := by
    obtain ⟨d1, d2, d3, d4, d5⟩ := s6
    refine ⟨fun a i q1 q2 q3 q4 q5 q6 q7 q8 q9 q10 => ?_, fun i q => ?_, fun a i q1 q2 q => ?_, fun i q => ?_, ?_⟩
    · by_cases w : a = 194 ∨ a = 195
      · rw [g4 a w]
      · rw [g3 a (by omega) (by omega), d1 a i q1 q2 q3 q4 q5 q6 q7 q8 q9 q10, d a (by omega) (by omega)]
    · rw [g3 178 (by decide) (by decide), g3 180 (by decide) (by decide), g3 181 (by decide) (by decide), ← d 178 (by decide) (by decide), ← d 180 (by decide) (by decide), ← d 181 (by decide) (by decide)]
      exact d2 i q
    · rw [g3 a (by omega) (by omega), ← d a (by omega) (by omega)]
      exact d3 a i q1 q2 q
    · rw [g3 119 (by decide) (by decide), ← d 119 (by decide) (by decide)]
      exact d4 i q
    · rw [g3 224 (by decide) (by decide), ← d 224 (by decide) (by decide)]
      exact d5
  have g87 : S' 87 = S 87 := g1 87 (by decide) (by decide)
  have cz : σ 87 = Z 87 := c 87 (by decide) (by decide)
  have nd : ndX Z X S' T' := en_nd f5 f6 (by
    rw [g3 119 (by decide) (by decide), ← d 119 (by decide) (by decide), ← cz, ccN_eq (S := S') (σ := S) _ (fun j _ _ => by rw [g1 93 (by decide) (by decide)]), ccN_eq (S := Z) (σ := σ) _ (fun j _ _ => by rw [c 93 (by decide) (by decide)])]
    exact s8)
  refine ⟨?_, nd⟩
  obtain ⟨e1, e2⟩ := en_stl f5 f6
  have s3' : rPg S' T' := by
    refine s3.mv ⟨fun a q => g1 a (by omega) (by omega), ?_⟩ ⟨fun a q => g3 a (by omega) (by omega), ?_⟩
    · rw [g1 0 (by decide) (by decide), g1 8 (by decide) (by decide), g1 42 (by decide) (by decide), g1 52 (by decide) (by decide), g1 87 (by decide) (by decide)]
      exact ⟨rfl, rfl, rfl, rfl, rfl, rfl, rfl, rfl, rfl, rfl, rfl, rfl, rfl, rfl, rfl, rfl, rfl, rfl, rfl⟩
    · rw [g3 119 (by decide) (by decide)]
      exact ⟨rfl, rfl, rfl, rfl, rfl, rfl, rfl, rfl, rfl, rfl, rfl, rfl, rfl, rfl⟩
  have s4' : aA S' T' pT := s4.mv (fun a q => g1 a (by omega) (by omega)) (by rw [g1 8 (by decide) (by decide)]) (fun i _ _ => by rw [g1 52 (by decide) (by decide)]) (fun i _ => by rw [g1 87 (by decide) (by decide)]) (fun a q => g3 a (by omega) (by omega)) (fun i _ => by rw [g3 119 (by decide) (by decide)])
  have s9' : S' 11 n = 0 ∨ (S' 11 n = 1 ∧ S' 18 n = 0) := by
    rw [g1 11 (by decide) (by decide), g1 18 (by decide) (by decide)]
    exact s9
  have e18 : S' 18 n = S 18 n := by rw [g1 18 (by decide) (by decide)]
  have h23' : Z 9 n = 23 → x2 = 2 := by
    rw [← c 9 (by decide) (by decide)]; exact h23
  obtain ⟨d1, d2, d3, d4, d5⟩ := f6
  obtain ⟨f1, f2, f3, f4, f5⟩ := f5
  have kS : ∀ a, a ≠ 11 → a ≠ 12 → a ≠ 18 → a ≠ 19 → a ≠ 32 → a ≠ 34 → a ≠ 59 → a ≠ 61 → a ≠ 87 → a ≠ 91 → (a < 93 ∨ 96 < a) → S' a = Z a := fun a q1 q2 q3 q4 q5 q6 q7 q8 q9 q10 q11 => funext fun i => f1 a i q1 q2 q3 q4 q5 q6 q7 q8 q9 q10 q11
  have kT : ∀ a, a ≠ 119 → (a < 163 ∨ 164 < a) → a ≠ 166 → a ≠ 178 → (a < 180 ∨ 184 < a) → a ≠ 201 → a ≠ 203 → (a < 209 ∨ 211 < a) → a ≠ 214 → a ≠ 224 → T' a = X a := fun a q1 q2 q3 q4 q5 q6 q7 q8 q9 q10 => funext fun i => d1 a i q1 q2 q3 q4 q5 q6 q7 q8 q9 q10
  have k9 := e1.1 9 (by decide)
  refine R.fr s3' ⟨fun m m0 m1 => ?_, fun r' m q1 q2 q3 q4 => ?_⟩ s4' ?_ e1 e2 (fun a q => kS a (by omega) (by omega) (by omega) (by omega) (by omega) (by omega) (by omega) (by omega) (by omega) (by omega) (by omega)) (fun i q => f4 i (by omega) (by omega) (by omega)) (fun a q => kT a (by omega) (by omega) (by omega) (by omega) (by omega) (by omega) (by omega) (by omega) (by omega) (by omega)) (fun a i q1 q2 _ => by rw [kT a (by omega) (by omega) (by omega) (by omega) (by omega) (by omega) (by omega) (by omega) (by omega) (by omega)]) (fun i q => d4 i (by omega))
  · rw [e1.2.2.2.2.2.2.2.2.1] at m1
    unfold nIv
    rw [k9, kT 179 (by decide) (by decide) (by decide) (by decide) (by decide) (by decide) (by decide) (by decide) (by decide) (by decide)]
    by_cases z : m = n
    · rw [z]
      exact ⟨fun q => by omega, fun _ q => by omega, fun _ => ⟨s9', fun q => by have := h23' q; omega⟩⟩
    · rw [(f2 m z).1, (f2 m z).2.2]
      exact N1 m m0 m1
  · rw [e1.2.2.2.2.2.2.2.2.2.2.2.1] at q2
    rw [e1.1 26 (by decide)] at q3
    rw [e1.1 26 (by decide), e1.1 27 (by decide)] at q4
    unfold sI2
    rw [k9, e1.1 13 (by decide), kS 35 (by decide) (by decide) (by decide) (by decide) (by decide) (by decide) (by decide) (by decide) (by decide) (by decide) (by decide)]
    by_cases z : m = n
    · rw [z]
      intro q
      omega
    · rw [(f2 m z).1]
      exact N2 r' m q1 q2 q3 q4
  · rcases s7 with ⟨z, -⟩ | z
    · intro q
      rw [f4 21 (by decide) (by decide) (by decide)] at q ⊢
      have k93 : S' 93 = Z 93 := by rw [g1 93 (by decide) (by decide), z, c 93 (by decide) (by decide)]
      rw [k93] at q ⊢
      have F := F q
      unfold cFa at F ⊢
      have kk : ∀ a, a ≠ 101 → a ≠ 102 → S' a = Z a := fun a q1 q2 => by rw [g1 a q1 q2, z, c a q1 q2]
      rw [kk 9 (by decide) (by decide), kk 11 (by decide) (by decide), kk 18 (by decide) (by decide), kk 19 (by decide) (by decide), kk 20 (by decide) (by decide), kk 22 (by decide) (by decide), kk 29 (by decide) (by decide), kk 54 (by decide) (by decide), kk 55 (by decide) (by decide), kk 62 (by decide) (by decide), kk 64 (by decide) (by decide), kk 65 (by decide) (by decide)]
      exact F
    · intro q
      rw [f4 21 (by decide) (by decide) (by decide), g1 93 (by decide) (by decide), ← cz, z] at q
      omega
end PU1
