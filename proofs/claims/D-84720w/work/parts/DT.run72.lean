/-! objects in a run: both sides -/
section OB
variable {σ τ S T Z X : gM} {pT hT : Int → Int} {m : Nat} {br co θ n : Int}
/-- objects change: the run stays related -/
theorem RQ.obj (R : RQ σ τ pT hT) (cS : ∀ a, a ≠ 87 → (a < 100 ∨ 102 < a) → Z a = σ a) (c87 : ∀ i, i ≠ 40 → Z 87 i = σ 87 i) (cT : ∀ a, a ≠ 224 → (a < 193 ∨ 195 < a) → X a = τ a) (O : rOb Z X) (HT : rTo Z X) : RQ Z X pT hT ∧ ndX σ τ Z X := by
  have R' := R
  obtain ⟨⟨⟨P1, P2⟩, N, M, B⟩, A, ⟨V2, V3⟩, K1, C, F⟩ := R'
  have s1 : sameC σ Z := by
    refine ⟨fun a q => cS a (by omega) (by omega), ?_⟩
    rw [cS 0 (by decide) (by decide), cS 8 (by decide) (by decide), cS 42 (by decide) (by decide), cS 52 (by decide) (by decide)]
    exact ⟨rfl, rfl, rfl, rfl, rfl, rfl, rfl, rfl, rfl, rfl, rfl, rfl, rfl, rfl, rfl, rfl, rfl, rfl, c87 31 (by decide)⟩
  have s2 : sameT τ X := by
    refine ⟨fun a q => cT a (by omega) (by omega), ?_⟩
    rw [cT 119 (by decide) (by decide)]
    exact ⟨rfl, rfl, rfl, rfl, rfl, rfl, rfl, rfl, rfl, rfl, rfl, rfl, rfl, rfl⟩
  have rv : ∀ k x t u, rVal Z X k x t u ↔ rVal σ τ k x t u := (rVal_mv s1 s2).1
  refine ⟨RQm.toQ (R.toM.hq ⟨P1.mv s1 s2, ?_⟩ (N.mv (fun a q => cS a (by omega) (by omega)) (cT 179 (by decide) (by decide))) ?_ ?_ O ?_ HT (fun k x t u q => (rv k x t u).mpr q) (fun a q => cS a (by omega) (by omega)) (by rw [cS 52 (by decide) (by decide)]) (by rw [cS 8 (by decide) (by decide)]; exact Int.le_refl _) (fun a r q1 q2 _ => by rw [cS a (by omega) (by omega)]) (fun a p q1 q2 _ => by rw [cS a (by omega) (by omega)]) (fun j _ => by rw [cS 14 (by decide) (by decide)]) (fun i q => c87 i (by omega)) (fun a q1 q2 => cT a (by omega) (by omega)) (fun a j q _ => by rw [cT a (by omega) (by omega)]) (fun i q => by rw [cT 119 (by decide) (by decide)])) ?_, ⟨⟨fun a q => cS a (by omega) (by omega), fun i q => c87 i (by omega), fun a q => cT a (by omega) (by omega), ?_⟩, fun a q => cS a (by omega) (by omega), c87 8 (by decide), fun a q1 q2 => cT a (by omega) (by omega), fun i _ => by rw [cT 119 (by decide) (by decide)], fun k x t u q => (rv k x t u).mpr q⟩⟩
  · unfold rRp at P2 ⊢
    rw [cS 8 (by decide) (by decide), cS 24 (by decide) (by decide), cS 25 (by decide) (by decide)]
    exact P2
  · unfold rRm cRm mRm at M ⊢
    rw [cS 0 (by decide) (by decide), cS 8 (by decide) (by decide), cS 42 (by decide) (by decide), cT 119 (by decide) (by decide)]
    exact M
  · exact ⟨by rw [cS 1 (by decide) (by decide)]; exact B.1, by rw [cT 134 (by decide) (by decide)]; exact B.2.1, B.2.2.mv (fun a q => cT a (by omega) (by omega)) (by rw [cT 119 (by decide) (by decide)])⟩
  · unfold rCt at C ⊢
    rw [c87 23 (by decide), c87 24 (by decide), c87 20 (by decide), c87 34 (by decide), c87 5 (by decide), cS 103 (by decide) (by decide), cS 0 (by decide) (by decide), cT 223 (by decide) (by decide), cT 119 (by decide) (by decide)]
    exact C
  · unfold rFa cFa at F ⊢
    rw [c87 21 (by decide), cS 93 (by decide) (by decide), cS 9 (by decide) (by decide), cS 11 (by decide) (by decide), cS 18 (by decide) (by decide), cS 19 (by decide) (by decide), cS 20 (by decide) (by decide), cS 22 (by decide) (by decide), cS 29 (by decide) (by decide), cS 54 (by decide) (by decide), cS 55 (by decide) (by decide), cS 62 (by decide) (by decide), cS 64 (by decide) (by decide), cS 65 (by decide) (by decide)]
    exact F
  · rw [cT 119 (by decide) (by decide), ccN_eq (S := Z) (σ := σ) _ fun j _ _ => by rw [cS 93 (by decide) (by decide)]]
/-- an object takes on the newest of its shapes: both sides -/
theorem moves_b {o : Int} : ∀ (d : Nat) (σ τ : gM), RQ σ τ pT hT → 0 ≤ o → o < σ 87 31 → cn1 σ (σ 100 o) ≤ d → ∃ S T, mc_moves_b0 σ o = some (S, 0) ∧ md_moves_b0 τ o = some (T, 0) ∧ RQ S T pT hT ∧ ndX σ τ S T ∧ (∀ a, a ≠ 87 → a ≠ 100 → S a = σ a) ∧ (∀ i, i ≠ 40 → S 87 i = σ 87 i) ∧ (∀ j, j ≠ o → S 100 j = σ 100 j) ∧ (∀ a, a ≠ 193 → a ≠ 224 → T a = τ a) ∧ (0 ≤ S 100 o ∧ S 100 o < σ 42 6) ∧ σ 46 (S 100 o) = -1 ∧ σ 47 (S 100 o) = σ 47 (σ 100 o) ∧ ∀ k, plc σ (S 100 o) k = plc σ (σ 100 o) k := fun d σ τ R o0 o1 hd => by
  have V3 := R.2.2.1.2
  have sh := R.1.1.1.2.2.2.2.2.1
  obtain ⟨⟨b1, b2, b3⟩, hob⟩ := V3
  obtain ⟨e193, s0, vals⟩ := hob o o0 o1
  have hr := sh.2.2.2.2.2.1 (σ 100 o) s0.1 s0.2
  have s200 : 0 ≤ σ 100 o ∧ σ 100 o < 200 := by have := sh.1; omega
  have o400 : 0 ≤ o ∧ o < 400 := by omega
  by_cases z : σ 46 (σ 100 o) < 0
  · refine ⟨σ, τ, by rw [mc_moves_b0_e, if_pos o400, if_pos s200, if_pos z], by rw [md_moves_b0_e, if_pos o400, e193, if_pos s200, hr.1, if_pos z], R, ndX.rf, fun _ _ _ => rfl, fun _ _ => rfl, fun _ _ => rfl, fun _ _ _ => rfl, s0, by rcases hr.2 with y | y <;> omega, rfl, fun _ => rfl⟩
  · rcases hr.2 with y | ⟨y1, y2, y3, y4⟩
    · omega
    · match d, hd with
      | 0, hd => omega
      | d + 1, hd =>
        have t13 : (0 : Int) ≤ 13 ∧ (13 : Int) < 16 := by decide
        have ht := R.2.1.2.2.2.2.1
        have e1 : mc_moves_b0 σ o = mc_moves_b0 (gW (gW σ 100 o (σ 46 (σ 100 o))) 87 40 (w32 (σ 87 40 + 1))) o := by
          rw [mc_moves_b0_e, if_pos o400, if_pos s200, if_neg z, if_pos o400, if_pos s200, if_pos o400]
        have e2 : md_moves_b0 τ o = md_moves_b0 (gW (gW τ 193 o (σ 46 (σ 100 o))) 224 13 (w32 (σ 87 40 + 1))) o := by
          rw [md_moves_b0_e, if_pos o400, e193, if_pos s200, hr.1, if_neg z, if_pos o400, if_pos s200, if_pos o400, if_pos t13, if_pos t13, ht.2.2.2.2.1]
        generalize eZ : gW (gW σ 100 o (σ 46 (σ 100 o))) 87 40 (w32 (σ 87 40 + 1)) = Z at e1
        generalize eX : gW (gW τ 193 o (σ 46 (σ 100 o))) 224 13 (w32 (σ 87 40 + 1)) = X at e2
        have z1 : ∀ a, a ≠ 87 → a ≠ 100 → Z a = σ a := fun a q1 q2 => by rw [← eZ, gW_cell q1, gW_cell q2]
        have z2 : ∀ i, i ≠ 40 → Z 87 i = σ 87 i := fun i q => by rw [← eZ, gW_i q, gW_c (by decide)]
        have z3 : Z 87 40 = w32 (σ 87 40 + 1) := by rw [← eZ, gW_at]
        have z4 : ∀ j, j ≠ o → Z 100 j = σ 100 j := fun j q => by rw [← eZ, gW_c (by decide), gW_i q]
        have z5 : Z 100 o = σ 46 (σ 100 o) := by rw [← eZ, gW_c (by decide), gW_at]
        have x1 : ∀ a, a ≠ 193 → a ≠ 224 → X a = τ a := fun a q1 q2 => by rw [← eX, gW_cell q2, gW_cell q1]
        have x2 : ∀ i, i ≠ 13 → X 224 i = τ 224 i := fun i q => by rw [← eX, gW_i q, gW_c (by decide)]
        have x3 : X 224 13 = w32 (σ 87 40 + 1) := by rw [← eX, gW_at]
        have x4 : ∀ j, j ≠ o → X 193 j = τ 193 j := fun j q => by rw [← eX, gW_c (by decide), gW_i q]
        have x5 : X 193 o = σ 46 (σ 100 o) := by rw [← eX, gW_c (by decide), gW_at]
        clear eZ eX
        have s1 : sameC σ Z := by
          refine ⟨fun a q => z1 a (by omega) (by omega), ?_⟩
          rw [z1 0 (by decide) (by decide), z1 8 (by decide) (by decide), z1 42 (by decide) (by decide), z1 52 (by decide) (by decide)]
          exact ⟨rfl, rfl, rfl, rfl, rfl, rfl, rfl, rfl, rfl, rfl, rfl, rfl, rfl, rfl, rfl, rfl, rfl, rfl, z2 31 (by decide)⟩
        have s2 : sameT τ X := by
          refine ⟨fun a q => x1 a (by omega) (by omega), ?_⟩
          rw [x1 119 (by decide) (by decide)]
          exact ⟨rfl, rfl, rfl, rfl, rfl, rfl, rfl, rfl, rfl, rfl, rfl, rfl, rfl, rfl⟩
        have rv := (rVal_mv s1 s2).1
        obtain ⟨Q1, nd1⟩ := R.obj (Z := Z) (X := X) (fun a q1 q2 => z1 a q1 (by omega)) z2 (fun a q1 q2 => x1 a (by omega) q1) (by
          refine ⟨by rw [z2 31 (by decide), x1 119 (by decide) (by decide)]; exact ⟨b1, b2, b3⟩, fun u u0 u1 => ?_⟩
          rw [z2 31 (by decide)] at u1
          rw [z1 42 (by decide) (by decide), z1 47 (by decide) (by decide), z1 101 (by decide) (by decide), z1 102 (by decide) (by decide), x1 194 (by decide) (by decide), x1 195 (by decide) (by decide)]
          by_cases e : u = o
          · rw [e, z5, x5, y2]
            exact ⟨rfl, y1, fun p p0 p1 => (rv _ _ _ _).mpr (vals p p0 p1)⟩
          · rw [z4 u e, x4 u e]
            obtain ⟨w1, w2, w3⟩ := hob u u0 u1
            exact ⟨w1, w2, fun p p0 p1 => (rv _ _ _ _).mpr (w3 p p0 p1)⟩) (by
          unfold rTo at ht ⊢
          rw [x2 9 (by decide), x2 10 (by decide), x2 11 (by decide), x2 12 (by decide), x3, x2 14 (by decide), x2 15 (by decide), z2 36 (by decide), z2 37 (by decide), z2 38 (by decide), z2 39 (by decide), z3, z2 41 (by decide), z2 42 (by decide)]
          exact ⟨ht.1, ht.2.1, ht.2.2.1, ht.2.2.2.1, rfl, ht.2.2.2.2.2⟩)
        have cn : ∀ s, cn1 Z s = cn1 σ s := fun s => cn1_congr (z1 43 (by decide) (by decide)) (z1 45 (by decide) (by decide)) s
        have pl : ∀ s k, plc Z s k = plc σ s k := fun s k => plc_congr (z1 43 (by decide) (by decide)) (z1 44 (by decide) (by decide)) (z1 47 (by decide) (by decide)) s k
        obtain ⟨S, T, a1, a2, a3, a4, a5, a6, a7, a8, a9, a10, a11, a12⟩ := moves_b (o := o) d Z X Q1 o0 (by rw [z2 31 (by decide)]; exact o1) (by rw [z5, cn]; omega)
        rw [z1 42 (by decide) (by decide)] at a9
        rw [z1 46 (by decide) (by decide)] at a10
        rw [z1 47 (by decide) (by decide), z5, y2] at a11
        refine ⟨S, T, by rw [e1]; exact a1, by rw [e2]; exact a2, a3, nd1.tr a4, fun a q1 q2 => by rw [a5 a q1 q2, z1 a q1 q2], fun i q => by rw [a6 i q, z2 i q], fun j q => by rw [a7 j q, z4 j q], fun a q1 q2 => by rw [a8 a q1 q2, x1 a q1 q2], a9, a10, a11, fun k => ?_⟩
        have w := a12 k
        rw [pl, pl, z5] at w
        rw [w, y4]
theorem plc_m (h : rSh σ τ) : ∀ (d : Nat) (s : Int), s.toNat ≤ d → s < σ 42 6 → plc σ s (-1) = -1
  | 0, s, hd, hs => plc_0 (by omega)
  | d + 1, s, hd, hs => by
    by_cases z : s ≤ 0
    · exact plc_0 z
    · have hp : ∀ s, 1 ≤ s → s < σ 42 6 → 0 ≤ σ 43 s ∧ σ 43 s < s := fun s q1 q2 => (h.2.2.2.2.1 s q1 q2).1
      have t := h.2.2.2.2.1 s (by omega) hs
      rw [plc_e hp (by omega) hs, if_neg (by have := t.2.2.1.1; omega)]
      exact plc_m h d (σ 43 s) (by have := t.1; omega) (by have := t.1; omega)
/-- a name is looked up: what strings know of names changes -/
theorem RQ.nam {s w : Int} (R : RQ σ τ pT hT) (hv : vS σ s) (hw : vM τ w) (he : cS σ s = mS τ w) : ∃ S r, sp_nameOf σ s = some (S, r) ∧ RQ S τ pT hT ∧ ndX σ τ S τ ∧ (∀ a, a ≠ 4 → a ≠ 5 → S a = σ a) ∧ ((r = -1 ∧ ∀ k, 0 ≤ k → k < σ 42 10 → sN σ k ≠ mS τ w) ∨ ((0 ≤ r ∧ r < σ 42 10) ∧ sN σ r = mS τ w)) := by
  have R' := R
  obtain ⟨⟨⟨P1, P2⟩, N, M, B⟩, A, ⟨V2, V3⟩, K1, C, F⟩ := R'
  have sh := P1.2.2.2.2.2.1
  have hc := P1.2.2.2.2.2.2.1
  have ht := A.2.2.2.2.1
  obtain ⟨S, r, e1, e2, e3, e4, e5, e6⟩ := sp_nameOf_s P1.1.1 hv (by have := sh.2.1; have := sh.1; omega) sh.2.2.2.2.2.2.1 (by have := sh.2.2.1; have := sh.2.1; have := sh.1; omega) hc
  have cS' : ∀ a, a ≠ 4 → a ≠ 5 → S a = σ a := fun a q1 q2 => funext fun j => e2 a j q1 q2
  have s1 : sameC4 σ S := by
    refine ⟨fun a q => cS' a (by omega) (by omega), ?_⟩
    rw [cS' 0 (by decide) (by decide), cS' 8 (by decide) (by decide), cS' 42 (by decide) (by decide), cS' 52 (by decide) (by decide), cS' 87 (by decide) (by decide)]
    exact ⟨rfl, rfl, rfl, rfl, rfl, rfl, rfl, rfl, rfl, rfl, rfl, rfl, rfl, rfl, rfl, rfl, rfl, rfl, rfl⟩
  have s2 : sameT τ τ := ⟨fun _ _ => rfl, rfl, rfl, rfl, rfl, rfl, rfl, rfl, rfl, rfl, rfl, rfl, rfl, rfl, rfl⟩
  have sn : ∀ k, sN S k = sN σ k := fun k => by unfold sN; rw [cS' 48 (by decide) (by decide), cS' 49 (by decide) (by decide), cS' 50 (by decide) (by decide)]
  have cs : ∀ t, cS S t = cS σ t := fun t => cS_mv (cS' 1 (by decide) (by decide)) (cS' 2 (by decide) (by decide)) (cS' 3 (by decide) (by decide))
  have hca : sCa S := fun t ht => by
    have ht' : vS σ t := by unfold vS at ht ⊢; rw [cS' 0 (by decide) (by decide)] at ht; exact ht
    simp only [sn, cs]
    rw [cS' 42 (by decide) (by decide)]
    by_cases z : t = s
    · rw [z, e4, e5]
      refine ⟨by have := sh.2.1; omega, ?_⟩
      rcases e6 with ⟨q1, q2⟩ | q
      · exact Or.inl ⟨q1, q2⟩
      · exact Or.inr q
    · rw [(e3 t z).1, (e3 t z).2]
      exact hc t ht'
  have rv := (rVal_mv4 s1 s2).1
  refine ⟨S, r, e1, RQm.toQ (R.toM.hq ⟨P1.ca s1 s2 hca, ?_⟩ (N.mv (fun a q => cS' a (by omega) (by omega)) rfl) ?_ ⟨by rw [cS' 1 (by decide) (by decide)]; exact B.1, B.2⟩ ?_ ?_ ?_ (fun k x t u q => (rv k x t u).mpr q) (fun a q => cS' a (by omega) (by omega)) (by rw [cS' 52 (by decide) (by decide)]) (by rw [cS' 8 (by decide) (by decide)]; exact Int.le_refl _) (fun a r q1 q2 _ => by rw [cS' a (by omega) (by omega)]) (fun a p q1 q2 _ => by rw [cS' a (by omega) (by omega)]) (fun j _ => by rw [cS' 14 (by decide) (by decide)]) (fun i q => by rw [cS' 87 (by decide) (by decide)]) (fun _ _ _ => rfl) (fun _ _ _ _ => rfl) (fun _ _ => rfl)) ?_, ⟨⟨fun a q => cS' a (by omega) (by omega), fun i q => by rw [cS' 87 (by decide) (by decide)], fun _ _ => rfl, ?_⟩, fun a q => cS' a (by omega) (by omega), by rw [cS' 87 (by decide) (by decide)], fun _ _ _ => rfl, fun _ _ => rfl, fun k x t u q => (rv k x t u).mpr q⟩, cS', ?_⟩
  · unfold rRp at P2 ⊢
    rw [cS' 8 (by decide) (by decide), cS' 24 (by decide) (by decide), cS' 25 (by decide) (by decide)]
    exact P2
  · unfold rRm cRm at M ⊢
    rw [cS' 0 (by decide) (by decide), cS' 8 (by decide) (by decide), cS' 42 (by decide) (by decide)]
    exact M
  · unfold rOb at V3 ⊢
    rw [cS' 87 (by decide) (by decide), cS' 100 (by decide) (by decide), cS' 101 (by decide) (by decide), cS' 102 (by decide) (by decide), cS' 42 (by decide) (by decide), cS' 47 (by decide) (by decide)]
    simp only [rv]
    exact V3
  · unfold rCt at C ⊢
    rw [cS' 87 (by decide) (by decide), cS' 103 (by decide) (by decide), cS' 0 (by decide) (by decide)]
    exact C
  · unfold rTo at ht ⊢
    rw [cS' 87 (by decide) (by decide)]
    exact ht
  · unfold rFa cFa at F ⊢
    rw [cS' 87 (by decide) (by decide), cS' 93 (by decide) (by decide), cS' 9 (by decide) (by decide), cS' 11 (by decide) (by decide), cS' 18 (by decide) (by decide), cS' 19 (by decide) (by decide), cS' 20 (by decide) (by decide), cS' 22 (by decide) (by decide), cS' 29 (by decide) (by decide), cS' 54 (by decide) (by decide), cS' 55 (by decide) (by decide), cS' 62 (by decide) (by decide), cS' 64 (by decide) (by decide), cS' 65 (by decide) (by decide)]
    exact F
  · rw [ccN_eq (S := S) (σ := σ) _ fun j _ _ => by rw [cS' 93 (by decide) (by decide)]]
  · rw [← he]
    exact e6
end OB
