/-! an empty program: the component -/
theorem tx_f : ∀ i j : Fin 13, tx i.val = tx j.val → i = j := by decide +kernel
theorem tx_inj {i j : Int} (hi : 0 ≤ i ∧ i < 13) (hj : 0 ≤ j ∧ j < 13) (e : tx i = tx j) : i = j := by
  have := tx_f ⟨i.toNat, by omega⟩ ⟨j.toNat, by omega⟩
  simp only [show ((i.toNat : Nat) : Int) = i by omega, show ((j.toNat : Nat) : Int) = j by omega] at this
  have := congrArg Fin.val (this e)
  simp only at this
  omega
theorem gsl_12f : ∀ s : Fin 13, gsl s.val ≤ 12 := by decide +kernel
theorem gsl_12 {s : Int} (h : 0 ≤ s ∧ s < 13) : gsl s ≤ 12 := by
  have := gsl_12f ⟨s.toNat, by omega⟩
  simp only [show ((s.toNat : Nat) : Int) = s by omega] at this
  exact this
/-- the texts of the kinds' names -/
def kX (k : Int) : Int := if k ≤ 1 then 7 else if k = 2 then 8 else if k = 3 then 6 else if k = 4 then 5 else k + 4
section CBS
variable {σ S : gM} {s q : Int}
theorem spell_s (h : 0 ≤ s ∧ s < 23) (h12 : gsl s ≤ 12) : ∀ (d : Nat) (σ : gM) (k : Int), 0 ≤ k → k + d = gsl s → ∃ S, fr_spell_b2 σ s k = some (S, gsl s) ∧ (∀ a i, a ≠ 41 ∨ i < k ∨ gsl s ≤ i → S a i = σ a i) ∧ ∀ i, k ≤ i → i < gsl s → S 41 i = gsc s i
  | 0, σ, k, k0, hk => by
    refine ⟨σ, ?_, fun _ _ _ => rfl, fun i q1 q2 => by omega⟩
    rw [fr_spell_b2_e, gtx_ok h, st_length_s h]
    simp only [Option.bind_some]
    rw [if_neg (by omega), gtx_ok h, st_length_s h]
    rfl
  | d + 1, σ, k, k0, hk => by
    have l61 := (gsl_r h).2
    have g := (gsc_r h (i := k) (by omega)).2
    obtain ⟨T, e1, e2, e3⟩ := spell_s h h12 d (gW σ 41 k (gsc s k)) (k + 1) (by omega) (by omega)
    refine ⟨T, ?_, fun a i q => ?_, fun i q1 q2 => ?_⟩
    · rw [fr_spell_b2_e, gtx_ok h, st_length_s h]
      simp only [Option.bind_some]
      rw [if_pos (by omega), gtx_ok h, st_charAt_s h (by omega)]
      simp only [Option.bind_some]
      rw [if_pos (by omega), w8_e (x := gsc s k) (by omega) (by omega), w8_e (x := gsc s k) (by omega) (by omega), w32_e (x := k + 1) (by omega) (by omega)]
      exact e1
    · rw [e2 a i (by omega)]
      rcases q with q | q
      · rw [gW_c q]
      · by_cases z : a = 41
        · rw [z, gW_j (by omega)]
        · rw [gW_c z]
    · by_cases z : i = k
      · rw [z, e2 41 k (by omega), gW_at]
      · exact e3 i (by omega) q2
/-- a constant text becomes a string -/
theorem text_c (h : 0 ≤ s ∧ s < 13) (hh : hI σ) (r1 : σ 0 7 < 8000) (r2 : σ 0 8 + 12 ≤ 24000) :
    ∃ U S k, fr_spell σ s = some (U, gsl s) ∧ hp_string U 41 0 (gsl s) = some (S, k) ∧ hI S ∧ (0 ≤ k ∧ k < S 0 7) ∧ cS S k = tx s ∧ S 3 k ≤ 12 ∧ (σ 0 7 ≤ S 0 7 ∧ S 0 7 ≤ σ 0 7 + 1) ∧ (0 ≤ S 0 8 ∧ S 0 8 ≤ σ 0 8 + 12 * (S 0 7 - σ 0 7)) ∧ (∀ x, vS σ x → cS S x = cS σ x ∧ S 4 x = σ 4 x ∧ S 5 x = σ 5 x ∧ S 3 x = σ 3 x) ∧ (k = σ 0 7 → S 0 7 = σ 0 7 + 1 ∧ S 4 k = -1 ∧ S 5 k = 0) ∧ (k ≠ σ 0 7 → S 0 7 = σ 0 7) ∧ (∀ a, 5 < a → a ≠ 41 → S a = σ a) ∧ (∀ i, i ≠ 7 → i ≠ 8 → S 0 i = σ 0 i) := by
  have h23 : 0 ≤ s ∧ s < 23 := by omega
  have h12 := gsl_12 h
  have l61 := (gsl_r h23).2
  obtain ⟨U, e1, e2, e3⟩ := spell_s h23 h12 (gsl s).toNat σ 0 (by decide) (by omega)
  have u : ∀ a, a ≠ 41 → U a = σ a := fun a q => funext fun i => e2 a i (Or.inl q)
  have hU : hI U := hI_same hh fun a q => u a (by omega)
  have eS : ∀ x, cS U x = cS σ x := fun x => cS_mv (u 1 (by decide)) (u 2 (by decide)) (u 3 (by decide))
  have eV : ∀ x, vS U x ↔ vS σ x := fun x => by unfold vS; rw [u 0 (by decide)]
  obtain ⟨S, k, a1, a2, a3, a4, a5, a6, a7, a8, a9, a10, a11, a12⟩ := hp_string_s (row := 41) (f := 0) (n := (gsl s).toNat) hU (Or.inr (Or.inl rfl)) ⟨by decide, by rw [show gN 41 = 12 by decide +kernel]; omega⟩ (fun q => absurd q (by decide)) (by rw [u 0 (by decide)]; exact r1) (by rw [u 0 (by decide)]; omega)
  have en : ((gsl s).toNat : Int) = gsl s := by omega
  have el : lt (U 41) 0 (gsl s).toNat = tx s := by
    unfold tx
    exact lt_eq.mpr fun i hi => by rw [Int.zero_add]; exact e3 _ (by omega) (by omega)
  rw [el] at a4 a8
  rw [en] at a1 a6
  rw [u 0 (by decide)] at a5 a6 a8 a9
  have s3 : S 3 k = gsl s := by
    have := congrArg List.length a4
    unfold cS tx at this
    rw [lt_len, lt_len] at this
    have := (a2.v (Or.inl a3)).2.2.2.1
    omega
  refine ⟨U, S, k, by rw [fr_spell_e]; exact e1, a1, a2, a3, a4, by omega, a5, ⟨a2.2.1.1, ?_⟩, fun x vx => ?_, fun q => ⟨(a8 q).1, (a8 q).2.1, (a8 q).2.2.1⟩, fun q => by rw [a9 q, u 0 (by decide)], fun a q1 q2 => funext fun i => by rw [a10 a i (by omega) (by omega) (by omega) (by omega) (by omega) (by omega), u a q2], fun i q1 q2 => by rw [a11 i q1 q2, u 0 (by decide)]⟩
  · by_cases z : k = σ 0 7
    · have := (a8 z).1
      omega
    · rw [a9 z, u 0 (by decide)]
      omega
  · obtain ⟨w1, w2, w3, -, w5⟩ := a7 x ((eV x).mpr vx)
    exact ⟨by rw [w1, eS], by rw [w2, u 4 (by decide)], by rw [w3, u 5 (by decide)], by rw [w5, u 3 (by decide)]⟩
theorem fun_b15 (h9 : 0 ≤ σ 8 19 ∧ σ 8 19 < 9000) (hn : ∀ x, 0 ≤ x → x < σ 8 19 → σ 23 x ≠ q) : ∀ (d : Nat) (j : Int), 0 ≤ j → j + d = σ 8 19 → fr_function_b15 σ q j = some (gW (gW (gW σ 23 (σ 8 19) q) 24 (σ 8 19) (-1)) 8 19 (σ 8 19 + 1), σ 8 19)
  | 0, j, j0, hj => by
    rw [fr_function_b15_e, if_neg (by omega), if_pos h9, if_pos h9, w32_e (x := σ 8 19 + 1) (by omega) (by omega), show σ 8 19 + 1 - 1 = σ 8 19 by omega, w32_e (by omega) (by omega)]
  | d + 1, j, j0, hj => by
    rw [fr_function_b15_e, if_pos (by omega), if_pos (show 0 ≤ j ∧ j < 9000 by omega), if_neg (hn j j0 (by omega)), w32_e (x := j + 1) (by omega) (by omega)]
    exact fun_b15 h9 hn d (j + 1) (by omega) (by omega)
theorem rootOf_c {g : Int} (hr : 0 ≤ σ 8 31 ∧ σ 8 31 < 60) (hg : 0 ≤ g ∧ g < 9000) : ∃ S, fr_rootOf σ g = some (S, σ 8 31) ∧ rtO σ S g ∧ S 27 (σ 8 31) = 0 ∧ S 31 (σ 8 31) = 0 := by
  obtain ⟨S, e, o⟩ := fr_rootOf_s (σ := σ) hr hg
  refine ⟨S, e, o, ?_⟩
  rw [fr_rootOf_e, if_pos hr, if_pos hg, if_pos hr, if_pos hr, if_pos hr, if_pos hr, if_pos hr, if_pos hr, if_pos hr, if_pos hr, if_pos hr, w32_e (by omega) (by omega)] at e
  obtain ⟨T, t1, t2, t3, t4⟩ := rootOf_l (r := σ 8 31) hr 12 0 (gW (gW (gW (gW (gW (gW (gW (gW (gW (gW (gW (gW σ 8 31 (σ 8 31 + 1)) 25 (σ 8 31) g) 24 g (σ 8 31)) 26 (σ 8 31) (σ 8 12)) 27 (σ 8 31) 0) 28 (σ 8 31) (σ 8 16)) 29 (σ 8 31) 0) 30 (σ 8 31) 0) 31 (σ 8 31) 0) 32 (σ 8 31) 0) 33 (σ 8 31) 0) 34 (σ 8 31) (-1)) (by decide) (by decide)
  rw [t1] at e
  have eT : T = S := congrArg Prod.fst (Option.some.inj e)
  rw [← eT, t2 27 _ (by decide), t2 31 _ (by decide)]
  constructor
  · simp [gW]
  · simp [gW]
/-- so many of the given functions are there -/
def CB (n : Int) (σ : gM) : Prop := hI σ ∧ (n ≤ σ 0 7 ∧ 0 ≤ σ 0 8 ∧ σ 0 8 ≤ 12 * σ 0 7 ∧ σ 0 9 = 0) ∧ (σ 0 10 = 8000 ∧ σ 0 11 = 24000 ∧ σ 0 12 = 8000 ∧ σ 0 13 = 0) ∧ (σ 8 12 = 0 ∧ σ 8 16 = 0 ∧ σ 8 19 = n ∧ σ 8 31 = n) ∧ (∀ x, 0 ≤ x → x < σ 0 7 → σ 4 x = -1 ∧ σ 5 x = 0) ∧ ∀ f, 0 ≤ f → f < n → (cS σ f = tx (f + 1) ∧ σ 3 f ≤ 12) ∧ (σ 23 f = f ∧ σ 24 f = f ∧ σ 25 f = f ∧ σ 27 f = 0 ∧ σ 31 f = 0) ∧ (σ 32 f = 0 ∧ σ 33 f = 0 ∧ σ 34 f = -1) ∧ ∀ l, 0 ≤ l → l < 12 → σ 35 (12 * f + l) = 0
theorem plant_c {n : Int} (hn : 0 ≤ n ∧ n < 4) (C : CB n σ) (e7 : σ 0 7 = n) : ∃ S, fr_plant σ (n + 1) = some (S, 0) ∧ CB (n + 1) S ∧ S 0 7 = n + 1 ∧ (∀ a, 35 < a → a ≠ 41 → S a = σ a) := by
  obtain ⟨C1, ⟨C2, C3, C4, C5⟩, ⟨C6, C7, C8, C9⟩, ⟨C10, C11, C12, C13⟩, C14, C15⟩ := C
  obtain ⟨U, V, k, b1, b2, b3, b4, b5, b6, b7, b8, b9, b10, b11, b12, b13⟩ := text_c (σ := σ) (s := n + 1) (by omega) C1 (by omega) (by omega)
  have ek : k = n := by
    by_cases z : k = σ 0 7
    · omega
    · exfalso
      have kl : k < n := by have := b11 z; omega
      have w := C15 k b4.1 kl
      have v := b9 k (Or.inl (by omega))
      rw [v.1, w.1.1] at b5
      have := tx_inj (by omega) (by omega) b5
      omega
  obtain ⟨d1, d2, d3⟩ := b10 (by omega)
  have v8 : ∀ i, V 8 i = σ 8 i := fun i => by rw [b12 8 (by decide) (by decide)]
  have v23 : ∀ x, 0 ≤ x → x < V 8 19 → V 23 x ≠ k := fun x q1 q2 => by
    rw [v8] at q2
    rw [b12 23 (by decide) (by decide), (C15 x q1 (by omega)).2.1.1]
    omega
  have fb := fun_b15 (σ := V) (q := k) (by rw [v8]; omega) v23 n.toNat 0 (by decide) (by rw [v8]; omega)
  rw [v8, C12] at fb
  generalize eW : gW (gW (gW V 23 n k) 24 n (-1)) 8 19 (n + 1) = W at fb
  have w1 : ∀ a, a ≠ 8 → a ≠ 23 → a ≠ 24 → W a = V a := fun a q1 q2 q3 => by rw [← eW, gW_cell q1, gW_cell q3, gW_cell q2]
  have w2 : ∀ i, i ≠ 19 → W 8 i = σ 8 i := fun i q => by rw [← eW, gW_i q, gW_c (by decide), gW_c (by decide), v8]
  have w19 : W 8 19 = n + 1 := by rw [← eW, gW_at]
  have w23 : ∀ x, W 23 x = if x = n then k else σ 23 x := fun x => by rw [← eW, gW_c (by decide), gW_c (by decide), gW_if, b12 23 (by decide) (by decide)]
  have w24 : ∀ x, W 24 x = if x = n then -1 else σ 24 x := fun x => by rw [← eW, gW_c (by decide), gW_if, gW_c (by decide), b12 24 (by decide) (by decide)]
  clear eW
  obtain ⟨S, r1, ⟨r2, r3, r4, r5, r6, r7, r8, r9⟩, r10, r11⟩ := rootOf_c (σ := W) (g := n) (by rw [w2 31 (by decide)]; omega) (by omega)
  rw [w2 31 (by decide), C13] at r1 r2 r4 r5 r8 r9 r10 r11
  have sA : ∀ a, a ≠ 8 → (a < 23 ∨ 35 < a) → S a = V a := fun a q1 q2 => funext fun i => by rw [r6 a i q1 (by omega), w1 a q1 (by omega) (by omega)]
  have s23 : ∀ x, S 23 x = if x = n then k else σ 23 x := fun x => by rw [r6 23 x (by decide) (by decide), w23]
  have eS : ∀ x, cS S x = cS V x := fun x => cS_mv (sA 1 (by decide) (by decide)) (sA 2 (by decide) (by decide)) (sA 3 (by decide) (by decide))
  refine ⟨S, ?_, ⟨hI_same b3 fun a q => sA a (by omega) (by omega), ?_, ?_, ?_, fun x x0 x1 => ?_, fun f f0 f1 => ?_⟩, by rw [sA 0 (by decide) (by decide)]; omega, fun a q1 q2 => by rw [sA a (by omega) (by omega), b12 a (by omega) q2]⟩
  · rw [fr_plant_e, b1]
    simp only [Option.bind_some]
    rw [fr_function_e, b2]
    simp only [Option.bind_some]
    rw [fb]
    simp only [Option.bind_some]
    rw [r1]
    rfl
  · rw [sA 0 (by decide) (by decide), b13 9 (by decide) (by decide)]
    exact ⟨by omega, b8.1, by omega, C5⟩
  · rw [sA 0 (by decide) (by decide), b13 10 (by decide) (by decide), b13 11 (by decide) (by decide), b13 12 (by decide) (by decide), b13 13 (by decide) (by decide)]
    exact ⟨C6, C7, C8, C9⟩
  · rw [r3 12 (by decide), r3 16 (by decide), r3 19 (by decide), r2, w2 12 (by decide), w2 16 (by decide), w19]
    exact ⟨C10, C11, rfl, rfl⟩
  · rw [sA 0 (by decide) (by decide)] at x1
    rw [sA 4 (by decide) (by decide), sA 5 (by decide) (by decide)]
    by_cases z : x = k
    · rw [z]; exact ⟨d2, d3⟩
    · have v := b9 x (Or.inl (by omega))
      rw [v.2.1, v.2.2.1]
      exact C14 x x0 (by omega)
  · rw [eS, sA 3 (by decide) (by decide), s23]
    by_cases z : f = n
    · rw [z, if_pos rfl]
      rw [ek] at b5 b6
      exact ⟨⟨b5, b6⟩, ⟨ek, r4.2.1, r4.1, r10, r11⟩, ⟨r4.2.2.2.2.1, r4.2.2.2.2.2.1, r4.2.2.2.2.2.2⟩, r5⟩
    · obtain ⟨⟨q1, q2⟩, ⟨q3, q4, q5, q6, q7⟩, ⟨q8, q9, q10⟩, q11⟩ := C15 f f0 (by omega)
      have v := b9 f (Or.inl (by omega))
      have o : ∀ a, 25 ≤ a → a ≤ 34 → S a f = σ a f := fun a y1 y2 => by rw [r8 a f y1 y2 z, w1 a (by omega) (by omega) (by omega), b12 a (by omega) (by omega)]
      rw [if_neg z, v.1, v.2.2.2, r7 f z, w24, if_neg z, o 25 (by decide) (by decide), o 27 (by decide) (by decide), o 31 (by decide) (by decide), o 32 (by decide) (by decide), o 33 (by decide) (by decide), o 34 (by decide) (by decide)]
      exact ⟨⟨q1, q2⟩, ⟨q3, q4, q5, q6, q7⟩, ⟨q8, q9, q10⟩, fun l l0 l1 => by rw [r9 _ (by omega), w1 35 (by decide) (by decide) (by decide), b12 35 (by decide) (by decide)]; exact q11 l l0 l1⟩
/-- names of kinds: so many are there -/
def CK (x : Int) (σ : gM) : Prop := CB 4 σ ∧ σ 0 7 ≤ 4 + x ∧ ∀ k, 0 ≤ k → k < x → (0 ≤ σ 40 k ∧ σ 40 k < σ 0 7) ∧ cS σ (σ 40 k) = tx (kX k) ∧ σ 3 (σ 40 k) ≤ 12
theorem kinds_c : ∀ (d : Nat) (σ : gM) (x : Int), (∀ k, 0 ≤ k → k < 7 → σ 39 k = kX k) → 0 ≤ x → x + d = 7 → CK x σ → ∃ S, fr_clear_b53 σ x = some (S, 0) ∧ CK 7 S ∧ (∀ a, 35 < a → a ≠ 40 → a ≠ 41 → S a = σ a)
  | 0, σ, x, h39, x0, hx, C => by
    refine ⟨σ, ?_, by rw [show (7 : Int) = x by omega]; exact C, fun _ _ _ _ => rfl⟩
    rw [fr_clear_b53_e, if_neg (by omega)]
  | d + 1, σ, x, h39, x0, hx, C => by
    obtain ⟨C0, C1, C2⟩ := C
    have C0' := C0
    obtain ⟨B1, ⟨B2, B3, B4, B5⟩, B6, B7, B8, B9⟩ := C0'
    have bk : 0 ≤ kX x ∧ kX x < 13 := by unfold kX; split <;> (try split) <;> (try split) <;> (try split) <;> omega
    obtain ⟨U, V, k, b1, b2, b3, b4, b5, b6, b7, b8, b9, b10, b11, b12, b13⟩ := text_c (σ := σ) (s := kX x) bk B1 (by omega) (by omega)
    have x7 : 0 ≤ x ∧ x < 7 := by omega
    generalize eW : gW V 40 x k = W
    have w1 : ∀ a, a ≠ 40 → W a = V a := fun a q => by rw [← eW, gW_cell q]
    have w40 : ∀ j, W 40 j = if j = x then k else σ 40 j := fun j => by rw [← eW, gW_if, b12 40 (by decide) (by decide)]
    have wA : ∀ a, 5 < a → a ≠ 40 → a ≠ 41 → W a = σ a := fun a q1 q2 q3 => by rw [w1 a q2, b12 a q1 q3]
    have eS : ∀ y, cS W y = cS V y := fun y => cS_mv (w1 1 (by decide)) (w1 2 (by decide)) (w1 3 (by decide))
    have CW : CK (x + 1) W := by
      refine ⟨⟨hI_same b3 fun a q => w1 a (by omega), ?_, ?_, by rw [wA 8 (by decide) (by decide) (by decide)]; exact B7, fun y y0 y1 => ?_, fun f f0 f1 => ?_⟩, by rw [w1 0 (by decide)]; omega, fun j j0 j1 => ?_⟩
      · rw [w1 0 (by decide), b13 9 (by decide) (by decide)]
        exact ⟨by omega, b8.1, by omega, B5⟩
      · rw [w1 0 (by decide), b13 10 (by decide) (by decide), b13 11 (by decide) (by decide), b13 12 (by decide) (by decide), b13 13 (by decide) (by decide)]
        exact B6
      · rw [w1 0 (by decide)] at y1
        rw [w1 4 (by decide), w1 5 (by decide)]
        by_cases z : y < σ 0 7
        · have v := b9 y (Or.inl ⟨y0, z⟩)
          rw [v.2.1, v.2.2.1]
          exact B8 y y0 z
        · by_cases w : k = σ 0 7
          · have := b10 w
            rw [show y = k by omega]
            exact ⟨this.2.1, this.2.2⟩
          · have := b11 w
            omega
      · obtain ⟨⟨q1, q2⟩, q3, q4, q5⟩ := B9 f f0 f1
        have v := b9 f (Or.inl (by omega))
        rw [eS, v.1, w1 3 (by decide), v.2.2.2, wA 23 (by decide) (by decide) (by decide), wA 24 (by decide) (by decide) (by decide), wA 25 (by decide) (by decide) (by decide), wA 27 (by decide) (by decide) (by decide), wA 31 (by decide) (by decide) (by decide), wA 32 (by decide) (by decide) (by decide), wA 33 (by decide) (by decide) (by decide), wA 34 (by decide) (by decide) (by decide), wA 35 (by decide) (by decide) (by decide)]
        exact ⟨⟨q1, q2⟩, q3, q4, q5⟩
      · rw [w40, w1 0 (by decide), eS, w1 3 (by decide)]
        by_cases z : j = x
        · rw [if_pos z, z]
          exact ⟨b4, b5, b6⟩
        · rw [if_neg z]
          obtain ⟨q1, q2, q3⟩ := C2 j j0 (by omega)
          have v := b9 (σ 40 j) (Or.inl q1)
          rw [v.1, v.2.2.2]
          exact ⟨by omega, q2, q3⟩
    obtain ⟨S, s1, s2, s3⟩ := kinds_c d W (x + 1) (by rw [wA 39 (by decide) (by decide) (by decide)]; exact h39) (by omega) (by omega) CW
    refine ⟨S, ?_, s2, fun a q1 q2 q3 => by rw [s3 a q1 q2 q3, wA a (by omega) q2 q3]⟩
    rw [fr_clear_b53_e, if_pos (by omega), if_pos x7, h39 x x0 x7.2, fr_text_e, b1]
    simp only [Option.bind_some]
    rw [b2]
    simp only [Option.bind_some]
    rw [if_pos x7, eW, w32_e (x := x + 1) (by omega) (by omega)]
    exact s1
/-- an empty program -/
theorem clear_c (h39 : ∀ k, 0 ≤ k → k < 7 → σ 39 k = kX k) : ∃ S, fr_clear σ = some (S, 0) ∧ CK 7 S ∧ (∀ a, 35 < a → a ≠ 40 → a ≠ 41 → S a = σ a) := by
  generalize eA : gW (gW (gW (gW (gW (gW (gW (gW (gW (gW (gW σ 0 7 0) 0 8 0) 0 9 0) 0 10 8000) 0 11 24000) 0 12 8000) 0 13 0) 8 12 0) 8 16 0) 8 19 0) 8 31 0 = A
  have a1 : ∀ a, a ≠ 0 → a ≠ 8 → A a = σ a := fun a q1 q2 => by rw [← eA, gW_cell q2, gW_cell q2, gW_cell q2, gW_cell q2, gW_cell q1, gW_cell q1, gW_cell q1, gW_cell q1, gW_cell q1, gW_cell q1, gW_cell q1]
  have a0 : A 0 7 = 0 ∧ A 0 8 = 0 ∧ A 0 9 = 0 ∧ A 0 10 = 8000 ∧ A 0 11 = 24000 ∧ A 0 12 = 8000 ∧ A 0 13 = 0 := by
    rw [← eA]
    simp [gW]
  have a8 : A 8 12 = 0 ∧ A 8 16 = 0 ∧ A 8 19 = 0 ∧ A 8 31 = 0 := by
    rw [← eA]
    simp [gW]
  have C0 : CB 0 A := by
    obtain ⟨z1, z2, z3, z4, z5, z6, z7⟩ := a0
    refine ⟨⟨by omega, by omega, fun s q1 q2 => by omega, fun s t q1 q2 => by omega, by omega, fun s q1 q2 => by omega⟩, by omega, ⟨z4, z5, z6, z7⟩, a8, fun x q1 q2 => by omega, fun f q1 q2 => by omega⟩
  obtain ⟨S1, e1, C1, n1, k1⟩ := plant_c (n := 0) (by decide) C0 a0.1
  obtain ⟨S2, e2, C2, n2, k2⟩ := plant_c (n := 0 + 1) (by decide) C1 n1
  obtain ⟨S3, e3, C3, n3, k3⟩ := plant_c (n := 0 + 1 + 1) (by decide) C2 n2
  obtain ⟨S4, e4, C4, n4, k4⟩ := plant_c (n := 0 + 1 + 1 + 1) (by decide) C3 n3
  have kk : ∀ a, 35 < a → a ≠ 41 → S4 a = σ a := fun a q1 q2 => by rw [k4 a q1 q2, k3 a q1 q2, k2 a q1 q2, k1 a q1 q2, a1 a (by omega) (by omega)]
  obtain ⟨S, s1, s2, s3⟩ := kinds_c 7 S4 0 (by rw [kk 39 (by decide) (by decide)]; exact h39) (by decide) (by decide) ⟨C4, by omega, fun k q1 q2 => by omega⟩
  refine ⟨S, ?_, s2, fun a q1 q2 q3 => by rw [s3 a q1 q2 q3, kk a q1 q3]⟩
  rw [fr_clear_e, hp_clear_e, hp_begin_e]
  simp only [Option.bind_some]
  rw [eA]
  have e1' : fr_plant A 1 = some (S1, 0) := e1
  have e2' : fr_plant S1 2 = some (S2, 0) := e2
  have e3' : fr_plant S2 3 = some (S3, 0) := e3
  have e4' : fr_plant S3 4 = some (S4, 0) := e4
  rw [e1']
  simp only [Option.bind_some]
  rw [e2']
  simp only [Option.bind_some]
  rw [e3']
  simp only [Option.bind_some]
  rw [e4']
  simp only [Option.bind_some]
  exact s1
end CBS
