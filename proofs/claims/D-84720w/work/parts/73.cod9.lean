/-! a code is made: both sides -/
/-- guards of units from one on -/
def gU (S : gM) (f u : Int) : Nat → Int
  | 0 => 0
  | d + 1 => gN' S (S 26 (S 62 (f + u))) (S 27 (S 62 (f + u))).toNat + gU S f (u + 1) d
theorem gN_congr {S S' : gM} (h : ∀ x, gd S' x = gd S x) : ∀ (d : Nat) (a : Int), gN' S' a d = gN' S a d
  | 0, _ => rfl
  | d + 1, a => by
    show gd S' a + gN' S' (a + 1) d = gd S a + gN' S (a + 1) d
    rw [h, gN_congr h d]
theorem gU_congr {S S' : gM} {f : Int} (h : ∀ x, gd S' x = gd S x) (h26 : S' 26 = S 26) (h27 : S' 27 = S 27) : ∀ (d : Nat) (u : Int), (∀ v, u ≤ v → v < u + d → S' 62 (f + v) = S 62 (f + v)) → gU S' f u d = gU S f u d
  | 0, _, _ => rfl
  | d + 1, u, h62 => by
    show gN' S' (S' 26 (S' 62 (f + u))) (S' 27 (S' 62 (f + u))).toNat + gU S' f (u + 1) d = gN' S (S 26 (S 62 (f + u))) (S 27 (S 62 (f + u))).toNat + gU S f (u + 1) d
    rw [h26, h27, h62 u (by omega) (by omega), gN_congr h, gU_congr h h26 h27 d (u + 1) (fun v a b => h62 v (by omega) (by omega))]
theorem mkF.gd {S S' : gM} (f : mkF S S') (x : Int) : gd S' x = gd S x := gd_congr (f.1 9 (by decide) (by decide) (by decide) (by decide) (by decide) (by decide)) (f.1 11 (by decide) (by decide) (by decide) (by decide) (by decide) (by decide)) (f.1 15 (by decide) (by decide) (by decide) (by decide) (by decide) (by decide)) (f.1 16 (by decide) (by decide) (by decide) (by decide) (by decide) (by decide)) (f.1 18 (by decide) (by decide) (by decide) (by decide) (by decide) (by decide))
section MK
variable {c x1 : Int}
/-- what the search for units leaves as it was -/
def mkK (S T S' T' : gM) (c m : Int) : Prop := (∀ i, i ≠ c → S' 55 i = S 55 i ∧ S' 56 i = S 56 i ∧ T' 197 i = T 197 i ∧ T' 198 i = T 198 i ∧ T' 199 i = T 199 i) ∧ (∀ i, i < S 54 c + m → S' 62 i = S 62 i ∧ S' 63 i = S 63 i ∧ S' 64 i = S 64 i) ∧ (∀ i, i < 152 * c + m → T' 204 i = T 204 i ∧ T' 205 i = T 205 i ∧ T' 206 i = T 206 i)
theorem cd_make_b107_s (hx : 0 ≤ x1 ∧ x1 < 60) : ∀ (d : Nat) (S T : gM) (m u : Int), mkB S T → mkU S T c m → 0 ≤ u → u ≤ m → u + d = 151 → m ≤ 1 + uSum S (S 54 c) u.toNat → (0 ≤ T 199 c ∧ T 199 c ≤ 3 * uSum S (S 54 c) u.toNat) → (0 ≤ T 165 x1 ∧ T 165 x1 ≤ 1000) →
    ∃ S' T' m', cd_make_b107 S c u = cd_make_b138 (gW S' 57 c 0) c 0 ∧ md_makeCode_b82 T x1 c u = some (gW (gW T' 164 x1 c) 165 x1 (T 165 x1 + 1), c) ∧ mkB S' T' ∧ mkU S' T' c m' ∧ (m ≤ m' ∧ u ≤ m') ∧ mkF S S' ∧ mkG T T' ∧ T' 199 c = T 199 c + gU S' (S' 54 c) u (m' - u).toNat ∧ mkK S T S' T' c m := by
  have fin : ∀ (S T : gM) (m : Int), mkB S T → mkU S T c m → (0 ≤ T 165 x1 ∧ T 165 x1 ≤ 1000) → cd_make_b107 S c m = cd_make_b138 (gW S 57 c 0) c 0 ∧ md_makeCode_b82 T x1 c m = some (gW (gW T 164 x1 c) 165 x1 (T 165 x1 + 1), c) := fun S T m hB hU h165 => by
    obtain ⟨h1, h2, h3, h4, h5, h6, h7, h8, hp, h10, h11⟩ := hU
    constructor
    · rw [cd_make_b107_e, if_pos h1, h4, if_neg (by omega), if_pos h1]
    · rw [md_makeCode_b82_e, if_pos h1, h5, if_neg (by omega), if_pos hx, if_pos hx, if_pos hx, w32_e (by omega) (by omega)]
  intro d
  induction d with
  | zero =>
    intro S T m u hB hU u0 um hd hm hg h165
    have : u = m := by have := hU.2.2.1; omega
    subst this
    obtain ⟨f1, f2⟩ := fin S T u hB hU h165
    exact ⟨S, T, u, f1, f2, hB, hU, by omega, ⟨fun _ _ _ _ _ _ _ => rfl, fun _ _ => rfl⟩, fun _ _ _ _ _ _ _ _ => rfl, by rw [show (u - u).toNat = 0 by omega]; show _ = _ + 0; omega, fun _ _ => ⟨rfl, rfl, rfl, rfl, rfl⟩, fun _ _ => ⟨rfl, rfl, rfl⟩, fun _ _ => ⟨rfl, rfl, rfl⟩⟩
  | succ d ih =>
    intro S T m u hB hU u0 um hd hm hg h165
    by_cases e : u = m
    · subst e
      obtain ⟨f1, f2⟩ := fin S T u hB hU h165
      exact ⟨S, T, u, f1, f2, hB, hU, by omega, ⟨fun _ _ _ _ _ _ _ => rfl, fun _ _ => rfl⟩, fun _ _ _ _ _ _ _ _ => rfl, by rw [show (u - u).toNat = 0 by omega]; show _ = _ + 0; omega, fun _ _ => ⟨rfl, rfl, rfl, rfl, rfl⟩, fun _ _ => ⟨rfl, rfl, rfl⟩, fun _ _ => ⟨rfl, rfl, rfl⟩⟩
    · have hU' := hU
      obtain ⟨h1, h2, h3, h4, h5, h6, h7, h8, hp, h10, h11⟩ := hU
      have gu := h11 u u0 (by omega)
      have gu' := gu
      unfold mkV at gu
      have gr := hB.2.1.2.1 _ gu.1.2.1 gu.1.2.2
      have g60 := hB.1.1
      have b60 : 0 ≤ S 62 (S 54 c + u) ∧ S 62 (S 54 c + u) < 60 := by omega
      have bu : 0 ≤ S 54 c + u ∧ S 54 c + u < 16000 := by omega
      have b3 : 0 ≤ 152 * c + u ∧ 152 * c + u < 15200 := by omega
      obtain ⟨S', T', m', i1, i2, i3, i4, i5, i6, i7, i8, i9, i10, i11, i12, i13⟩ := cd_inlines_b58_s (x1 := x1) (u := u) (r := S 62 (S 54 c + u)) (dp := T 207 (152 * c + u) + 1) (S 27 (S 62 (S 54 c + u))).toNat S T m (S 26 (S 62 (S 54 c + u))) hB hU' ⟨u0, by omega⟩ rfl rfl (Int.le_refl _) (by omega) (by omega) (by omega)
      have k165 : T' 165 = T 165 := i7 165 (by decide) (by decide) (by decide) (by decide) (by decide) (by decide) (by decide)
      have k54 : S' 54 = S 54 := i6.1 54 (by decide) (by decide) (by decide) (by decide) (by decide) (by decide)
      have k26 : S' 26 = S 26 := i6.1 26 (by decide) (by decide) (by decide) (by decide) (by decide) (by decide)
      have k27 : S' 27 = S 27 := i6.1 27 (by decide) (by decide) (by decide) (by decide) (by decide) (by decide)
      obtain ⟨S2, T2, m2, j1, j2, j3, j4, j5, j6, j7, j8, j9, j10, j11⟩ := ih S' T' m' (u + 1) i3 i4 (by omega) (by omega) (by omega) (by rw [show (u + 1).toNat = u.toNat + 1 by omega]; exact i8) (by rw [show (u + 1).toNat = u.toNat + 1 by omega]; exact i9) (by rw [k165]; exact h165)
      have l54 : S2 54 = S' 54 := j6.1 54 (by decide) (by decide) (by decide) (by decide) (by decide) (by decide)
      have l26 : S2 26 = S' 26 := j6.1 26 (by decide) (by decide) (by decide) (by decide) (by decide) (by decide)
      have l27 : S2 27 = S' 27 := j6.1 27 (by decide) (by decide) (by decide) (by decide) (by decide) (by decide)
      have e62 : S2 62 (S 54 c + u) = S 62 (S 54 c + u) := by rw [(j10 (S 54 c + u) (by rw [k54]; omega)).1, (i12 (S 54 c + u) (by omega)).1]
      refine ⟨S2, T2, m2, ?_, ?_, j3, j4, by omega, i6.tr j6, i7.tr j7, ?_, ⟨fun i q => ?_, fun i q => ?_, fun i q => ?_⟩⟩
      · rw [cd_make_b107_e, if_pos h1, h4, if_pos (by omega), cd_inlines_e, if_pos h1, w32_e (x := S 54 c + u) (by omega) (by omega), if_pos bu, deep_s hU' b60 200 u 0 (by omega) (by omega) (by omega) (by omega) (by omega), if_neg (by omega), show (0 : Int) + T 207 (152 * c + u) + 1 = T 207 (152 * c + u) + 1 by omega, i1]
        simp only [Option.bind_some]
        rw [w32_e (x := u + 1) (by omega) (by omega), j1]
      · rw [md_makeCode_b82_e, if_pos h1, h5, if_pos (by omega), md_unit_s (by omega)]
        simp only [Option.bind_some, b3, and_self, if_true]
        rw [gu.1.1, if_pos b60, gr.1, i2, j2, k165]
      · rw [j8, i10]
        have : (m2 - u).toNat = (m2 - (u + 1)).toNat + 1 := by omega
        rw [this]
        show _ = T 199 c + (gN' S2 (S2 26 (S2 62 (S2 54 c + u))) (S2 27 (S2 62 (S2 54 c + u))).toNat + gU S2 (S2 54 c) (u + 1) (m2 - (u + 1)).toNat)
        rw [show S2 54 c = S 54 c by rw [l54, k54], e62, l26, k26, l27, k27, gN_congr (fun x => (i6.tr j6).gd x)]
        omega
      · have a := i11 i q
        have b := j9 i q
        exact ⟨b.1.trans a.1, b.2.1.trans a.2.1, b.2.2.1.trans a.2.2.1, b.2.2.2.1.trans a.2.2.2.1, b.2.2.2.2.trans a.2.2.2.2⟩
      · have a := i12 i q
        have b := j10 i (by rw [k54]; omega)
        exact ⟨b.1.trans a.1, b.2.1.trans a.2.1, b.2.2.trans a.2.2⟩
      · have a := i13 i q
        have b := j11 i (by omega)
        exact ⟨b.1.trans a.1, b.2.1.trans a.2.1, b.2.2.trans a.2.2⟩
/-- lengths of the first units' instructions -/
def lSum (S : gM) (f : Int) : Nat → Int
  | 0 => 0
  | n + 1 => lSum S f n + S 29 (S 62 (f + n))
def laM (Y X : gM) (c u : Int) : Prop := (∀ a, a ≠ 20 → a ≠ 21 → a ≠ 22 → a ≠ 52 → a ≠ 57 → a ≠ 65 → a ≠ 66 → X a = Y a) ∧ (∀ i, i ≠ 12 → X 52 i = Y 52 i) ∧ (∀ i, i ≠ c → X 57 i = Y 57 i) ∧ (∀ i, i < 64000 + Y 52 12 → X 20 i = Y 20 i ∧ X 21 i = Y 21 i ∧ X 22 i = Y 22 i) ∧ (∀ i, i < Y 52 12 → X 66 i = Y 66 i) ∧ (∀ i, i < Y 54 c ∨ Y 54 c + u ≤ i → X 65 i = Y 65 i) ∧ X 52 12 = Y 52 12 + lSum Y (Y 54 c) u.toNat ∧
  ∀ v, 0 ≤ v → v < u → (64000 + Y 52 12 ≤ X 65 (Y 54 c + v) ∧ X 65 (Y 54 c + v) + Y 29 (Y 62 (Y 54 c + v)) ≤ 64000 + X 52 12) ∧ ∀ j, 0 ≤ j → j < Y 29 (Y 62 (Y 54 c + v)) → cp1 Y X (X 65 (Y 54 c + v)) (Y 62 (Y 54 c + v)) j
theorem rIn_la {Y X : gM} {u : Int} (h : rIn Y) (I : laM Y X c u) (h0 : 0 ≤ Y 52 12) : rIn X := by
  have c8 := I.1 8 (by decide) (by decide) (by decide) (by decide) (by decide) (by decide) (by decide)
  have c26 := I.1 26 (by decide) (by decide) (by decide) (by decide) (by decide) (by decide) (by decide)
  have c27 := I.1 27 (by decide) (by decide) (by decide) (by decide) (by decide) (by decide) (by decide)
  have c28 := I.1 28 (by decide) (by decide) (by decide) (by decide) (by decide) (by decide) (by decide)
  have c29 := I.1 29 (by decide) (by decide) (by decide) (by decide) (by decide) (by decide) (by decide)
  unfold rIn
  rw [c8, c26, c27, c28, c29]
  refine ⟨h.1, fun r a b => ?_⟩
  obtain ⟨g1, g2, g3, g4⟩ := h.2 r a b
  refine ⟨g1, g2, g3, fun p p0 p1 => ?_⟩
  have := h.1
  have e := I.2.2.2.1 p (by omega)
  rw [e.1, e.2.1, e.2.2]
  exact g4 p p0 p1
/-- units' instructions are laid, their guards counted -/
theorem cd_make_b138_s {Y T : gM} {m : Int} (hI : rIn Y) (hN : rNd Y T) (hC : rCs Y T) (h60 : Y 8 31 ≤ 60) (hc : 0 ≤ c ∧ c < 100) (h55 : Y 55 c = m) (hm : 0 ≤ m ∧ m ≤ 151) (hf : 0 ≤ Y 54 c ∧ Y 54 c + 152 ≤ 16000) (hr : ∀ v, 0 ≤ v → v < m → 4 ≤ Y 62 (Y 54 c + v) ∧ Y 62 (Y 54 c + v) < Y 8 31) (h12 : 0 ≤ Y 52 12) (hl : ∀ n : Nat, (n : Int) ≤ m → Y 52 12 + lSum Y (Y 54 c) n ≤ 100000 ∧ 0 ≤ lSum Y (Y 54 c) n) :
    ∀ (d : Nat) (X : gM) (u : Int), 0 ≤ u → u + d = m → laM Y X c u → (0 ≤ X 57 c ∧ X 57 c ≤ 1000 * u) → ∃ S', cd_make_b138 X c u = some (S', 0) ∧ laM Y S' c m ∧ S' 57 c = X 57 c + gU Y (Y 54 c) u d
  | 0, X, u, u0, hu, I, hg => by
    have e : u = m := by omega
    subst e
    rw [cd_make_b138_e, if_pos hc, I.1 55 (by decide) (by decide) (by decide) (by decide) (by decide) (by decide) (by decide), h55, if_neg (by omega)]
    exact ⟨X, rfl, I, by show _ = _ + 0; omega⟩
  | d + 1, X, u, u0, hu, I, hg => by
    have I' := I
    obtain ⟨i1, i2, i3, i4, i5, i6, i7, i8⟩ := I
    have hru := hr u u0 (by omega)
    have c54 := i1 54 (by decide) (by decide) (by decide) (by decide) (by decide) (by decide) (by decide)
    have c55 := i1 55 (by decide) (by decide) (by decide) (by decide) (by decide) (by decide) (by decide)
    have c62 := i1 62 (by decide) (by decide) (by decide) (by decide) (by decide) (by decide) (by decide)
    have c8 := i1 8 (by decide) (by decide) (by decide) (by decide) (by decide) (by decide) (by decide)
    have c26 := i1 26 (by decide) (by decide) (by decide) (by decide) (by decide) (by decide) (by decide)
    have c27 := i1 27 (by decide) (by decide) (by decide) (by decide) (by decide) (by decide) (by decide)
    have c28 := i1 28 (by decide) (by decide) (by decide) (by decide) (by decide) (by decide) (by decide)
    have c29 := i1 29 (by decide) (by decide) (by decide) (by decide) (by decide) (by decide) (by decide)
    have hX := rIn_la hI I' h12
    have gr := hN.2.1 (Y 62 (Y 54 c + u)) hru.1 hru.2
    have hh := hN.1
    have gi := hI.2 (Y 62 (Y 54 c + u)) hru.1 hru.2
    have l1 := hl (u.toNat + 1) (by omega)
    have lE : lSum Y (Y 54 c) (u.toNat + 1) = lSum Y (Y 54 c) u.toNat + Y 29 (Y 62 (Y 54 c + u)) := by
      show lSum Y (Y 54 c) u.toNat + Y 29 (Y 62 (Y 54 c + (u.toNat : Int))) = _
      rw [show (u.toNat : Int) = u by omega]
    have bu : 0 ≤ Y 54 c + u ∧ Y 54 c + u < 16000 := by omega
    have l0 := hl u.toNat (by omega)
    obtain ⟨L, a1, a2⟩ := cd_lays_s (S := X) (U := Y 54 c + u) (r := Y 62 (Y 54 c + u)) hX (by rw [c8]; exact h60) (by rw [c26, c27]; omega) (by rw [c27]; omega) bu (by rw [c8]; exact hru) (by rw [c62]) (by rw [c29, i7]; omega)
    rw [c29] at a2
    obtain ⟨b1, b2, b3, b4, b5, b6⟩ := a2
    have w1 : ∀ a, a ≠ 65 → gW X 65 (Y 54 c + u) (64000 + X 52 12) a = X a := fun a q => gW_cell q
    rw [w1 52 (by decide)] at b1 b2 b4 b5 b6
    rw [w1 20 (by decide), w1 21 (by decide), w1 22 (by decide)] at b4
    rw [w1 66 (by decide)] at b5
    have lo : ∀ a, a ≠ 20 → a ≠ 21 → a ≠ 22 → a ≠ 52 → a ≠ 65 → a ≠ 66 → L a = X a := fun a q1 q2 q3 q4 q5 q6 => by rw [b3 a q1 q2 q3 q4 q6, w1 a q5]
    have l65 : ∀ i, L 65 i = if i = Y 54 c + u then 64000 + X 52 12 else X 65 i := fun i => by rw [b3 65 (by decide) (by decide) (by decide) (by decide) (by decide), gW_if]
    -- behind the laying
    have IL : laM Y L c (u + 1) := by
      refine ⟨fun a q1 q2 q3 q4 q5 q6 q7 => by rw [lo a q1 q2 q3 q4 q6 q7, i1 a q1 q2 q3 q4 q5 q6 q7], fun i q => by rw [b2 i q, i2 i q], fun i q => by rw [lo 57 (by decide) (by decide) (by decide) (by decide) (by decide) (by decide), i3 i q], fun i q => ?_, fun i q => by rw [b5 i (by omega), i5 i q], fun i q => by rw [l65, if_neg (by omega), i6 i (by omega)], by rw [b1, i7, show (u + 1).toNat = u.toNat + 1 by omega, lE]; omega, fun v v0 vu => ?_⟩
      · have x := b4 i (by omega)
        have y := i4 i q
        exact ⟨x.1.trans y.1, x.2.1.trans y.2.1, x.2.2.trans y.2.2⟩
      · rw [l65]
        by_cases z : v = u
        · subst z
          rw [if_pos rfl]
          refine ⟨by omega, fun j j0 j1 => ?_⟩
          have := b6 j j0 j1
          unfold cp1 opF at this ⊢
          rw [w1 28 (by decide), w1 22 (by decide), w1 20 (by decide), w1 21 (by decide), w1 11 (by decide), w1 9 (by decide), c28] at this
          have e := i4 (Y 28 (Y 62 (Y 54 c + v)) + j) (by have := hI.1; omega)
          rw [e.1, e.2.1, e.2.2, i1 11 (by decide) (by decide) (by decide) (by decide) (by decide) (by decide) (by decide), i1 9 (by decide) (by decide) (by decide) (by decide) (by decide) (by decide) (by decide)] at this
          exact this
        · rw [if_neg (by omega)]
          have g := i8 v v0 (by omega)
          refine ⟨by omega, fun j j0 j1 => ?_⟩
          have k := g.2 j j0 j1
          unfold cp1 at k ⊢
          have e := b4 (X 65 (Y 54 c + v) + j) (by omega)
          rw [e.1, e.2.1, e.2.2, b5 _ (by omega)]
          exact k
    -- guards
    have gl : ∀ (d : Nat) (k : Int) (Z : gM), 0 ≤ k → k + d = Y 27 (Y 62 (Y 54 c + u)) → (∀ a, a ≠ 57 → Z a = L a) → (∀ i, i ≠ c → Z 57 i = L 57 i) → (0 ≤ Z 57 c ∧ Z 57 c ≤ 1000 * u + 3 * k) →
        cd_make_b163 Z c u k = cd_make_b138 (gW Z 57 c (Z 57 c + gN' Y (Y 26 (Y 62 (Y 54 c + u)) + k) d)) c (u + 1) := fun d => by
      induction d with
      | zero =>
        intro k Z k0 hk hz hz2 hg
        have e : k = Y 27 (Y 62 (Y 54 c + u)) := by omega
        have z54 : Z 54 = Y 54 := by rw [hz 54 (by decide), lo 54 (by decide) (by decide) (by decide) (by decide) (by decide) (by decide), c54]
        have z62 : Z 62 = Y 62 := by rw [hz 62 (by decide), lo 62 (by decide) (by decide) (by decide) (by decide) (by decide) (by decide), c62]
        have z27 : Z 27 = Y 27 := by rw [hz 27 (by decide), lo 27 (by decide) (by decide) (by decide) (by decide) (by decide) (by decide), c27]
        have b60 : 0 ≤ Y 62 (Y 54 c + u) ∧ Y 62 (Y 54 c + u) < 60 := by omega
        rw [cd_make_b163_e, if_pos hc, z54, w32_e (x := Y 54 c + u) (by omega) (by omega), if_pos bu, z62, if_pos b60, z27, if_neg (by omega), w32_e (x := u + 1) (by omega) (by omega)]
        show _ = cd_make_b138 (gW Z 57 c (Z 57 c + 0)) c (u + 1)
        rw [Int.add_zero, gW_nop rfl]
      | succ d ih =>
        intro k Z k0 hk hz hz2 hg
        have z54 : Z 54 = Y 54 := by rw [hz 54 (by decide), lo 54 (by decide) (by decide) (by decide) (by decide) (by decide) (by decide), c54]
        have z62 : Z 62 = Y 62 := by rw [hz 62 (by decide), lo 62 (by decide) (by decide) (by decide) (by decide) (by decide) (by decide), c62]
        have z27 : Z 27 = Y 27 := by rw [hz 27 (by decide), lo 27 (by decide) (by decide) (by decide) (by decide) (by decide) (by decide), c27]
        have z26 : Z 26 = Y 26 := by rw [hz 26 (by decide), lo 26 (by decide) (by decide) (by decide) (by decide) (by decide) (by decide), c26]
        have zo : ∀ a, a ≠ 20 → a ≠ 21 → a ≠ 22 → a ≠ 52 → a ≠ 57 → a ≠ 65 → a ≠ 66 → Z a = Y a := fun a q1 q2 q3 q4 q5 q6 q7 => by rw [hz a q5, lo a q1 q2 q3 q4 q6 q7, i1 a q1 q2 q3 q4 q5 q6 q7]
        have b60 : 0 ≤ Y 62 (Y 54 c + u) ∧ Y 62 (Y 54 c + u) < 60 := by omega
        have hNZ : rNd Z T := hN.mv (by rw [zo 8 (by decide) (by decide) (by decide) (by decide) (by decide) (by decide) (by decide)]) (by rw [zo 8 (by decide) (by decide) (by decide) (by decide) (by decide) (by decide) (by decide)]) (zo 42 (by decide) (by decide) (by decide) (by decide) (by decide) (by decide) (by decide)) (fun a q => zo a (by omega) (by omega) (by omega) (by omega) (by omega) (by omega) (by omega)) rfl (fun _ _ => rfl)
        have hCZ : rCs Z T := hC.mv (by rw [zo 8 (by decide) (by decide) (by decide) (by decide) (by decide) (by decide) (by decide)]) (fun a q => zo a (by omega) (by omega) (by omega) (by omega) (by omega) (by omega) (by omega)) (fun _ _ => rfl)
        have z8 := zo 8 (by decide) (by decide) (by decide) (by decide) (by decide) (by decide) (by decide)
        have gg := (cd_guardsOf_s hNZ hCZ (n := Y 26 (Y 62 (Y 54 c + u)) + k) (by omega) (by rw [z8]; omega)).1
        have gz : gd Z (Y 26 (Y 62 (Y 54 c + u)) + k) = gd Y (Y 26 (Y 62 (Y 54 c + u)) + k) := gd_congr (zo 9 (by decide) (by decide) (by decide) (by decide) (by decide) (by decide) (by decide)) (zo 11 (by decide) (by decide) (by decide) (by decide) (by decide) (by decide) (by decide)) (zo 15 (by decide) (by decide) (by decide) (by decide) (by decide) (by decide) (by decide)) (zo 16 (by decide) (by decide) (by decide) (by decide) (by decide) (by decide) (by decide)) (zo 18 (by decide) (by decide) (by decide) (by decide) (by decide) (by decide) (by decide))
        have g3 := gd_r (σ := Y) (n := Y 26 (Y 62 (Y 54 c + u)) + k) (hN.2.2 _ (by omega) (by omega)).2.2.2.2.2.1.2.2
        rw [gz] at gg
        rw [cd_make_b163_e, if_pos hc, z54, w32_e (x := Y 54 c + u) (by omega) (by omega), if_pos bu, z62, if_pos b60, z27, if_pos (by omega), if_pos hc, if_pos hc, if_pos bu, if_pos b60, z26, w32_e (x := Y 26 (Y 62 (Y 54 c + u)) + k) (by omega) (by omega), gg]
        simp only [Option.bind_some]
        rw [if_pos hc, w32_e (x := Z 57 c + gd Y (Y 26 (Y 62 (Y 54 c + u)) + k)) (by omega) (by omega), w32_e (x := k + 1) (by omega) (by omega)]
        rw [ih (k + 1) _ (by omega) (by omega) (fun a q => by rw [gW_cell q, hz a q]) (fun i q => by rw [gW_i q, hz2 i q]) (by rw [gW_at]; omega), gW_2, gW_at]
        show _ = cd_make_b138 (gW Z 57 c (Z 57 c + (gd Y (Y 26 (Y 62 (Y 54 c + u)) + k) + gN' Y (Y 26 (Y 62 (Y 54 c + u)) + k + 1) d))) c (u + 1)
        rw [show Y 26 (Y 62 (Y 54 c + u)) + (k + 1) = Y 26 (Y 62 (Y 54 c + u)) + k + 1 by omega, show Z 57 c + gd Y (Y 26 (Y 62 (Y 54 c + u)) + k) + gN' Y (Y 26 (Y 62 (Y 54 c + u)) + k + 1) d = Z 57 c + (gd Y (Y 26 (Y 62 (Y 54 c + u)) + k) + gN' Y (Y 26 (Y 62 (Y 54 c + u)) + k + 1) d) by omega]
    have l57 : L 57 = X 57 := lo 57 (by decide) (by decide) (by decide) (by decide) (by decide) (by decide)
    have g := gl (Y 27 (Y 62 (Y 54 c + u))).toNat 0 L (by omega) (by omega) (fun _ _ => rfl) (fun _ _ => rfl) (by rw [l57]; omega)
    rw [l57, Int.add_zero] at g
    -- how many they are at most
    have gb : ∀ (d : Nat) (a : Int), 0 ≤ a → a + d ≤ Y 8 12 → 0 ≤ gN' Y a d ∧ gN' Y a d ≤ 3 * d := fun d => by
      induction d with
      | zero => intro a _ _; exact ⟨Int.le_refl _, Int.le_refl _⟩
      | succ d ih =>
        intro a a0 ad
        have := ih (a + 1) (by omega) (by omega)
        have g3 := gd_r (σ := Y) (n := a) (hN.2.2 a (by omega) (by omega)).2.2.2.2.2.1.2.2
        show 0 ≤ gd Y a + gN' Y (a + 1) d ∧ gd Y a + gN' Y (a + 1) d ≤ _
        omega
    have gb1 := gb (Y 27 (Y 62 (Y 54 c + u))).toNat (Y 26 (Y 62 (Y 54 c + u))) (by omega) (by omega)
    have IL2 : laM Y (gW L 57 c (X 57 c + gN' Y (Y 26 (Y 62 (Y 54 c + u))) (Y 27 (Y 62 (Y 54 c + u))).toNat)) c (u + 1) := by
      obtain ⟨o1, o2, o3, o4, o5, o6, o7, o8⟩ := IL
      have w2 : ∀ a, a ≠ 57 → gW L 57 c (X 57 c + gN' Y (Y 26 (Y 62 (Y 54 c + u))) (Y 27 (Y 62 (Y 54 c + u))).toNat) a = L a := fun a q => gW_cell q
      unfold laM cp1
      rw [w2 52 (by decide), w2 20 (by decide), w2 21 (by decide), w2 22 (by decide), w2 66 (by decide), w2 65 (by decide)]
      exact ⟨fun a q1 q2 q3 q4 q5 q6 q7 => by rw [w2 a q5]; exact o1 a q1 q2 q3 q4 q5 q6 q7, o2, fun i q => by rw [gW_i q]; exact o3 i q, o4, o5, o6, o7, o8⟩
    obtain ⟨S', s1, s2, s3⟩ := cd_make_b138_s hI hN hC h60 hc h55 hm hf hr h12 hl d _ (u + 1) (by omega) (by omega) IL2 (by rw [gW_at]; omega)
    refine ⟨S', ?_, s2, ?_⟩
    · rw [cd_make_b138_e, if_pos hc, c55, h55, if_pos (by omega), if_pos hc, c54, w32_e (x := Y 54 c + u) (by omega) (by omega), a1]
      simp only [Option.bind_some]
      rw [g, s1]
    · rw [s3, gW_at]
      show _ = _ + (gN' Y (Y 26 (Y 62 (Y 54 c + u))) (Y 27 (Y 62 (Y 54 c + u))).toNat + gU Y (Y 54 c) (u + 1) d)
      omega
end MK
