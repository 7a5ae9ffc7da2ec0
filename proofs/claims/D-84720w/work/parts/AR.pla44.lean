/-! a function is defined: what rests on it ends -/
/-- each root's function has a newest root -/
def rRp (σ : gM) : Prop := ∀ r, 0 ≤ r → r < σ 8 31 → 0 ≤ σ 24 (σ 25 r)
section SL
variable {σ τ Z W X : gM} {f b fn g w : Int}
theorem dno_b27 (hb : rBk Z X) (h : rNd Z X) {c : Int} (h0 : 0 ≤ c) (hc : c < Z 52 10) (hu : ∀ u, 0 ≤ u → u < Z 55 c → Z 25 (Z 62 (Z 54 c + u)) ≠ f ∧ ¬ hasF Z f (Z 62 (Z 54 c + u)) (Z 26 (Z 62 (Z 54 c + u)))) : ∀ (d : Nat) (u : Int), 0 ≤ u → u + d = Z 55 c → cd_defined_b27 Z f c 0 u = cd_defined_b102 Z f c 0
  | 0, u, u0, hd => by
    have b1 : 0 ≤ c ∧ c < 100 := by have := hb.2.1; omega
    rw [cd_defined_b27_e]
    simp only [b1, and_self, if_true]
    rw [if_neg (by omega)]
  | d + 1, u, u0, hd => by
    have gg := hb.2.2.2 c h0 hc
    have b1 : 0 ≤ c ∧ c < 100 := by have := hb.2.1; omega
    have gu := gg.2.2.2.2.2.2.2.2.2 u u0 (by omega)
    have hlt : u < Z 55 c := by omega
    have bb := gg.2.2.2.2.2.2.2.2.1
    have h60 : Z 8 31 ≤ 60 := by have := hb.1.1; omega
    have b2 : 0 ≤ Z 54 c + u ∧ Z 54 c + u < 16000 := by have := hb.2.1; have := hb.2.2.1; omega
    have b4 : 0 ≤ Z 62 (Z 54 c + u) ∧ Z 62 (Z 54 c + u) < 60 := by omega
    have gr := h.2.1 (Z 62 (Z 54 c + u)) gu.1.2.1 gu.1.2.2
    obtain ⟨k1, k2⟩ := hu u u0 hlt
    have ca := (cd_calls_b10_s h (f := f) (r := Z 62 (Z 54 c + u)) ⟨gu.1.2.1, gu.1.2.2⟩ h60 (Z 27 (Z 62 (Z 54 c + u))).toNat (Z 26 (Z 62 (Z 54 c + u))) (by omega) (by omega)).2 k2
    rw [cd_defined_b27_e]
    simp only [b1, hlt, and_self, if_true]
    rw [w32_e (x := Z 54 c + u) (by omega) (by omega)]
    simp only [b2, and_self, if_true, b4, cd_defined_b95_e]
    rw [if_neg k1, cd_calls_e]
    simp only [b4, and_self, if_true]
    rw [ca]
    simp only [Option.bind_some, if_true]
    rw [w32_e (x := u + 1) (by omega) (by omega)]
    exact dno_b27 hb h h0 hc hu d (u + 1) (by omega) (by omega)
theorem cd_defined_no (hb : rBk Z X) (h : rNd Z X) (hu : ∀ c u, 0 ≤ c → c < Z 52 10 → 0 ≤ u → u < Z 55 c → Z 25 (Z 62 (Z 54 c + u)) ≠ f ∧ ¬ hasF Z f (Z 62 (Z 54 c + u)) (Z 26 (Z 62 (Z 54 c + u)))) : ∀ (d : Nat) (c : Int), 0 ≤ c → c + d = Z 52 10 → cd_defined_b2 Z f c = some (Z, 0)
  | 0, c, c0, hd => by
    rw [cd_defined_b2_e, if_neg (by omega)]
  | d + 1, c, c0, hd => by
    have b1 : 0 ≤ c ∧ c < 100 := by have := hb.2.1; omega
    have gg := hb.2.2.2 c c0 (by omega)
    have next : cd_defined_b111 Z f c = some (Z, 0) := by
      rw [cd_defined_b111_e, w32_e (by omega) (by omega)]
      exact cd_defined_no hb h hu d (c + 1) (by omega) (by omega)
    rw [cd_defined_b2_e, if_pos (by omega), if_pos b1, next]
    by_cases z : Z 61 c = 0
    · rw [if_pos z]
    · rw [if_neg z, dno_b27 hb h c0 (by omega) (fun u q1 q2 => hu c u c0 (by omega) q1 q2) (Z 55 c).toNat 0 (by decide) (by omega), cd_defined_b102_e, if_pos rfl, next]
/-- the newest of a function that had none: nothing rests on it -/
theorem dno_new (F : sFr σ τ Z X fn g) (hb : rBk σ τ) (h : rNd σ τ) (hU : rUn σ) (no : ∀ r, 0 ≤ r → r < σ 8 31 → σ 25 r ≠ fn) : ∀ c u, 0 ≤ c → c < Z 52 10 → 0 ≤ u → u < Z 55 c → Z 25 (Z 62 (Z 54 c + u)) ≠ fn ∧ ¬ hasF Z fn (Z 62 (Z 54 c + u)) (Z 26 (Z 62 (Z 54 c + u))) := by
  obtain ⟨-, -, -, -, -, ⟨a1, a2, -, -, -, -, -, -, -, -, -, a12, -⟩, -⟩ := F
  intro c u c0 c1 u0 u1
  rw [a1 52 (by decide)] at c1
  rw [a1 55 (by decide)] at u1
  rw [a1 62 (by decide), a1 54 (by decide)]
  have gu := (hb.2.2.2 c c0 c1).2.2.2.2.2.2.2.2.2 u u0 u1
  have r0 : 0 ≤ σ 62 (σ 54 c + u) := by omega
  have r1 : σ 62 (σ 54 c + u) < σ 8 31 := gu.1.2.2
  have nr := h.2.1 _ gu.1.2.1 r1
  generalize σ 62 (σ 54 c + u) = r at *
  refine ⟨by rw [a12 25 r (by decide) (by decide) r1]; exact no r r0 r1, ?_⟩
  rintro ⟨m, i, q1, q2, q3, q4, q5, q6⟩
  rw [a12 26 r (by decide) (by decide) r1] at q1 q2
  rw [a12 27 r (by decide) (by decide) r1] at q2
  have m1 : m < σ 8 12 := by omega
  rw [a2 9 m (by decide) (by decide) m1] at q3
  rw [a2 18 m (by decide) (by decide) m1] at q5
  have en := (h.2.2 m (by omega) m1).2.2.2.2.2.2 i q4 q5
  unfold enF at q6
  rw [a1 19 (by decide)] at q6
  rcases en.2 with z | z | z
  · have e0 := z.2.1
    rw [a12 25 _ (by decide) (by decide) e0.2] at q6
    exact no _ e0.1 e0.2 q6
  · omega
  · omega
theorem sameF_of (h : rPg Z X) (hf : rFn Z X fn g) : sameF Z X fn g := by
  intro r r0 r1
  exact rFn_inj h.1.1 h.2.1.1 h.1.2.1 h.2.1.2.1 (h.2.2.1 r r0 r1) hf
end SL
