/-! the model lays one node: by its kind -/
/-- its constant -/
def mK (T : gM) (j k : Int) : Prop := (T 135 j = 1 → mumIs T (dvN (T 134) (T 142 j) (T 143 j - T 142 j).toNat) (T 176 k) (T 177 k)) ∧
  (T 135 j = 2 → T 176 k = 4 ∧ (0 ≤ T 177 k ∧ T 177 k < T 119 10) ∧ mS T (T 177 k) = lt (T 134) (T 142 j + 1) (T 143 j - T 142 j - 2).toNat) ∧
  (T 135 j = 3 → T 176 k = 1 ∧ T 177 k = if T 139 j = 17 then 1 else 0) ∧ (T 135 j = 4 → T 176 k = 0 ∧ T 177 k = 0) ∧
  (T 135 j = 7 → T 176 k = 5 ∧ (0 ≤ T 177 k ∧ T 177 k < T 119 56) ∧ mS T (T 155 (T 177 k)) = lt (T 134) (T 142 j) (T 143 j - T 142 j).toNat) ∧
  (T 135 j = 21 ∨ T 135 j = 22 → T 139 j = -1 → (0 ≤ T 177 k ∧ T 177 k < T 119 10) ∧ mS T (T 177 k) = lt (T 134) (T 142 j) (T 143 j - T 142 j).toNat)
/-- its rows -/
def mN1 (T : gM) (j k r L : Int) : Prop := (T 168 k = T 135 j ∧ T 169 k = T 136 j ∧ T 170 k = nO T (T 138 j) ∧ T 171 k = (if T 135 j = 3 then -1 else nO T (T 139 j)) ∧ T 172 k = nO T (T 140 j) ∧ T 173 k = nO T (T 141 j) ∧ T 174 k = r ∧ T 175 k = L ∧ T 178 k = 0 ∧ T 179 k = 0 ∧ T 180 k = 0 ∧ T 181 k = 0) ∧ mK T j k
section LZ
variable {σ τ T X U : gM} {f j k r L w : Int}
theorem mN1.fr (h : mN1 T j k r L) (F : mFr w T U) (g : fJ T) (c : ∀ a, 168 ≤ a → a ≤ 181 → U a k = T a k) : mN1 U j k r L := by
  obtain ⟨b1, b2, b3, b4, b5, b6, b7, b8, b9, b10, b11, b12, b13, b14⟩ := F
  have e : ∀ a, 131 < a → a < 155 → U a = T a := fun a q1 q2 => b4 a (by omega)
  have st : ∀ s, 0 ≤ s → s < T 119 10 → mS U s = mS T s := fun s s0 s1 => (b6 s (Or.inl ⟨s0, s1⟩)).2.1
  obtain ⟨h0, h1, h2, h3, h4, h5, h6⟩ := h
  unfold mN1 nO mK
  rw [e 134 (by decide) (by decide), e 135 (by decide) (by decide), e 136 (by decide) (by decide), e 138 (by decide) (by decide), e 139 (by decide) (by decide), e 140 (by decide) (by decide), e 141 (by decide) (by decide), e 142 (by decide) (by decide), e 143 (by decide) (by decide), e 144 (by decide) (by decide), c 168 (by decide) (by decide), c 169 (by decide) (by decide), c 170 (by decide) (by decide), c 171 (by decide) (by decide), c 172 (by decide) (by decide), c 173 (by decide) (by decide), c 174 (by decide) (by decide), c 175 (by decide) (by decide), c 176 (by decide) (by decide), c 177 (by decide) (by decide), c 178 (by decide) (by decide), c 179 (by decide) (by decide), c 180 (by decide) (by decide), c 181 (by decide) (by decide)]
  refine ⟨h0, fun q => ?_, fun q => ?_, h3, h4, fun q => ?_, fun q q' => ?_⟩
  · rcases h1 q with z | ⟨z1, z2, z3, z4⟩
    · exact Or.inl z
    · refine Or.inr ⟨z1, z2, by omega, ?_⟩
      unfold mB at z4 ⊢
      rw [b10 _ (Or.inl (by omega)), b10 _ (Or.inl (by omega)), b10 _ (Or.inl (by omega)), b10 _ (Or.inl (by omega)), b10 _ (Or.inl (by omega))]
      exact z4
  · obtain ⟨z1, z2, z3⟩ := h2 q
    exact ⟨z1, by omega, by rw [st _ z2.1 z2.2]; exact z3⟩
  · obtain ⟨z1, z2, z3⟩ := h5 q
    have := (g.2.1 _ z2.1 z2.2).1
    exact ⟨z1, by omega, by rw [(b8 _ z2.2).1, st _ this.1 this.2]; exact z3⟩
  · obtain ⟨z2, z3⟩ := h6 q q'
    exact ⟨by omega, by rw [st _ z2.1 z2.2]; exact z3⟩
/-- the rows of a node that is laid, whatever else comes -/
theorem lay0.n1 (h : lay0 τ X j k r) (c : ∀ a i, 131 < a → a < 155 → U a i = τ a i) (d : ∀ a, 168 ≤ a → a ≤ 181 → a ≠ 175 → a ≠ 176 → a ≠ 177 → U a k = X a k) (e : U 175 k = L) (m : mK U j k) : mN1 U j k r L := by
  obtain ⟨-, h1, h2, h3, h4, h5, h6, h7, -, -, h8, h9, h10, h11⟩ := h
  have e144 : U 144 = τ 144 := funext fun i => c 144 i (by decide) (by decide)
  refine ⟨⟨?_, ?_, ?_, ?_, ?_, ?_, ?_, e, ?_, ?_, ?_, ?_⟩, m⟩
  · rw [d 168 (by decide) (by decide) (by decide) (by decide) (by decide), h1, c 135 j (by decide) (by decide)]
  · rw [d 169 (by decide) (by decide) (by decide) (by decide) (by decide), h2, c 136 j (by decide) (by decide)]
  · rw [d 170 (by decide) (by decide) (by decide) (by decide) (by decide), h3, c 138 j (by decide) (by decide)]; unfold nO; rw [e144]
  · rw [d 171 (by decide) (by decide) (by decide) (by decide) (by decide), h4, c 139 j (by decide) (by decide), c 135 j (by decide) (by decide)]; unfold nO; rw [e144]
  · rw [d 172 (by decide) (by decide) (by decide) (by decide) (by decide), h5, c 140 j (by decide) (by decide)]; unfold nO; rw [e144]
  · rw [d 173 (by decide) (by decide) (by decide) (by decide) (by decide), h6, c 141 j (by decide) (by decide)]; unfold nO; rw [e144]
  · rw [d 174 (by decide) (by decide) (by decide) (by decide) (by decide), h7]
  · rw [d 178 (by decide) (by decide) (by decide) (by decide) (by decide), h8]
  · rw [d 179 (by decide) (by decide) (by decide) (by decide) (by decide), h9]
  · rw [d 180 (by decide) (by decide) (by decide) (by decide) (by decide), h10]
  · rw [d 181 (by decide) (by decide) (by decide) (by decide) (by decide), h11]
/-- what is known of a node that the model lays: node i of the component -/
def lV (σ τ : gM) (f i j : Int) : Prop := (0 ≤ j ∧ j < 4004) ∧ (0 ≤ τ 144 j ∧ τ 144 j < 16000) ∧ (τ 135 j = σ 70 i ∧ 0 ≤ σ 70 i ∧ σ 70 i ≤ 28) ∧ (τ 138 j = -1 ∨ (0 ≤ τ 138 j ∧ τ 138 j < 4004)) ∧ (σ 70 i ≠ 3 → τ 139 j = -1 ∨ (0 ≤ τ 139 j ∧ τ 139 j < 4004)) ∧ (τ 140 j = -1 ∨ (0 ≤ τ 140 j ∧ τ 140 j < 4004)) ∧ (τ 141 j = -1 ∨ (0 ≤ τ 141 j ∧ τ 141 j < 4004)) ∧
  ((σ 70 i = 1 ∨ σ 70 i = 2 ∨ σ 70 i = 7 ∨ ((σ 70 i = 21 ∨ σ 70 i = 22) ∧ τ 139 j = -1)) → (0 ≤ τ 142 j ∧ τ 142 j < τ 143 j ∧ τ 143 j ≤ 4000) ∧ τ 143 j - τ 142 j + 1 ≤ wt σ i ∧ (σ 70 i = 1 → τ 143 j - τ 142 j ≤ 36 ∧ ∀ x, τ 142 j ≤ x → x < τ 143 j → isD (τ 134 x)) ∧ (σ 70 i = 2 → 2 ≤ τ 143 j - τ 142 j)) ∧ 0 ≤ wt σ i ∧
  ((σ 70 i = 0 ∨ σ 70 i = 5 ∨ σ 70 i = 6) → isLoc σ τ f (σ 76 i) (τ 142 j) (τ 143 j))
/-- one node is laid -/
theorem md_lay_s {i : Int} (hX : tX σ τ) (hL : pL σ τ f) (hf : 0 ≤ f ∧ f < 51) (h : mI τ) (g : fJ τ) (h8 : ∀ i, i8 (τ 121 i)) (t8 : ∀ i, i8 (τ 134 i)) (v : lV σ τ f i j) (hr : mRm τ (wt σ i)) :
    ∃ T, md_lay τ f j r = some (T, 0) ∧ mFr (wt σ i) τ T ∧ (∀ a x, 168 ≤ a → a ≤ 181 → x ≠ τ 144 j → T a x = τ a x) ∧ mN1 T j (τ 144 j) r (if σ 70 i = 0 ∨ σ 70 i = 5 ∨ σ 70 i = 6 then σ 76 i else -1) := by
  obtain ⟨hj, hk, ⟨e135, e0, e28⟩, v138, v139, v140, v141, vl, w0, vi⟩ := v
  have hk2 : 0 ≤ τ 144 j ∧ τ 144 j < 20000 := by omega
  obtain ⟨X, ex, l0⟩ := lay_head (f := f) (r := r) hj hk2 v138 (by rw [e135]; exact v139) v140 v141
  rw [ex]
  have l0' := l0
  obtain ⟨lc, -, -, -, -, -, -, -, l175, ⟨l176, l177⟩, -⟩ := l0'
  have cX : ∀ a, a < 168 ∨ 181 < a → X a = τ a := fun a q => funext fun x => lc a x (by omega)
  have FX : mFr (wt σ i) τ X := (mFr.rf h g h8 w0).mv fun a q => cX a (by omega)
  have hI' := FX.1
  have fJ' := FX.2.1
  have i8' := FX.2.2.1
  generalize ek : τ 144 j = k at *
  have other : ∀ a x, 168 ≤ a → a ≤ 181 → x ≠ k → X a x = τ a x := fun a x _ _ q => lc a x (by omega)
  have e134 : X 134 = τ 134 := cX 134 (by decide)
  have tXX : tX σ X := by
    unfold tX at hX ⊢
    rw [cX 119 (by decide), e134]
    exact hX
  have pLX : pL σ X f := by
    obtain ⟨p1, p2, p3, p4⟩ := hL
    refine ⟨p1, by rw [cX 152 (by decide)]; exact p2, by rw [cX 153 (by decide), cX 154 (by decide)]; exact p3, fun l l' q1 q2 q3 => ?_⟩
    rw [tE.mv e134]
    exact p4 l l' q1 q2 q3
  unfold layT
  rw [e135]
  have x135 : ∀ a, 131 < a → a < 155 → X a j = τ a j := fun a q1 q2 => by rw [cX a (by omega)]
  have locc : (σ 70 i = 0 ∨ σ 70 i = 5 ∨ σ 70 i = 6) → ∃ T, md_lay_b295 X f j k 0 = some (T, 0) ∧ mFr (wt σ i) τ T ∧ (∀ a x, 168 ≤ a → a ≤ 181 → x ≠ k → T a x = τ a x) ∧ mN1 T j k r (if σ 70 i = 0 ∨ σ 70 i = 5 ∨ σ 70 i = 6 then σ 76 i else -1) := fun z => by
    obtain ⟨U, u1, u2, u3⟩ := lay_loc (L := σ 76 i) tXX pLX hf hj hk2 (by
      unfold isLoc
      rw [tE.mv e134, x135 142 (by decide) (by decide), x135 143 (by decide) (by decide)]
      exact vi z) l175
    have u135 : U 135 j = σ 70 i := by rw [u2 135 j (by omega), x135 135 (by decide) (by decide), e135]
    refine ⟨U, u1, FX.mv fun a q => funext fun x => u2 a x (by omega), fun a x q1 q2 q3 => by rw [u2 a x (by omega)]; exact other a x q1 q2 q3, l0.n1 (fun a x q1 q2 => by rw [u2 a x (by omega)]; exact lc a x (by omega)) (fun a q1 q2 q3 q4 q5 => u2 a k (by omega)) (by rw [if_pos z]; exact u3) ⟨fun q => by omega, fun q => by omega, fun q => by omega, fun q => by omega, fun q => by omega, fun q => by omega⟩⟩
  by_cases z0 : σ 70 i = 0
  · rw [if_pos z0]; exact locc (Or.inl z0)
  by_cases z5 : σ 70 i = 5
  · rw [if_neg (by omega), if_neg (by omega), if_neg (by omega), if_neg (by omega), if_pos z5]; exact locc (Or.inr (Or.inl z5))
  by_cases z6 : σ 70 i = 6
  · rw [if_neg (by omega), if_neg (by omega), if_neg (by omega), if_neg (by omega), if_neg (by omega), if_pos z6]; exact locc (Or.inr (Or.inr z6))
  have zl : ¬ (σ 70 i = 0 ∨ σ 70 i = 5 ∨ σ 70 i = 6) := by omega
  rw [if_neg zl, if_neg z0]
  clear locc
  by_cases z1 : σ 70 i = 1
  · -- a number
    obtain ⟨v1, v2, v3, -⟩ := vl (Or.inl z1)
    have v3 := v3 z1
    obtain ⟨r1, r2, r3, r4, r5⟩ := hr
    obtain ⟨T, t1, t2, t3, t4, t5, t6⟩ := md_number_2_s (τ := X) (k := k) (p := τ 142 j) (q := τ 143 j) hk2 v1 v3.1 (by rw [e134]; exact v3.2) (by rw [cX 119 (by decide)]; omega)
    rw [if_pos z1, t1]
    simp only [Option.bind_some]
    have x119 : ∀ i, X 119 i = τ 119 i := fun i => by rw [cX 119 (by decide)]
    rw [x119] at t3 t6
    have tc : ∀ a, 119 < a → a < 168 → a ≠ 128 → a ≠ 131 → T a = X a := fun a q1 q2 q3 q4 => funext fun x => t4 a x (by omega) q3 q4 (by omega)
    have td : ∀ a, a < 119 ∨ 181 < a → T a = X a := fun a q => funext fun x => t4 a x (by omega) (by omega) (by omega) (by omega)
    have cc : ∀ a, 121 ≤ a → a ≤ 127 → T a = X a := fun a q1 q2 => tc a (by omega) (by omega) (by omega) (by omega)
    obtain ⟨a1, a2, a3, a4, a5, a6, a7, a8, a9, a10, a11, a12, a13, a14⟩ := FX
    refine ⟨T, rfl, ⟨mI_mv a1 (t5 9 (by decide)) (t5 10 (by decide)) (t5 12 (by decide)) (t5 13 (by decide)) cc, fJ_mv a2 (t5 10 (by decide)) (t5 56 (by decide)) (tc 155 (by decide) (by decide) (by decide) (by decide)) (td 186 (by decide)), by rw [cc 121 (by decide) (by decide)]; exact a3, fun a q => ?_, fun x q1 q2 q3 q4 => by rw [t5 x q3]; exact a5 x q1 q2 q3 q4, fun s q => ?_, by rw [cc 121 (by decide) (by decide)]; exact a7, by rw [tc 155 (by decide) (by decide) (by decide) (by decide), tc 156 (by decide) (by decide) (by decide) (by decide)]; exact a8, by rw [t5 56 (by decide), tc 156 (by decide) (by decide) (by decide) (by decide)]; exact a9, fun x q => by rw [t6 x (by omega)]; exact a10 x q, by rw [t5 10 (by decide)]; exact a11, by rw [t5 9 (by decide)]; exact a12, ⟨t3.1, by omega⟩, by rw [t5 56 (by decide)]; exact a14⟩, fun a x q1 q2 q3 => by rw [t4 a x (by omega) (by omega) (by omega) (Or.inr q3)]; exact other a x q1 q2 q3, ?_⟩
    · by_cases q' : a < 119 ∨ 181 < a
      · exact (td a q').trans (a4 a q)
      · exact (tc a (by omega) (by omega) (by omega) (by omega)).trans (a4 a q)
    · obtain ⟨b1, b2, b3, b4⟩ := a6 s q
      refine ⟨?_, by rw [mS_mv cc]; exact b2, by rw [cc 122 (by decide) (by decide)]; exact b3, by rw [cc 123 (by decide) (by decide)]; exact b4⟩
      unfold vM at b1 ⊢
      rw [t5 10 (by decide), t5 13 (by decide)]
      exact b1
    · refine l0.n1 (fun a x q1 q2 => by rw [t4 a x (by omega) (by omega) (by omega) (Or.inl (by omega))]; exact lc a x (by omega)) (fun a q1 q2 q3 q4 q5 => t4 a k (by omega) (by omega) (by omega) (Or.inl ⟨q4, q5⟩)) ?_ ?_
      · rw [t4 175 k (by decide) (by decide) (by decide) (Or.inl (by decide))]; exact l175
      · have t135 : T 135 j = σ 70 i := by rw [tc 135 (by decide) (by decide) (by decide) (by decide), x135 135 (by decide) (by decide), e135]
        refine ⟨fun _ => ?_, fun q => by omega, fun q => by omega, fun q => by omega, fun q => by omega, fun q => by omega⟩
        rw [tc 134 (by decide) (by decide) (by decide) (by decide), tc 142 (by decide) (by decide) (by decide) (by decide), tc 143 (by decide) (by decide) (by decide) (by decide), x135 142 (by decide) (by decide), x135 143 (by decide) (by decide)]
        exact t2
  rw [if_neg z1]
  have rmX : mRm X (wt σ i) := by
    unfold mRm at hr ⊢
    rw [cX 119 (by decide)]
    exact hr
  by_cases z2 : σ 70 i = 2
  · -- a string
    obtain ⟨v1, v2, -, v4⟩ := vl (Or.inr (Or.inl z2))
    have v4 := v4 z2
    have FY := FX.mv (U := gW X 176 k 4) fun a q => gW_cell (by omega)
    have y : ∀ a x, a ≠ 176 → gW X 176 k 4 a x = X a x := fun a x q => gW_c q
    have yk : gW X 176 k 4 176 k = 4 := gW_at _ _ _ _
    have yo : ∀ x, x ≠ k → gW X 176 k 4 176 x = X 176 x := fun x q => gW_i q
    generalize gW X 176 k 4 = Y at *
    have y119 : Y 119 = X 119 := funext fun x => y 119 x (by decide)
    have y134 : Y 134 = τ 134 := by rw [funext fun x => y 134 x (by decide)]; exact e134
    have rmY : mRm Y (wt σ i) := by
      unfold mRm at rmX ⊢
      rw [y119]
      exact rmX
    obtain ⟨T, s, t1, F, s0, es, tc, t119⟩ := md_str (τ := Y) (n := (τ 143 j - τ 142 j - 2).toNat) (p := τ 142 j + 1) (q := τ 143 j - 1) FY.1 FY.2.1 FY.2.2.1 (by rw [y134]; exact t8) (by omega) (by omega) rmY
    rw [if_pos z2, w32_e (by omega) (by omega), w32_e (by omega) (by omega), t1]
    simp only [Option.bind_some]
    rw [if_pos hk2]
    have FT : mFr (wt σ i) τ T := by
      obtain ⟨a1, a2, a3, a4, a5, a6, a7, a8, a9, a10, a11, a12, a13, a14⟩ := FY
      obtain ⟨b1, b2, b3, b4, b5, b6, b7, b8, b9, b10, b11, b12, b13, b14⟩ := F
      have w9 : Y 119 9 = τ 119 9 := by rw [y119, cX 119 (by decide)]
      have w10 : Y 119 10 = τ 119 10 := by rw [y119, cX 119 (by decide)]
      have w15 : Y 119 15 = τ 119 15 := by rw [y119, cX 119 (by decide)]
      have w56 : Y 119 56 = τ 119 56 := by rw [y119, cX 119 (by decide)]
      rw [w9] at b12
      rw [w10] at b11
      rw [w15] at b10 b13
      rw [w56] at b8 b9 b14
      exact ⟨b1, b2, b3, fun a q => (b4 a q).trans (a4 a q), fun x q1 q2 q3 q4 => (b5 x q1 q2 q3 q4).trans (a5 x q1 q2 q3 q4), a6.tr b6, fun x q => (b7 x q).trans (a7 x q), fun g q => ⟨(b8 g q).1.trans (a8 g q).1, (b8 g q).2.trans (a8 g q).2⟩, b9, fun x q => (b10 x q).trans (a10 x q), b11, b12, b13, b14⟩
    refine ⟨_, rfl, FT.mv fun a q => gW_cell (by omega), fun a x q1 q2 q3 => ?_, ?_⟩
    · rw [gW_j q3, tc a x (by omega)]
      by_cases w : a = 176
      · rw [w, yo x q3]; exact other 176 x (by decide) (by decide) q3
      · rw [y a x w]; exact other a x q1 q2 q3
    · refine l0.n1 (fun a x q1 q2 => by rw [gW_c (by omega), tc a x (by omega), y a x (by omega)]; exact lc a x (by omega)) (fun a q1 q2 q3 q4 q5 => by rw [gW_c q5, tc a k (by omega), y a k q4]) ?_ ?_
      · rw [gW_c (by decide), tc 175 k (by decide), y 175 k (by decide)]; exact l175
      · have e1 : ∀ a, 131 < a → a < 155 → gW T 177 k s a j = τ a j := fun a q1 q2 => by rw [gW_c (by omega), tc a j (by omega), y a j (by omega), x135 a q1 q2]
        have e2 : gW T 177 k s 135 j = 2 := by rw [e1 135 (by decide) (by decide), e135, z2]
        have e3 : gW T 177 k s 177 k = s := gW_at _ _ _ _
        have e4 : gW T 177 k s 134 = τ 134 := by rw [gW_cell (by decide), funext fun x => tc 134 x (by decide)]; exact y134
        refine ⟨fun q => by omega, fun _ => ⟨?_, ?_, ?_⟩, fun q => by omega, fun q => by omega, fun q => by omega, fun q => by omega⟩
        · rw [gW_c (by decide), tc 176 k (by decide)]; exact yk
        · rw [e3, gW_c (by decide)]; exact s0
        · rw [e3, e4, e1 142 (by decide) (by decide), e1 143 (by decide) (by decide)]
          rw [y134] at es
          have : mS (gW T 177 k s) s = mS T s := mS_mv fun a q1 q2 => gW_cell (by omega)
          rw [this]
          exact es
  rw [if_neg z2]
  by_cases z3 : σ 70 i = 3
  · -- true, false
    rw [if_pos z3]
    have main : ∀ y, ((if τ 139 j = 17 then (1 : Int) else 0) = y) → ∃ T, md_lay_b461 (gW X 176 k 1) y k = some (T, 0) ∧ mFr (wt σ i) τ T ∧ (∀ a x, 168 ≤ a → a ≤ 181 → x ≠ k → T a x = τ a x) ∧ mN1 T j k r (-1) := fun y ey => by
      rw [md_lay_b461_e, if_pos hk2]
      have e1 : ∀ a, 131 < a → a < 155 → gW (gW X 176 k 1) 177 k y a j = τ a j := fun a q1 q2 => by rw [gW_c (by omega), gW_c (by omega), x135 a q1 q2]
      have e2 : gW (gW X 176 k 1) 177 k y 135 j = 3 := by rw [e1 135 (by decide) (by decide), e135, z3]
      refine ⟨_, rfl, FX.mv fun a q => by rw [gW_cell (by omega), gW_cell (by omega)], fun a x q1 q2 q3 => by rw [gW_j q3, gW_j q3]; exact other a x q1 q2 q3, l0.n1 (fun a x q1 q2 => by rw [gW_c (by omega), gW_c (by omega)]; exact lc a x (by omega)) (fun a q1 q2 q3 q4 q5 => by rw [gW_c q5, gW_c q4]) (by rw [gW_c (by decide), gW_c (by decide)]; exact l175) ⟨fun q => by omega, fun q => by omega, fun _ => ⟨by rw [gW_c (by decide), gW_at], ?_⟩, fun q => by omega, fun q => by omega, fun q => by omega⟩⟩
      rw [gW_at, e1 139 (by decide) (by decide), ey]
    by_cases w : τ 139 j = 17
    · rw [if_pos w]; exact main 1 (by rw [if_pos w])
    · rw [if_neg w]; exact main 0 (by rw [if_neg w])
  rw [if_neg z3, if_neg z5, if_neg z6]
  by_cases z7 : σ 70 i = 7
  · -- a function's name
    obtain ⟨v1, v2, -, -⟩ := vl (Or.inr (Or.inr (Or.inl z7)))
    have FY := FX.mv (U := gW X 176 k 5) fun a q => gW_cell (by omega)
    have y : ∀ a x, a ≠ 176 → gW X 176 k 5 a x = X a x := fun a x q => gW_c q
    have yk : gW X 176 k 5 176 k = 5 := gW_at _ _ _ _
    have yo : ∀ x, x ≠ k → gW X 176 k 5 176 x = X 176 x := fun x q => gW_i q
    generalize gW X 176 k 5 = Y at *
    have y119 : Y 119 = X 119 := funext fun x => y 119 x (by decide)
    have y134 : Y 134 = τ 134 := by rw [funext fun x => y 134 x (by decide)]; exact e134
    have rmY : mRm Y (wt σ i) := by
      unfold mRm at rmX ⊢
      rw [y119]
      exact rmX
    obtain ⟨T, s, t1, F, s0, es, tc, t119⟩ := md_str (τ := Y) (n := (τ 143 j - τ 142 j).toNat) (p := τ 142 j) (q := τ 143 j) FY.1 FY.2.1 FY.2.2.1 (by rw [y134]; exact t8) (by omega) (by omega) rmY
    rw [if_pos z7, t1]
    simp only [Option.bind_some]
    have FT : mFr (wt σ i) τ T := by
      obtain ⟨a1, a2, a3, a4, a5, a6, a7, a8, a9, a10, a11, a12, a13, a14⟩ := FY
      obtain ⟨b1, b2, b3, b4, b5, b6, b7, b8, b9, b10, b11, b12, b13, b14⟩ := F
      have w9 : Y 119 9 = τ 119 9 := by rw [y119, cX 119 (by decide)]
      have w10 : Y 119 10 = τ 119 10 := by rw [y119, cX 119 (by decide)]
      have w15 : Y 119 15 = τ 119 15 := by rw [y119, cX 119 (by decide)]
      have w56 : Y 119 56 = τ 119 56 := by rw [y119, cX 119 (by decide)]
      rw [w9] at b12
      rw [w10] at b11
      rw [w15] at b10 b13
      rw [w56] at b8 b9 b14
      exact ⟨b1, b2, b3, fun a q => (b4 a q).trans (a4 a q), fun x q1 q2 q3 q4 => (b5 x q1 q2 q3 q4).trans (a5 x q1 q2 q3 q4), a6.tr b6, fun x q => (b7 x q).trans (a7 x q), fun g q => ⟨(b8 g q).1.trans (a8 g q).1, (b8 g q).2.trans (a8 g q).2⟩, b9, fun x q => (b10 x q).trans (a10 x q), b11, b12, b13, b14⟩
    have t56 : T 119 56 = τ 119 56 := by rw [t119 56 (by decide) (by decide), y119, cX 119 (by decide)]
    have mt := FT.1.1
    obtain ⟨r1, r2, r3, r4, r5⟩ := hr
    obtain ⟨U, g1, u1, FU, g0, eg, uc, u10, u9, ucc, u15⟩ := md_functionOf_s (x := s) (w := 2) FT.1 FT.2.1 FT.2.2.1 s0 (by decide) (by omega) (by omega)
    rw [u1]
    simp only [Option.bind_some]
    rw [if_pos hk2]
    have FU' := FT.fn t56 FU u10 u9 u15 (by omega)
    refine ⟨_, rfl, FU'.mv fun a q => gW_cell (by omega), fun a x q1 q2 q3 => ?_, ?_⟩
    · rw [gW_j q3, uc a x (by omega) (by omega) (by omega) (by omega), tc a x (by omega)]
      by_cases w : a = 176
      · rw [w, yo x q3]; exact other 176 x (by decide) (by decide) q3
      · rw [y a x w]; exact other a x q1 q2 q3
    · refine l0.n1 (fun a x q1 q2 => by rw [gW_c (by omega), uc a x (by omega) (by omega) (by omega) (by omega), tc a x (by omega), y a x (by omega)]; exact lc a x (by omega)) (fun a q1 q2 q3 q4 q5 => by rw [gW_c q5, uc a k (by omega) (by omega) (by omega) (by omega), tc a k (by omega), y a k q4]) ?_ ?_
      · rw [gW_c (by decide), uc 175 k (by decide) (by decide) (by decide) (by decide), tc 175 k (by decide), y 175 k (by decide)]; exact l175
      · have e1 : ∀ a, 131 < a → a < 155 → gW U 177 k g1 a j = τ a j := fun a q1 q2 => by rw [gW_c (by omega), uc a j (by omega) (by omega) (by omega) (by omega), tc a j (by omega), y a j (by omega), x135 a q1 q2]
        have e2 : gW U 177 k g1 135 j = 7 := by rw [e1 135 (by decide) (by decide), e135, z7]
        have e3 : gW U 177 k g1 177 k = g1 := gW_at _ _ _ _
        have e4 : gW U 177 k g1 134 = τ 134 := by rw [gW_cell (by decide), funext fun x => uc 134 x (by decide) (by decide) (by decide) (by decide), funext fun x => tc 134 x (by decide)]; exact y134
        refine ⟨fun q => by omega, fun q => by omega, fun q => by omega, fun q => by omega, fun _ => ⟨?_, ?_, ?_⟩, fun q => by omega⟩
        · rw [gW_c (by decide), uc 176 k (by decide) (by decide) (by decide) (by decide), tc 176 k (by decide)]; exact yk
        · rw [e3, gW_c (by decide)]; exact g0
        · rw [e3, e4, e1 142 (by decide) (by decide), e1 143 (by decide) (by decide), gW_c (by decide), eg]
          rw [y134] at es
          have : mS (gW U 177 k g1) s = mS T s := by
            rw [mS_mv (T := U) fun a q1 q2 => gW_cell (by omega)]
            exact mS_mv ucc
          rw [this]
          exact es
  rw [if_neg z7]
  by_cases z21 : σ 70 i = 21 ∨ σ 70 i = 22
  · -- a property
    have same : ∀ Y : Option (gM × Int), (if σ 70 i = 21 then Y else if σ 70 i = 22 then Y else some (X, 0)) = Y := fun Y => by
      rcases z21 with q | q
      · rw [if_pos q]
      · rw [if_neg (by omega), if_pos q]
    rw [same]
    by_cases w : τ 139 j = -1
    · rw [if_pos w]
      obtain ⟨v1, v2, -, -⟩ := vl (Or.inr (Or.inr (Or.inr ⟨z21, w⟩)))
      obtain ⟨T, s, t1, F, s0, es, tc, t119⟩ := md_str (τ := X) (n := (τ 143 j - τ 142 j).toNat) (p := τ 142 j) (q := τ 143 j) FX.1 FX.2.1 FX.2.2.1 (by rw [e134]; exact t8) (by omega) (by omega) rmX
      rw [t1]
      simp only [Option.bind_some]
      rw [if_pos hk2]
      have FT : mFr (wt σ i) τ T := by
        obtain ⟨a1, a2, a3, a4, a5, a6, a7, a8, a9, a10, a11, a12, a13, a14⟩ := FX
        obtain ⟨b1, b2, b3, b4, b5, b6, b7, b8, b9, b10, b11, b12, b13, b14⟩ := F
        have w9 : X 119 9 = τ 119 9 := by rw [cX 119 (by decide)]
        have w10 : X 119 10 = τ 119 10 := by rw [cX 119 (by decide)]
        have w15 : X 119 15 = τ 119 15 := by rw [cX 119 (by decide)]
        have w56 : X 119 56 = τ 119 56 := by rw [cX 119 (by decide)]
        rw [w9] at b12
        rw [w10] at b11
        rw [w15] at b10 b13
        rw [w56] at b8 b9 b14
        exact ⟨b1, b2, b3, fun a q => (b4 a q).trans (a4 a q), fun x q1 q2 q3 q4 => (b5 x q1 q2 q3 q4).trans (a5 x q1 q2 q3 q4), a6.tr b6, fun x q => (b7 x q).trans (a7 x q), fun g q => ⟨(b8 g q).1.trans (a8 g q).1, (b8 g q).2.trans (a8 g q).2⟩, b9, fun x q => (b10 x q).trans (a10 x q), b11, b12, b13, b14⟩
      refine ⟨_, rfl, FT.mv fun a q => gW_cell (by omega), fun a x q1 q2 q3 => by rw [gW_j q3, tc a x (by omega)]; exact other a x q1 q2 q3, ?_⟩
      refine l0.n1 (fun a x q1 q2 => by rw [gW_c (by omega), tc a x (by omega)]; exact lc a x (by omega)) (fun a q1 q2 q3 q4 q5 => by rw [gW_c q5, tc a k (by omega)]) ?_ ?_
      · rw [gW_c (by decide), tc 175 k (by decide)]; exact l175
      · have e1 : ∀ a, 131 < a → a < 155 → gW T 177 k s a j = τ a j := fun a q1 q2 => by rw [gW_c (by omega), tc a j (by omega), x135 a q1 q2]
        have e2 : gW T 177 k s 135 j = σ 70 i := by rw [e1 135 (by decide) (by decide), e135]
        have e3 : gW T 177 k s 177 k = s := gW_at _ _ _ _
        have e4 : gW T 177 k s 134 = τ 134 := by rw [gW_cell (by decide), funext fun x => tc 134 x (by decide)]; exact e134
        refine ⟨fun q => by omega, fun q => by omega, fun q => by omega, fun q => by omega, fun q => by omega, fun _ _ => ⟨?_, ?_⟩⟩
        · rw [e3, gW_c (by decide)]; exact s0
        · rw [e3, e4, e1 142 (by decide) (by decide), e1 143 (by decide) (by decide)]
          rw [e134] at es
          have : mS (gW T 177 k s) s = mS T s := mS_mv fun a q1 q2 => gW_cell (by omega)
          rw [this]
          exact es
    · rw [if_neg w]
      refine ⟨X, rfl, FX, other, l0.n1 (fun a x q1 q2 => lc a x (by omega)) (fun _ _ _ _ _ _ => rfl) l175 ⟨fun q => ?_, fun q => ?_, fun q => ?_, fun q => ?_, fun q => ?_, fun _ q => ?_⟩⟩
      · rw [x135 135 (by decide) (by decide), e135] at q; omega
      · rw [x135 135 (by decide) (by decide), e135] at q; omega
      · rw [x135 135 (by decide) (by decide), e135] at q; omega
      · rw [x135 135 (by decide) (by decide), e135] at q; omega
      · rw [x135 135 (by decide) (by decide), e135] at q; omega
      · rw [x135 139 (by decide) (by decide)] at q; exact (w q).elim
  · rw [if_neg (by omega), if_neg (by omega)]
    have q135 : X 135 j = σ 70 i := by rw [x135 135 (by decide) (by decide), e135]
    exact ⟨X, rfl, FX, other, l0.n1 (fun a x q1 q2 => lc a x (by omega)) (fun _ _ _ _ _ _ => rfl) l175 ⟨fun q => by omega, fun q => by omega, fun q => by omega, fun q => ⟨l176, l177⟩, fun q => by omega, fun q => by omega⟩⟩
end LZ
