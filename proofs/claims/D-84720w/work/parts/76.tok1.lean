/-! tokens: the text, its signs, what is skipped, words -/
def tX (σ τ : gM) : Prop := ((σ 69 0 = 1 ∧ σ 69 1 + σ 69 2 ≤ 124600) ∨ (σ 69 0 = 118 ∧ σ 69 1 + σ 69 2 ≤ 4000)) ∧ (0 ≤ σ 69 1 ∧ 0 ≤ σ 69 2 ∧ σ 69 2 ≤ 4000) ∧ τ 119 23 = σ 69 2 ∧ ∀ k, 0 ≤ k → k < σ 69 2 → σ (σ 69 0) (σ 69 1 + k) = τ 134 k ∧ i8 (τ 134 k)
theorem i_and_255 (x : Int) : i_and x 255 = x % 256 := by
  have := i_and_lo x 8 (by decide)
  rw [show ((2 : Int) ^ 8 - 1) = 255 by decide, show ((2 : Int) ^ 8) = 256 by decide] at this
  exact this
theorem gthr_s {σ : gM} : gthr σ 120 = some (σ, none) := if_pos (show (120 : Int) = gStop from rfl)
theorem tX.mv {σ τ σ' τ' : gM} (h : tX σ τ) (c0 : σ' 69 0 = σ 69 0) (c1 : σ' 69 1 = σ 69 1) (c2 : σ' 69 2 = σ 69 2) (d1 : σ' 1 = σ 1) (d2 : σ' 118 = σ 118) (e1 : τ' 119 23 = τ 119 23) (e2 : τ' 134 = τ 134) : tX σ' τ' := by
  unfold tX at *
  rw [c0, c1, c2, e1, e2]
  refine ⟨h.1, h.2.1, h.2.2.1, fun k h0 hk => ?_⟩
  have hh := h.2.2.2 k h0 hk
  rcases h.1 with ⟨e, -⟩ | ⟨e, -⟩
  · rw [e] at hh ⊢
    rw [d1]; exact hh
  · rw [e] at hh ⊢
    rw [d2]; exact hh
theorem tX.a {σ τ : gM} (h : tX σ τ) {i v j w : Int} (hi : 3 ≤ i) (hj : 24 ≤ j) : tX (gW σ 69 i v) (gW τ 119 j w) :=
  h.mv (gW_i (by omega)) (gW_i (by omega)) (gW_i (by omega)) (gW_cell (by decide)) (gW_cell (by decide)) (gW_i (by omega)) (gW_cell (by decide))
theorem tX.l {σ τ : gM} (h : tX σ τ) {i v : Int} (hi : 3 ≤ i) : tX (gW σ 69 i v) τ :=
  h.mv (gW_i (by omega)) (gW_i (by omega)) (gW_i (by omega)) (gW_cell (by decide)) (gW_cell (by decide)) rfl rfl
theorem tX.r {σ τ : gM} (h : tX σ τ) {j w : Int} (hj : 24 ≤ j) : tX σ (gW τ 119 j w) :=
  h.mv rfl rfl rfl rfl rfl (gW_i (by omega)) (gW_cell (by decide))
/-- the sign at a place: the model's, the component's -/
def tb (σ τ : gM) (k : Int) : Int := if k < σ 69 2 then τ 134 k else -1
def cb (σ τ : gM) (k : Int) : Int := if k < σ 69 2 then τ 134 k % 256 else 0
abbrev isL (c : Int) : Prop := (97 ≤ c ∧ c ≤ 122) ∨ (65 ≤ c ∧ c ≤ 90)
abbrev isD (c : Int) : Prop := 48 ≤ c ∧ c ≤ 57
section TB
variable {σ τ : gM}
theorem tk_byteAt_s (h : tX σ τ) {k : Int} (hk : 0 ≤ k) (hk2 : k ≤ 100000) : tk_byteAt σ k = some (σ, cb σ τ k) := by
  obtain ⟨h1, h2, h3, h4⟩ := h
  rw [tk_byteAt_e]
  unfold cb
  by_cases q : k < σ 69 2
  · simp only [if_pos q]
    have hh := (h4 k hk q).1
    rcases h1 with ⟨e, hl⟩ | ⟨e, hl⟩
    · rw [e] at hh ⊢
      rw [w32_e (x := σ 69 1 + k) (by omega) (by omega), if_pos (by decide), gisb_ok (by rfl), if_pos (show 0 ≤ σ 69 1 + k ∧ σ 69 1 + k < gN 1 from ⟨by omega, by show _ < (124600 : Int); omega⟩), hh, i_and_255]
    · rw [e] at hh ⊢
      rw [w32_e (x := σ 69 1 + k) (by omega) (by omega), if_pos (by decide), gisb_ok (by rfl), if_pos (show 0 ≤ σ 69 1 + k ∧ σ 69 1 + k < gN 118 from ⟨by omega, by show _ < (4000 : Int); omega⟩), hh, i_and_255]
  · simp only [if_neg q]
theorem md_sign_s (h : tX σ τ) {k : Int} (hk : 0 ≤ k) : md_sign τ k = some (τ, tb σ τ k) := by
  obtain ⟨h1, h2, h3, h4⟩ := h
  rw [md_sign_e, h3]
  unfold tb
  by_cases q : k < σ 69 2
  · rw [if_pos q, if_pos q, if_pos (by omega)]
  · rw [if_neg q, if_neg q]
theorem tb_r (h : tX σ τ) {k : Int} (hk : 0 ≤ k) : -128 ≤ tb σ τ k ∧ tb σ τ k ≤ 127 := by
  unfold tb
  by_cases q : k < σ 69 2
  · rw [if_pos q]; exact (h.2.2.2 k hk q).2
  · rw [if_neg q]; omega
theorem cb_r {k : Int} : 0 ≤ cb σ τ k ∧ cb σ τ k ≤ 255 := by
  unfold cb
  split <;> omega
theorem cb_e (h : tX σ τ) {k : Int} (hk : 0 ≤ k) : (k < σ 69 2 ∧ tb σ τ k = τ 134 k ∧ cb σ τ k = tb σ τ k % 256) ∨ (σ 69 2 ≤ k ∧ tb σ τ k = -1 ∧ cb σ τ k = 0) := by
  unfold tb cb
  by_cases q : k < σ 69 2
  · left; simp only [if_pos q]; exact ⟨q, trivial, trivial⟩
  · right; simp only [if_neg q]; exact ⟨by omega, trivial, trivial⟩
theorem cb_c (h : tX σ τ) {k c : Int} (hk : 0 ≤ k) (hc : 1 ≤ c ∧ c ≤ 127) : cb σ τ k = c ↔ tb σ τ k = c := by
  have r := tb_r h hk
  have := cb_e h hk
  omega
theorem isL_cb (h : tX σ τ) {k : Int} (hk : 0 ≤ k) : isL (cb σ τ k) ↔ isL (tb σ τ k) := by
  have r := tb_r h hk
  have := cb_e h hk
  unfold isL
  omega
theorem isD_cb (h : tX σ τ) {k : Int} (hk : 0 ≤ k) : isD (cb σ τ k) ↔ isD (tb σ τ k) := by
  have r := tb_r h hk
  have := cb_e h hk
  unfold isD
  omega
theorem tk_isLetter_s {c : Int} : tk_isLetter σ c = some (σ, if isL c then 1 else 0) := by
  rw [tk_isLetter_e]
  simp only [tk_isLetter_b12_e, tk_isLetter_b24_e]
  by_cases q1 : c < 97
  · rw [if_pos q1]
    by_cases q2 : c < 65
    · rw [if_pos q2, if_neg (by unfold isL; omega)]
    · rw [if_neg q2]
      by_cases q3 : 90 < c
      · rw [if_pos q3, if_neg (by unfold isL; omega)]
      · rw [if_neg q3, if_pos (by unfold isL; omega)]
  · rw [if_neg q1]
    by_cases q2 : 122 < c
    · rw [if_pos q2, if_neg (show ¬ c < 65 by omega), if_pos (show 90 < c by omega), if_neg (by unfold isL; omega)]
    · rw [if_neg q2, if_pos (by unfold isL; omega)]
theorem md_isLetter_s {c : Int} : md_isLetter τ c = some (τ, if isL c then 1 else 0) := by
  rw [md_isLetter_e]
  simp only [md_isLetter_b12_e, md_isLetter_b24_e]
  by_cases q1 : c < 97
  · rw [if_pos q1]
    by_cases q2 : c < 65
    · rw [if_pos q2, if_neg (by unfold isL; omega)]
    · rw [if_neg q2]
      by_cases q3 : 90 < c
      · rw [if_pos q3, if_neg (by unfold isL; omega)]
      · rw [if_neg q3, if_pos (by unfold isL; omega)]
  · rw [if_neg q1]
    by_cases q2 : 122 < c
    · rw [if_pos q2, if_neg (show ¬ c < 65 by omega), if_pos (show 90 < c by omega), if_neg (by unfold isL; omega)]
    · rw [if_neg q2, if_pos (by unfold isL; omega)]
theorem tk_isDigit_s {c : Int} : tk_isDigit σ c = some (σ, if isD c then 1 else 0) := by
  rw [tk_isDigit_e]
  by_cases q1 : c < 48
  · rw [if_pos q1, if_neg (by unfold isD; omega)]
  · rw [if_neg q1]
    by_cases q2 : 57 < c
    · rw [if_pos q2, if_neg (by unfold isD; omega)]
    · rw [if_neg q2, if_pos (by unfold isD; omega)]
theorem md_isDigit_s {c : Int} : md_isDigit τ c = some (τ, if isD c then 1 else 0) := by
  rw [md_isDigit_e]
  by_cases q1 : c < 48
  · rw [if_pos q1, if_neg (by unfold isD; omega)]
  · rw [if_neg q1]
    by_cases q2 : 57 < c
    · rw [if_pos q2, if_neg (by unfold isD; omega)]
    · rw [if_neg q2, if_pos (by unfold isD; omega)]
theorem md_fails_s {k p : Int} : md_fails τ k p = some (gW (gW τ 119 30 k) 119 31 p, 120) := md_fails_e ..
theorem tk_fails_g (g : σ 69 8 = 0) {k p : Int} : tk_fails σ k p = some (gW (gW σ 69 8 k) 69 9 p, 0) := by rw [tk_fails_e, if_pos g]
theorem tk_fails_b (g : σ 69 8 ≠ 0) {k p : Int} : tk_fails σ k p = some (σ, 0) := by rw [tk_fails_e, if_neg g]
end TB
/-- a remark is skipped -/
theorem skip_c {x : Int} : ∀ (m : Nat) (σ τ : gM), tX σ τ → 0 ≤ σ 69 3 → σ 69 3 ≤ σ 69 2 → τ 119 24 = σ 69 3 → σ 69 2 - σ 69 3 = m → ∃ a, (σ 69 3 ≤ a ∧ a ≤ σ 69 2) ∧ tk_skip_b84 σ x = tk_skip_b121 (gW σ 69 3 a) x ∧ md_blanks_b41 τ = md_blanks_b104 (gW τ 119 24 a) ∧ (σ 69 3 < σ 69 2 → tb σ τ (σ 69 3) ≠ 10 → σ 69 3 < a)
  | 0, σ, τ, h, h0, h1, h2, hm => by
    have ht := h.2.2.1
    refine ⟨σ 69 3, by omega, ?_, ?_, by omega⟩
    · rw [tk_skip_b84_e, if_neg (by omega), gW_nop rfl]
    · rw [md_blanks_b41_e, if_neg (by omega), gW_nop h2]
  | m + 1, σ, τ, h, h0, h1, h2, hm => by
    have ht := h.2.2.1
    have hn := h.2.1
    by_cases q : tb σ τ (σ 69 3) = 10
    · refine ⟨σ 69 3, by omega, ?_, ?_, fun _ w => absurd q w⟩
      · rw [tk_skip_b84_e, if_pos (by omega), tk_byteAt_s h h0 (by omega)]
        simp only [Option.bind_some, (cb_c h h0 (by decide)).mpr q, if_true]
        rw [gW_nop rfl]
      · rw [md_blanks_b41_e, if_pos (by omega), h2, md_sign_s h h0]
        simp only [Option.bind_some, q, if_true]
        rw [gW_nop h2]
    · obtain ⟨a, ha, e1, e2, -⟩ := skip_c (x := x) m (gW σ 69 3 (σ 69 3 + 1)) (gW τ 119 24 (σ 69 3 + 1)) (h.a (by decide) (by decide)) (by rw [gW_at]; omega) (by rw [gW_at, gW_i (by decide)]; omega) (by rw [gW_at, gW_at]) (by rw [gW_at, gW_i (by decide)]; omega)
      rw [gW_at, gW_i (by decide)] at ha
      rw [gW_2] at e1 e2
      refine ⟨a, by omega, ?_, ?_, fun _ _ => by omega⟩
      · rw [tk_skip_b84_e, if_pos (by omega), tk_byteAt_s h h0 (by omega)]
        simp only [Option.bind_some, mt (cb_c h h0 (by decide)).mp q, if_false]
        rw [w32_e (by omega) (by omega)]
        exact e1
      · rw [md_blanks_b41_e, if_pos (by omega), h2, md_sign_s h h0]
        simp only [Option.bind_some, q, if_false]
        rw [h2, w32_e (by omega) (by omega)]
        exact e2
theorem skip_n {σ τ : gM} (h : tX σ τ) (h0 : 0 ≤ σ 69 3) (e : σ 69 3 = σ 69 2) (h2 : τ 119 24 = σ 69 3) : tk_skip_b2 σ 1 = some (σ, 0) ∧ md_blanks_b0 τ = some (τ, 0) := by
  have ht := h.2.2.1
  have hn := h.2.1
  have z : cb σ τ (σ 69 3) = 0 := by unfold cb; rw [if_neg (by omega)]
  constructor
  · rw [tk_skip_b2_e, if_neg (by decide), tk_byteAt_s h h0 (by omega)]
    simp only [Option.bind_some, z]
    rw [if_neg (by omega), tk_skip_b42_e, tk_skip_b43_e, if_pos rfl, if_neg (by decide), tk_skip_b121_e, tk_skip_b2_e, if_pos rfl]
  · rw [md_blanks_b0_e, if_neg (by omega)]
/-- what lies between tokens is skipped -/
theorem skip_s : ∀ (m : Nat) (σ τ : gM), tX σ τ → 0 ≤ σ 69 3 → σ 69 3 ≤ σ 69 2 → τ 119 24 = σ 69 3 → σ 69 2 - σ 69 3 ≤ m → ∃ a, (σ 69 3 ≤ a ∧ a ≤ σ 69 2) ∧ tk_skip_b2 σ 1 = some (gW σ 69 3 a, 0) ∧ md_blanks_b0 τ = some (gW τ 119 24 a, 0)
  | 0, σ, τ, h, h0, h1, h2, hm => by
    obtain ⟨e1, e2⟩ := skip_n h h0 (by omega) h2
    refine ⟨σ 69 3, by omega, ?_, ?_⟩
    · rw [e1, gW_nop rfl]
    · rw [e2, gW_nop h2]
  | m + 1, σ, τ, h, h0, h1, h2, hm => by
    have ht := h.2.2.1
    have hn := h.2.1
    by_cases qe : σ 69 3 = σ 69 2
    · obtain ⟨e1, e2⟩ := skip_n h h0 qe h2
      refine ⟨σ 69 3, by omega, ?_, ?_⟩
      · rw [e1, gW_nop rfl]
      · rw [e2, gW_nop h2]
    · have c10 := cb_c h h0 (c := 10) (by decide)
      have c32 := cb_c h h0 (c := 32) (by decide)
      have c47 := cb_c h h0 (c := 47) (by decide)
      by_cases c1 : tb σ τ (σ 69 3) = 10 ∨ tb σ τ (σ 69 3) = 32
      · obtain ⟨a, ha, e1, e2⟩ := skip_s m (gW σ 69 3 (σ 69 3 + 1)) (gW τ 119 24 (σ 69 3 + 1)) (h.a (by decide) (by decide)) (by rw [gW_at]; omega) (by rw [gW_at, gW_i (by decide)]; omega) (by rw [gW_at, gW_at]) (by rw [gW_at, gW_i (by decide)]; omega)
        rw [gW_at, gW_i (by decide)] at ha
        rw [gW_2] at e1 e2
        have f1 : tk_skip_b38 σ (cb σ τ (σ 69 3)) = some (gW σ 69 3 a, 0) := by
          rw [tk_skip_b38_e, tk_skip_b43_e, if_neg (by decide), w32_e (by omega) (by omega), tk_skip_b121_e]
          exact e1
        have f2 : md_blanks_b90 τ = some (gW τ 119 24 a, 0) := by
          rw [md_blanks_b90_e, md_blanks_b104_e, h2, w32_e (by omega) (by omega)]
          exact e2
        refine ⟨a, by omega, ?_, ?_⟩
        · rw [tk_skip_b2_e, if_neg (by decide), tk_byteAt_s h h0 (by omega)]
          simp only [Option.bind_some]
          rw [if_pos (by omega)]
          rcases c1 with c1 | c1
          · rw [if_pos (c10.mpr c1)]; exact f1
          · rw [if_neg (by omega), if_pos (c32.mpr c1)]; exact f1
        · rw [md_blanks_b0_e, if_pos (by omega), h2, md_sign_s h h0]
          simp only [Option.bind_some]
          rw [if_neg (by omega), md_blanks_b78_e]
          rcases c1 with c1 | c1
          · rw [if_pos c1]; exact f2
          · rw [if_neg (by omega), if_pos c1]; exact f2
      · by_cases c2 : tb σ τ (σ 69 3) = 47
        · have d47 := cb_c h (k := σ 69 3 + 1) (by omega) (c := 47) (by decide)
          by_cases c3 : tb σ τ (σ 69 3 + 1) = 47
          · obtain ⟨b, hb, g1, g2, g3⟩ := skip_c (x := 1) (σ 69 2 - σ 69 3).toNat σ τ h h0 h1 h2 (by omega)
            have g3 := g3 (by omega) (by omega)
            obtain ⟨a, ha, e1, e2⟩ := skip_s m (gW σ 69 3 b) (gW τ 119 24 b) (h.a (by decide) (by decide)) (by rw [gW_at]; omega) (by rw [gW_at, gW_i (by decide)]; omega) (by rw [gW_at, gW_at]) (by rw [gW_at, gW_i (by decide)]; omega)
            rw [gW_at, gW_i (by decide)] at ha
            rw [gW_2] at e1 e2
            refine ⟨a, by omega, ?_, ?_⟩
            · rw [tk_skip_b2_e, if_neg (by decide), tk_byteAt_s h h0 (by omega)]
              simp only [Option.bind_some]
              rw [if_pos (by omega), if_neg (by omega), if_neg (by omega), tk_skip_b42_e, tk_skip_b43_e, if_pos rfl, if_pos (c47.mpr c2), w32_e (by omega) (by omega), tk_byteAt_s h (by omega) (by omega)]
              simp only [Option.bind_some]
              rw [if_pos (d47.mpr c3), g1, tk_skip_b121_e]
              exact e1
            · rw [md_blanks_b0_e, if_pos (by omega), h2, md_sign_s h h0]
              simp only [Option.bind_some]
              rw [if_pos c2, h2, w32_e (by omega) (by omega), md_sign_s h (by omega)]
              simp only [Option.bind_some]
              rw [if_pos c3, g2, md_blanks_b104_e]
              exact e2
          · refine ⟨σ 69 3, by omega, ?_, ?_⟩
            · rw [tk_skip_b2_e, if_neg (by decide), tk_byteAt_s h h0 (by omega)]
              simp only [Option.bind_some]
              rw [if_pos (by omega), if_neg (by omega), if_neg (by omega), tk_skip_b42_e, tk_skip_b43_e, if_pos rfl, if_pos (c47.mpr c2), w32_e (by omega) (by omega), tk_byteAt_s h (by omega) (by omega)]
              simp only [Option.bind_some]
              rw [if_neg (mt d47.mp c3), tk_skip_b121_e, tk_skip_b2_e, if_pos rfl, gW_nop rfl]
            · rw [md_blanks_b0_e, if_pos (by omega), h2, md_sign_s h h0]
              simp only [Option.bind_some]
              rw [if_pos c2, h2, w32_e (by omega) (by omega), md_sign_s h (by omega)]
              simp only [Option.bind_some]
              rw [if_neg c3, md_blanks_b78_e, if_neg (by omega), if_neg (by omega), gW_nop h2]
        · refine ⟨σ 69 3, by omega, ?_, ?_⟩
          · rw [tk_skip_b2_e, if_neg (by decide), tk_byteAt_s h h0 (by omega)]
            simp only [Option.bind_some]
            rw [if_pos (by omega), if_neg (by omega), if_neg (by omega), tk_skip_b42_e, tk_skip_b43_e, if_pos rfl, if_neg (mt c47.mp c2), tk_skip_b121_e, tk_skip_b2_e, if_pos rfl, gW_nop rfl]
          · rw [md_blanks_b0_e, if_pos (by omega), h2, md_sign_s h h0]
            simp only [Option.bind_some]
            rw [if_neg c2, md_blanks_b78_e, if_neg (by omega), if_neg (by omega), gW_nop h2]
