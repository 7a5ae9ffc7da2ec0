/-! one token: strings, signs, all of them -/
section RS
theorem str_bad {S T : gM} {a z : Int} (p : Int) (p1 : a + z < S 69 2 → p = a + z) (p2 : a + z = S 69 2 → p = S 69 2) (hn : a + z ≤ S 69 2) : rdR S T a (((some (gW (gW S 69 8 1) 69 9 p, 0) : Option (gM × Int)).bind fun p1 => (some (gW p1.1 69 6 (z + 1), 0) : Option (gM × Int))).bind fun p => tk_read_b235 p.1) (some (gW (gW T 119 30 1) 119 31 (a + z), none)) := by
  simp only [Option.bind_some, tk_read_b235_e]
  refine ⟨_, _, rfl, (((((rdF.rf.w (by decide)).w (by decide)).w (by decide)).w (by decide)).v (by decide)).v (by decide), Or.inr ⟨rfl, by simp [gW], by simp [gW], ?_⟩⟩
  simp [gW]
  omega
/-- a string -/
theorem str_s : ∀ (m : Nat) (S T : gM) (a z : Int), tX S T → S 69 3 = a → S 69 5 = a → S 69 6 = z → S 69 4 = 3 → S 69 8 = 0 → T 119 24 = a + z → T 119 26 = a → 0 ≤ a → 1 ≤ z → z ≤ 41 → a + z ≤ S 69 2 → S 69 2 - (a + z) = m →
    rdR S T a ((tk_string_b5 S).bind fun p => tk_read_b235 p.1) ((md_string_b0 T).bind fun p7 => gtry p7.2 (fun _ => md_take_b217 p7.1) (some (p7.1, none)))
  | 0, S, T, a, z, h, h3, h5, h6, h4, h8, h24, h26, a0, z0, z41, hn, hm => by
    have hb := h.2.1
    have h23 := h.2.2.1
    have r := tb_r h (k := a + z) (by omega)
    have ce := cb_e h (k := a + z) (by omega)
    have e1 : tk_string_b5 S = ((some (gW (gW S 69 8 1) 69 9 (S 69 2), 0) : Option (gM × Int)).bind fun p1 => (some (gW p1.1 69 6 (z + 1), 0) : Option (gM × Int))) := by
      rw [tk_string_b5_e, h3, h6, w32_e (by omega) (by omega), if_neg (by omega), tk_string_b112_e, h3, h6, w32_e (by omega) (by omega), if_pos (by omega), tk_fails_g h8]
      simp only [Option.bind_some, tk_string_b138_e]
      rw [show gW (gW S 69 8 1) 69 9 (S 69 2) 69 6 = z by simp [gW, h6], w32_e (by omega) (by omega)]
    have e2 : md_string_b0 T = some (gW (gW T 119 30 1) 119 31 (a + z), none) := by
      rw [md_string_b0_e, h24, md_sign_s h (by omega)]
      simp only [Option.bind_some]
      rw [if_neg (by omega), if_neg (by omega), md_string_b64_e, md_fails_s, h24]
      simp only [Option.bind_some, gthr_s]
    rw [e1, e2]
    exact str_bad _ (by omega) (by omega) hn
  | m + 1, S, T, a, z, h, h3, h5, h6, h4, h8, h24, h26, a0, z0, z41, hn, hm => by
    have hb := h.2.1
    have h23 := h.2.2.1
    have r := tb_r h (k := a + z) (by omega)
    have ce := cb_e h (k := a + z) (by omega)
    by_cases q : tb S T (a + z) = 34
    · have e1 : tk_string_b5 S = some (gW S 69 6 (z + 1), 0) := by
        rw [tk_string_b5_e, h3, h6, w32_e (by omega) (by omega), if_pos (by omega), tk_byteAt_s h (by omega) (by omega)]
        simp only [Option.bind_some]
        rw [if_pos (by omega), tk_string_b112_e, h3, h6, w32_e (by omega) (by omega), if_neg (by omega), tk_string_b138_e, h6, w32_e (by omega) (by omega)]
      have e2 : md_string_b0 T = some (gW (gW T 119 24 (a + z + 1)) 119 25 3, some 0) := by
        rw [md_string_b0_e, h24, md_sign_s h (by omega)]
        simp only [Option.bind_some]
        rw [if_pos q, h24, w32_e (by omega) (by omega)]
      rw [e1, e2]
      simp only [Option.bind_some, gtry, tk_read_b235_e, md_take_b217_e]
      have c3 : gW S 69 6 (z + 1) 69 3 = a := by rw [gW_i (by decide), h3]
      have c24 : gW (gW T 119 24 (a + z + 1)) 119 25 3 119 24 = a + z + 1 := by rw [gW_i (by decide), gW_at]
      rw [c3, gW_at, c24, w32_e (by omega) (by omega)]
      refine ⟨_, _, rfl, ((((rdF.rf.w (by decide)).w (by decide)).v (by decide)).v (by decide)).v (by decide), Or.inl ⟨rfl, ⟨?_, ?_⟩, by simp [gW, h8], by simp [gW], by simp [gW, h5]⟩⟩
      · unfold tKp
        simp [gW, h5, h26]
        omega
      · unfold tKk
        right; right; right; left
        simp [gW, h4]
        omega
    · by_cases c : tb S T (a + z) < 32 ∨ 126 < tb S T (a + z) ∨ 40 < z
      · have bf : (tk_string_b81 S) = ((some (gW (gW S 69 8 1) 69 9 (a + z), 0) : Option (gM × Int)).bind fun p1 => (some (gW p1.1 69 6 (z + 1), 0) : Option (gM × Int))) := by
          have hX := (rdF.rf (σ := S) (τ := T) |>.w (i := 8) (v := 1) (by decide) |>.w (i := 9) (v := a + z) (by decide)).tx h
          rw [tk_string_b81_e, h3, h6, w32_e (by omega) (by omega), tk_fails_g h8]
          simp only [Option.bind_some]
          have c3 : gW (gW S 69 8 1) 69 9 (a + z) 69 3 = a := by simp [gW, h3]
          have c6 : gW (gW S 69 8 1) 69 9 (a + z) 69 6 = z := by simp [gW, h6]
          have c2 : gW (gW S 69 8 1) 69 9 (a + z) 69 2 = S 69 2 := by simp [gW]
          have c8 : gW (gW S 69 8 1) 69 9 (a + z) 69 8 = 1 := by simp [gW]
          rw [tk_string_b109_e, tk_string_b5_e, c3, c6, c2, w32_e (x := a + z) (by omega) (by omega), if_pos (by omega), tk_byteAt_s hX (by omega) (by omega)]
          simp only [Option.bind_some, c8]
          have e5 : tk_string_b112 (gW (gW S 69 8 1) 69 9 (a + z)) = some (gW (gW (gW S 69 8 1) 69 9 (a + z)) 69 6 (z + 1), 0) := by
            rw [tk_string_b112_e, c3, c6, c2, w32_e (x := a + z) (by omega) (by omega), if_neg (by omega), tk_string_b138_e, c6, w32_e (by omega) (by omega)]
          rw [e5, if_neg (show ¬ ((1 : Int) = 0) by decide), ite_self]
        have e1 : tk_string_b5 S = tk_string_b81 S := by
          rw [tk_string_b5_e, h3, h6, w32_e (by omega) (by omega), if_pos (by omega), tk_byteAt_s h (by omega) (by omega)]
          simp only [Option.bind_some]
          rw [if_neg (by omega), if_pos h8, h3, h6, w32_e (by omega) (by omega), tk_byteAt_s h (by omega) (by omega)]
          simp only [Option.bind_some]
          by_cases u1 : cb S T (a + z) < 32
          · rw [if_pos u1]
          · rw [if_neg u1]
            by_cases u2 : 126 < cb S T (a + z)
            · rw [if_pos u2]
            · rw [if_neg u2, h6, if_pos (by omega)]
        have e2 : md_string_b0 T = some (gW (gW T 119 30 1) 119 31 (a + z), none) := by
          have e3 : md_string_b64 T = some (gW (gW T 119 30 1) 119 31 (a + z), none) := by
            rw [md_string_b64_e, md_fails_s, h24]
            simp only [Option.bind_some, gthr_s]
          rw [md_string_b0_e, h24, md_sign_s h (by omega)]
          simp only [Option.bind_some]
          rw [if_neg q, if_pos (by omega), h24, md_sign_s h (by omega)]
          simp only [Option.bind_some]
          by_cases u1 : tb S T (a + z) < 32
          · rw [if_pos u1]; exact e3
          · rw [if_neg u1, h24, md_sign_s h (by omega)]
            simp only [Option.bind_some]
            by_cases u2 : 126 < tb S T (a + z)
            · rw [if_pos u2]; exact e3
            · rw [if_neg u2, h24, h26, w32_e (by omega) (by omega), if_pos (by omega)]; exact e3
        rw [e1, bf, e2]
        exact str_bad _ (by omega) (by omega) hn
      · have F : rdF S (gW S 69 6 (z + 1)) T (gW T 119 24 (a + (z + 1))) := (rdF.rf.w (by decide)).v (by decide)
        have ih := str_s m (gW S 69 6 (z + 1)) (gW T 119 24 (a + (z + 1))) a (z + 1) (F.tx h) (by rw [gW_i (by decide), h3]) (by rw [gW_i (by decide), h5]) (by rw [gW_at]) (by rw [gW_i (by decide), h4]) (by rw [gW_i (by decide), h8]) (by rw [gW_at]) (by rw [gW_i (by decide), h26]) a0 (by omega) (by omega) (by rw [gW_i (by decide)]; omega) (by rw [gW_i (by decide)]; omega)
        have e1 : tk_string_b5 S = tk_string_b5 (gW S 69 6 (z + 1)) := by
          rw [tk_string_b5_e, h3, h6, w32_e (by omega) (by omega), if_pos (by omega), tk_byteAt_s h (by omega) (by omega)]
          simp only [Option.bind_some]
          rw [if_neg (by omega), if_pos h8, h3, h6, w32_e (by omega) (by omega), tk_byteAt_s h (by omega) (by omega)]
          simp only [Option.bind_some]
          rw [if_neg (by omega), if_neg (by omega), h6, if_neg (by omega), w32_e (by omega) (by omega), tk_string_b109_e]
        have e2 : md_string_b0 T = md_string_b0 (gW T 119 24 (a + (z + 1))) := by
          rw [md_string_b0_e, h24, md_sign_s h (by omega)]
          simp only [Option.bind_some]
          rw [if_neg q, if_pos (by omega), h24, md_sign_s h (by omega)]
          simp only [Option.bind_some]
          rw [if_neg (by omega), h24, md_sign_s h (by omega)]
          simp only [Option.bind_some]
          rw [if_neg (by omega), h24, h26, w32_e (by omega) (by omega), if_neg (by omega), w32_e (by omega) (by omega), show a + z + 1 = a + (z + 1) by omega]
        rw [e1, e2]
        exact ih.of F (by rw [gW_i (by decide)])
end RS
/-! signs -/
abbrev sgC (c : Int) : Prop := c = 40 ∨ c = 41 ∨ c = 123 ∨ c = 125 ∨ c = 91 ∨ c = 93 ∨ c = 44 ∨ c = 59 ∨ c = 46 ∨ c = 61 ∨ c = 33 ∨ c = 60 ∨ c = 62 ∨ c = 43 ∨ c = 45 ∨ c = 42 ∨ c = 47
theorem sg14_f : ∀ i : Fin 19, sgC (gsc 14 i.val) ∨ gsc 14 i.val = 38 ∨ gsc 14 i.val = 124 := by decide +kernel
theorem sg14_g : ∀ c : Fin 128, (sgC c.val ∨ (c.val : Int) = 38 ∨ (c.val : Int) = 124) → ∃ i : Fin 19, gsc 14 i.val = c.val := by decide +kernel
theorem sg21_f : ∀ i : Fin 17, sgC (gsc 21 i.val) := by decide +kernel
theorem sg21_g : ∀ c : Fin 128, sgC c.val → ∃ i : Fin 17, gsc 21 i.val = c.val := by decide +kernel
theorem gsl_14 : gsl 14 = 19 := by decide
theorem gsl_21 : gsl 21 = 17 := by decide
section SG
theorem sgm_s {T : gM} {c : Int} : ∀ (m k : Nat), k + m = 19 → ∃ r : Nat, md_signs_b2 T c k = md_signs_b29 T c r ∧ ((r = 19 ∧ ∀ i : Nat, k ≤ i → i < 19 → gsc 14 i ≠ c) ∨ (r < 19 ∧ gsc 14 r = c))
  | 0, k, hk => by
    rw [md_signs_b2_e, st_length_s (by decide)]
    simp only [Option.bind_some, gsl_14]
    rw [if_neg (by omega)]
    exact ⟨k, rfl, Or.inl ⟨by omega, fun i a b => by omega⟩⟩
  | m + 1, k, hk => by
    rw [md_signs_b2_e, st_length_s (by decide)]
    simp only [Option.bind_some, gsl_14]
    rw [if_pos (by omega), st_charAt_s (by decide) (by rw [gsl_14]; omega)]
    simp only [Option.bind_some]
    by_cases q : gsc 14 k = c
    · rw [if_pos q]
      exact ⟨k, rfl, Or.inr ⟨by omega, q⟩⟩
    · rw [if_neg q, w32_e (by omega) (by omega), show (k : Int) + 1 = ((k + 1 : Nat) : Int) by omega]
      obtain ⟨r, e, hr⟩ := sgm_s m (k + 1) (by omega)
      refine ⟨r, e, ?_⟩
      rcases hr with ⟨r1, r2⟩ | r1
      · left
        refine ⟨r1, fun i a b => ?_⟩
        by_cases z : i = k
        · rw [z]; exact q
        · exact r2 i (by omega) b
      · exact Or.inr r1
theorem md_signs_g {T : gM} {c : Int} : ((sgC c ∨ c = 38 ∨ c = 124) ∧ ∃ r : Nat, r < 19 ∧ md_signs T c = md_signs_b29 T c r) ∨ (¬ (sgC c ∨ c = 38 ∨ c = 124) ∧ md_signs T c = md_signs_b29 T c 19) := by
  obtain ⟨r, e, hr⟩ := sgm_s (T := T) (c := c) 19 0 (by omega)
  have e' : md_signs_b2 T c 0 = md_signs_b29 T c r := e
  rw [md_signs_e, e']
  rcases hr with ⟨r1, r2⟩ | ⟨r1, r2⟩
  · right
    refine ⟨fun w => ?_, by rw [r1]; rfl⟩
    obtain ⟨i, hi⟩ := sg14_g ⟨c.toNat, by unfold sgC at w; omega⟩ (by simp only [show ((c.toNat : Nat) : Int) = c by unfold sgC at w; omega]; exact w)
    simp only [show ((c.toNat : Nat) : Int) = c by unfold sgC at w; omega] at hi
    exact r2 i.val (Nat.zero_le _) i.isLt hi
  · left
    have := sg14_f ⟨r, r1⟩
    simp only [r2] at this
    exact ⟨this, r, r1, rfl⟩
theorem st_ix21 {S : gM} {c : Int} (h : 0 ≤ c ∧ c ≤ 255) : ∃ r, st_indexOf_2 S 21 c = some (S, r) ∧ ((r < 0 ∧ ¬ sgC c) ∨ (0 ≤ r ∧ sgC c)) := by
  obtain ⟨r, e, hr⟩ := st_indexOf_s (σ := S) (s := 21) (c := c) (k := 0) (by decide) h (by decide) (by rw [gsl_21]; decide)
  refine ⟨r, by rw [st_indexOf_2_e, gtx_ok (by decide), e]; rfl, ?_⟩
  rw [gsl_21, w8_c h] at hr
  rcases hr with ⟨r1, r2⟩ | ⟨r1, r2, r3, -⟩
  · left
    refine ⟨by omega, fun w => ?_⟩
    have w' := w
    unfold sgC at w'
    obtain ⟨i, hi⟩ := sg21_g ⟨c.toNat, by omega⟩ (by simp only [show ((c.toNat : Nat) : Int) = c by omega]; exact w)
    simp only [show ((c.toNat : Nat) : Int) = c by omega] at hi
    rw [if_pos (by omega)] at r2
    exact r2 i.val (by omega) (by omega) hi
  · right
    have g := sg21_f ⟨r.toNat, by omega⟩
    simp only [show ((r.toNat : Nat) : Int) = r by omega, r3] at g
    by_cases q : c ≤ 127
    · rw [if_pos q] at g; exact ⟨r1, g⟩
    · rw [if_neg q] at g; unfold sgC at g; omega
variable {S T : gM} {a : Int}
theorem rd_sg (h : tX S T) (h3 : S 69 3 = a) (h5 : S 69 5 = a) (h6 : S 69 6 = 1) (h8 : S 69 8 = 0) (h24 : T 119 24 = a) (h26 : T 119 26 = a) (a0 : 0 ≤ a) (an : a < S 69 2) :
    rdR S T a ((tk_signs S (cb S T a)).bind fun p5 => tk_read_b235 p5.1) ((md_signs T (tb S T a)).bind fun p5 => gtry p5.2 (fun _ => md_take_b217 p5.1) (some (p5.1, none))) := by
  have hb := h.2.1
  have r := tb_r h (k := a) a0
  have ce := cb_e h (k := a) a0
  have cr := cb_r (σ := S) (τ := T) (k := a)
  have F4 : rdF S (gW S 69 4 4) T T := rdF.rf.w (by decide)
  have hX := F4.tx h
  have c43 : gW S 69 4 4 69 3 = a := by rw [gW_i (by decide), h3]
  have c46 : gW S 69 4 4 69 6 = 1 := by rw [gW_i (by decide), h6]
  have c48 : gW S 69 4 4 69 8 = 0 := by rw [gW_i (by decide), h8]
  have nx : tk_byteAt (gW S 69 4 4) (w32 (S 69 3 + 1)) = some (gW S 69 4 4, cb S T (a + 1)) := by
    rw [h3, w32_e (by omega) (by omega), tk_byteAt_s hX (by omega) (by omega)]
    rfl
  have nc : ∀ c, (1 ≤ c ∧ c ≤ 127) → (cb S T (a + 1) = c ↔ tb S T (a + 1) = c) := fun c hc => cb_c h (by omega) hc
  have t1 : md_sign T (w32 (T 119 24 + 1)) = some (T, tb S T (a + 1)) := by
    rw [h24, w32_e (by omega) (by omega), md_sign_s h (by omega)]
  have gT : ∀ {v : Int}, T 119 24 = a → gW T 119 24 v 119 24 = v := fun _ => gW_at _ _ _ _
  -- the component with two signs, with one, with a fault
  have k2 : ∀ x : Int, tk_signs_b63 (gW S 69 4 4) (cb S T a) x = some (gW (gW (gW S 69 4 4) 69 6 2) 69 7 (w32 (w32 (cb S T a * 256) + x)), 0) := fun x => by
    rw [tk_signs_b63_e, tk_signs_b121_e, gW_at, if_pos rfl, tk_signs_b141_e]
  have k1 : ∀ x : Int, tk_signs_b121 (gW S 69 4 4) (cb S T a) x = some (gW (gW S 69 4 4) 69 7 (cb S T a), 0) := fun x => by
    rw [tk_signs_b121_e, c46, if_neg (by decide), tk_signs_b141_e]
  have kf : ∀ x p : Int, (tk_fails (gW S 69 4 4) 1 p).bind (fun p1 => tk_signs_b121 p1.1 (cb S T a) x) = some (gW (gW (gW (gW S 69 4 4) 69 8 1) 69 9 p) 69 7 (cb S T a), 0) := fun x p => by
    rw [tk_fails_g c48]
    simp only [Option.bind_some, tk_signs_b121_e, tk_signs_b141_e]
    rw [if_neg (by simp [gW, h6])]
  have bad : ∀ p v : Int, rdR S T a ((some (gW (gW (gW (gW S 69 4 4) 69 8 1) 69 9 p) 69 7 v, 0) : Option (gM × Int)).bind fun p5 => tk_read_b235 p5.1) (some (gW (gW T 119 30 1) 119 31 p, none)) := fun p v => by
    simp only [Option.bind_some, tk_read_b235_e]
    exact ⟨_, _, rfl, ((((((F4.w (by decide)).w (by decide)).w (by decide)).w (by decide)).v (by decide)).v (by decide)), Or.inr ⟨rfl, by simp [gW], by simp [gW], by simp [gW]⟩⟩
  have bad1 : ∀ v : Int, rdR S T a ((some (gW (gW (gW (gW S 69 4 4) 69 8 1) 69 9 (a + 1)) 69 7 v, 0) : Option (gM × Int)).bind fun p5 => tk_read_b235 p5.1) (some (gW (gW (gW T 119 24 (a + 1)) 119 30 1) 119 31 (a + 1), none)) := fun v => by
    simp only [Option.bind_some, tk_read_b235_e]
    exact ⟨_, _, rfl, (((((((F4.w (by decide)).w (by decide)).w (by decide)).w (by decide)).v (by decide)).v (by decide)).v (by decide)), Or.inr ⟨rfl, by simp [gW], by simp [gW], by simp [gW]⟩⟩
  have ok2 : ∀ v t : Int, sG v t → a + 2 ≤ S 69 2 → rdR S T a ((some (gW (gW (gW S 69 4 4) 69 6 2) 69 7 v, 0) : Option (gM × Int)).bind fun p5 => tk_read_b235 p5.1) (((some (gW (gW T 119 24 (a + 2)) 119 25 t, some 0) : Option (gM × Option Int)).bind fun p5 => gtry p5.2 (fun _ => md_take_b217 p5.1) (some (p5.1, none)))) := fun v t hv h2 => by
    simp only [Option.bind_some, gtry, tk_read_b235_e, md_take_b217_e]
    have c3 : gW (gW (gW S 69 4 4) 69 6 2) 69 7 v 69 3 = a := by simp [gW, h3]
    have c6 : gW (gW (gW S 69 4 4) 69 6 2) 69 7 v 69 6 = 2 := by simp [gW]
    have c24 : gW (gW T 119 24 (a + 2)) 119 25 t 119 24 = a + 2 := by simp [gW]
    rw [c3, c6, c24, w32_e (by omega) (by omega)]
    refine ⟨_, _, rfl, ((((((F4.w (by decide)).w (by decide)).w (by decide)).v (by decide)).v (by decide)).v (by decide)), Or.inl ⟨rfl, ⟨?_, ?_⟩, by simp [gW, h8], by simp [gW], by simp [gW, h5]⟩⟩
    · unfold tKp
      simp [gW, h5, h26]
      omega
    · unfold tKk
      right; right; right; right; left
      refine ⟨by simp [gW], ?_, by simp [gW]⟩
      rw [show gW (gW (gW (gW S 69 4 4) 69 6 2) 69 7 v) 69 3 (a + 2) 69 7 = v by simp [gW], show gW (gW (gW T 119 24 (a + 2)) 119 25 t) 119 27 (a + 2) 119 25 = t by simp [gW]]
      exact hv
  have ok1 : ∀ v t : Int, sG v t → rdR S T a ((some (gW (gW S 69 4 4) 69 7 v, 0) : Option (gM × Int)).bind fun p5 => tk_read_b235 p5.1) (((some (gW (gW T 119 24 (a + 1)) 119 25 t, some 0) : Option (gM × Option Int)).bind fun p5 => gtry p5.2 (fun _ => md_take_b217 p5.1) (some (p5.1, none)))) := fun v t hv => by
    simp only [Option.bind_some, gtry, tk_read_b235_e, md_take_b217_e]
    have c3 : gW (gW S 69 4 4) 69 7 v 69 3 = a := by simp [gW, h3]
    have c6 : gW (gW S 69 4 4) 69 7 v 69 6 = 1 := by simp [gW, h6]
    have c24 : gW (gW T 119 24 (a + 1)) 119 25 t 119 24 = a + 1 := by simp [gW]
    rw [c3, c6, c24, w32_e (by omega) (by omega)]
    refine ⟨_, _, rfl, (((((F4.w (by decide)).w (by decide)).v (by decide)).v (by decide)).v (by decide)), Or.inl ⟨rfl, ⟨?_, ?_⟩, by simp [gW, h8], by simp [gW], by simp [gW, h5]⟩⟩
    · unfold tKp
      simp [gW, h5, h26, h6]
      omega
    · unfold tKk
      right; right; right; right; left
      refine ⟨by simp [gW], ?_, by simp [gW, h6]⟩
      rw [show gW (gW (gW S 69 4 4) 69 7 v) 69 3 (a + 1) 69 7 = v by simp [gW], show gW (gW (gW T 119 24 (a + 1)) 119 25 t) 119 27 (a + 1) 119 25 = t by simp [gW]]
      exact hv
  have s1 : tk_signs S (cb S T a) = if cb S T a = 38 then tk_signs_b28 (gW S 69 4 4) (cb S T a) (cb S T (a + 1)) else if cb S T a = 124 then tk_signs_b28 (gW S 69 4 4) (cb S T a) (cb S T (a + 1)) else tk_signs_b33 (gW S 69 4 4) (cb S T a) (cb S T (a + 1)) := by
    rw [tk_signs_e, nx]; rfl
  have w24 : ∀ v w : Int, gW T 119 24 v 119 24 = v := fun v _ => gW_at _ _ _ _
  have b29 : ∀ rr : Nat, rr < 19 → md_signs_b29 T (tb S T a) rr = md_signs_b89 T (tb S T a) (if tb S T (a + 1) = tb S T a then 1 else 0) (if tb S T (a + 1) = 61 then 1 else 0) := fun rr hr => by
    rw [md_signs_b29_e, st_length_s (by decide)]
    simp only [Option.bind_some, gsl_14]
    rw [if_neg (by omega), t1]
    simp only [Option.bind_some]
    by_cases u : tb S T (a + 1) = tb S T a
    · rw [if_pos u, if_pos u, md_signs_b68_e, t1]
      simp only [Option.bind_some]
      by_cases u2 : tb S T (a + 1) = 61
      · rw [if_pos u2, if_pos u2]
      · rw [if_neg u2, if_neg u2]
    · rw [if_neg u, if_neg u, md_signs_b68_e, t1]
      simp only [Option.bind_some]
      by_cases u2 : tb S T (a + 1) = 61
      · rw [if_pos u2, if_pos u2]
      · rw [if_neg u2, if_neg u2]
  have n2 : ∀ c, tb S T (a + 1) = c → 0 < c → a + 2 ≤ S 69 2 := fun c e1 e2 => by
    have := cb_e h (k := a + 1) (by omega)
    omega
  rcases md_signs_g (T := T) (c := tb S T a) with ⟨g, rr, hr, e⟩ | ⟨g, e⟩
  · rw [e, b29 rr hr, s1, md_signs_b89_e, h24, w32_e (by omega) (by omega)]
    have cpos : 0 ≤ tb S T a := by unfold sgC at g; omega
    have cc : cb S T a = tb S T a := by omega
    have sgo : ¬ (tb S T a = 38 ∨ tb S T a = 124) → sgC (tb S T a) := fun am => by rcases g with g | g; exact g; exact absurd g am
    clear g ce
    by_cases am : tb S T a = 38 ∨ tb S T a = 124
    · have p1 : (if tb S T a = 38 then md_signs_b113 (gW T 119 24 (a + 1)) (tb S T a) (if tb S T (a + 1) = tb S T a then 1 else 0) else if tb S T a = 124 then md_signs_b113 (gW T 119 24 (a + 1)) (tb S T a) (if tb S T (a + 1) = tb S T a then 1 else 0) else (if (if tb S T (a + 1) = 61 then (1 : Int) else 0) = 0 then md_signs_b234 (gW T 119 24 (a + 1)) (tb S T a) else if tb S T a = 61 then md_signs_b184 (gW T 119 24 (a + 1)) (tb S T a) else if tb S T a = 33 then md_signs_b184 (gW T 119 24 (a + 1)) (tb S T a) else if tb S T a = 60 then md_signs_b184 (gW T 119 24 (a + 1)) (tb S T a) else if tb S T a = 62 then md_signs_b184 (gW T 119 24 (a + 1)) (tb S T a) else md_signs_b234 (gW T 119 24 (a + 1)) (tb S T a))) = md_signs_b113 (gW T 119 24 (a + 1)) (tb S T a) (if tb S T (a + 1) = tb S T a then 1 else 0) := by
        by_cases u : tb S T a = 38
        · rw [if_pos u]
        · rw [if_neg u, if_pos (by omega)]
      have p2 : (if cb S T a = 38 then tk_signs_b28 (gW S 69 4 4) (cb S T a) (cb S T (a + 1)) else if cb S T a = 124 then tk_signs_b28 (gW S 69 4 4) (cb S T a) (cb S T (a + 1)) else tk_signs_b33 (gW S 69 4 4) (cb S T a) (cb S T (a + 1))) = tk_signs_b28 (gW S 69 4 4) (cb S T a) (cb S T (a + 1)) := by
        by_cases u : cb S T a = 38
        · rw [if_pos u]
        · rw [if_neg u, if_pos (by omega)]
      rw [p1, p2, tk_signs_b28_e]
      by_cases u : tb S T (a + 1) = tb S T a
      · have u' : cb S T (a + 1) = cb S T a := by rw [cc]; exact (nc _ (by omega)).mpr u
        rw [if_pos u', k2, if_pos u, md_signs_b113_e, if_neg (by decide), gW_at, w32_e (x := a + 1 + 1) (by omega) (by omega), gW_2, show a + 1 + 1 = a + 2 by omega, u', w32_e (x := cb S T a * 256) (by omega) (by omega), w32_e (by omega) (by omega)]
        by_cases v : tb S T a = 38
        · rw [if_pos v, md_signs_b151_e]
          exact ok2 _ _ (by rw [cc, v]; unfold sG; decide) (n2 _ u (by omega))
        · have v' : tb S T a = 124 := by omega
          rw [if_neg v, md_signs_b151_e]
          exact ok2 _ _ (by rw [cc, v']; unfold sG; decide) (n2 _ u (by omega))
      · have u' : cb S T (a + 1) ≠ cb S T a := by rw [cc]; exact mt (nc _ (by omega)).mp u
        rw [if_neg u', if_neg u, tk_signs_b33_e, if_neg (by omega), if_neg (by omega), if_neg (by omega), if_neg (by omega), tk_signs_b71_e]
        have p3 : (if cb S T a = 38 then tk_signs_b83 (gW S 69 4 4) (cb S T a) (cb S T (a + 1)) else if cb S T a = 124 then tk_signs_b83 (gW S 69 4 4) (cb S T a) (cb S T (a + 1)) else (st_indexOf_2 (gW S 69 4 4) 21 (cb S T a)).bind fun p1 => if p1.2 < 0 then tk_signs_b111 p1.1 (cb S T a) (cb S T (a + 1)) else if cb S T a = 0 then tk_signs_b111 p1.1 (cb S T a) (cb S T (a + 1)) else tk_signs_b121 p1.1 (cb S T a) (cb S T (a + 1))) = tk_signs_b83 (gW S 69 4 4) (cb S T a) (cb S T (a + 1)) := by
          by_cases u : cb S T a = 38
          · rw [if_pos u]
          · rw [if_neg u, if_pos (by omega)]
        rw [p3, tk_signs_b83_e, c43, w32_e (x := a + 1) (by omega) (by omega), kf, md_signs_b113_e, if_pos rfl, gW_at, md_fails_s]
        simp only [Option.bind_some, gthr_s, gtry]
        exact bad1 _
    · have sg := sgo am
      rw [if_neg (by omega), if_neg (by omega), if_neg (by omega), if_neg (by omega), tk_signs_b33_e]
      obtain ⟨r21, e21, h21⟩ := st_ix21 (S := gW S 69 4 4) (c := cb S T a) cr
      have h21' : 0 ≤ r21 := by
        rcases h21 with ⟨_, w⟩ | ⟨w, _⟩
        · exact absurd (by rw [cc]; exact sg) w
        · exact w
      have one : tk_signs_b71 (gW S 69 4 4) (cb S T a) (cb S T (a + 1)) = some (gW (gW S 69 4 4) 69 7 (cb S T a), 0) := by
        rw [tk_signs_b71_e, if_neg (by omega), if_neg (by omega), e21]
        simp only [Option.bind_some]
        rw [if_neg (by omega), if_neg (by unfold sgC at sg; omega), k1]
      have mone : rdR S T a ((some (gW (gW S 69 4 4) 69 7 (cb S T a), 0) : Option (gM × Int)).bind fun p5 => tk_read_b235 p5.1) ((md_signs_b234 (gW T 119 24 (a + 1)) (tb S T a)).bind fun p5 => gtry p5.2 (fun _ => md_take_b217 p5.1) (some (p5.1, none))) := by
        rw [md_signs_b234_e, cc]
        unfold sgC at sg
        rcases sg with v | v | v | v | v | v | v | v | v | v | v | v | v | v | v | v | v <;> rw [v] <;> exact ok1 _ _ (by unfold sG; decide)
      by_cases eq : tb S T a = 61 ∨ tb S T a = 33 ∨ tb S T a = 60 ∨ tb S T a = 62
      · have p3 : (if cb S T a = 61 then tk_signs_b57 (gW S 69 4 4) (cb S T a) (cb S T (a + 1)) else if cb S T a = 33 then tk_signs_b57 (gW S 69 4 4) (cb S T a) (cb S T (a + 1)) else if cb S T a = 60 then tk_signs_b57 (gW S 69 4 4) (cb S T a) (cb S T (a + 1)) else if cb S T a = 62 then tk_signs_b57 (gW S 69 4 4) (cb S T a) (cb S T (a + 1)) else tk_signs_b71 (gW S 69 4 4) (cb S T a) (cb S T (a + 1))) = tk_signs_b57 (gW S 69 4 4) (cb S T a) (cb S T (a + 1)) := by
          rw [cc]
          rcases eq with v | v | v | v <;> rw [v] <;> rfl
        rw [p3, tk_signs_b57_e]
        by_cases u : tb S T (a + 1) = 61
        · rw [if_pos ((nc 61 (by decide)).mpr u), k2, if_pos u, if_neg (by decide)]
          have p4 : (if tb S T a = 61 then md_signs_b184 (gW T 119 24 (a + 1)) (tb S T a) else if tb S T a = 33 then md_signs_b184 (gW T 119 24 (a + 1)) (tb S T a) else if tb S T a = 60 then md_signs_b184 (gW T 119 24 (a + 1)) (tb S T a) else if tb S T a = 62 then md_signs_b184 (gW T 119 24 (a + 1)) (tb S T a) else md_signs_b234 (gW T 119 24 (a + 1)) (tb S T a)) = md_signs_b184 (gW T 119 24 (a + 1)) (tb S T a) := by
            rcases eq with v | v | v | v <;> rw [v] <;> rfl
          rw [p4, md_signs_b184_e, gW_at, w32_e (x := a + 1 + 1) (by omega) (by omega), gW_2, show a + 1 + 1 = a + 2 by omega, (nc 61 (by decide)).mpr u, cc, w32_e (x := tb S T a * 256) (by omega) (by omega), w32_e (by omega) (by omega)]
          have hl := n2 _ u (by decide)
          simp only [md_signs_b230_e]
          rcases eq with v | v | v | v <;> rw [v] <;> exact ok2 _ _ (by unfold sG; decide) hl
        · rw [if_neg (mt (nc 61 (by decide)).mp u), if_neg u, if_pos rfl, one]
          exact mone
      · rw [if_neg (by omega), if_neg (by omega), if_neg (by omega), if_neg (by omega), one]
        have p4 : (if (if tb S T (a + 1) = 61 then (1 : Int) else 0) = 0 then md_signs_b234 (gW T 119 24 (a + 1)) (tb S T a) else if tb S T a = 61 then md_signs_b184 (gW T 119 24 (a + 1)) (tb S T a) else if tb S T a = 33 then md_signs_b184 (gW T 119 24 (a + 1)) (tb S T a) else if tb S T a = 60 then md_signs_b184 (gW T 119 24 (a + 1)) (tb S T a) else if tb S T a = 62 then md_signs_b184 (gW T 119 24 (a + 1)) (tb S T a) else md_signs_b234 (gW T 119 24 (a + 1)) (tb S T a)) = md_signs_b234 (gW T 119 24 (a + 1)) (tb S T a) := by
          rw [if_neg (show ¬ tb S T a = 61 by omega), if_neg (show ¬ tb S T a = 33 by omega), if_neg (show ¬ tb S T a = 60 by omega), if_neg (show ¬ tb S T a = 62 by omega), ite_self]
        rw [p4]
        exact mone
  · have e29 : md_signs_b29 T (tb S T a) 19 = some (gW (gW T 119 30 1) 119 31 a, none) := by
      rw [md_signs_b29_e, st_length_s (by decide)]
      simp only [Option.bind_some, gsl_14]
      rw [if_pos trivial, md_fails_s, h24]
      simp only [Option.bind_some, gthr_s]
    have n38 : cb S T a ≠ 38 := by intro w; have := (cb_c h a0 (c := 38) (by decide)).mp w; exact g (by omega)
    have n124 : cb S T a ≠ 124 := by intro w; have := (cb_c h a0 (c := 124) (by decide)).mp w; exact g (by omega)
    have ns : ¬ sgC (cb S T a) := by
      intro w
      have w' := w
      unfold sgC at w'
      have : tb S T a = cb S T a := (cb_c h a0 (c := cb S T a) (by omega)).mp rfl
      exact g (Or.inl (by rw [this]; exact w))
    have ns' := ns
    unfold sgC at ns'
    obtain ⟨r21, e21, h21⟩ := st_ix21 (S := gW S 69 4 4) (c := cb S T a) cr
    have h21' : r21 < 0 := by
      rcases h21 with ⟨w, _⟩ | ⟨_, w⟩
      · exact w
      · exact absurd w ns
    rw [e, e29, s1, if_neg n38, if_neg n124, tk_signs_b33_e, if_neg (by omega), if_neg (by omega), if_neg (by omega), if_neg (by omega), tk_signs_b71_e, if_neg n38, if_neg n124, e21]
    simp only [Option.bind_some]
    rw [if_pos h21', tk_signs_b111_e, c43, kf]
    exact bad _ _
end SG
/-- one token more -/
theorem read_s {σ τ : gM} (h : tX σ τ) (g : σ 69 8 = 0) (h0 : 0 ≤ σ 69 3) (h1 : σ 69 3 ≤ σ 69 2) (h2 : τ 119 24 = σ 69 3) : ∃ a, σ 69 3 ≤ a ∧ rdR σ τ a (tk_read σ) (md_take τ) := by
  have hb := h.2.1
  have h23 := h.2.2.1
  obtain ⟨a, ha, e1, e2⟩ := skip_s (σ 69 2 - σ 69 3).toNat σ τ h h0 h1 h2 (by omega)
  refine ⟨a, ha.1, ?_⟩
  have F : rdF σ (gW (gW (gW (gW σ 69 3 a) 69 5 a) 69 6 1) 69 7 0) τ (gW (gW τ 119 24 a) 119 26 a) := (((((rdF.rf.w (by decide)).w (by decide)).w (by decide)).w (by decide)).v (by decide)).v (by decide)
  have hX := F.tx h
  have b1 : tk_read σ = (tk_byteAt (gW (gW (gW (gW σ 69 3 a) 69 5 a) 69 6 1) 69 7 0) a).bind fun p2 =>
      if p2.1 69 3 = p2.1 69 2 then (tk_read_b235 (gW (gW p2.1 69 4 0) 69 6 0)) else ((tk_isLetter p2.1 p2.2).bind fun p3 => if p3.2 = 0 then ((tk_isDigit p3.1 p2.2).bind fun p4 => if p4.2 = 0 then (if p2.2 = 34 then ((tk_string p4.1).bind fun p6 => tk_read_b235 p6.1) else ((tk_signs p4.1 p2.2).bind fun p5 => tk_read_b235 p5.1)) else (tk_read_b158 p4.1)) else (tk_read_b62 p3.1)) := by
    rw [tk_read_e, tk_skip_e, e1]
    simp only [Option.bind_some, gW_at]
  have b2 : md_take τ = (md_sign (gW (gW τ 119 24 a) 119 26 a) a).bind fun p2 => if p2.1 119 24 < p2.1 119 23 then ((md_isLetter p2.1 p2.2).bind fun p3 => if p3.2 = 0 then ((md_isDigit p3.1 p2.2).bind fun p4 => if p4.2 = 0 then (if p2.2 = 34 then ((md_string (gW p4.1 119 24 (w32 ((p4.1 119 24) + 1)))).bind fun p7 => gtry p7.2 (fun v8 => md_take_b217 p7.1) (some (p7.1, none))) else ((md_signs p4.1 p2.2).bind fun p5 => gtry p5.2 (fun v6 => md_take_b217 p5.1) (some (p5.1, none)))) else (md_take_b130 p4.1)) else (md_take_b47 p3.1)) else (md_take_b217 (gW p2.1 119 25 0)) := by
    rw [md_take_e, md_blanks_e, ← md_blanks_b0_e, e2]
    simp only [Option.bind_some, gW_at]
  have c3 : gW (gW (gW (gW σ 69 3 a) 69 5 a) 69 6 1) 69 7 0 69 3 = a := by simp [gW]
  have c5 : gW (gW (gW (gW σ 69 3 a) 69 5 a) 69 6 1) 69 7 0 69 5 = a := by simp [gW]
  have c6 : gW (gW (gW (gW σ 69 3 a) 69 5 a) 69 6 1) 69 7 0 69 6 = 1 := by simp [gW]
  have c8 : gW (gW (gW (gW σ 69 3 a) 69 5 a) 69 6 1) 69 7 0 69 8 = 0 := by simp [gW, g]
  have c9 : gW (gW (gW (gW σ 69 3 a) 69 5 a) 69 6 1) 69 7 0 69 9 = σ 69 9 := by simp [gW]
  have c2 : gW (gW (gW (gW σ 69 3 a) 69 5 a) 69 6 1) 69 7 0 69 2 = σ 69 2 := by simp [gW]
  have t24 : gW (gW τ 119 24 a) 119 26 a 119 24 = a := by simp [gW]
  have t26 : gW (gW τ 119 24 a) 119 26 a 119 26 = a := by simp [gW]
  have t23 : gW (gW τ 119 24 a) 119 26 a 119 23 = σ 69 2 := by simp [gW, h23]
  rw [b1, b2]
  clear b1 b2 e1 e2
  refine rdR.of ?_ F c9
  generalize gW (gW (gW (gW σ 69 3 a) 69 5 a) 69 6 1) 69 7 0 = S at *
  generalize gW (gW τ 119 24 a) 119 26 a = T at *
  rw [tk_byteAt_s hX (by omega) (by omega), md_sign_s hX (by omega)]
  simp only [Option.bind_some, tk_isLetter_s, tk_isDigit_s, md_isLetter_s, md_isDigit_s]
  rw [c3, c2, t24, t23]
  by_cases q : a = σ 69 2
  · rw [if_pos q, if_neg (by omega), tk_read_b235_e, md_take_b217_e]
    have d3 : gW (gW S 69 4 0) 69 6 0 69 3 = a := by simp [gW, c3]
    have d6 : gW (gW S 69 4 0) 69 6 0 69 6 = 0 := by simp [gW]
    have d24 : gW T 119 25 0 119 24 = a := by simp [gW, t24]
    rw [d3, d6, d24, w32_e (by omega) (by omega)]
    refine ⟨_, _, rfl, (((((rdF.rf.w (by decide)).w (by decide)).w (by decide)).v (by decide)).v (by decide)), Or.inl ⟨rfl, ⟨?_, ?_⟩, by simp [gW, c8], by simp [gW], by simp [gW, c5]⟩⟩
    · unfold tKp
      simp [gW, c5, t26, t24, c2]
      omega
    · unfold tKk
      left
      simp [gW]
  · have an : a < S 69 2 := by omega
    rw [if_neg q, if_pos (show a < σ 69 2 by omega)]
    by_cases l : isL (tb S T a)
    · rw [if_pos ((isL_cb hX (by omega)).mpr l), if_pos l, if_neg (by decide), if_neg (by decide)]
      exact rd_let hX c3 c5 c6 c8 t24 t26 (by omega) an l
    · rw [if_neg (mt (isL_cb hX (by omega)).mp l), if_neg l, if_pos rfl, if_pos rfl]
      by_cases dg : isD (tb S T a)
      · rw [if_pos ((isD_cb hX (by omega)).mpr dg), if_pos dg, if_neg (by decide), if_neg (by decide)]
        exact rd_dig hX c3 c5 c6 c8 t24 t26 (by omega) an dg
      · rw [if_neg (mt (isD_cb hX (by omega)).mp dg), if_neg dg, if_pos rfl, if_pos rfl]
        by_cases st : tb S T a = 34
        · rw [if_pos ((cb_c hX (by omega) (by decide)).mpr st), if_pos st, tk_string_e, w32_e (by omega) (by omega)]
          have e0 : ∀ U, md_string U = md_string_b0 U := fun U => by rw [md_string_e, ← md_string_b0_e]
          rw [e0]
          have G : rdF S (gW S 69 4 3) T (gW T 119 24 (a + 1)) := (rdF.rf.w (by decide)).v (by decide)
          exact (str_s (S 69 2 - (a + 1)).toNat (gW S 69 4 3) (gW T 119 24 (a + 1)) a 1 (G.tx hX) (by rw [gW_i (by decide), c3]) (by rw [gW_i (by decide), c5]) (by rw [gW_i (by decide), c6]) (by rw [gW_at]) (by rw [gW_i (by decide), c8]) (by rw [gW_at]) (by rw [gW_i (by decide), t26]) (by omega) (by decide) (by decide) (by rw [gW_i (by decide)]; omega) (by rw [gW_i (by decide)]; omega)).of G (by rw [gW_i (by decide)])
        · rw [if_neg (mt (cb_c hX (by omega) (by decide)).mp st), if_neg st]
          exact rd_sg hX c3 c5 c6 c8 t24 t26 (by omega) an
