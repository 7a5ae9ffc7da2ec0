/-! letters that are laid behind others; constant texts -/
/-- letters from a place of a cell on -/
def wrL (σ : gM) (c p : Int) (L : List Int) : gM := fun a i => if a = c ∧ p ≤ i ∧ i < p + L.length then L.getD (i - p).toNat 0 else σ a i
section WR
variable {σ : gM} {c p : Int} {L M : List Int}
theorem wrL_nil : wrL σ c p [] = σ := by
  funext a i
  unfold wrL
  rw [if_neg]
  simp only [List.length_nil]
  omega
theorem wrL_c {a i : Int} (h : a ≠ c) : wrL σ c p L a i = σ a i := by
  unfold wrL
  rw [if_neg (fun q => h q.1)]
theorem wrL_cell {a : Int} (h : a ≠ c) : wrL σ c p L a = σ a := funext fun _ => wrL_c h
theorem wrL_out {i : Int} (h : i < p ∨ p + L.length ≤ i) : wrL σ c p L c i = σ c i := by
  unfold wrL
  rw [if_neg]
  omega
theorem wrL_in {k : Nat} (h : k < L.length) : wrL σ c p L c (p + k) = L.getD k 0 := by
  unfold wrL
  rw [if_pos (by omega), show (p + (k : Int) - p).toNat = k by omega]
theorem wrL_lt : lt (wrL σ c p L c) p L.length = L := by
  apply List.ext_getElem?
  intro i
  by_cases h : i < L.length
  · rw [lt_get h, wrL_in h, List.getD_eq_getElem?_getD, List.getElem?_eq_getElem h]
    rfl
  · rw [List.getElem?_eq_none (by rw [lt_len]; omega), List.getElem?_eq_none (by omega)]
theorem wrL_app : wrL (wrL σ c p L) c (p + L.length) M = wrL σ c p (L ++ M) := by
  funext a i
  unfold wrL
  by_cases ha : a = c
  · by_cases h1 : p ≤ i ∧ i < p + L.length
    · rw [if_neg (by omega), if_pos ⟨ha, h1⟩, if_pos (by rw [List.length_append]; omega), List.getD_eq_getElem?_getD, List.getD_eq_getElem?_getD, List.getElem?_append_left (by omega)]
    · by_cases h2 : p + L.length ≤ i ∧ i < p + L.length + M.length
      · rw [if_pos ⟨ha, h2⟩, if_pos (by rw [List.length_append]; omega), List.getD_eq_getElem?_getD, List.getD_eq_getElem?_getD, List.getElem?_append_right (by omega), show (i - p).toNat - L.length = (i - (p + L.length)).toNat by omega]
      · rw [if_neg (by omega), if_neg (by omega), if_neg (by rw [List.length_append]; omega)]
  · rw [if_neg (fun q => ha q.1), if_neg (fun q => ha q.1), if_neg (fun q => ha q.1)]
theorem wrL_one {x : Int} : wrL σ c p [x] = gW σ c p x := by
  funext a i
  unfold wrL gW
  by_cases h : a = c ∧ i = p
  · rw [if_pos (by simp only [List.length_singleton]; omega), if_pos h, h.2]
    simp
  · rw [if_neg (by simp only [List.length_singleton]; omega), if_neg h]
theorem wrL_gW {a j v : Int} (h : a ≠ c) : wrL (gW σ a j v) c p L = gW (wrL σ c p L) a j v := by
  funext b i
  show (if b = c ∧ p ≤ i ∧ i < p + L.length then L.getD (i - p).toNat 0 else if b = a ∧ i = j then v else σ b i) = if b = a ∧ i = j then v else if b = c ∧ p ≤ i ∧ i < p + L.length then L.getD (i - p).toNat 0 else σ b i
  by_cases h1 : b = c ∧ p ≤ i ∧ i < p + L.length
  · rw [if_pos h1, if_neg (fun q => h (q.1.symm.trans h1.1)), if_pos h1]
  · rw [if_neg h1, if_neg h1]
theorem wrL_i8 (h : ∀ i, i8 (σ c i)) (hl : ∀ x ∈ L, i8 x) : ∀ i, i8 (wrL σ c p L c i) := fun i => by
  unfold wrL
  by_cases q : c = c ∧ p ≤ i ∧ i < p + L.length
  · rw [if_pos q, List.getD_eq_getElem?_getD, List.getElem?_eq_getElem (by omega)]
    exact hl _ (List.getElem_mem _)
  · rw [if_neg q]; exact h i
end WR
/-- laid behind: the component -/
def put1 (σ : gM) (L : List Int) : gM := gW (wrL σ 1 (σ 0 14) L) 0 14 (σ 0 14 + L.length)
/-- behind what is in the line: the model -/
def put2 (τ : gM) (L : List Int) : gM := gW (wrL τ 225 (τ 119 151) L) 119 151 (τ 119 151 + L.length)
section PT
variable {σ τ : gM} {L M : List Int}
theorem put1_14 : put1 σ L 0 14 = σ 0 14 + L.length := gW_at _ _ _ _
theorem put2_151 : put2 τ L 119 151 = τ 119 151 + L.length := gW_at _ _ _ _
theorem put1_nil : put1 σ [] = σ := by
  unfold put1
  rw [wrL_nil]
  funext a i
  unfold gW
  split
  · next h => rw [h.1, h.2]; simp
  · rfl
theorem put2_nil : put2 τ [] = τ := by
  unfold put2
  rw [wrL_nil]
  funext a i
  unfold gW
  split
  · next h => rw [h.1, h.2]; simp
  · rfl
theorem put1_app : put1 (put1 σ L) M = put1 σ (L ++ M) := by
  have e : put1 (put1 σ L) M = gW (wrL (put1 σ L) 1 (put1 σ L 0 14) M) 0 14 (put1 σ L 0 14 + M.length) := rfl
  rw [e, put1_14]
  unfold put1
  rw [wrL_gW (by decide), gW_2, wrL_app, List.length_append]
  congr 1
  omega
theorem put2_app : put2 (put2 τ L) M = put2 τ (L ++ M) := by
  have e : put2 (put2 τ L) M = gW (wrL (put2 τ L) 225 (put2 τ L 119 151) M) 119 151 (put2 τ L 119 151 + M.length) := rfl
  rw [e, put2_151]
  unfold put2
  rw [wrL_gW (by decide), gW_2, wrL_app, List.length_append]
  congr 1
  omega
theorem put1_c {a i : Int} (h : a ≠ 1) (h2 : ¬ (a = 0 ∧ i = 14)) : put1 σ L a i = σ a i := by
  unfold put1
  rw [show gW (wrL σ 1 (σ 0 14) L) 0 14 (σ 0 14 + L.length) a i = wrL σ 1 (σ 0 14) L a i by unfold gW; rw [if_neg h2], wrL_c h]
theorem put2_c {a i : Int} (h : a ≠ 225) (h2 : ¬ (a = 119 ∧ i = 151)) : put2 τ L a i = τ a i := by
  unfold put2
  rw [show gW (wrL τ 225 (τ 119 151) L) 119 151 (τ 119 151 + L.length) a i = wrL τ 225 (τ 119 151) L a i by unfold gW; rw [if_neg h2], wrL_c h]
theorem put1_lo {i : Int} (h : i < σ 0 14 ∨ σ 0 14 + L.length ≤ i) : put1 σ L 1 i = σ 1 i := by
  unfold put1
  rw [gW_c (by decide), wrL_out h]
theorem put2_lo {i : Int} (h : i < τ 119 151 ∨ τ 119 151 + L.length ≤ i) : put2 τ L 225 i = τ 225 i := by
  unfold put2
  rw [gW_c (by decide), wrL_out h]
theorem put1_lt : lt (put1 σ L 1) (σ 0 14) L.length = L := by
  unfold put1
  rw [gW_cell (by decide), wrL_lt]
theorem put2_lt : lt (put2 τ L 225) (τ 119 151) L.length = L := by
  unfold put2
  rw [gW_cell (by decide), wrL_lt]
theorem put1_i8 (h : ∀ i, i8 (σ 1 i)) (hl : ∀ x ∈ L, i8 x) : ∀ i, i8 (put1 σ L 1 i) := by
  unfold put1
  rw [gW_cell (by decide)]
  exact wrL_i8 h hl
theorem put2_i8 (h : ∀ i, i8 (τ 225 i)) (hl : ∀ x ∈ L, i8 x) : ∀ i, i8 (put2 τ L 225 i) := by
  unfold put2
  rw [gW_cell (by decide)]
  exact wrL_i8 h hl
theorem hp_put_s {x : Int} (h : 0 ≤ σ 0 14 ∧ σ 0 14 < 124600) (hx : i8 x) : hp_put σ x = some (put1 σ [x], 0) := by
  unfold i8 at hx
  rw [hp_put_e]
  simp only [h, and_self, if_true]
  rw [w8_e hx.1 hx.2, w8_e hx.1 hx.2, w32_e (by omega) (by omega)]
  unfold put1
  rw [wrL_one]
  rfl
end PT
/-! constant texts -/
theorem gtx_ok {ρ : Type} {s : Int} {x : Option ρ} (h : 0 ≤ s ∧ s < 23) : gtx s x = x := by
  have e : s = Int.ofNat s.toNat := (Int.toNat_of_nonneg h.1).symm
  rw [e]
  show (match Nat.blt s.toNat 23 with | true => x | false => none) = x
  have : Nat.blt s.toNat 23 = true := by rw [Nat.blt_eq]; omega
  rw [this]
/-- the letters of a constant text -/
def tx (s : Int) : List Int := lt (gsc s) 0 (gsl s).toNat
theorem gsl_f : ∀ s : Fin 23, i_shr (gsl s.val) 0 = gsl s.val ∧ 0 ≤ gsl s.val ∧ gsl s.val ≤ 61 := by decide +kernel
theorem gsl_r {s : Int} (h : 0 ≤ s ∧ s < 23) : i_shr (gsl s) 0 = gsl s ∧ 0 ≤ gsl s ∧ gsl s ≤ 61 := by
  have := gsl_f ⟨s.toNat, by omega⟩
  simp only [show ((s.toNat : Nat) : Int) = s by omega] at this
  exact this
theorem gsc_f : ∀ s : Fin 23, ∀ i : Fin 61, i_and (gsc s.val i.val) 255 = gsc s.val i.val ∧ 0 ≤ gsc s.val i.val ∧ gsc s.val i.val ≤ 126 := by decide +kernel
theorem gsc_r {s i : Int} (h : 0 ≤ s ∧ s < 23) (hi : 0 ≤ i ∧ i < 61) : i_and (gsc s i) 255 = gsc s i ∧ 0 ≤ gsc s i ∧ gsc s i ≤ 126 := by
  have := gsc_f ⟨s.toNat, by omega⟩ ⟨i.toNat, by omega⟩
  simp only [show ((s.toNat : Nat) : Int) = s by omega, show ((i.toNat : Nat) : Int) = i by omega] at this
  exact this
section TX
variable {σ : gM} {s : Int}
theorem st_length_s (h : 0 ≤ s ∧ s < 23) : st_length σ s = some (σ, gsl s) := by
  rw [st_length_e, gtx_ok h, gtx_ok h, gtx_ok h, st_coder_e, gtx_ok h]
  simp only [show ¬ ((1 : Int) = 0) by decide, if_false]
  rw [if_pos (by decide)]
  simp only [Option.bind_some, (gsl_r h).1]
theorem st_isLatin1_s (h : 0 ≤ s ∧ s < 23) : st_isLatin1 σ s = some (σ, 1) := by
  rw [st_isLatin1_e, gtx_ok h]
  rfl
theorem st_charAt_s (h : 0 ≤ s ∧ s < 23) {i : Int} (hi : 0 ≤ i ∧ i < gsl s) : st_charAt σ s i = some (σ, gsc s i) := by
  have gl := gsl_r h
  have gc := gsc_r h (i := i) (by omega)
  rw [st_charAt_e, gtx_ok h, st_isLatin1_s h]
  simp only [Option.bind_some, show ¬ ((1 : Int) = 0) by decide, if_false]
  rw [gtx_ok h, sl_charAt_e, gtx_ok h, st_checkIndex_e, pc_checkIndex_e]
  simp only [if_neg (show ¬ i < 0 by omega), hi, and_self, if_true, Option.bind_some, gc.1, gtx_ok h]
  rw [show gsc s i % 65536 = gsc s i by omega]
  have g1 : 0 ≤ gsc s i ∧ gsc s i ≤ 65535 := by omega
  simp only [g1, and_self, if_true, Option.bind_some]
theorem tx_8 (h : 0 ≤ s ∧ s < 23) : ∀ x ∈ tx s, i8 x := fun x hx => by
  unfold tx lt at hx
  rw [List.mem_map] at hx
  obtain ⟨k, h1, h2⟩ := hx
  rw [List.mem_range] at h1
  have gl := gsl_r h
  have gc := gsc_r h (i := 0 + (k : Int)) (by omega)
  rw [← h2]
  unfold i8
  omega
theorem mc_says_b2_s (h : 0 ≤ s ∧ s < 23) (h0 : 0 ≤ σ 0 14) (hr : σ 0 14 + gsl s ≤ 124600) : ∀ (m k : Nat), (k : Int) + m = gsl s → mc_says_b2 (put1 σ (lt (gsc s) 0 k)) s k = some (put1 σ (tx s), 0)
  | 0, k, hk => by
    rw [mc_says_b2_e, gtx_ok h, st_length_s h]
    simp only [Option.bind_some]
    rw [if_neg (by omega)]
    unfold tx
    rw [show (gsl s).toNat = k by omega]
  | m + 1, k, hk => by
    have gl := gsl_r h
    have gc := gsc_r h (i := (k : Int)) (by omega)
    rw [mc_says_b2_e, gtx_ok h, st_length_s h]
    simp only [Option.bind_some]
    rw [if_pos (by omega), gtx_ok h, st_charAt_s h (by omega)]
    simp only [Option.bind_some]
    rw [hp_put_s (by rw [put1_14, lt_len]; omega) (by unfold i8; omega)]
    simp only [Option.bind_some]
    rw [w32_e (by omega) (by omega), put1_app, show lt (gsc s) 0 k ++ [gsc s k] = lt (gsc s) 0 (k + 1) by rw [lt_append, lt_one]; simp, show (k : Int) + 1 = ((k + 1 : Nat) : Int) by omega]
    exact mc_says_b2_s h h0 hr m (k + 1) (by omega)
theorem mc_says_s (h : 0 ≤ s ∧ s < 23) (h0 : 0 ≤ σ 0 14) (hr : σ 0 14 + gsl s ≤ 124600) : mc_says σ s = some (put1 σ (tx s), 0) := by
  have gl := gsl_r h
  have := mc_says_b2_s (σ := σ) h h0 hr (gsl s).toNat 0 (by omega)
  rw [lt_zero, put1_nil] at this
  rw [mc_says_e]
  exact this
end TX
section LS
variable {σ τ : gM}
theorem mc_letters_b2_s {s : Int} (h1 : 0 ≤ s ∧ s < 108000) (h2 : 0 ≤ σ 2 s ∧ 0 ≤ σ 3 s ∧ σ 2 s + σ 3 s ≤ σ 0 14) (hr : σ 0 14 + σ 3 s ≤ 124600) (h8 : ∀ i, i8 (σ 1 i)) : ∀ (m k : Nat), (k : Int) + m = σ 3 s → mc_letters_b2 (put1 σ (lt (σ 1) (σ 2 s) k)) s k = some (put1 σ (cS σ s), 0)
  | 0, k, hk => by
    rw [mc_letters_b2_e, put1_c (by decide) (by omega)]
    simp only [h1, and_self, if_true]
    rw [if_neg (by omega)]
    unfold cS
    rw [show (σ 3 s).toNat = k by omega]
  | m + 1, k, hk => by
    rw [mc_letters_b2_e, put1_c (by decide) (by omega), put1_c (by decide) (by omega), w32_e (x := σ 2 s + k) (by omega) (by omega), w32_e (x := (k : Int) + 1) (by omega) (by omega)]
    have hlt : (k : Int) < σ 3 s := by omega
    have b1 : 0 ≤ σ 2 s + (k : Int) ∧ σ 2 s + (k : Int) < 124600 := by omega
    simp only [h1, hlt, b1, and_self, if_true]
    rw [put1_lo (by omega), hp_put_s (by rw [put1_14, lt_len]; omega) (h8 _)]
    simp only [Option.bind_some]
    rw [put1_app, show lt (σ 1) (σ 2 s) k ++ [σ 1 (σ 2 s + k)] = lt (σ 1) (σ 2 s) (k + 1) by rw [lt_append, lt_one], show (k : Int) + 1 = ((k + 1 : Nat) : Int) by omega]
    exact mc_letters_b2_s h1 h2 hr h8 m (k + 1) (by omega)
theorem mc_letters_s {s : Int} (h1 : 0 ≤ s ∧ s < 108000) (h2 : 0 ≤ σ 2 s ∧ 0 ≤ σ 3 s ∧ σ 2 s + σ 3 s ≤ σ 0 14) (hr : σ 0 14 + σ 3 s ≤ 124600) (h8 : ∀ i, i8 (σ 1 i)) : mc_letters σ s = some (put1 σ (cS σ s), 0) := by
  have := mc_letters_b2_s h1 h2 hr h8 (σ 3 s).toNat 0 (by omega)
  rw [lt_zero, put1_nil] at this
  rw [mc_letters_e]
  exact this
theorem lt_8 {f : Int → Int} {a : Int} {n : Nat} (h : ∀ i, i8 (f i)) : ∀ x ∈ lt f a n, i8 x := fun x hx => by
  unfold lt at hx
  rw [List.mem_map] at hx
  obtain ⟨k, _, h2⟩ := hx
  rw [← h2]; exact h _
/-- the model writes a row behind what is in the line -/
theorem md_write_b2_s (h : mI τ) {s : Int} (hs : vM τ s) (h8 : ∀ i, i8 (τ 121 i)) (h0 : 0 ≤ τ 119 151) (hr : τ 119 151 + τ 123 s ≤ 420) : ∀ (m k : Nat), (k : Int) + m = τ 123 s → md_write_b2 (wrL τ 225 (τ 119 151) (lt (τ 121) (τ 122 s) k)) s k = some (put2 τ (mS τ s), 0)
  | 0, k, hk => by
    have hv := h.v hs
    rw [md_write_b2_e, md_sizeOf_s (by omega), wrL_c (by decide)]
    simp only [Option.bind_some]
    rw [if_neg (by omega), md_sizeOf_s (by omega), wrL_c (by decide), wrL_c (by decide)]
    simp only [Option.bind_some]
    rw [w32_e (by omega) (by omega)]
    unfold put2 mS
    rw [show (τ 123 s).toNat = k by omega, lt_len, show τ 123 s = (k : Int) by omega]
  | m + 1, k, hk => by
    have hv := h.v hs
    have cc : ∀ a i, a ≠ 225 → wrL τ 225 (τ 119 151) (lt (τ 121) (τ 122 s) k) a i = τ a i := fun a i q => wrL_c q
    have vs2 : vM (wrL τ 225 (τ 119 151) (lt (τ 121) (τ 122 s) k)) s := by
      unfold vM
      rw [cc _ _ (by decide), cc _ _ (by decide)]
      exact hs
    rw [md_write_b2_e, md_sizeOf_s (by omega), cc _ _ (by decide)]
    simp only [Option.bind_some]
    rw [if_pos (by omega), cc _ _ (by decide), w32_e (x := τ 119 151 + k) (by omega) (by omega), w32_e (x := (k : Int) + 1) (by omega) (by omega)]
    have el : md_letter (wrL τ 225 (τ 119 151) (lt (τ 121) (τ 122 s) k)) s k = some (wrL τ 225 (τ 119 151) (lt (τ 121) (τ 122 s) k), τ 121 (τ 122 s + k)) := by
      rw [md_letter_e, md_sizeOf_s (by omega)]
      simp only [Option.bind_some]
      rw [w32_e (x := s) (by omega) (by omega), cc 122 s (by decide), w32_e (x := τ 122 s + k) (by omega) (by omega), cc 121 _ (by decide), cc 123 s (by decide)]
      have b0 : 0 ≤ s ∧ s < 109004 := by omega
      have b1 : 0 ≤ τ 122 s + (k : Int) ∧ τ 122 s + (k : Int) < 160400 := by omega
      simp only [b0, b1, and_self, if_true, if_neg (show ¬ ((k : Int) < 0) by omega), if_pos (show (k : Int) < τ 123 s by omega)]
    rw [el]
    have b3 : 0 ≤ τ 119 151 + (k : Int) ∧ τ 119 151 + (k : Int) < 420 := by omega
    have b8 := h8 (τ 122 s + k)
    unfold i8 at b8
    simp only [Option.bind_some, b3, and_self, if_true]
    rw [w8_e b8.1 b8.2, w8_e b8.1 b8.2, show (k : Int) + 1 = ((k + 1 : Nat) : Int) by omega]
    have e : gW (wrL τ 225 (τ 119 151) (lt (τ 121) (τ 122 s) k)) 225 (τ 119 151 + k) (τ 121 (τ 122 s + k)) = wrL τ 225 (τ 119 151) (lt (τ 121) (τ 122 s) (k + 1)) := by
      rw [lt_append, lt_one, ← wrL_app, lt_len, wrL_one]
    rw [e]
    exact md_write_b2_s h hs h8 h0 hr m (k + 1) (by omega)
theorem md_write_s (h : mI τ) {s : Int} (hs : vM τ s) (h8 : ∀ i, i8 (τ 121 i)) (h0 : 0 ≤ τ 119 151) (hr : τ 119 151 + τ 123 s ≤ 420) : md_write τ s = some (put2 τ (mS τ s), 0) := by
  have hv := h.v hs
  have := md_write_b2_s h hs h8 h0 hr (τ 123 s).toNat 0 (by omega)
  rw [lt_zero, wrL_nil] at this
  rw [md_write_e]
  exact this
end LS
