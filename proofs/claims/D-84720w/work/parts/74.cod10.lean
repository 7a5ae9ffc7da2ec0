/-! a code is made, the queue's next one: the whole -/
/-- units: the first is the code's own root, others lie in an earlier one -/
def rUn (σ : gM) : Prop := ∀ c, 0 ≤ c → c < σ 52 10 → σ 62 (σ 54 c) = σ 53 c ∧ ∀ u, 0 ≤ u → u < σ 55 c → (u = 0 → σ 63 (σ 54 c + u) = -1) ∧ (1 ≤ u → (0 ≤ σ 63 (σ 54 c + u) ∧ σ 63 (σ 54 c + u) < u) ∧ σ 26 (σ 62 (σ 54 c + σ 63 (σ 54 c + u))) ≤ σ 64 (σ 54 c + u) ∧ σ 64 (σ 54 c + u) < σ 26 (σ 62 (σ 54 c + σ 63 (σ 54 c + u))) + σ 27 (σ 62 (σ 54 c + σ 63 (σ 54 c + u))))
/-- one instruction of a unit and that of its tree -/
def cp2 (σ : gM) (b p : Int) : Prop := σ 66 (b - 64000) = p ∧ σ 22 b = σ 22 p ∧ (σ 20 b = σ 20 p ∨ (σ 20 p = 3 ∧ σ 20 b = 18 ∧ σ 9 (σ 22 p) ≤ 15) ∨ (σ 20 p = 1 ∧ σ 20 b = 19))
def cpC (σ : gM) (U : Int) : Prop := (64000 ≤ σ 65 U ∧ σ 65 U + σ 29 (σ 62 U) ≤ 64000 + σ 52 12) ∧ ∀ j, 0 ≤ j → j < σ 29 (σ 62 U) → cp2 σ (σ 65 U + j) (σ 28 (σ 62 U) + j) ∧ (isJ (σ 20 (σ 28 (σ 62 U) + j)) → σ 21 (σ 65 U + j) = σ 21 (σ 28 (σ 62 U) + j) - σ 28 (σ 62 U) + σ 65 U)
def rCp (σ : gM) : Prop := (0 ≤ σ 52 12 ∧ σ 52 12 ≤ 902 * σ 52 10) ∧ ∀ c u, 0 ≤ c → c < σ 52 10 → 0 ≤ u → u < σ 55 c → cpC σ (σ 54 c + u)
/-- what a code rests on -/
def cFa (σ : gM) (c : Int) : Prop := ∀ u, 0 ≤ u → u < σ 55 c → (∀ j, 0 ≤ j → j < σ 29 (σ 62 (σ 54 c + u)) → σ 20 (σ 65 (σ 54 c + u) + j) = 18 → σ 11 (σ 22 (σ 65 (σ 54 c + u) + j)) = 1) ∧ (1 ≤ u → σ 9 (σ 64 (σ 54 c + u)) = 23 ∧ σ 18 (σ 64 (σ 54 c + u)) = 1 ∧ σ 19 (9 * σ 64 (σ 54 c + u)) = σ 62 (σ 54 c + u))
def rVc (σ : gM) : Prop := ∀ c, 0 ≤ c → c < σ 52 10 → σ 61 c = 1 → cFa σ c
/-- all that codes have to do with -/
def rCc (σ τ : gM) : Prop := rBk σ τ ∧ rNd σ τ ∧ rCs σ τ ∧ rIn σ ∧ rUn σ ∧ rCp σ ∧ rVc σ
/-- what making a code leaves as it was -/
def mkO (σ σ' : gM) : Prop := (∀ a, (a < 20 ∨ 22 < a) → (a < 33 ∨ 34 < a) → (a < 52 ∨ 67 < a) → σ' a = σ a) ∧ (∀ i, i < 64000 + σ 52 12 → σ' 20 i = σ 20 i ∧ σ' 21 i = σ 21 i ∧ σ' 22 i = σ 22 i) ∧ (∀ i, i < σ 52 10 → σ' 53 i = σ 53 i ∧ σ' 54 i = σ 54 i ∧ σ' 55 i = σ 55 i ∧ σ' 58 i = σ 58 i ∧ σ' 59 i = σ 59 i ∧ σ' 60 i = σ 60 i ∧ σ' 61 i = σ 61 i) ∧ (∀ i, i < σ 52 11 → σ' 62 i = σ 62 i ∧ σ' 63 i = σ 63 i ∧ σ' 64 i = σ 64 i ∧ σ' 65 i = σ 65 i) ∧ (∀ i, i < σ 52 12 → σ' 66 i = σ 66 i) ∧ σ 52 10 ≤ σ' 52 10
def mkP (τ τ' : gM) : Prop := (∀ a, a ≠ 119 → (a < 164 ∨ 165 < a) → a ≠ 185 → (a < 196 ∨ 207 < a) → τ' a = τ a) ∧ (∀ i, i ≠ 89 → i ≠ 104 → τ' 119 i = τ 119 i)
section MC
variable {σ τ : gM}
theorem lSum_le {Y : gM} (h : rIn Y) {f m : Int} (hr : ∀ v, 0 ≤ v → v < m → 4 ≤ Y 62 (f + v) ∧ Y 62 (f + v) < Y 8 31) : ∀ n : Nat, (n : Int) ≤ m → 0 ≤ lSum Y f n ∧ lSum Y f n ≤ 3 * uSum Y f n + 2 * n
  | 0, _ => ⟨Int.le_refl _, by show (0 : Int) ≤ 3 * 0 + 2 * 0; omega⟩
  | n + 1, hn => by
    have i := lSum_le h hr n (by omega)
    have g := hr n (by omega) (by omega)
    have k := (h.2 _ g.1 g.2).2.1
    show 0 ≤ lSum Y f n + Y 29 (Y 62 (f + n)) ∧ lSum Y f n + Y 29 (Y 62 (f + n)) ≤ 3 * (uSum Y f n + Y 27 (Y 62 (f + n))) + 2 * ((n + 1 : Nat) : Int)
    omega
theorem cd_make_s (H : rCc σ τ) {r : Int} (h4 : 4 ≤ r) (hr : r < σ 8 31) (hc : σ 52 10 < 100) :
    ∃ σ' τ', cd_make σ r = some (σ', 0) ∧ md_makeCode τ r = some (τ', σ 52 10) ∧ rCc σ' τ' ∧ mkO σ σ' ∧ mkP τ τ' ∧ (∀ i, σ' 67 i = σ 67 i) ∧ σ' 52 19 = σ 52 19 ∧ τ' 119 89 = τ 119 89 ∧ (∀ i, τ' 185 i = τ 185 i) ∧ σ' 52 10 = σ 52 10 + 1 := by
  obtain ⟨hB, hN, hC, hI, hUn, hCp, hV⟩ := H
  have hB' := hB
  obtain ⟨hR, hCo⟩ := hB
  have q1 := hR.1
  have q2 := hCo.1
  have q3 := hCo.2.1
  have q4 := hCp.1
  have gr := hN.2.1 r h4 hr
  have gR := hR.2 r (by omega) hr
  have bc : 0 ≤ σ 52 10 ∧ σ 52 10 < 100 := by omega
  have b60 : 0 ≤ r ∧ r < 60 := by omega
  generalize ec : σ 52 10 = c at *
  generalize ef : σ 52 11 = f at *
  -- the component's first state
  obtain ⟨S1, e1, S1o, s10, s11, s52, s53, s54, s55, s56, s58, s59, s60, s61, s34, s33, s62, s63, s64⟩ : ∃ S1, cd_make σ r = cd_make_b107 S1 c 0 ∧ (∀ a, a ≠ 33 → a ≠ 34 → a ≠ 52 → a ≠ 53 → a ≠ 54 → a ≠ 55 → a ≠ 56 → a ≠ 58 → a ≠ 59 → a ≠ 60 → a ≠ 61 → a ≠ 62 → a ≠ 63 → a ≠ 64 → S1 a = σ a) ∧ S1 52 10 = c + 1 ∧ S1 52 11 = f + 1 ∧ (∀ i, i ≠ 10 → i ≠ 11 → S1 52 i = σ 52 i) ∧
      (∀ i, S1 53 i = if i = c then r else σ 53 i) ∧ (∀ i, S1 54 i = if i = c then f else σ 54 i) ∧ (∀ i, S1 55 i = if i = c then 1 else σ 55 i) ∧ (∀ i, S1 56 i = if i = c then σ 27 r else σ 56 i) ∧ (∀ i, S1 58 i = if i = c then 0 else σ 58 i) ∧ (∀ i, S1 59 i = if i = c then 0 else σ 59 i) ∧ (∀ i, S1 60 i = if i = c then 0 else σ 60 i) ∧ (∀ i, S1 61 i = if i = c then 1 else σ 61 i) ∧
      (∀ i, S1 34 i = if i = r then c else σ 34 i) ∧ (∀ i, S1 33 i = if i = r then σ 33 r + 1 else σ 33 i) ∧ (∀ i, S1 62 i = if i = f then r else σ 62 i) ∧ (∀ i, S1 63 i = if i = f then -1 else σ 63 i) ∧ (∀ i, S1 64 i = if i = f then -1 else σ 64 i) := by
    have bf : 0 ≤ f ∧ f < 16000 := by omega
    rw [cd_make_e, ec, ef]
    simp only [bc, b60, and_self, if_true]
    rw [cd_adds_e]
    have x11 : (gW (gW (gW (gW (gW (gW (gW (gW (gW (gW (gW σ 52 10 (w32 (c + 1))) 53 c r) 54 c f) 55 c 0) 56 c 0) 58 c 0) 59 c 0) 60 c 0) 61 c 1) 34 r c) 33 r (w32 (σ 33 r + 1))) 52 11 = f := by simp [gW, ef]
    rw [x11]
    simp only [bf, bc, b60, and_self, if_true, Option.bind_some]
    refine ⟨_, rfl, ?_⟩
    rw [w32_e (x := c + 1) (by omega) (by omega), w32_e (x := σ 33 r + 1) (by omega) (by omega), w32_e (x := f + 1) (by omega) (by omega)]
    refine ⟨fun a p1 p2 p3 p4 p5 p6 p7 p8 p9 p10 p11 p12 p13 p14 => ?_, ?_, ?_, fun i p1 p2 => ?_, fun i => ?_, fun i => ?_, fun i => ?_, fun i => ?_, fun i => ?_, fun i => ?_, fun i => ?_, fun i => ?_, fun i => ?_, fun i => ?_, fun i => ?_, fun i => ?_, fun i => ?_⟩
    · rw [gW_cell p7, gW_cell p6, gW_cell p3, gW_cell p14, gW_cell p13, gW_cell p12, gW_cell p1, gW_cell p2, gW_cell p11, gW_cell p10, gW_cell p9, gW_cell p8, gW_cell p7, gW_cell p6, gW_cell p5, gW_cell p4, gW_cell p3]
    · simp [gW]
    · simp [gW]
    · simp [gW, p1, p2]
    · simp [gW]
    · simp [gW]
    · have : w32 ((gW (gW (gW (gW (gW (gW (gW (gW (gW (gW (gW σ 52 10 (c + 1)) 53 c r) 54 c f) 55 c 0) 56 c 0) 58 c 0) 59 c 0) 60 c 0) 61 c 1) 34 r c) 33 r (σ 33 r + 1)) 55 c + 1) = 1 := by simp [gW]; decide
      rw [this]
      by_cases z : i = c <;> simp [gW, z]
    · have : w32 ((gW (gW (gW (gW (gW (gW (gW (gW (gW (gW (gW σ 52 10 (c + 1)) 53 c r) 54 c f) 55 c 0) 56 c 0) 58 c 0) 59 c 0) 60 c 0) 61 c 1) 34 r c) 33 r (σ 33 r + 1)) 56 c + (gW (gW (gW (gW (gW (gW (gW (gW (gW (gW (gW σ 52 10 (c + 1)) 53 c r) 54 c f) 55 c 0) 56 c 0) 58 c 0) 59 c 0) 60 c 0) 61 c 1) 34 r c) 33 r (σ 33 r + 1)) 27 r) = σ 27 r := by
        have : (gW (gW (gW (gW (gW (gW (gW (gW (gW (gW (gW σ 52 10 (c + 1)) 53 c r) 54 c f) 55 c 0) 56 c 0) 58 c 0) 59 c 0) 60 c 0) 61 c 1) 34 r c) 33 r (σ 33 r + 1)) 56 c + (gW (gW (gW (gW (gW (gW (gW (gW (gW (gW (gW σ 52 10 (c + 1)) 53 c r) 54 c f) 55 c 0) 56 c 0) 58 c 0) 59 c 0) 60 c 0) 61 c 1) 34 r c) 33 r (σ 33 r + 1)) 27 r = σ 27 r := by simp [gW]
        rw [this, w32_e (by omega) (by omega)]
      rw [this]
      by_cases z : i = c <;> simp [gW, z]
    · simp [gW]
    · simp [gW]
    · simp [gW]
    · simp [gW]
    · simp [gW]
    · simp [gW]
    · simp [gW]
    · simp [gW]
    · simp [gW]
  -- the model's
  obtain ⟨T1, e2, T1o, t104, t119, t196, t197, t198, t199, t200, t201, t202, t203, t204, t205, t206, t207⟩ : ∃ T1, md_makeCode τ r = md_makeCode_b82 T1 r c 0 ∧ (∀ a, a ≠ 119 → (a < 196 ∨ 207 < a) → T1 a = τ a) ∧ T1 119 104 = c + 1 ∧ (∀ i, i ≠ 104 → T1 119 i = τ 119 i) ∧
      (∀ i, T1 196 i = if i = c then r else τ 196 i) ∧ (∀ i, T1 197 i = if i = c then 1 else τ 197 i) ∧ (∀ i, T1 198 i = if i = c then σ 27 r else τ 198 i) ∧ (∀ i, T1 199 i = if i = c then 0 else τ 199 i) ∧ (∀ i, T1 200 i = if i = c then 0 else τ 200 i) ∧ (∀ i, T1 201 i = if i = c then 0 else τ 201 i) ∧ (∀ i, T1 202 i = if i = c then 0 else τ 202 i) ∧ (∀ i, T1 203 i = if i = c then 1 else τ 203 i) ∧
      (∀ i, T1 204 i = if i = 152 * c then r else τ 204 i) ∧ (∀ i, T1 205 i = if i = 152 * c then -1 else τ 205 i) ∧ (∀ i, T1 206 i = if i = 152 * c then -1 else τ 206 i) ∧ (∀ i, T1 207 i = if i = 152 * c then 0 else τ 207 i) := by
    have x : τ 119 104 = c := by omega
    rw [md_makeCode_e, x]
    simp only [bc, and_self, if_true]
    rw [md_addUnit_e, w32_e (x := c + 1) (by omega) (by omega)]
    have x197 : (gW (gW (gW (gW (gW (gW (gW (gW (gW τ 119 104 (c + 1)) 196 c r) 203 c 1) 200 c 0) 201 c 0) 202 c 0) 199 c 0) 197 c 0) 198 c 0) 197 c = 0 := by simp [gW]
    rw [x197, md_unit_s (by omega)]
    have b3 : 0 ≤ 152 * c + 0 ∧ 152 * c + 0 < 15200 := by omega
    simp only [Option.bind_some, b3, bc, b60, and_self, if_true]
    refine ⟨_, rfl, ?_⟩
    have x159 : (gW (gW (gW (gW (gW (gW (gW (gW (gW τ 119 104 (c + 1)) 196 c r) 203 c 1) 200 c 0) 201 c 0) 202 c 0) 199 c 0) 197 c 0) 198 c 0) 159 r = σ 27 r := by rw [← gr.2.1]; simp [gW]
    have x198 : (gW (gW (gW (gW (gW (gW (gW (gW (gW τ 119 104 (c + 1)) 196 c r) 203 c 1) 200 c 0) 201 c 0) 202 c 0) 199 c 0) 197 c 0) 198 c 0) 198 c = 0 := by simp [gW]
    rw [x197, x159, x198, w32_e (x := 0 + σ 27 r) (by omega) (by omega), w32_e (x := (0 : Int) + 1) (by omega) (by omega), Int.zero_add, Int.zero_add, Int.add_zero]
    refine ⟨fun a p1 p2 => ?_, ?_, fun i p1 => ?_, fun i => ?_, fun i => ?_, fun i => ?_, fun i => ?_, fun i => ?_, fun i => ?_, fun i => ?_, fun i => ?_, fun i => ?_, fun i => ?_, fun i => ?_, fun i => ?_⟩
    · rw [gW_cell (by omega), gW_cell (by omega), gW_cell (by omega), gW_cell (by omega), gW_cell (by omega), gW_cell (by omega), gW_cell (by omega), gW_cell (by omega), gW_cell (by omega), gW_cell (by omega), gW_cell (by omega), gW_cell (by omega), gW_cell (by omega), gW_cell (by omega), gW_cell p1]
    · simp [gW]
    · simp [gW, p1]
    all_goals first | (by_cases z : i = c <;> simp [gW, z]; done) | (simp [gW]; done)
  have hB1 : mkB S1 T1 := by
    have c8 := S1o 8 (by decide) (by decide) (by decide) (by decide) (by decide) (by decide) (by decide) (by decide) (by decide) (by decide) (by decide) (by decide) (by decide) (by decide)
    have so : ∀ a, (a < 33 ∨ 64 < a) ∨ (34 < a ∧ a < 52) → S1 a = σ a := fun a q => S1o a (by omega) (by omega) (by omega) (by omega) (by omega) (by omega) (by omega) (by omega) (by omega) (by omega) (by omega) (by omega) (by omega) (by omega)
    refine ⟨hR.nw.mv (by rw [c8]) (fun a q => so a (by omega)) (fun a q => T1o a (by omega) (by omega)), ?_, ?_⟩
    · exact hN.mv (by rw [c8]) (by rw [c8]) (so 42 (by omega)) (fun a q => so a (by omega)) (t119 57 (by decide)) (fun a q => T1o a (by omega) (by omega))
    · exact hC.mv (by rw [c8]) (fun a q => so a (by omega)) (fun a q => T1o a (by omega) (by omega))
  have so : ∀ a, (a < 33 ∨ 64 < a) ∨ (34 < a ∧ a < 52) ∨ a = 57 → S1 a = σ a := fun a q => S1o a (by omega) (by omega) (by omega) (by omega) (by omega) (by omega) (by omega) (by omega) (by omega) (by omega) (by omega) (by omega) (by omega) (by omega)
  have f54 : S1 54 c = f := by rw [s54, if_pos rfl]
  have hU1 : mkU S1 T1 c 1 := by
    refine ⟨bc, by rw [f54]; omega, by omega, by rw [s55, if_pos rfl], by rw [t197, if_pos rfl], by rw [s11, f54], by rw [t198, s56, if_pos rfl, if_pos rfl], ?_, by rw [s56, if_pos rfl]; omega, fun q => absurd q (by decide), fun v v0 v1 => ?_⟩
    · rw [s56, if_pos rfl, f54]
      show _ = 0 + S1 27 (S1 62 (f + (0 : Nat)))
      rw [so 27 (by omega), s62, if_pos (by omega)]
      omega
    · have z : v = 0 := by omega
      subst z
      unfold mkV
      rw [f54, s62, s63, s64, t204, t205, t206, t207, if_pos (by omega), if_pos (by omega), if_pos (by omega), if_pos (by omega), if_pos (by omega), if_pos (by omega), if_pos (by omega), so 8 (by omega)]
      exact ⟨⟨rfl, h4, hr⟩, rfl, rfl, by omega, by omega, fun _ => ⟨rfl, rfl⟩, fun q => absurd q (by decide)⟩
  have h165 : T1 165 r = σ 33 r := by rw [T1o 165 (by decide) (by decide)]; exact gR.2.2.1.1
  obtain ⟨S2, T2, m, a1, a2, a3, a4, a5, a6, a7, a8, a9⟩ := cd_make_b107_s (c := c) (x1 := r) b60 151 S1 T1 1 0 hB1 hU1 (by omega) (by omega) (by omega) (by show (1 : Int) ≤ 1 + 0; omega) (by rw [t199, if_pos rfl]; show (0 : Int) ≤ 0 ∧ (0 : Int) ≤ 3 * 0; omega) (by rw [h165]; omega)
  have a4' := a4
  obtain ⟨u1, u2, u3, u4, u5, u6, u7, u8, u9, u10, u11⟩ := a4
  have S2o : ∀ a, a ≠ 52 → a ≠ 55 → a ≠ 56 → a ≠ 62 → a ≠ 63 → a ≠ 64 → S2 a = S1 a := a6.1
  have f54' : S2 54 c = f := by rw [S2o 54 (by decide) (by decide) (by decide) (by decide) (by decide) (by decide), f54]
  have s2_12 : S2 52 12 = σ 52 12 := by rw [a6.2 12 (by decide), s52 12 (by decide) (by decide)]
  -- instructions
  have yo : ∀ a, a ≠ 57 → gW S2 57 c 0 a = S2 a := fun a q => gW_cell q
  have hI2 : rIn (gW S2 57 c 0) := by
    unfold rIn
    rw [yo 8 (by decide), yo 28 (by decide), yo 29 (by decide), yo 27 (by decide), yo 26 (by decide), yo 20 (by decide), yo 21 (by decide), yo 22 (by decide), S2o 8 (by decide) (by decide) (by decide) (by decide) (by decide) (by decide), S2o 28 (by decide) (by decide) (by decide) (by decide) (by decide) (by decide), S2o 29 (by decide) (by decide) (by decide) (by decide) (by decide) (by decide), S2o 27 (by decide) (by decide) (by decide) (by decide) (by decide) (by decide), S2o 26 (by decide) (by decide) (by decide) (by decide) (by decide) (by decide), S2o 20 (by decide) (by decide) (by decide) (by decide) (by decide) (by decide), S2o 21 (by decide) (by decide) (by decide) (by decide) (by decide) (by decide), S2o 22 (by decide) (by decide) (by decide) (by decide) (by decide) (by decide),
      so 8 (by omega), so 28 (by omega), so 29 (by omega), so 27 (by omega), so 26 (by omega), so 20 (by omega), so 21 (by omega), so 22 (by omega)]
    exact hI
  have hN2 : rNd (gW S2 57 c 0) T2 := a3.2.1.mv (by rw [yo 8 (by decide)]) (by rw [yo 8 (by decide)]) (yo 42 (by decide)) (fun a q => yo a (by omega)) rfl (fun _ _ => rfl)
  have hC2 : rCs (gW S2 57 c 0) T2 := a3.2.2.mv (by rw [yo 8 (by decide)]) (fun a q => yo a (by omega)) (fun _ _ => rfl)
  have hro : ∀ v, 0 ≤ v → v < m → 4 ≤ S2 62 (f + v) ∧ S2 62 (f + v) < S2 8 31 := fun v v0 v1 => by
    have := (u11 v v0 v1).1.2
    rw [f54'] at this
    exact this
  have c2_8 : S2 8 31 = σ 8 31 := by rw [S2o 8 (by decide) (by decide) (by decide) (by decide) (by decide) (by decide), so 8 (by omega)]
  have hls : ∀ n : Nat, (n : Int) ≤ m → (gW S2 57 c 0) 52 12 + lSum (gW S2 57 c 0) ((gW S2 57 c 0) 54 c) n ≤ 100000 ∧ 0 ≤ lSum (gW S2 57 c 0) ((gW S2 57 c 0) 54 c) n ∧ lSum (gW S2 57 c 0) ((gW S2 57 c 0) 54 c) n ≤ 902 := fun n hn => by
    rw [yo 52 (by decide), yo 54 (by decide), s2_12, f54']
    have L := lSum_le hI2 (f := f) (m := m) (by rw [yo 62 (by decide), yo 8 (by decide)]; exact hro) n hn
    have e : uSum (gW S2 57 c 0) f n = uSum S2 f n := uSum_congr n (fun v _ => by rw [yo 27 (by decide), yo 62 (by decide)])
    have mono := uSum_mono (S := S2) (c := c) (m := m) (fun v p1 p2 => by
      rw [f54']
      have g := hro v p1 p2
      exact (a3.2.1.2.1 _ g.1 g.2).2.2.2.1.1) m.toNat n (by omega) (by omega)
    rw [f54'] at mono u8
    rw [e] at L
    by_cases m1 : 1 < m
    · have := u10 m1; omega
    · omega
  obtain ⟨S3, b1, b2, b3⟩ := cd_make_b138_s (Y := gW S2 57 c 0) (T := T2) (m := m) hI2 hN2 hC2 (by rw [yo 8 (by decide), c2_8]; omega) bc (by rw [yo 55 (by decide)]; exact u4) (by omega) (by rw [yo 54 (by decide), f54']; omega) (by rw [yo 54 (by decide), yo 62 (by decide), yo 8 (by decide), f54']; exact hro) (by rw [yo 52 (by decide), s2_12]; omega) (fun n hn => ⟨(hls n hn).1, (hls n hn).2.1⟩) m.toNat (gW S2 57 c 0) 0 (by omega) (by omega) ⟨fun _ _ _ _ _ _ _ _ => rfl, fun _ _ => rfl, fun _ _ => rfl, fun _ _ => ⟨rfl, rfl, rfl⟩, fun _ _ => rfl, fun _ _ => rfl, by show _ = _ + 0; omega, fun v p1 p2 => by omega⟩ (by rw [gW_at]; omega)
  rw [gW_at, Int.zero_add, yo 54 (by decide), f54'] at b3
  have guE : gU (gW S2 57 c 0) f 0 m.toNat = gU S2 f 0 m.toNat := gU_congr (fun x => gd_congr (yo 9 (by decide)) (yo 11 (by decide)) (yo 15 (by decide)) (yo 16 (by decide)) (yo 18 (by decide))) (yo 26 (by decide)) (yo 27 (by decide)) _ _ (fun v _ _ => by rw [yo 62 (by decide)])
  rw [guE] at b3
  rw [t199, if_pos rfl, f54', show (m - 0).toNat = m.toNat by omega, Int.zero_add, ← b3] at a8
  obtain ⟨l1, l2, l3, l4, l5, l6, l7, l8⟩ := b2
  rw [yo 52 (by decide)] at l2 l4 l5 l7 l8
  rw [yo 54 (by decide), f54'] at l6 l7 l8
  rw [yo 20 (by decide), yo 21 (by decide), yo 22 (by decide)] at l4
  rw [yo 66 (by decide)] at l5
  rw [yo 65 (by decide)] at l6
  rw [yo 29 (by decide), yo 62 (by decide)] at l8
  rw [s2_12] at l4 l5 l7 l8
  have lsz := (hls m.toNat (by omega)).2
  rw [yo 54 (by decide), f54'] at lsz
  -- the last states by cells
  have S3o : ∀ a, a ≠ 20 → a ≠ 21 → a ≠ 22 → a ≠ 52 → a ≠ 55 → a ≠ 56 → a ≠ 57 → a ≠ 62 → a ≠ 63 → a ≠ 64 → a ≠ 65 → a ≠ 66 → S3 a = S1 a := fun a p1 p2 p3 p4 p5 p6 p7 p8 p9 p10 p11 p12 => by rw [l1 a p1 p2 p3 p4 p7 p11 p12, yo a p7, S2o a p4 p5 p6 p8 p9 p10]
  have S3s : ∀ a, (a < 20 ∨ 22 < a) → (a < 33 ∨ 34 < a) → (a < 52 ∨ 66 < a) → S3 a = σ a := fun a p1 p2 p3 => by
    rw [S3o a (by omega) (by omega) (by omega) (by omega) (by omega) (by omega) (by omega) (by omega) (by omega) (by omega) (by omega) (by omega), so a (by omega)]
  have z55 : S3 55 = S2 55 := by rw [l1 55 (by decide) (by decide) (by decide) (by decide) (by decide) (by decide) (by decide), yo 55 (by decide)]
  have z56 : S3 56 = S2 56 := by rw [l1 56 (by decide) (by decide) (by decide) (by decide) (by decide) (by decide) (by decide), yo 56 (by decide)]
  have z62 : S3 62 = S2 62 := by rw [l1 62 (by decide) (by decide) (by decide) (by decide) (by decide) (by decide) (by decide), yo 62 (by decide)]
  have z63 : S3 63 = S2 63 := by rw [l1 63 (by decide) (by decide) (by decide) (by decide) (by decide) (by decide) (by decide), yo 63 (by decide)]
  have z64 : S3 64 = S2 64 := by rw [l1 64 (by decide) (by decide) (by decide) (by decide) (by decide) (by decide) (by decide), yo 64 (by decide)]
  have z53 : ∀ i, S3 53 i = if i = c then r else σ 53 i := fun i => by rw [S3o 53 (by decide) (by decide) (by decide) (by decide) (by decide) (by decide) (by decide) (by decide) (by decide) (by decide) (by decide) (by decide), s53]
  have z54 : ∀ i, S3 54 i = if i = c then f else σ 54 i := fun i => by rw [S3o 54 (by decide) (by decide) (by decide) (by decide) (by decide) (by decide) (by decide) (by decide) (by decide) (by decide) (by decide) (by decide), s54]
  have z58 : ∀ i, S3 58 i = if i = c then 0 else σ 58 i := fun i => by rw [S3o 58 (by decide) (by decide) (by decide) (by decide) (by decide) (by decide) (by decide) (by decide) (by decide) (by decide) (by decide) (by decide), s58]
  have z59 : ∀ i, S3 59 i = if i = c then 0 else σ 59 i := fun i => by rw [S3o 59 (by decide) (by decide) (by decide) (by decide) (by decide) (by decide) (by decide) (by decide) (by decide) (by decide) (by decide) (by decide), s59]
  have z60 : ∀ i, S3 60 i = if i = c then 0 else σ 60 i := fun i => by rw [S3o 60 (by decide) (by decide) (by decide) (by decide) (by decide) (by decide) (by decide) (by decide) (by decide) (by decide) (by decide) (by decide), s60]
  have z61 : ∀ i, S3 61 i = if i = c then 1 else σ 61 i := fun i => by rw [S3o 61 (by decide) (by decide) (by decide) (by decide) (by decide) (by decide) (by decide) (by decide) (by decide) (by decide) (by decide) (by decide), s61]
  have z34 : ∀ i, S3 34 i = if i = r then c else σ 34 i := fun i => by rw [S3o 34 (by decide) (by decide) (by decide) (by decide) (by decide) (by decide) (by decide) (by decide) (by decide) (by decide) (by decide) (by decide), s34]
  have z33 : ∀ i, S3 33 i = if i = r then σ 33 r + 1 else σ 33 i := fun i => by rw [S3o 33 (by decide) (by decide) (by decide) (by decide) (by decide) (by decide) (by decide) (by decide) (by decide) (by decide) (by decide) (by decide), s33]
  have z10 : S3 52 10 = c + 1 := by rw [l2 10 (by decide), a6.2 10 (by decide), s10]
  have z11 : S3 52 11 = f + m := by rw [l2 11 (by decide), u6, f54']
  have z19 : S3 52 19 = σ 52 19 := by rw [l2 19 (by decide), a6.2 19 (by decide), s52 19 (by decide) (by decide)]
  have k1 := a9.1
  have k2 := a9.2.1
  have k3 := a9.2.2
  rw [f54] at k2
  have T2o : ∀ a, a ≠ 119 → (a < 196 ∨ 207 < a) → T2 a = τ a := fun a p1 p2 => by rw [a7 a (by omega) (by omega) (by omega) (by omega) (by omega) (by omega) (by omega), T1o a p1 p2]
  have t2_119 : T2 119 = T1 119 := a7 119 (by decide) (by decide) (by decide) (by decide) (by decide) (by decide) (by decide)
  have oldU : ∀ x, 0 ≤ x → x < c → 0 ≤ σ 54 x ∧ σ 54 x + σ 55 x ≤ f := fun x x0 x1 => by
    have := (hCo.2.2 x x0 (by omega)).2.2.2.2.2.2.2.2.1
    omega
  refine ⟨S3, gW (gW T2 164 r c) 165 r (σ 33 r + 1), by rw [e1, a1, b1], by rw [e2, a2, h165], ⟨⟨?_, ?_⟩, ?_, ?_, ?_, ?_, ?_, ?_⟩, ?_, ?_, ?_, z19, ?_, ?_, z10⟩
  · -- roots
    have w : ∀ a, a ≠ 164 → a ≠ 165 → gW (gW T2 164 r c) 165 r (σ 33 r + 1) a = T2 a := fun a p1 p2 => by rw [gW_cell p2, gW_cell p1]
    unfold rRt
    rw [S3s 8 (by omega) (by omega) (by omega), S3s 32 (by omega) (by omega) (by omega), S3s 24 (by omega) (by omega) (by omega), S3s 25 (by omega) (by omega) (by omega), w 119 (by decide) (by decide), w 163 (by decide) (by decide), w 157 (by decide) (by decide), w 156 (by decide) (by decide), T2o 163 (by decide) (by decide), T2o 157 (by decide) (by decide), T2o 156 (by decide) (by decide), t2_119, t119 55 (by decide), z10]
    refine ⟨q1, fun x x0 x1 => ?_⟩
    obtain ⟨g1, g2, g3, g4⟩ := hR.2 x x0 x1
    refine ⟨g1, ?_, ?_, g4⟩
    · rw [gW_c (by decide), gW_if, z34, T2o 164 (by decide) (by decide)]
      by_cases z : x = r
      · rw [if_pos z, if_pos z]
        refine ⟨rfl, by omega, by omega, fun _ => ?_⟩
        rw [z53, z61, if_pos rfl, if_pos rfl]
        exact ⟨z.symm, rfl⟩
      · rw [if_neg z, if_neg z]
        refine ⟨g2.1, g2.2.1, by omega, fun p => ?_⟩
        rw [z53, z61, if_neg (by omega), if_neg (by omega)]
        exact g2.2.2.2 p
    · rw [gW_if, gW_c (by decide), z33, T2o 165 (by decide) (by decide)]
      by_cases z : x = r
      · rw [if_pos z, if_pos z]; omega
      · rw [if_neg z, if_neg z]; omega
  · -- codes
    have w : ∀ a, a ≠ 164 → a ≠ 165 → gW (gW T2 164 r c) 165 r (σ 33 r + 1) a = T2 a := fun a p1 p2 => by rw [gW_cell p2, gW_cell p1]
    unfold rCo
    rw [S3s 8 (by omega) (by omega) (by omega), z55, z56, z62, z63, z64, z10, z11, w 119 (by decide) (by decide), w 196 (by decide) (by decide), w 197 (by decide) (by decide), w 198 (by decide) (by decide), w 199 (by decide) (by decide), w 200 (by decide) (by decide), w 201 (by decide) (by decide), w 202 (by decide) (by decide), w 203 (by decide) (by decide), w 204 (by decide) (by decide), w 205 (by decide) (by decide), w 206 (by decide) (by decide), t2_119, t104]
    have c196 : T2 196 = T1 196 := a7 196 (by decide) (by decide) (by decide) (by decide) (by decide) (by decide) (by decide)
    have c200 : T2 200 = T1 200 := a7 200 (by decide) (by decide) (by decide) (by decide) (by decide) (by decide) (by decide)
    have c201 : T2 201 = T1 201 := a7 201 (by decide) (by decide) (by decide) (by decide) (by decide) (by decide) (by decide)
    have c202 : T2 202 = T1 202 := a7 202 (by decide) (by decide) (by decide) (by decide) (by decide) (by decide) (by decide)
    have c203 : T2 203 = T1 203 := a7 203 (by decide) (by decide) (by decide) (by decide) (by decide) (by decide) (by decide)
    refine ⟨⟨by omega, by omega, rfl⟩, by omega, fun x x0 x1 => ?_⟩
    rw [z53, z54, z58, z59, z60, z61, c196, c200, c201, c202, c203, t196, t200, t201, t202, t203]
    by_cases z : x = c
    · subst z
      rw [if_pos rfl, if_pos rfl, if_pos rfl, if_pos rfl, if_pos rfl, if_pos rfl, if_pos rfl, if_pos rfl, if_pos rfl, if_pos rfl, if_pos rfl]
      refine ⟨⟨rfl, h4, hr⟩, ⟨by rw [u5, u4], by rw [u4]; omega, by rw [u4]; omega⟩, u7, a8, ⟨rfl, by omega, by omega⟩, rfl, rfl, ⟨rfl, Or.inr rfl⟩, by rw [u4]; omega, fun v v0 v1 => ?_⟩
      rw [u4] at v1
      have g := u11 v v0 v1
      unfold mkV at g
      rw [f54', c2_8] at g
      exact ⟨g.1, g.2.1, g.2.2.1⟩
    · rw [if_neg z, if_neg z, if_neg z, if_neg z, if_neg z, if_neg z, if_neg z, if_neg z, if_neg z, if_neg z, if_neg z]
      obtain ⟨g1, g2, g3, g4, g5, g6, g7, g8, g9, g10⟩ := hCo.2.2 x x0 (by omega)
      have kk := k1 x z
      rw [s55, s56, t197, t198, t199, if_neg z, if_neg z, if_neg z, if_neg z, if_neg z] at kk
      have e57 : S3 57 x = σ 57 x := by rw [l3 x z, gW_i z, S2o 57 (by decide) (by decide) (by decide) (by decide) (by decide) (by decide), so 57 (by omega)]
      refine ⟨g1, by rw [kk.1, kk.2.2.1]; exact g2, by rw [kk.2.1, kk.2.2.2.1]; exact g3, by rw [kk.2.2.2.2, e57]; exact g4, g5, g6, g7, g8, by rw [kk.1]; omega, fun u v0 v1 => ?_⟩
      rw [kk.1] at v1
      have e := k2 (σ 54 x + u) (by omega)
      have e' := k3 (152 * x + u) (by omega)
      rw [e.1, e.2.1, e.2.2, e'.1, e'.2.1, e'.2.2, s62, s63, s64, t204, t205, t206, if_neg (by omega), if_neg (by omega), if_neg (by omega), if_neg (by omega), if_neg (by omega), if_neg (by omega)]
      exact g10 u v0 v1
  · exact hN.mv (by rw [S3s 8 (by omega) (by omega) (by omega)]) (by rw [S3s 8 (by omega) (by omega) (by omega)]) (S3s 42 (by omega) (by omega) (by omega)) (fun a q => S3s a (by omega) (by omega) (by omega)) (by rw [gW_c (by decide), gW_c (by decide), t2_119, t119 57 (by decide)]) (fun a q => by rw [gW_cell (by omega), gW_cell (by omega), T2o a (by omega) (by omega)])
  · exact hC.mv (by rw [S3s 8 (by omega) (by omega) (by omega)]) (fun a q => S3s a (by omega) (by omega) (by omega)) (fun a q => by rw [gW_cell (by omega), gW_cell (by omega), T2o a (by omega) (by omega)])
  · -- instructions of trees
    unfold rIn
    rw [S3s 8 (by omega) (by omega) (by omega), S3s 26 (by omega) (by omega) (by omega), S3s 27 (by omega) (by omega) (by omega), S3s 28 (by omega) (by omega) (by omega), S3s 29 (by omega) (by omega) (by omega)]
    refine ⟨hI.1, fun x x0 x1 => ?_⟩
    obtain ⟨g1, g2, g3, g4⟩ := hI.2 x x0 x1
    refine ⟨g1, g2, g3, fun p p0 p1 => ?_⟩
    have := hI.1
    have e := l4 p (by omega)
    rw [e.1, e.2.1, e.2.2, S2o 20 (by decide) (by decide) (by decide) (by decide) (by decide) (by decide), S2o 21 (by decide) (by decide) (by decide) (by decide) (by decide) (by decide), S2o 22 (by decide) (by decide) (by decide) (by decide) (by decide) (by decide), so 20 (by omega), so 21 (by omega), so 22 (by omega)]
    exact g4 p p0 p1
  · -- units
    unfold rUn
    rw [z10, z55, z62, z63, z64, S3s 26 (by omega) (by omega) (by omega), S3s 27 (by omega) (by omega) (by omega)]
    intro x x0 x1
    rw [z53, z54]
    by_cases z : x = c
    · subst z
      rw [if_pos rfl, if_pos rfl, u4]
      refine ⟨?_, fun u v0 v1 => ?_⟩
      · have e := (k2 f (by omega)).1
        rw [e, s62, if_pos rfl]
      · have g := u11 u v0 v1
        unfold mkV at g
        rw [f54'] at g
        have s26 : S2 26 = σ 26 := by rw [S2o 26 (by decide) (by decide) (by decide) (by decide) (by decide) (by decide), so 26 (by omega)]
        have s27 : S2 27 = σ 27 := by rw [S2o 27 (by decide) (by decide) (by decide) (by decide) (by decide) (by decide), so 27 (by omega)]
        rw [s26, s27] at g
        refine ⟨fun p => ?_, fun p => ?_⟩
        · have := g.2.2.2.1; omega
        · have g4 := g.2.2.2.1
          have g6 := g.2.2.2.2.2.1
          by_cases y : S2 63 (f + u) = -1
          · have := (g6 y).1; omega
          · have g7 := g.2.2.2.2.2.2 (by omega)
            exact ⟨by omega, g7.2.1⟩
    · rw [if_neg z, if_neg z]
      have kk := k1 x z
      rw [s55, if_neg z] at kk
      rw [kk.1]
      have o := oldU x x0 (by omega)
      have nn := (hCo.2.2 x x0 (by omega)).2.1
      have e62 : ∀ u, 0 ≤ u → u < σ 55 x → S2 62 (σ 54 x + u) = σ 62 (σ 54 x + u) ∧ S2 63 (σ 54 x + u) = σ 63 (σ 54 x + u) ∧ S2 64 (σ 54 x + u) = σ 64 (σ 54 x + u) := fun u v0 v1 => by
        have e := k2 (σ 54 x + u) (by omega)
        rw [e.1, e.2.1, e.2.2, s62, s63, s64, if_neg (by omega), if_neg (by omega), if_neg (by omega)]
        exact ⟨rfl, rfl, rfl⟩
      obtain ⟨g1, g2⟩ := hUn x x0 (by omega)
      refine ⟨?_, fun u v0 v1 => ?_⟩
      · have := (e62 0 (by omega) (by omega)).1
        rw [Int.add_zero] at this
        rw [this]; exact g1
      · have e := e62 u v0 v1
        obtain ⟨g3, g4⟩ := g2 u v0 v1
        rw [e.2.1, e.2.2]
        refine ⟨g3, fun p => ?_⟩
        have g4 := g4 p
        rw [(e62 _ g4.1.1 (by omega)).1]
        exact g4
  · -- copies
    refine ⟨by rw [l7, z10]; omega, fun x u x0 x1 v0 v1 => ?_⟩
    rw [z10] at x1
    rw [z55] at v1
    rw [z54]
    by_cases z : x = c
    · subst z
      rw [u4] at v1
      rw [if_pos rfl]
      obtain ⟨g1, g2⟩ := l8 u v0 v1
      unfold cpC
      rw [z62, S3s 29 (by omega) (by omega) (by omega), S3s 28 (by omega) (by omega) (by omega)]
      have s29 : S2 29 = σ 29 := by rw [S2o 29 (by decide) (by decide) (by decide) (by decide) (by decide) (by decide), so 29 (by omega)]
      have s28 : S2 28 = σ 28 := by rw [S2o 28 (by decide) (by decide) (by decide) (by decide) (by decide) (by decide), so 28 (by omega)]
      rw [s29] at g1 g2
      refine ⟨by omega, fun j j0 j1 => ?_⟩
      have g := g2 j j0 j1
      unfold cp1 opF at g
      rw [yo 28 (by decide), yo 20 (by decide), yo 21 (by decide), yo 22 (by decide), yo 11 (by decide), yo 9 (by decide), s28] at g
      have ro := hro u v0 v1
      have ii := hI.2 (S2 62 (f + u)) ro.1 (by omega)
      have hh := hI.1
      have e := l4 (σ 28 (S2 62 (f + u)) + j) (by omega)
      unfold cp2
      rw [e.1, e.2.1, e.2.2, S3s 9 (by omega) (by omega) (by omega)]
      have s9 : S2 9 = σ 9 := by rw [S2o 9 (by decide) (by decide) (by decide) (by decide) (by decide) (by decide), so 9 (by omega)]
      rw [s9] at g
      refine ⟨⟨?_, g.2.1, ?_⟩, g.2.2.2⟩
      · rw [← g.1]; congr 1; omega
      · rw [g.2.2.1]
        split
        · next w => exact Or.inr (Or.inl ⟨w.1, rfl, w.2.2⟩)
        · split
          · next w => exact Or.inr (Or.inr ⟨w.1, rfl⟩)
          · exact Or.inl rfl
    · rw [if_neg z]
      have kk := k1 x z
      rw [s55, if_neg z] at kk
      rw [kk.1] at v1
      have o := oldU x x0 (by omega)
      have g := hCp.2 x u x0 (by omega) v0 v1
      have e62 : S2 62 (σ 54 x + u) = σ 62 (σ 54 x + u) := by
        have e := k2 (σ 54 x + u) (by omega)
        rw [e.1, s62, if_neg (by omega)]
      have e65 : S3 65 (σ 54 x + u) = σ 65 (σ 54 x + u) := by rw [l6 _ (Or.inl (by omega)), S2o 65 (by decide) (by decide) (by decide) (by decide) (by decide) (by decide), so 65 (by omega)]
      unfold cpC at g ⊢
      rw [z62, e62, e65, S3s 29 (by omega) (by omega) (by omega), S3s 28 (by omega) (by omega) (by omega)]
      refine ⟨by omega, fun j j0 j1 => ?_⟩
      obtain ⟨g1, g2⟩ := g.2 j j0 j1
      have gu := (hCo.2.2 x x0 (by omega)).2.2.2.2.2.2.2.2.2 u v0 v1
      have ii := hI.2 (σ 62 (σ 54 x + u)) gu.1.2.1 gu.1.2.2
      have hh := hI.1
      have e := l4 (σ 28 (σ 62 (σ 54 x + u)) + j) (by omega)
      have e' := l4 (σ 65 (σ 54 x + u) + j) (by omega)
      have e6 := l5 (σ 65 (σ 54 x + u) + j - 64000) (by omega)
      have c20 : S2 20 = σ 20 := by rw [S2o 20 (by decide) (by decide) (by decide) (by decide) (by decide) (by decide), so 20 (by omega)]
      have c21 : S2 21 = σ 21 := by rw [S2o 21 (by decide) (by decide) (by decide) (by decide) (by decide) (by decide), so 21 (by omega)]
      have c22 : S2 22 = σ 22 := by rw [S2o 22 (by decide) (by decide) (by decide) (by decide) (by decide) (by decide), so 22 (by omega)]
      have c66 : S2 66 = σ 66 := by rw [S2o 66 (by decide) (by decide) (by decide) (by decide) (by decide) (by decide), so 66 (by omega)]
      unfold cp2 at g1 ⊢
      rw [e.1, e.2.1, e.2.2, e'.1, e'.2.1, e'.2.2, e6, c20, c21, c22, c66, S3s 9 (by omega) (by omega) (by omega)]
      exact ⟨g1, g2⟩
  · -- what codes rest on
    intro x x0 x1 hv u v0 v1
    rw [z10] at x1
    rw [z61] at hv
    rw [z55] at v1
    rw [z54, z62, z64, S3s 29 (by omega) (by omega) (by omega), S3s 11 (by omega) (by omega) (by omega), S3s 9 (by omega) (by omega) (by omega), S3s 18 (by omega) (by omega) (by omega), S3s 19 (by omega) (by omega) (by omega)]
    by_cases z : x = c
    · subst z
      rw [u4] at v1
      rw [if_pos rfl]
      obtain ⟨g1, g2⟩ := l8 u v0 v1
      have s29 : S2 29 = σ 29 := by rw [S2o 29 (by decide) (by decide) (by decide) (by decide) (by decide) (by decide), so 29 (by omega)]
      rw [s29] at g1 g2
      refine ⟨fun j j0 j1 h18 => ?_, fun p => ?_⟩
      · have g := g2 j j0 j1
        have s28 : S2 28 = σ 28 := by rw [S2o 28 (by decide) (by decide) (by decide) (by decide) (by decide) (by decide), so 28 (by omega)]
        have s11 : S2 11 = σ 11 := by rw [S2o 11 (by decide) (by decide) (by decide) (by decide) (by decide) (by decide), so 11 (by omega)]
        have s20 : S2 20 = σ 20 := by rw [S2o 20 (by decide) (by decide) (by decide) (by decide) (by decide) (by decide), so 20 (by omega)]
        unfold cp1 opF at g
        rw [yo 28 (by decide), yo 20 (by decide), yo 21 (by decide), yo 22 (by decide), yo 11 (by decide), yo 9 (by decide), s28, s11] at g
        rw [g.2.1]
        have gg := g.2.2.1
        rw [h18] at gg
        have ro := hro u v0 v1
        have ii := (hI.2 (S2 62 (f + u)) ro.1 (by omega)).2.2.2 (σ 28 (S2 62 (f + u)) + j) (by omega) (by omega)
        rw [s20] at gg
        split at gg
        · next w => exact w.2.1
        · split at gg
          · exact absurd gg (by decide)
          · omega
      · have g := u11 u v0 v1
        unfold mkV at g
        rw [f54'] at g
        have g4 := g.2.2.2.1
        have g6 := g.2.2.2.2.2.1
        by_cases y : S2 63 (f + u) = -1
        · have := (g6 y).1; omega
        · have g7 := g.2.2.2.2.2.2 (by omega)
          have s9 : S2 9 = σ 9 := by rw [S2o 9 (by decide) (by decide) (by decide) (by decide) (by decide) (by decide), so 9 (by omega)]
          have s18 : S2 18 = σ 18 := by rw [S2o 18 (by decide) (by decide) (by decide) (by decide) (by decide) (by decide), so 18 (by omega)]
          have s19 : S2 19 = σ 19 := by rw [S2o 19 (by decide) (by decide) (by decide) (by decide) (by decide) (by decide), so 19 (by omega)]
          rw [s9, s18, s19] at g7
          exact g7.2.2
    · rw [if_neg z] at hv
      rw [if_neg z]
      have kk := k1 x z
      rw [s55, if_neg z] at kk
      rw [kk.1] at v1
      have o := oldU x x0 (by omega)
      have e := k2 (σ 54 x + u) (by omega)
      have e62 : S2 62 (σ 54 x + u) = σ 62 (σ 54 x + u) := by rw [e.1, s62, if_neg (by omega)]
      have e64 : S2 64 (σ 54 x + u) = σ 64 (σ 54 x + u) := by rw [e.2.2, s64, if_neg (by omega)]
      have e65 : S3 65 (σ 54 x + u) = σ 65 (σ 54 x + u) := by rw [l6 _ (Or.inl (by omega)), S2o 65 (by decide) (by decide) (by decide) (by decide) (by decide) (by decide), so 65 (by omega)]
      have cp := hCp.2 x u x0 (by omega) v0 v1
      have g := hV x x0 (by omega) hv u v0 v1
      rw [e62, e64, e65]
      refine ⟨fun j j0 j1 h18 => ?_, g.2⟩
      have e' := l4 (σ 65 (σ 54 x + u) + j) (by have := cp.1; omega)
      rw [e'.1, S2o 20 (by decide) (by decide) (by decide) (by decide) (by decide) (by decide), so 20 (by omega)] at h18
      rw [e'.2.2, S2o 22 (by decide) (by decide) (by decide) (by decide) (by decide) (by decide), so 22 (by omega)]
      exact g.1 j j0 j1 h18
  · -- what stays
    refine ⟨fun a p1 p2 p3 => S3s a p1 p2 (by omega), fun i p => ?_, fun i p => ?_, fun i p => ?_, fun i p => ?_, by rw [z10]; omega⟩
    · have e := l4 i p
      rw [S2o 20 (by decide) (by decide) (by decide) (by decide) (by decide) (by decide), S2o 21 (by decide) (by decide) (by decide) (by decide) (by decide) (by decide), S2o 22 (by decide) (by decide) (by decide) (by decide) (by decide) (by decide), so 20 (by omega), so 21 (by omega), so 22 (by omega)] at e
      exact e
    · rw [ec] at p
      have kk := k1 i (by omega)
      rw [z53, z54, z55, z58, z59, z60, z61, kk.1, s55, if_neg (by omega), if_neg (by omega), if_neg (by omega), if_neg (by omega), if_neg (by omega), if_neg (by omega), if_neg (by omega)]
      exact ⟨rfl, rfl, rfl, rfl, rfl, rfl, rfl⟩
    · rw [ef] at p
      have e := k2 i (by omega)
      rw [z62, z63, z64, e.1, e.2.1, e.2.2, s62, s63, s64, if_neg (by omega), if_neg (by omega), if_neg (by omega), l6 i (Or.inl p), S2o 65 (by decide) (by decide) (by decide) (by decide) (by decide) (by decide), so 65 (by omega)]
      exact ⟨rfl, rfl, rfl, rfl⟩
    · rw [l5 i p, S2o 66 (by decide) (by decide) (by decide) (by decide) (by decide) (by decide), so 66 (by omega)]
  · refine ⟨fun a p1 p2 p3 p4 => by rw [gW_cell (by omega), gW_cell (by omega), T2o a p1 p4], fun i p1 p2 => by rw [gW_c (by decide), gW_c (by decide), t2_119, t119 i p2]⟩
  · intro i; rw [S3s 67 (by omega) (by omega) (by omega)]
  · rw [gW_c (by decide), gW_c (by decide), t2_119, t119 89 (by decide)]
  · intro i; rw [gW_c (by decide), gW_c (by decide), T2o 185 (by decide) (by decide)]
end MC
