/-! whole numbers of the component -/
def gWc (w : Int) : Prop := w = 36 ∨ w = 105 ∨ w = 108 ∨ w = 111 ∨ w = 114
section WC
variable {ρ : Type} {w : Int} (x : Option ρ)
theorem gWc_is (h : gWc w) : gis 119 w 12 x = x := by rcases h with h | h | h | h | h <;> subst h <;> rfl
theorem gWc_is1 (h : gWc w) : gis 119 (w + 1) 4 x = x := by rcases h with h | h | h | h | h <;> subst h <;> rfl
theorem gWc_is2 (h : gWc w) : gis 119 (w + 2) 4 x = x := by rcases h with h | h | h | h | h <;> subst h <;> rfl
theorem gWc_R1 (h : gWc w) : gR w 1 = w + 1 := by rcases h with h | h | h | h | h <;> subst h <;> rfl
theorem gWc_R2 (h : gWc w) : gR w 2 = w + 2 := by rcases h with h | h | h | h | h <;> subst h <;> rfl
theorem gWc_N1 (h : gWc w) : gN (w + 1) = 4 := by rcases h with h | h | h | h | h <;> subst h <;> rfl
theorem gWc_N2 (h : gWc w) : gN (w + 2) = 8 := by rcases h with h | h | h | h | h <;> subst h <;> rfl
theorem gWc_wof (h : gWc w) : gwr 24227587787227680242996183141042265400644274563352017343858361682490010613500890323204207710303182943436953965533314456975336030601216 w 0 x = x := by rcases h with h | h | h | h | h <;> subst h <;> rfl
theorem gWc_wof1 (h : gWc w) : gwr 24227587787227680242996183141042265400644274563352017343858361682490010613500890323204207710303182943436953965533314456975336030601216 (w + 1) 0 x = x := by rcases h with h | h | h | h | h <;> subst h <;> rfl
theorem gWc_wset (h : gWc w) : gwr 24227587787227680242996183141042265400644274563352017343858361682490010613500890323204207710303182895976115492988405664938630582370304 w 0 x = x := by rcases h with h | h | h | h | h <;> subst h <;> rfl
theorem gWc_wless (h : gWc w) : gwr 47460838472544908792036705448230912 (w + 1) 0 x = x := by rcases h with h | h | h | h | h <;> subst h <;> rfl
theorem gWc_wpr1 (h : gWc w) : gwr 24227587787227680242996183141042265400644274563352017343858361682490010613500890323204207710303183038358630910623132041048746927063040 (w + 1) 0 x = x := by rcases h with h | h | h | h | h <;> subst h <;> rfl
theorem gWc_wpr2 (h : gWc w) : gwr 24227587787227680242996183141042265400644274563352017343858361682490010613500890323204207710303183038358630910623132041048746927063040 (w + 2) 0 x = x := by rcases h with h | h | h | h | h <;> subst h <;> rfl
theorem gWc_wil (h : gWc w) : gwr 193820702297821441943969465128338123205154196506816138750866893459920084908007122585633661682425463167808923943907245319509044658962432 w 3 x = x := by rcases h with h | h | h | h | h <;> subst h <;> rfl
end WC
/-- the size that the limbs tell -/
def wm (σ : gM) (w : Int) : Int := σ (w + 1) 0 + 1000000000 * σ (w + 1) 1 + 1000000000000000000 * σ (w + 1) 2 + 1000000000000000000000000000 * σ (w + 1) 3
def wOk (σ : gM) (w : Int) : Prop := (0 ≤ σ (w + 1) 0 ∧ σ (w + 1) 0 < 1000000000) ∧ (0 ≤ σ (w + 1) 1 ∧ σ (w + 1) 1 < 1000000000) ∧ (0 ≤ σ (w + 1) 2 ∧ σ (w + 1) 2 < 1000000000) ∧ (0 ≤ σ (w + 1) 3 ∧ σ (w + 1) 3 < 1000000000)
/-- the cell holds the number x -/
def wIs (σ : gM) (w x : Int) : Prop := wOk σ w ∧ ((x < 0 ∧ σ w 0 = -1 ∧ wm σ w = -x) ∨ (x = 0 ∧ σ w 0 = 0 ∧ wm σ w = 0) ∨ (0 < x ∧ σ w 0 = 1 ∧ wm σ w = x))
theorem wOk.k {σ : gM} {w : Int} (h : wOk σ w) {k : Int} (h0 : 0 ≤ k) (h4 : k < 4) : 0 ≤ σ (w + 1) k ∧ σ (w + 1) k < 1000000000 := by
  obtain ⟨h1, h2, h3, h5⟩ := h
  have : k = 0 ∨ k = 1 ∨ k = 2 ∨ k = 3 := by omega
  rcases this with e | e | e | e <;> subst e <;> assumption
/-- nothing but the whole number w has changed -/
def wFr (σ σ' : gM) (w : Int) : Prop := ∀ a k, a ≠ w → a ≠ w + 1 → a ≠ w + 2 → σ' a k = σ a k
theorem wFr.tr {σ σ' σ'' : gM} {w : Int} (h : wFr σ σ' w) (h2 : wFr σ' σ'' w) : wFr σ σ'' w := fun a k h1 h3 h4 => (h2 a k h1 h3 h4).trans (h a k h1 h3 h4)
theorem gW_j {σ : gM} {a i v b j : Int} (h : j ≠ i) : gW σ a i v b j = σ b j := by simp [gW, h]
theorem tdv {x k : Int} (h : 0 ≤ x) : Int.tdiv x k = x / k := Int.tdiv_eq_ediv_of_nonneg h
theorem tmd {x k : Int} (h : 0 ≤ x) : Int.tmod x k = x % k := Int.tmod_eq_emod_of_nonneg h
section WS
variable {σ : gM} {w : Int}
theorem wl_settle_b4_s (hw : gWc w) {s f k : Int} (h0 : 0 ≤ k) (h4 : k < 4) : wl_settle_b4 σ w s f k = wl_settle_b4 σ w s (if f ≠ 0 ∧ σ (w + 1) k = 0 then 1 else 0) (k + 1) := by
  rw [wl_settle_b4_e]
  simp only [gWc_R1 hw, gWc_is _ hw, gWc_is1 _ hw, gWc_N1 hw, h0, h4, and_self, if_true, wl_settle_b28_e, wl_settle_b29_e, l_cmp_0]
  rw [w32_e (by omega) (by omega)]
  by_cases hf : f = 0
  · simp [hf]
  · by_cases hl : σ (w + 1) k = 0 <;> simp [hf, hl]
theorem wl_settle_b4_x (hw : gWc w) {s f : Int} : wl_settle_b4 σ w s f 4 = some (gW σ w 0 (if f = 0 then s else 0), 0) := by
  rw [wl_settle_b4_e]
  simp only [wl_settle_b46_e, gWc_is _ hw, gWc_wset _ hw]
  by_cases hf : f = 0 <;> simp [hf]
theorem wl_settle_s (hw : gWc w) {s : Int} (hk : wOk σ w) : wl_settle σ w s = some (gW σ w 0 (if wm σ w = 0 then 0 else s), 0) := by
  rw [wl_settle_e, wl_settle_b4_s hw (by omega) (by omega), wl_settle_b4_s hw (by omega) (by omega), wl_settle_b4_s hw (by omega) (by omega), wl_settle_b4_s hw (by omega) (by omega)]
  rw [show (0 : Int) + 1 + 1 + 1 + 1 = 4 by rfl, wl_settle_b4_x hw]
  obtain ⟨h1, h2, h3, h4⟩ := hk
  have e : wm σ w = 0 ↔ (σ (w + 1) 0 = 0 ∧ σ (w + 1) 1 = 0 ∧ σ (w + 1) 2 = 0 ∧ σ (w + 1) 3 = 0) := by unfold wm; omega
  by_cases k0 : σ (w + 1) 0 = 0 <;> by_cases k1 : σ (w + 1) 1 = 0 <;> by_cases k2 : σ (w + 1) 2 = 0 <;> by_cases k3 : σ (w + 1) 3 = 0 <;> simp [e, k0, k1, k2, k3]
end WS
theorem tm_neg {r k : Int} (h : r < 0) : Int.tmod r k = -((-r) % k) := by
  have := Int.neg_tmod (a := -r) (b := k)
  rw [Int.neg_neg] at this
  rw [this, tmd (by omega)]
theorem td_neg {r k : Int} (h : r < 0) : Int.tdiv r k = -((-r) / k) := by
  have := Int.neg_tdiv (-r) k
  rw [Int.neg_neg] at this
  rw [this, tdv (by omega)]
/-- four limbs are written -/
def w4 (σ : gM) (c n0 n1 n2 n3 : Int) : gM := gW (gW (gW (gW σ c 0 n0) c 1 n1) c 2 n2) c 3 n3
section W4
variable {σ : gM} {c n0 n1 n2 n3 b j : Int}
theorem w4_0 : w4 σ c n0 n1 n2 n3 c 0 = n0 := by simp [w4, gW]
theorem w4_1 : w4 σ c n0 n1 n2 n3 c 1 = n1 := by simp [w4, gW]
theorem w4_2 : w4 σ c n0 n1 n2 n3 c 2 = n2 := by simp [w4, gW]
theorem w4_3 : w4 σ c n0 n1 n2 n3 c 3 = n3 := by simp [w4, gW]
theorem w4_c (h : b ≠ c) : w4 σ c n0 n1 n2 n3 b j = σ b j := by simp [w4, gW, h]
end W4
section GJ
variable {σ : gM} {a v b : Int}
theorem gj10 : gW σ a 0 v b 1 = σ b 1 := gW_j (by decide)
theorem gj20 : gW σ a 0 v b 2 = σ b 2 := gW_j (by decide)
theorem gj21 : gW σ a 1 v b 2 = σ b 2 := gW_j (by decide)
theorem gj30 : gW σ a 0 v b 3 = σ b 3 := gW_j (by decide)
theorem gj31 : gW σ a 1 v b 3 = σ b 3 := gW_j (by decide)
theorem gj32 : gW σ a 2 v b 3 = σ b 3 := gW_j (by decide)
end GJ
theorem w1n (w : Int) : w + 1 ≠ w := by omega
theorem wn1 (w : Int) : w ≠ w + 1 := by omega
/-- the end of most: four limbs and the sign -/
theorem wfin {σ : gM} {w n0 n1 n2 n3 s x : Int} (h0 : 0 ≤ n0 ∧ n0 < 1000000000) (h1 : 0 ≤ n1 ∧ n1 < 1000000000) (h2 : 0 ≤ n2 ∧ n2 < 1000000000) (h3 : 0 ≤ n3 ∧ n3 < 1000000000)
    (hx : (x < 0 ∧ s = -1 ∧ n0 + 1000000000 * n1 + 1000000000000000000 * n2 + 1000000000000000000000000000 * n3 = -x) ∨ (x = 0 ∧ s = 0 ∧ n0 + 1000000000 * n1 + 1000000000000000000 * n2 + 1000000000000000000000000000 * n3 = 0) ∨ (0 < x ∧ s = 1 ∧ n0 + 1000000000 * n1 + 1000000000000000000 * n2 + 1000000000000000000000000000 * n3 = x)) :
    wIs (gW (w4 σ (w + 1) n0 n1 n2 n3) w 0 s) w x ∧ wIs (w4 (gW σ w 0 s) (w + 1) n0 n1 n2 n3) w x := by
  constructor
  · unfold wIs wOk wm
    simp only [gW_c (w1n w), w4_0, w4_1, w4_2, w4_3, gW_at]
    exact ⟨⟨h0, h1, h2, h3⟩, hx⟩
  · unfold wIs wOk wm
    simp only [w4_0, w4_1, w4_2, w4_3, w4_c (wn1 w), gW_at]
    exact ⟨⟨h0, h1, h2, h3⟩, hx⟩
theorem w4_ok {σ : gM} {w n0 n1 n2 n3 : Int} (h0 : 0 ≤ n0 ∧ n0 < 1000000000) (h1 : 0 ≤ n1 ∧ n1 < 1000000000) (h2 : 0 ≤ n2 ∧ n2 < 1000000000) (h3 : 0 ≤ n3 ∧ n3 < 1000000000) : wOk (w4 σ (w + 1) n0 n1 n2 n3) w ∧ wm (w4 σ (w + 1) n0 n1 n2 n3) w = n0 + 1000000000 * n1 + 1000000000000000000 * n2 + 1000000000000000000000000000 * n3 := by
  unfold wOk wm
  simp only [w4_0, w4_1, w4_2, w4_3]
  exact ⟨⟨h0, h1, h2, h3⟩, trivial⟩
theorem wOk_s {σ : gM} {w s : Int} : (wOk (gW σ w 0 s) w ↔ wOk σ w) ∧ wm (gW σ w 0 s) w = wm σ w := by
  unfold wOk wm
  simp only [gW_c (w1n w)]
  exact ⟨trivial, trivial⟩
theorem wFr4 {σ : gM} {w n0 n1 n2 n3 s : Int} : wFr σ (gW (w4 σ (w + 1) n0 n1 n2 n3) w 0 s) w ∧ wFr σ (w4 (gW σ w 0 s) (w + 1) n0 n1 n2 n3) w := by
  constructor <;> intro a k h1 h2 h3 <;> simp only [gW_c h1, w4_c h2]
theorem n36 : (1000000000000000000000000000000000000 : Int) = 1000000000 * 1000000000000000000000000000 := by decide
section WO
variable {σ : gM} {w : Int}
theorem wl_of_b13_s (hw : gWc w) {r k k' : Int} (h0 : 0 ≤ k) (h4 : k < 4) (hk : k + 1 = k') (hr : i64 r) : wl_of_b13 σ w r k = wl_of_b13 (gW σ (w + 1) k ((if r < 0 then -r else r) % 1000000000)) w (if r < 0 then -((-r) / 1000000000) else r / 1000000000) k' := by
  rw [wl_of_b13_e]
  unfold i64 at hr
  have e : Int.tmod r 1000000000 = if r < 0 then -((-r) % 1000000000) else r % 1000000000 := by
    split
    · exact tm_neg (by assumption)
    · exact tmd (by omega)
  have e2 : Int.tdiv r 1000000000 = if r < 0 then -((-r) / 1000000000) else r / 1000000000 := by
    split
    · exact td_neg (by assumption)
    · exact tdv (by omega)
  rw [e, e2, jm_abs_s (by unfold i64; split <;> omega) (by split <;> omega)]
  simp only [gWc_R1 hw, gWc_is _ hw, gWc_is1 _ hw, gWc_N1 hw, gWc_wof1 _ hw, h0, h4, and_self, if_true, Option.bind_some, show ¬ ((1000000000 : Int) = 0) by decide, if_false]
  rw [w32_e (by omega) (by omega), w64_e (by split <;> omega) (by split <;> omega), hk]
  congr 2
  by_cases k1 : r < 0
  · simp only [if_pos k1]
    split <;> omega
  · simp only [if_neg k1]
    split <;> omega
theorem wl_of_b13_x {r : Int} : wl_of_b13 σ w r 4 = some (σ, 0) := by rw [wl_of_b13_e]; rfl
theorem wl_of_s (hw : gWc w) {v : Int} (hv : i64 v) : ∃ σ', wl_of σ w v = some (σ', 0) ∧ wIs σ' w v ∧ wFr σ σ' w := by
  rw [wl_of_e, jl_signum_s hv]
  simp only [Option.bind_some, gWc_is _ hw, gWc_wof _ hw]
  unfold i64 at hv
  generalize hs : (if v < 0 then (-1 : Int) else if v = 0 then 0 else 1) = s
  rw [wl_of_b13_s hw (k' := 1) (by omega) (by omega) rfl (by unfold i64; omega), wl_of_b13_s hw (k' := 2) (by omega) (by omega) rfl (by unfold i64; split <;> omega),
    wl_of_b13_s hw (k' := 3) (by omega) (by omega) rfl (by unfold i64; split <;> split <;> omega), wl_of_b13_s hw (k' := 4) (by omega) (by omega) rfl (by unfold i64; split <;> split <;> split <;> omega), wl_of_b13_x]
  refine ⟨_, rfl, ?_, wFr4.2⟩
  by_cases k : v < 0
  · rw [if_pos k] at hs
    simp only [if_pos k]
    by_cases k1 : -((-v) / 1000000000) < 0
    · simp only [if_pos k1, Int.neg_neg]
      by_cases k2 : -((-v) / 1000000000 / 1000000000) < 0
      · simp only [if_pos k2, Int.neg_neg]
        refine (wfin ?_ ?_ ?_ ?_ ?_).2 <;> first | omega | (split <;> omega)
      · simp only [if_neg k2]
        refine (wfin ?_ ?_ ?_ ?_ ?_).2 <;> first | omega | (split <;> omega)
    · simp only [if_neg k1]
      refine (wfin ?_ ?_ ?_ ?_ ?_).2 <;> first | omega | (split <;> first | omega | (split <;> omega))
  · simp only [if_neg k] at hs ⊢
    have k1 : ¬ (v / 1000000000 < 0) := by omega
    have k2 : ¬ (v / 1000000000 / 1000000000 < 0) := by omega
    simp only [if_neg k1, if_neg k2]
    have k3 : ¬ (v / 1000000000 / 1000000000 / 1000000000 < 0) := by omega
    simp only [if_neg k3]
    refine (wfin ?_ ?_ ?_ ?_ ?_).2
    · omega
    · omega
    · omega
    · omega
    · split at hs <;> omega
end WO
section WM
variable {σ : gM} {w : Int}
theorem wl_more_b6_s (hw : gWc w) {c k k' : Int} (h0 : 0 ≤ k) (h4 : k < 4) (hk : k + 1 = k') (hl : 0 ≤ σ (w + 1) k ∧ σ (w + 1) k < 1000000000) (hc : 0 ≤ c ∧ c < 1000000000) :
    wl_more_b6 σ w c k = wl_more_b6 (gW σ (w + 1) k ((10 * σ (w + 1) k + c) % 1000000000)) w ((10 * σ (w + 1) k + c) / 1000000000) k' := by
  rw [wl_more_b6_e]
  simp only [gWc_R1 hw, gWc_is _ hw, gWc_is1 _ hw, gWc_N1 hw, gWc_wof1 _ hw, h0, h4, and_self, if_true, show ¬ ((1000000000 : Int) = 0) by decide, if_false]
  rw [w64_e (x := 10 * σ (w + 1) k) (by omega) (by omega), w64_e (x := 10 * σ (w + 1) k + c) (by omega) (by omega), tmd (by omega), tdv (by omega), w64_e (by omega) (by omega), w32_e (by omega) (by omega), hk]
theorem wl_more_b6_x (hw : gWc w) {c : Int} (hk : wOk σ w) : wl_more_b6 σ w c 4 = some (gW σ w 0 (if wm σ w = 0 then 0 else 1), if c = 0 then 1 else 0) := by
  rw [wl_more_b6_e, wl_settle_s hw hk]
  simp only [show ¬ ((4 : Int) < 4) by decide, if_false, gWc_is _ hw, Option.bind_some, l_cmp_0]
  split <;> rfl
theorem wl_more_s (hw : gWc w) {d : Int} (hk : wOk σ w) (hd : 0 ≤ d ∧ d ≤ 9) : ∃ σ', wl_more σ w d = some (σ', if wm σ w * 10 + d < 1000000000000000000000000000000000000 then 1 else 0) ∧ wOk σ' w ∧ wm σ' w = (wm σ w * 10 + d) % 1000000000000000000000000000000000000 ∧ σ' w 0 = (if wm σ' w = 0 then 0 else 1) ∧ wFr σ σ' w := by
  obtain ⟨h0, h1, h2, h3⟩ := hk
  rw [wl_more_e, wl_more_b6_s hw (k' := 1) (by omega) (by omega) rfl h0 (by omega), wl_more_b6_s hw (k' := 2) (by omega) (by omega) rfl (by rw [gj10]; exact h1) (by omega),
    wl_more_b6_s hw (k' := 3) (by omega) (by omega) rfl (by rw [gj21, gj20]; exact h2) (by rw [gj10]; omega), wl_more_b6_s hw (k' := 4) (by omega) (by omega) rfl (by rw [gj32, gj31, gj30]; exact h3) (by rw [gj21, gj20, gj10]; omega)]
  simp only [gj10, gj20, gj21, gj30, gj31, gj32]
  rw [show wm σ w = σ (w + 1) 0 + 1000000000 * σ (w + 1) 1 + 1000000000000000000 * σ (w + 1) 2 + 1000000000000000000000000000 * σ (w + 1) 3 from rfl]
  generalize σ (w + 1) 0 = l0 at *
  generalize σ (w + 1) 1 = l1 at *
  generalize σ (w + 1) 2 = l2 at *
  generalize σ (w + 1) 3 = l3 at *
  obtain ⟨q0, r0, b0, e0, e0'⟩ : ∃ q r : Int, (0 ≤ r ∧ r < 1000000000) ∧ (10 * l0 + d) / 1000000000 = q ∧ (10 * l0 + d) % 1000000000 = r := ⟨_, _, by omega, rfl, rfl⟩
  rw [e0, e0']
  obtain ⟨q1, r1, b1, e1, e1'⟩ : ∃ q r : Int, (0 ≤ r ∧ r < 1000000000) ∧ (10 * l1 + q0) / 1000000000 = q ∧ (10 * l1 + q0) % 1000000000 = r := ⟨_, _, by omega, rfl, rfl⟩
  rw [e1, e1']
  obtain ⟨q2, r2, b2, e2, e2'⟩ : ∃ q r : Int, (0 ≤ r ∧ r < 1000000000) ∧ (10 * l2 + q1) / 1000000000 = q ∧ (10 * l2 + q1) % 1000000000 = r := ⟨_, _, by omega, rfl, rfl⟩
  rw [e2, e2']
  obtain ⟨q3, r3, b3, e3, e3'⟩ : ∃ q r : Int, (0 ≤ r ∧ r < 1000000000) ∧ (10 * l3 + q2) / 1000000000 = q ∧ (10 * l3 + q2) % 1000000000 = r := ⟨_, _, by omega, rfl, rfl⟩
  rw [e3, e3']
  have w5 := w4_ok (σ := σ) (w := w) b0 b1 b2 b3
  rw [show gW (gW (gW (gW σ (w + 1) 0 r0) (w + 1) 1 r1) (w + 1) 2 r2) (w + 1) 3 r3 = w4 σ (w + 1) r0 r1 r2 r3 from rfl, wl_more_b6_x hw w5.1, w5.2]
  have q0' : 10 * l0 + d = 1000000000 * q0 + r0 := by omega
  have q1' : 10 * l1 + q0 = 1000000000 * q1 + r1 := by omega
  have q2' : 10 * l2 + q1 = 1000000000 * q2 + r2 := by omega
  have q3' : 10 * l3 + q2 = 1000000000 * q3 + r3 := by omega
  have tot : (l0 + 1000000000 * l1 + 1000000000000000000 * l2 + 1000000000000000000000000000 * l3) * 10 + d = 1000000000000000000000000000000000000 * q3 + (r0 + 1000000000 * r1 + 1000000000000000000 * r2 + 1000000000000000000000000000 * r3) := by omega
  have hq3 : 0 ≤ q3 := by omega
  clear e0 e0' e1 e1' e2 e2' e3 e3' q0' q1' q2' q3'
  refine ⟨_, congrArg some (congrArg _ ?_), (wOk_s.1).mpr w5.1, ?_, ?_, wFr4.1⟩
  · rw [tot]
    by_cases k : q3 = 0
    · rw [if_pos k, if_pos (by omega)]
    · rw [if_neg k, if_neg (by omega)]
  · rw [tot]
    rw [wOk_s.2, w5.2]
    omega
  · rw [wOk_s.2, w5.2, gW_at]
end WM
