/-! shapes: the way down, a child, a wider shape -/
def anF : Nat → gM → Int → Int → Int
  | 0, _, s, _ => s
  | d + 1, σ, s, p => if p + 1 < σ 47 s then anF d σ (σ 43 s) p else s
/-- the shape above (or this one) whose last property is at p -/
def anc (σ : gM) (s p : Int) : Int := anF s.toNat σ s p
/-- the first j properties of a shape are those of this one -/
def pre (σ : gM) (s j : Int) : Int := if j ≤ 0 then 0 else anc σ s (j - 1)
section AN
variable {σ σ' τ τ' : gM} {p : Int}
theorem many_r (h : rSh σ τ) {s : Int} (h0 : 0 ≤ s) (hs : s < σ 42 6) : 0 ≤ σ 47 s ∧ σ 47 s ≤ 12 := (plc_r (n := 0) h s.toNat s (by omega) hs h0).2
theorem many_1 (h : rSh σ τ) {s : Int} (h0 : 0 ≤ s) (hs : s < σ 42 6) (hm : 0 < σ 47 s) : 1 ≤ s := by
  by_cases e : s = 0
  · rw [e, h.2.2.2.1.1] at hm; omega
  · omega
theorem anF_any (h : rSh σ τ) (hp : 0 ≤ p) : ∀ (d d' : Nat) (s : Int), s.toNat ≤ d → s.toNat ≤ d' → 0 ≤ s → s < σ 42 6 → anF d σ s p = anF d' σ s p
  | 0, 0, s, _, _, _, _ => rfl
  | 0, d' + 1, s, a, _, h0, hs => by
    unfold anF
    have : s = 0 := by omega
    rw [if_neg (by rw [this, h.2.2.2.1.1]; omega)]
  | d + 1, 0, s, _, a, h0, hs => by
    unfold anF
    have : s = 0 := by omega
    rw [if_neg (by rw [this, h.2.2.2.1.1]; omega)]
  | d + 1, d' + 1, s, a, b, h0, hs => by
    unfold anF
    by_cases q : p + 1 < σ 47 s
    · have s1 := many_1 h h0 hs (by omega)
      have hq := h.par s s1 hs
      rw [if_pos q, if_pos q, anF_any h hp d d' (σ 43 s) (by omega) (by omega) hq.1 (by omega)]
    · rw [if_neg q, if_neg q]
theorem anc_e (h : rSh σ τ) (hp : 0 ≤ p) {s : Int} (h0 : 0 ≤ s) (hs : s < σ 42 6) : anc σ s p = if p + 1 < σ 47 s then anc σ (σ 43 s) p else s := by
  unfold anc
  by_cases q : p + 1 < σ 47 s
  · have s1 := many_1 h h0 hs (by omega)
    have hq := h.par s s1 hs
    rw [if_pos q, show s.toNat = (s.toNat - 1) + 1 by omega]
    conv => lhs; unfold anF
    rw [if_pos q, anF_any h hp (s.toNat - 1) (σ 43 s).toNat (σ 43 s) (by omega) (by omega) hq.1 (by omega)]
  · rw [if_neg q]
    cases hd : s.toNat with
    | zero => rfl
    | succ d => unfold anF; rw [if_neg q]
theorem anc_v (h : rSh σ τ) (hp : 0 ≤ p) : ∀ (d : Nat) (s : Int), s.toNat ≤ d → 0 ≤ s → s < σ 42 6 → p < σ 47 s → (1 ≤ anc σ s p ∧ anc σ s p ≤ s) ∧ σ 47 (anc σ s p) = p + 1
  | 0, s, a, h0, hs, hq => by
    have : s = 0 := by omega
    rw [this, h.2.2.2.1.1] at hq
    omega
  | d + 1, s, a, h0, hs, hq => by
    have s1 := many_1 h h0 hs (by omega)
    have hr := h.par s s1 hs
    have ht := h.2.2.2.2.1 s s1 hs
    rw [anc_e h hp h0 hs]
    by_cases q : p + 1 < σ 47 s
    · rw [if_pos q]
      have := anc_v h hp d (σ 43 s) (by omega) hr.1 (by omega) (by omega)
      omega
    · rw [if_neg q]; omega
/-- the shape ahead of one on the way -/
theorem anc_par (h : rSh σ τ) (hp : 0 ≤ p) : ∀ (d : Nat) (s : Int), s.toNat ≤ d → 0 ≤ s → s < σ 42 6 → p < σ 47 s → σ 43 (anc σ s p) = pre σ s p
  | 0, s, a, h0, hs, hq => by
    have : s = 0 := by omega
    rw [this, h.2.2.2.1.1] at hq
    omega
  | d + 1, s, a, h0, hs, hq => by
    have s1 := many_1 h h0 hs (by omega)
    have hr := h.par s s1 hs
    have ht := h.2.2.2.2.1 s s1 hs
    rw [anc_e h hp h0 hs]
    by_cases q : p + 1 < σ 47 s
    · rw [if_pos q, anc_par h hp d (σ 43 s) (by omega) hr.1 (by omega) (by omega)]
      unfold pre
      by_cases z : p ≤ 0
      · rw [if_pos z, if_pos z]
      · rw [if_neg z, if_neg z, anc_e h (by omega) h0 hs, if_pos (by omega)]
    · rw [if_neg q]
      unfold pre
      by_cases z : p ≤ 0
      · rw [if_pos z]
        have m0 : σ 47 (σ 43 s) = 0 := by omega
        by_cases w : σ 43 s = 0
        · exact w
        · have := (h.2.2.2.2.1 (σ 43 s) (by omega) (by omega)).2.2.2.2.2.1
          have := many_r h (s := σ 43 (σ 43 s)) (h.par _ (by omega) (by omega)).1 (by have := (h.par (σ 43 s) (by omega) (by omega)).2; omega)
          omega
      · rw [if_neg z, anc_e h (by omega) h0 hs, if_pos (by omega), anc_e h (by omega) hr.1 (by omega), if_neg (by omega)]
theorem pre_all (h : rSh σ τ) {s : Int} (h0 : 0 ≤ s) (hs : s < σ 42 6) : pre σ s (σ 47 s) = s := by
  unfold pre
  by_cases z : σ 47 s ≤ 0
  · rw [if_pos z]
    by_cases e : s = 0
    · exact e.symm
    · have := (h.2.2.2.2.1 s (by omega) hs).2.2.2.2.2.1
      have := many_r h (s := σ 43 s) (h.par s (by omega) hs).1 (by have := (h.par s (by omega) hs).2; omega)
      omega
  · rw [if_neg z, anc_e h (by omega) h0 hs, if_neg (by omega)]
theorem md_withLast_s (h : rSh σ τ) (hp : 0 ≤ p ∧ p < 12) : ∀ (d : Nat) (s : Int), s.toNat ≤ d → 0 ≤ s → s < σ 42 6 → md_withLast_b2 τ p s = some (τ, anc σ s p)
  | d, s, a, h0, hs => by
    have hb : 0 ≤ s ∧ s < 200 := by have := h.1; omega
    have i191 : τ 191 s = σ 47 s := by
      by_cases z : s = 0
      · rw [z, h.2.2.2.1.1, h.2.2.2.1.2.1]
      · exact (h.2.2.2.2.1 s (by omega) hs).2.2.2.2.2.2.1
    rw [md_withLast_b2_e, anc_e h hp.1 h0 hs]
    simp only [hb, and_self, if_true]
    rw [i191, w32_e (by omega) (by omega)]
    by_cases q : p + 1 < σ 47 s
    · have s1 := many_1 h h0 hs (by omega)
      have hr := h.par s s1 hs
      rw [if_pos q, if_pos q, (h.2.2.2.2.1 s s1 hs).2.1]
      cases d with
      | zero => omega
      | succ d => exact md_withLast_s h hp d (σ 43 s) (by omega) hr.1 (by omega)
    · rw [if_neg q, if_neg q]
/-- the way is noted -/
theorem sp_wider_b10_s (h : rSh σ τ) {sh pl n : Int} (h0 : 0 ≤ sh) (hs : sh < σ 42 6) : ∀ (d : Nat) (s : Int) (S : gM), s.toNat ≤ d → 0 ≤ s → s < σ 42 6 → (∀ a i, a ≠ 51 → S a i = σ a i) → (∀ q, σ 47 s ≤ q → q < σ 47 sh → S 51 q = anc σ sh q) → (∀ q, 0 ≤ q → q < σ 47 s → anc σ s q = anc σ sh q) →
    ∃ S', sp_wider_b10 S pl n s = sp_wider_b52 S' pl n 0 0 0 ∧ (∀ a i, a ≠ 51 → S' a i = σ a i) ∧ (∀ q, 0 ≤ q → q < σ 47 sh → S' 51 q = anc σ sh q)
  | d, s, S, a, p0, ps, fr, hi, lo => by
    rw [sp_wider_b10_e]
    by_cases e : 0 < s
    · have hb : 0 ≤ s ∧ s < 200 := by have := h.1; omega
      have hr := h.par s (by omega) ps
      have ht := h.2.2.2.2.1 s (by omega) ps
      have hm := many_r h hr.1 (by omega)
      rw [if_pos e, fr 47 s (by decide), fr 43 s (by decide), w32_e (by omega) (by omega)]
      have hb2 : 0 ≤ σ 47 s - 1 ∧ σ 47 s - 1 < 12 := by omega
      simp only [hb, hb2, and_self, if_true]
      cases d with
      | zero => omega
      | succ d =>
        refine sp_wider_b10_s h h0 hs d (σ 43 s) (gW S 51 (σ 47 s - 1) s) (by omega) hr.1 (by omega) (fun b i hb => by rw [gW_c hb]; exact fr b i hb) (fun q q1 q2 => ?_) (fun q q1 q2 => ?_)
        · rw [gW_if]
          by_cases z : q = σ 47 s - 1
          · rw [if_pos z, ← lo q (by omega) (by omega), anc_e h (by omega) p0 ps, if_neg (by omega)]
          · rw [if_neg z]; exact hi q (by omega) q2
        · rw [← lo q q1 (by omega), anc_e h q1 p0 ps, if_pos (by omega)]
    · rw [if_neg e]
      have z : s = 0 := by omega
      refine ⟨S, rfl, fr, fun q q1 q2 => hi q ?_ q2⟩
      rw [z, h.2.2.2.1.1]; exact q1
/-- the search along the way, as far as shapes are there -/
theorem sp_wider_b52_s (h : rSh σ τ) (hm : mI τ) {sh pl : Int} (h0 : 0 ≤ sh) (hs : sh < σ 42 6) (hpl : 0 ≤ pl ∧ pl < σ 47 sh) (S : gM) (fr : ∀ a i, a ≠ 51 → S a i = σ a i) (hw : ∀ q, 0 ≤ q → q < σ 47 sh → S 51 q = anc σ sh q) (h1 : σ 45 (anc σ sh pl) = 1) :
    ∀ (d : Nat) (k at' : Int), 0 ≤ k → k + d = σ 47 sh → (0 ≤ at' ∧ at' < σ 42 6) → σ 47 at' = k → (∀ m, plc σ at' m = plc σ (pre σ sh k) m) → cn1 σ at' + (if pl < k then 1 else 0) = cn1 σ (pre σ sh k) →
      ∃ j t, (k ≤ j ∧ j ≤ σ 47 sh) ∧ (0 ≤ t ∧ t < σ 42 6) ∧ σ 47 t = j ∧ (∀ m, plc σ t m = plc σ (pre σ sh j) m) ∧ cn1 σ t + (if pl < j then 1 else 0) = cn1 σ (pre σ sh j) ∧
        sp_wider_b52 S pl (σ 47 sh) at' 0 k = sp_wider_b52 S pl (σ 47 sh) t (σ 47 sh - j) (σ 47 sh) ∧ md_lacking_b5 τ sh pl at' k = some (τ, σ 47 sh - j) ∧ md_heirComes_b5 τ sh pl at' k = md_heirComes_b5 τ sh pl t j ∧
        (j < σ 47 sh → ∀ q, 1 ≤ q → q < σ 42 6 → ¬ (σ 43 q = t ∧ σ 44 q = σ 44 (anc σ sh j) ∧ σ 45 q = if j = pl then 3 else σ 45 (anc σ sh j)))
  | 0, k, at', k0, hk, ha, hma, hpa, hca => by
    have hb : 0 ≤ sh ∧ sh < 200 := by have := h.1; omega
    have i191 : τ 191 sh = σ 47 sh := by
      by_cases z : sh = 0
      · rw [z, h.2.2.2.1.1, h.2.2.2.1.2.1]
      · exact (h.2.2.2.2.1 sh (by omega) hs).2.2.2.2.2.2.1
    have e : k = σ 47 sh := by omega
    refine ⟨k, at', by omega, ha, hma, hpa, hca, by rw [e, Int.sub_self], ?_, rfl, fun q => by omega⟩
    rw [md_lacking_b5_e]
    simp only [hb, and_self, if_true]
    rw [i191, if_neg (by omega), e, Int.sub_self]
  | d + 1, k, at', k0, hk, ha, hma, hpa, hca => by
    have hb : 0 ≤ sh ∧ sh < 200 := by have := h.1; omega
    have mr := many_r h h0 hs
    have i191 : τ 191 sh = σ 47 sh := by
      by_cases z : sh = 0
      · rw [z, h.2.2.2.1.1, h.2.2.2.1.2.1]
      · exact (h.2.2.2.2.1 sh (by omega) hs).2.2.2.2.2.2.1
    have av := anc_v h k0 sh.toNat sh (by omega) h0 hs (by omega)
    have ap := anc_par h k0 sh.toNat sh (by omega) h0 hs (by omega)
    have at_ := h.2.2.2.2.1 (anc σ sh k) (by omega) (by omega)
    have hba : 0 ≤ anc σ sh k ∧ anc σ sh k < 200 := by have := h.1; omega
    have hk12 : 0 ≤ k ∧ k < 12 := by omega
    generalize hso : (if k = pl then (3 : Int) else σ 45 (anc σ sh k)) = so
    -- one child, on both sides
    obtain ⟨t, c1, c2, c3, c7⟩ := sp_child_s (sh := at') (srt := so) h hm (Or.inl at_.2.2.2.2.2.2.2.1) ⟨at_.2.2.1, at_.2.2.2.2.2.2.2.2.symm⟩ (σ 42 6 - 1).toNat 1 (by omega) (by have := h.1; omega)
    -- the component's child looks at S, which is σ but for the way
    have c1' : sp_child S at' (σ 44 (anc σ sh k)) so = some (S, t) := by
      have sub : ∀ (dd : Nat) (x : Int), 1 ≤ x → x + dd = σ 42 6 → ∀ v, sp_child_b3 σ at' (σ 44 (anc σ sh k)) so x = some (σ, v) → sp_child_b3 S at' (σ 44 (anc σ sh k)) so x = some (S, v) := by
        intro dd
        induction dd with
        | zero =>
          intro x x1 x2 v hv
          rw [sp_child_b3_e, if_neg (by omega)] at hv
          rw [sp_child_b3_e, fr 42 6 (by decide), if_neg (by omega)]
          simp only [Option.some.injEq, Prod.mk.injEq] at hv
          rw [hv.2]
        | succ dd ih =>
          intro x x1 x2 v hv
          have hbx : 0 ≤ x ∧ x < 200 := by have := h.1; omega
          have hlt : x < σ 42 6 := by omega
          rw [sp_child_b3_e] at hv ⊢
          simp only [hbx, hlt, and_self, if_true, sp_child_b48_e, fr 42 6 (by decide), fr 43 _ (by decide), fr 44 _ (by decide), fr 45 _ (by decide)] at hv ⊢
          rw [w32_e (by omega) (by omega)] at hv ⊢
          by_cases z1 : σ 43 x = at' <;> by_cases z2 : σ 44 x = σ 44 (anc σ sh k) <;> by_cases z3 : σ 45 x = so <;> simp only [z1, z2, z3, if_true, if_false] at hv ⊢ <;> first | exact ih (x + 1) (by omega) (by omega) v hv | (simp only [Option.some.injEq, Prod.mk.injEq] at hv; rw [hv.2])
      rw [sp_child_e]
      exact sub (σ 42 6 - 1).toNat 1 (by omega) (by have := h.1; omega) t c1
    have s1 : sp_wider_b52 S pl (σ 47 sh) at' 0 k = if t < 0 then sp_wider_b52 S pl (σ 47 sh) at' 1 (k + 1) else sp_wider_b52 S pl (σ 47 sh) t 0 (k + 1) := by
      rw [sp_wider_b52_e, if_pos (by omega), if_neg (by decide), hw k k0 (by omega)]
      simp only [hk12, hba, and_self, if_true, sp_wider_b104_e, fr 44 _ (by decide), fr 45 _ (by decide)]
      have : (if k = pl then (sp_child S at' (σ 44 (anc σ sh k)) 3).bind fun p1 => sp_wider_b107 p1.1 pl (σ 47 sh) at' 0 k p1.2 else (sp_child S at' (σ 44 (anc σ sh k)) (σ 45 (anc σ sh k))).bind fun p1 => sp_wider_b107 p1.1 pl (σ 47 sh) at' 0 k p1.2) = (sp_child S at' (σ 44 (anc σ sh k)) so).bind fun p1 => sp_wider_b107 p1.1 pl (σ 47 sh) at' 0 k p1.2 := by
        rw [← hso]; split <;> rfl
      rw [this, c1']
      simp only [Option.bind_some, sp_wider_b107_e, sp_wider_b124_e]
      rw [w32_e (x := k + 1) (by omega) (by omega), w32_e (x := (0 : Int) + 1) (by decide) (by decide)]
      rfl
    have s2 : md_lacking_b5 τ sh pl at' k = if t < 0 then some (τ, σ 47 sh - k) else md_lacking_b5 τ sh pl t (k + 1) := by
      rw [md_lacking_b5_e, md_withLast_e, md_withLast_s h hk12 sh.toNat sh (by omega) h0 hs]
      simp only [hb, and_self, if_true, i191, Option.bind_some, hba, show k < σ 47 sh by omega, md_lacking_b52_e, at_.2.2.2.2.1]
      have : (if k = pl then (md_childOf τ at' (τ 192 (anc σ sh k)) 3).bind fun p1 => (if p1.2 < 0 then (if True then some (p1.1, w32 (p1.1 191 sh - k)) else none) else md_lacking_b5 p1.1 sh pl p1.2 (w32 (k + 1))) else (md_childOf τ at' (τ 192 (anc σ sh k)) (σ 45 (anc σ sh k))).bind fun p1 => (if p1.2 < 0 then (if True then some (p1.1, w32 (p1.1 191 sh - k)) else none) else md_lacking_b5 p1.1 sh pl p1.2 (w32 (k + 1)))) = (md_childOf τ at' (τ 192 (anc σ sh k)) so).bind fun p1 => (if p1.2 < 0 then (if True then some (p1.1, w32 (p1.1 191 sh - k)) else none) else md_lacking_b5 p1.1 sh pl p1.2 (w32 (k + 1))) := by
        rw [← hso]; split <;> rfl
      simp only [if_true] at this ⊢
      rw [this, md_childOf_e, c2]
      simp only [Option.bind_some]
      rw [i191, w32_e (x := σ 47 sh - k) (by omega) (by omega), w32_e (x := k + 1) (by omega) (by omega)]
    have s3 : ¬ t < 0 → md_heirComes_b5 τ sh pl at' k = md_heirComes_b5 τ sh pl t (k + 1) := by
      intro ht
      rw [md_heirComes_b5_e, md_withLast_e, md_withLast_s h hk12 sh.toNat sh (by omega) h0 hs]
      simp only [hb, and_self, if_true, i191, Option.bind_some, hba, show k < σ 47 sh by omega, at_.2.2.2.2.1]
      have : (if k = pl then md_heirComes_b42 τ sh pl at' k (anc σ sh k) 3 else md_heirComes_b42 τ sh pl at' k (anc σ sh k) (σ 45 (anc σ sh k))) = md_heirComes_b42 τ sh pl at' k (anc σ sh k) so := by
        rw [← hso]; split <;> rfl
      rw [this, md_heirComes_b42_e]
      simp only [hba, and_self, if_true]
      rw [md_childOf_e, c2]
      simp only [Option.bind_some]
      rw [if_neg ht, md_heirComes_b86_e, w32_e (by omega) (by omega)]
    by_cases ht : t < 0
    · rw [s1, s2, if_pos ht, if_pos ht]
      refine ⟨k, at', by omega, ha, hma, hpa, hca, ?_, rfl, rfl, fun _ q q1 q2 => by rw [hso]; exact c7 (by rcases c3 with z | z <;> omega) q q1 q2⟩
      -- the rest of the count
      have cnt : ∀ (dd : Nat) (x y : Int), 0 < y → 0 ≤ x → x + dd = σ 47 sh → y ≤ x → sp_wider_b52 S pl (σ 47 sh) at' y x = sp_wider_b52 S pl (σ 47 sh) at' (y + dd) (σ 47 sh) := by
        intro dd
        induction dd with
        | zero => intro x y y0 x0 hx _; rw [show x = σ 47 sh by omega]; simp
        | succ dd ih =>
          intro x y y0 x0 hx hyx
          rw [sp_wider_b52_e, if_pos (by omega), if_pos y0, sp_wider_b107_e, if_pos (by decide), sp_wider_b124_e, w32_e (x := y + 1) (by omega) (by omega), w32_e (x := x + 1) (by omega) (by omega), ih (x + 1) (y + 1) (by omega) (by omega) (by omega) (by omega), show y + 1 + (dd : Int) = y + ((dd + 1 : Nat) : Int) by omega]
      have := cnt d (k + 1) 1 (by omega) (by omega) (by omega) (by omega)
      rw [this, show 1 + (d : Int) = σ 47 sh - k by omega]
    · rw [s1, s2, if_neg ht, if_neg ht, s3 ht]
      rcases c3 with c3 | ⟨c3, c4, c5, c6⟩
      · omega
      · have tt := h.2.2.2.2.1 t c3.1 c3.2
        have pk : pre σ sh (k + 1) = anc σ sh k := by unfold pre; rw [if_neg (by omega), show k + 1 - 1 = k by omega]
        have hp' : ∀ m, plc σ t m = plc σ (pre σ sh (k + 1)) m := by
          intro m
          rw [pk, plc_e (s := t) h.par c3.1 c3.2, plc_e (s := anc σ sh k) h.par (by omega) (by omega), c4, c5, ap, hpa m, tt.2.2.2.2.2.1.1, c4, hma, av.2]
        have hc' : cn1 σ t + (if pl < k + 1 then 1 else 0) = cn1 σ (pre σ sh (k + 1)) := by
          rw [pk, cn1_e (s := t) h.par c3.1 c3.2, cn1_e (s := anc σ sh k) h.par (by omega) (by omega), c4, c6, ap, ← hso]
          by_cases e : k = pl
          · subst e
            rw [if_pos rfl, h1, if_neg (by decide), if_pos rfl, if_pos (by omega)]
            rw [if_neg (by omega)] at hca
            omega
          · rw [if_neg e]
            have : (if pl < k + 1 then 1 else 0) = (if pl < k then 1 else 0) := by
              by_cases z : pl < k
              · rw [if_pos z, if_pos (by omega)]
              · rw [if_neg z, if_neg (by omega)]
            rw [this]
            omega
        obtain ⟨j, t', i1, i2, i3, i4, i5, i6, i7, i8, i9⟩ := sp_wider_b52_s h hm h0 hs hpl S fr hw h1 d (k + 1) t (by omega) (by omega) (by omega) (by rw [tt.2.2.2.2.2.1.1, c4, hma]) hp' hc'
        exact ⟨j, t', by omega, i2, i3, i4, i5, i6, i7, i8, i9⟩
end AN
