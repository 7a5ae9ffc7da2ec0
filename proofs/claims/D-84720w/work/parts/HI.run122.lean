/-! memory behind the constructors: every cell holds what its kind allows -/
def gIc (a : Nat) (σ : gM) : Prop := (gK a = 1 → ∀ j, i32 (σ a j)) ∧ (gK a = 2 → ∀ j, i8 (σ a j)) ∧ (gK a = 3 → ∀ j, i1 (σ a j)) ∧ (gK a = 4 → ∀ j, i64 (σ a j)) ∧ (10 ≤ gK a → ∀ (k t : Nat), (gty (gK a))[k]? = some t → gfit t (σ a k) (gR a k))
theorem gIc.mv {a : Nat} {σ τ : gM} (h : gIc a σ) (e : ∀ j, τ a j = σ a j) : gIc a τ := by
  unfold gIc at h ⊢
  simp only [e]
  exact h
theorem gIc_arr {a : Nat} {σ : gM} (h : gK a < 5) (hz : ∀ j, σ a j = 0) : gIc a σ := by
  unfold gIc
  simp only [hz]
  exact ⟨fun _ _ => by unfold i32; omega, fun _ _ => by unfold i8; omega, fun _ _ => by unfold i1; omega, fun _ _ => by unfold i64; omega, fun q => by omega⟩
theorem gIc_k {a : Nat} {σ : gM} (h : gK a < 10) (hz : ∀ j, σ a j = k0 a j) : gIc a σ := by
  by_cases q : gK a < 5
  · exact gIc_arr q fun j => by rw [hz, k0_arr q]
  · exact ⟨fun e => by omega, fun e => by omega, fun e => by omega, fun e => by omega, fun e => by omega⟩
def gfitb (t : Nat) (v r : Int) : Bool := match t with
  | 0 => decide (-2147483648 ≤ v ∧ v ≤ 2147483647)
  | 8 => decide (-2147483648 ≤ v ∧ v ≤ 2147483647)
  | 1 => decide (-9223372036854775808 ≤ v ∧ v ≤ 9223372036854775807)
  | 2 => decide (v = r)
  | 7 => decide (0 ≤ v ∧ v ≤ 1)
  | 4 => decide (v < 0 ∨ v = r)
  | _ => true
theorem gfitb_ok {t : Nat} {v r : Int} (h : gfitb t v r = true) : gfit t v r := by
  unfold gfit
  refine ⟨fun e => ?_, fun e => ?_, fun e => ?_, fun e => ?_, fun e => ?_⟩
  · rcases e with e | e <;> subst e <;> exact (of_decide_eq_true (p := -2147483648 ≤ v ∧ v ≤ 2147483647) h)
  · subst e; exact (of_decide_eq_true (p := -9223372036854775808 ≤ v ∧ v ≤ 9223372036854775807) h)
  · subst e; exact of_decide_eq_true h
  · subst e; exact (of_decide_eq_true (p := 0 ≤ v ∧ v ≤ 1) h)
  · subst e; exact of_decide_eq_true h
def gobj (co a ex : Nat) (v : Nat → Int) : Bool := (gty co).zipIdx.all fun q => Nat.beq q.2 ex || gfitb q.1 (v q.2) (gR a q.2)
theorem gIc_obj {a co ex : Nat} {σ : gM} {v : Nat → Int} (hk : gK a = co) (h10 : 10 ≤ co) (hv : ∀ k : Nat, k ≠ ex → σ a k = v k) (hc : gobj co a ex v = true) (hx : ∀ t, (gty co)[ex]? = some t → gfit t (σ a ex) (gR a ex)) : gIc a σ := by
  refine ⟨fun e => by omega, fun e => by omega, fun e => by omega, fun e => by omega, fun _ k t ht => ?_⟩
  rw [hk] at ht
  by_cases q : k = ex
  · subst q; exact hx t ht
  · have := List.all_eq_true.mp hc (t, k) (List.mem_zipIdx_iff_getElem?.mpr ht)
    simp only [Bool.or_eq_true] at this
    rcases this with h | h
    · exact absurd (Nat.eq_of_beq_eq_true h) q
    · rw [hv k q]; exact gfitb_ok h
/-- no exception -/
theorem gIc_obj0 {a co : Nat} {σ : gM} {v : Nat → Int} (hk : gK a = co) (h10 : 10 ≤ co) (hv : ∀ k : Nat, σ a k = v k) (hc : gobj co a 1000 v = true) (hl : (gty co).length ≤ 1000) : gIc a σ :=
  gIc_obj hk h10 (fun k _ => hv k) hc fun t ht => by
    have := gty_lt ht
    omega
def kval (kf : List (Nat × Nat)) (o a : Nat) (gs : List kG) (b : Nat → Int) (k : Nat) : Int := match kmv kf k a gs with | some c => (c : Int) | none => b k
theorem kmem_v {kf : List (Nat × Nat)} {o a k : Nat} {gs : List kG} {σ : gM} {b : Nat → Int} (h : σ o k = b k) : kmem kf o a gs σ o k = kval kf o a gs b k := by
  rw [kmem_o]
  unfold kval
  cases kmv kf k a gs with
  | some c => rfl
  | none => exact h
theorem gW_v {σ : gM} {o k i : Nat} {v : Int} {b : Nat → Int} (h : σ o k = b k) : gW σ o i v o k = if k = i then v else b k := by
  by_cases q : k = i
  · rw [if_pos q, q]; exact gW_at ..
  · rw [if_neg q, gW_i (by omega)]; exact h
/-- a Whole's fields -/
theorem gIc_wl {w : Nat} {σ : gM} (hk : gK w = 12) (hv : ∀ k : Nat, σ w k = kval kf_wl w (w + 1) gs_wl0 (fun k => k0 w k) k) (hc : gobj 12 w 1000 (kval kf_wl w (w + 1) gs_wl0 (fun k => k0 w k)) = true) : gIc w σ := gIc_obj0 hk (by decide) hv hc (by decide)
/-- a row of cells that are as they were -/
theorem gIc_row {N : Nat} {σ : gM} (a k : Nat) (hk : ∀ i, i < k → gK ((a + i : Nat) : Int) < 10) (hz : ∀ i, i < k → ∀ j, σ ((a + i : Nat) : Int) j = k0 ((a + i : Nat) : Int) j) : ∀ b, a ≤ b → b < a + k → gIc b σ := fun b h1 h2 => by
  have e : b = a + (b - a) := by omega
  rw [e]
  exact gIc_k (hk _ (by omega)) (hz _ (by omega))
theorem fr_I : gI 42 (frM (gt1 k0)) := by
  have c : ∀ b : Nat, b ≠ 0 → b ≠ 8 → b ≠ 36 → b < 42 → ∀ j, frM (gt1 k0) b j = k0 b j := fun b h0 h8 h36 h j => by
    unfold frM gt1
    rw [gW_c (by omega), kmem_c (by omega), gW_c (by omega), wlM_c (by omega) (by omega), kmem_c (by omega), gW_c (by omega), kmem_c (by omega)]
  intro b hb
  by_cases h0 : b = 0
  · subst h0
    refine gIc_obj0 (co := 10) (v := kval kf_hp 0 1 gs_hp0 (fun k => k0 0 k)) (by decide +kernel) (by decide) (fun k => ?_) (by decide +kernel) (by decide)
    unfold frM gt1
    rw [gW_c (by decide), kmem_c (by decide), gW_c (by decide), wlM_c (by decide) (by decide), kmem_c (by decide), gW_c (by decide)]
    exact kmem_v rfl
  by_cases h8 : b = 8
  · subst h8
    refine gIc_obj0 (co := 11) (v := fun k => if k = 0 then 0 else kval kf_fr 8 40 gs_fr1 (fun k => if k = 39 then 39 else if k = 38 then 36 else kval kf_fr 8 9 gs_fr0 (fun k => k0 8 k) k) k) (by decide +kernel) (by decide) (fun k => ?_) (by decide +kernel) (by decide)
    refine gW_v (o := 8) (k := k) (i := 0) (v := 0) (b := fun k => kval kf_fr 8 40 gs_fr1 (fun k => if k = 39 then 39 else if k = 38 then 36 else kval kf_fr 8 9 gs_fr0 (fun k => k0 8 k) k) k) (kmem_v (gW_v (o := 8) (k := k) (i := 39) (v := 39) (b := fun k => if k = 38 then 36 else kval kf_fr 8 9 gs_fr0 (fun k => k0 8 k) k) ?_))
    unfold wlM
    refine gW_v (o := 8) (k := k) (i := 38) (v := 36) (b := kval kf_fr 8 9 gs_fr0 (fun k => k0 8 k)) ?_
    rw [kmem_c (by decide)]
    refine kmem_v ?_
    unfold gt1
    rw [gW_c (by decide), kmem_c (by decide)]
    rfl
  by_cases h36 : b = 36
  · subst h36
    refine gIc_wl (by decide +kernel) (fun k => ?_) (by decide +kernel)
    unfold frM wlM
    rw [gW_c (by decide), kmem_c (by decide), gW_c (by decide), gW_c (by decide)]
    refine kmem_v ?_
    rw [kmem_c (by decide)]
    unfold gt1
    rw [gW_c (by decide), kmem_c (by decide)]
  · have hk : ∀ b : Fin 42, b.val ≠ 0 → b.val ≠ 8 → b.val ≠ 36 → gK (b.val : Int) < 10 := by decide +kernel
    exact gIc_k (hk ⟨b, hb⟩ h0 h8 h36) (c b h0 h8 h36 hb)
theorem spC_I {σ : gM} (h : gI 52 σ) : gI 52 (spC σ) := by
  have ar : ∀ {σ : gM} {a : Nat} {v : Int}, gK (a : Int) = 1 → i32 v → gI 52 σ → gI 52 (gW σ a 0 v) := fun hk hv h => gI_W h (fun _ => hv) (fun e => by omega) (fun e => by omega) (fun e => by omega) (fun e => by omega)
  have fl : ∀ {σ : gM} {i : Nat} {v : Int}, (∀ t, (gty 13)[i]? = some t → gfit t v (gR 42 i)) → gI 52 σ → gI 52 (gW σ (42 : Nat) (i : Int) v) := fun {σ i v} hf h => by
    have hk : gK ((42 : Nat) : Int) = 13 := by decide +kernel
    refine gI_W h (fun e => by omega) (fun e => by omega) (fun e => by omega) (fun e => by omega) (fun _ k t e1 e2 => ?_)
    have : k = i := by omega
    subst this
    rw [hk] at e2
    exact hf t e2
  have f6 : ∀ t, (gty 13)[6]? = some t → gfit t 1 (gR 42 6) := fun t ht => by cases ht; exact gfitb_ok (by decide +kernel)
  have f10 : ∀ t, (gty 13)[10]? = some t → gfit t 0 (gR 42 10) := fun t ht => by cases ht; exact gfitb_ok (by decide +kernel)
  have f11 : ∀ t, (gty 13)[11]? = some t → gfit t 0 (gR 42 11) := fun t ht => by cases ht; exact gfitb_ok (by decide +kernel)
  have m1 : i32 (-1) := by unfold i32; omega
  have z0 : i32 0 := by unfold i32; omega
  exact fl (i := 11) f11 (fl (i := 10) f10 (ar (a := 47) (by decide +kernel) z0 (ar (a := 46) (by decide +kernel) m1 (ar (a := 45) (by decide +kernel) m1 (ar (a := 44) (by decide +kernel) m1 (ar (a := 43) (by decide +kernel) m1 (fl (i := 6) f6 h)))))))
theorem sp_I {S : gM} (hSc : ∀ a : Nat, 42 ≤ a → ∀ j, S (a : Int) j = gt1 k0 (a : Int) j) (h : gI 42 S) : gI 52 (spM (gt2 S)) := by
  have c : ∀ b : Nat, 42 ≤ b → b < 117 → ∀ j, gt2 S b j = k0 b j := fun b h1 h2 j => by rw [gt2, gW_c (by omega), hSc b h1 j, gt1, gW_c (by omega), kmem_c (by omega)]
  intro b hb
  by_cases h0 : b < 42
  · exact gIc.mv (h b h0) fun j => by rw [spM, gW_c (by omega), kmem_c (by omega), gt2, gW_c (by omega)]
  by_cases h1 : b = 42
  · subst h1
    refine gIc_obj0 (co := 13) (v := fun k => if k = 0 then 0 else kval kf_sp 42 43 gs_sp0 (fun k => k0 42 k) k) (by decide +kernel) (by decide) (fun k => ?_) (by decide +kernel) (by decide)
    exact gW_v (o := 42) (k := k) (i := 0) (v := 0) (b := kval kf_sp 42 43 gs_sp0 (fun k => k0 42 k)) (kmem_v (c 42 (by decide) (by decide) k))
  · have hk : ∀ b : Fin 52, 42 < b.val → gK (b.val : Int) < 10 := by decide +kernel
    exact gIc_k (hk ⟨b, hb⟩ (by show 42 < b; omega)) fun j => by rw [spM, gW_c (by omega), kmem_c (by omega)]; exact c b (by omega) (by omega) j
