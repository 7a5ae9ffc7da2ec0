/-! constructors that make arrays and no more -/
/-- memory before anything is made -/
def k0 : gM := fun a k => match Nat.ble 10 (gK a) && (match (gty (gK a))[k.toNat]? with | some t => Nat.beq t 2 || Nat.beq t 3 || Nat.beq t 4 | none => false) with
  | true => -1
  | false => match Nat.beq (gK a) 5 with
    | true => kX k
    | false => 0
theorem k0_arr {a : Nat} (h : gK a < 5) (j : Int) : k0 a j = 0 := by
  have h5 : Nat.beq (gK a) 5 = false := by
    cases hb : Nat.beq (gK a) 5 with
    | false => rfl
    | true => have := Nat.eq_of_beq_eq_true hb; omega
  have : Nat.ble 10 (gK a) = false := by
    cases hb : Nat.ble 10 (gK a) with
    | false => rfl
    | true => rw [Nat.ble_eq] at hb; omega
  unfold k0
  rw [this, h5]
  rfl
theorem k0_new {a co : Nat} (h : gK a = co) (h10 : 10 ≤ co) : kNew k0 co a := by
  intro k t ht
  have hb : Nat.ble 10 (gK a) = true := by rw [Nat.ble_eq]; omega
  unfold k0
  rw [hb, h]
  simp only [Int.toNat_natCast, ht, Bool.true_and]
  by_cases q : t = 2 ∨ t = 3 ∨ t = 4
  · rw [if_pos q]
    rcases q with q | q | q <;> subst q <;> exact (show (-1 : Int) < 0 by decide)
  · rw [if_neg q]
    have e : (Nat.beq t 2 || Nat.beq t 3 || Nat.beq t 4) = false := by
      cases hq : (Nat.beq t 2 || Nat.beq t 3 || Nat.beq t 4) with
      | false => rfl
      | true =>
        simp only [Bool.or_eq_true, Nat.beq_eq] at hq
        omega
    rw [e]
    have h5 : Nat.beq co 5 = false := by
      cases hb5 : Nat.beq co 5 with
      | false => rfl
      | true => have := Nat.eq_of_beq_eq_true hb5; omega
    rw [h5]
theorem kNew.of {σ : gM} {a co : Nat} (h : kNew k0 co a) (hs : ∀ j, σ a j = k0 a j) : kNew σ co a := fun k t ht => by rw [hs]; exact h k t ht
/-- which cell the field k is set to -/
def kmv (kf : List (Nat × Nat)) (k : Nat) : Nat → List kG → Option Nat
  | _, [] => none
  | a, (_, _, _, _, idx) :: r => match kmv kf k (a + 1) r with
    | some c => some c
    | none => match Nat.beq ((gat kf idx).getD 0) k with
      | true => some a
      | false => none
theorem kmem_o {kf : List (Nat × Nat)} {o k : Nat} : ∀ (gs : List kG) (a : Nat) (σ : gM), kmem kf o a gs σ o k = match kmv kf k a gs with | some c => (c : Int) | none => σ o k
  | [], a, σ => rfl
  | (i, len, N, t, idx) :: r, a, σ => by
    simp only [kmem, kmv]
    rw [kmem_o r (a + 1)]
    cases kmv kf k (a + 1) r with
    | some c => rfl
    | none =>
      simp only
      cases hb : Nat.beq ((gat kf idx).getD 0) k with
      | true =>
        have := Nat.eq_of_beq_eq_true hb
        subst this
        exact gW_at ..
      | false =>
        exact gW_i (fun q => by
          have : Nat.beq ((gat kf idx).getD 0) k = true := by rw [Nat.beq_eq]; omega
          rw [this] at hb
          cases hb)
theorem kmem_c {kf : List (Nat × Nat)} {o : Nat} {b : Int} (h : b ≠ o) : ∀ (gs : List kG) (a : Nat) (σ : gM), kmem kf o a gs σ b = σ b
  | [], a, σ => rfl
  | (i, len, N, t, idx) :: r, a, σ => by
    simp only [kmem]
    rw [kmem_c h r (a + 1)]
    exact gW_cell h
theorem kOk.one {Z : gZ} {o n : Nat} (h : o < zN Z) : kOk Z (kA Z [o] n) [o] := ⟨fun a ha => by rw [List.mem_singleton.mp ha]; exact h, by simp, fun a ha => Or.inl ⟨a, ha, rfl⟩⟩
/-- rows of arrays that begin at the cell a: what k_grps asks -/
theorem k_fs {Z : gZ} {σ : gM} {cs : List Nat} {a n k : Nat} (hN : a + k ≤ zN Z) (had : ∀ i, i < k → zA Z (a + i) = n + i) (hc : ∀ b ∈ cs, b < a) (hk : ∀ i, i < k → gK ((a + i : Nat) : Int) < 5) (hz : ∀ i, i < k → ∀ j, σ ((a + i : Nat) : Int) j = k0 ((a + i : Nat) : Int) j) :
    ∀ i, i < k → zA Z (a + i) = n + i ∧ a + i ∉ cs ∧ a + i < zN Z ∧ ∀ j, σ ((a + i : Nat) : Int) j = 0 := fun i hi => ⟨had i hi, fun q => by have := hc _ q; omega, by omega, fun j => by rw [hz i hi, k0_arr (hk i hi)]⟩
/-- the cells that rows of arrays have brought -/
theorem kOk.grow {Z : gZ} {cs0 : List Nat} {a n k n0 : Nat} (h : kOk Z (kA Z cs0 n0) cs0) (hN : a + k ≤ zN Z) (had : ∀ i, i < k → zA Z (a + i) = n + i) (hc : ∀ b ∈ cs0, b < a) (hn : n0 ≤ n := by omega) : kOk Z (kA Z cs0 n0) (cs0 ++ List.range' a k) := by
  refine ⟨fun b hb => ?_, ?_, fun b hb => ?_⟩
  · rcases List.mem_append.mp hb with q | q
    · exact h.1 b q
    · have := List.mem_range'_1.mp q
      omega
  · rw [List.nodup_append]
    refine ⟨h.2.1, List.nodup_range', fun x hx y hy e => ?_⟩
    have := List.mem_range'_1.mp hy
    have := hc x hx
    omega
  · rcases List.mem_append.mp hb with q | q
    · exact h.2.2 b q
    · have h1 := List.mem_range'_1.mp q
      refine Or.inr ?_
      have := had (b - a) (by omega)
      rw [show a + (b - a) = b by omega] at this
      rw [this]
      omega
section KM
variable {l : Launch} {Z : gZ} {σ : gM} {n : Nat}
theorem km_hp (hi : gInj Z) (hN : zN Z = 227) (had : ∀ i, i < 7 → zA Z (1 + i) = n + i) (hz : ∀ i, i < 7 → ∀ j, σ ((1 + i : Nat) : Int) j = k0 ((1 + i : Nat) : Int) j) :
    kMet l Z yX2_init (ws_ yX2_init cX2_init 1 none) ⟨1, 7, 721600, 12⟩ [(2, 0)] σ (kmem kf_hp 0 1 gs_hp0 σ) [0] (List.range' 1 7) n 7 721600 := by
  refine kMet.of (by decide +kernel) rfl hi (fun a ha => by rw [List.mem_singleton.mp ha, hN]; decide) rfl ?_
  intro p e s m args below meth c C hnm hr hlk
  refine k_aload (k := 0) C.1 (t := 2) (x := 0) rfl (Or.inl rfl) (by decide +kernel) ?_
  refine k_obj C.1 q262 (Nat.le_refl 1) (Nat.le_refl 12) (by decide +kernel) ?_
  refine k_grps (o := 0) C hnm KC_hp KF_hp rfl gs_hp0 σ [0] 1 n 0 0 4 (by decide +kernel) (kOk.one (by rw [hN]; decide)) (List.mem_singleton.mpr rfl) (fun q h => Or.inr h) (k_fs (by rw [hN]; decide) had (fun b hb => by rw [List.mem_singleton.mp hb]; decide) (by decide +kernel) hz) (by decide) (by decide) ?_
  exact k_ret C.1 hr hlk (fun a h => h) rfl (by decide +kernel)
theorem km_wl {w : Nat} (hi : gInj Z) (hN : zN Z = 227) (hw : w + 3 ≤ 227) (hk : gK w = 12) (chk : kchk cX4_init kc_wl kf_wl (w + 1) 4 gs_wl0 = true) (hk' : ∀ i, i < 2 → gK ((w + 1 + i : Nat) : Int) < 5) (had : ∀ i, i < 2 → zA Z (w + 1 + i) = n + i) (hz : ∀ i, i < 2 → ∀ j, σ ((w + 1 + i : Nat) : Int) j = k0 ((w + 1 + i : Nat) : Int) j) :
    kMet l Z yX4_init (ws_ yX4_init cX4_init 1 none) ⟨1, 2, 12, 12⟩ [(2, (w : Int))] σ (kmem kf_wl w (w + 1) gs_wl0 σ) [w] (List.range' (w + 1) 2) n 2 12 := by
  refine kMet.of (by decide +kernel) rfl hi (fun a ha => by rw [List.mem_singleton.mp ha, hN]; omega) rfl ?_
  intro p e s m args below meth c C hnm hr hlk
  refine k_aload (k := 0) C.1 (t := 2) (x := (w : Int)) rfl (Or.inl rfl) (by decide +kernel) ?_
  refine k_obj C.1 q344 (Nat.le_refl 1) (Nat.le_refl 12) (by decide +kernel) ?_
  refine k_grps (o := w) C hnm KC_wl (by rw [hk]; exact KF_wl) rfl gs_wl0 σ [w] (w + 1) n 0 0 4 chk (kOk.one (by rw [hN]; omega)) (List.mem_singleton.mpr rfl) (fun q h => Or.inr h) (k_fs (by rw [hN]; show w + 1 + 2 ≤ 227; omega) had (fun b hb => by rw [List.mem_singleton.mp hb]; omega) hk' hz) (by decide) (by decide) ?_
  exact k_ret C.1 hr hlk (fun a h => h) rfl (by decide +kernel)
theorem km_tk (hi : gInj Z) (hN : zN Z = 227) : kMet l Z yX8_init (ws_ yX8_init cX8_init 1 none) ⟨1, 0, 0, 12⟩ [(2, 69)] σ σ [69] [] n 0 0 := by
  refine kMet.of (by decide +kernel) rfl hi (fun a ha => by rw [List.mem_singleton.mp ha, hN]; decide) rfl ?_
  intro p e s m args below meth c C hnm hr hlk
  refine k_aload (k := 0) C.1 (t := 2) (x := 69) rfl (Or.inl rfl) (by decide +kernel) ?_
  refine k_obj C.1 q808 (Nat.le_refl 1) (Nat.le_refl 12) (by decide +kernel) ?_
  exact k_ret C.1 hr hlk (fun a h => h) rfl (by decide +kernel)
theorem km_cd (hi : gInj Z) (hN : zN Z = 227) (had : ∀ i, i < 15 → zA Z (53 + i) = n + i) (hz : ∀ i, i < 15 → ∀ j, σ ((53 + i : Nat) : Int) j = k0 ((53 + i : Nat) : Int) j) :
    kMet l Z yX6_init (ws_ yX6_init cX6_init 2 none) ⟨1, 15, 164960, 12⟩ [(2, 52), (2, 8)] σ (gW (kmem kf_cd 52 53 gs_cd0 σ) 52 0 8) [52] (List.range' 53 15) n 15 164960 := by
  refine kMet.of (by decide +kernel) rfl hi (fun a ha => by rw [List.mem_singleton.mp ha, hN]; decide) rfl ?_
  intro p e s m args below meth c C hnm hr hlk
  refine k_aload (k := 0) C.1 (t := 2) (x := 52) rfl (Or.inl rfl) (by decide +kernel) ?_
  refine k_obj C.1 q716 (Nat.le_refl 1) (Nat.le_refl 12) (by decide +kernel) ?_
  refine k_grps (o := 52) C hnm KC_cd KF_cd rfl gs_cd0 σ [52] 53 n 0 0 4 (by decide +kernel) (kOk.one (by rw [hN]; decide)) (List.mem_singleton.mpr rfl) (fun q h => Or.inr h) (k_fs (by rw [hN]; decide) had (fun b hb => by rw [List.mem_singleton.mp hb]; decide) (by decide +kernel) hz) (by decide) (by decide) ?_
  have ok : kOk Z (kA Z [52] n) ([52] ++ List.range' 53 15) := kOk.grow (kOk.one (by rw [hN]; decide)) (by rw [hN]; decide) had (by decide)
  refine k_aload (k := 0) C.1 (t := 2) (x := 52) rfl (Or.inl rfl) (by decide +kernel) ?_
  refine k_aload (k := 1) C.1 (t := 2) (x := 8) rfl (Or.inl rfl) (by decide +kernel) ?_
  refine k_putr (o := 52) (b := 8) C.1 hnm ok (by decide) (gall_spec KF_cd 61 0 rfl) (by decide +kernel) ?_
  exact k_ret C.1 hr hlk (fun a h => h) rfl (by decide +kernel)
end KM
