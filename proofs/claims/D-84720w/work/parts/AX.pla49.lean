/-! footprints: what a method leaves as it was -/
section FP
variable {w : Nat} {σ σ' : gM} {as : List gV}
theorem fr_inl {f : gFn} (h : gffr w (.inl f)) {r : Option (gM × Int)} {x : Int} (l : Lm (fun n => f n as σ) r) (e : r = some (σ', x)) : gfr w σ σ' := by
  obtain ⟨n, hn⟩ := (l.2 _).mp e
  refine h n as σ σ' (some x) ?_
  have hn' : f n as σ = some (σ', x) := hn
  show (f n as σ).map _ = _
  rw [hn']
  rfl
theorem fr_inr {f : gFt} (h : gffr w (.inr f)) {r : Option (gM × Option Int)} {x : Option Int} (l : Lm (fun n => f n as σ) r) (e : r = some (σ', x)) : gfr w σ σ' := by
  obtain ⟨n, hn⟩ := (l.2 _).mp e
  exact h n as σ σ' x hn
/-- arrays from lo to hi -/
def ckA (w lo n : Nat) : Bool := (List.range' lo n).all fun a => Nat.blt (gK (a : Int)) 10 && !(gbit w (a : Int) 0)
/-- fields from lo on -/
def ckF (w : Nat) (b : Int) (lo n : Nat) : Bool := (List.range' lo n).all fun a => !(gbit w b (a : Int))
theorem gfr.r (h : gfr w σ σ') (lo n : Nat) (ck : ckA w lo n = true) {a : Int} (h1 : (lo : Int) ≤ a) (h2 : a < lo + n) : σ' a = σ a := by
  have m : a.toNat ∈ List.range' lo n := by rw [List.mem_range'_1]; omega
  have := List.all_eq_true.mp ck _ m
  rw [show ((a.toNat : Nat) : Int) = a by omega, Bool.and_eq_true, Bool.not_eq_true'] at this
  have k := Nat.blt_eq.mp this.1
  funext i
  exact h a i (by rw [gbit_arr (j := 0) k]; exact this.2)
theorem gfr.f (h : gfr w σ σ') (b : Int) (lo n : Nat) (ck : ckF w b lo n = true) {a : Int} (h1 : (lo : Int) ≤ a) (h2 : a < lo + n) : σ' b a = σ b a := by
  have m : a.toNat ∈ List.range' lo n := by rw [List.mem_range'_1]; omega
  have := List.all_eq_true.mp ck _ m
  rw [show ((a.toNat : Nat) : Int) = a by omega, Bool.not_eq_true'] at this
  exact h b a this
end FP
/-- all that reading leaves as it was -/
def keepC (σ S : gM) : Prop := (∀ a, (1 ≤ a ∧ a ≤ 7) ∨ (9 ≤ a ∧ a ≤ 35) ∨ (39 ≤ a ∧ a ≤ 41) ∨ (43 ≤ a ∧ a ≤ 51) ∨ (53 ≤ a ∧ a ≤ 67) ∨ (88 ≤ a ∧ a ≤ 104) ∨ a = 118 → S a = σ a) ∧ (∀ i, 0 ≤ i → i < 15 → S 0 i = σ 0 i) ∧ (∀ i, 0 ≤ i → i < 42 → S 8 i = σ 8 i) ∧ (∀ i, 0 ≤ i → i < 13 → S 42 i = σ 42 i) ∧ (∀ i, 0 ≤ i → i < 20 → S 52 i = σ 52 i) ∧ (∀ i, 0 ≤ i → i < 48 → S 87 i = σ 87 i) ∧ (∀ i, 0 ≤ i → i < 10 → S 117 i = σ 117 i)
/-- model: all but the text, its nodes and functions, and what reading has at hand -/
def keepT (τ T : gM) : Prop := (∀ a, (121 ≤ a ∧ a ≤ 133) ∨ a = 144 ∨ (155 ≤ a ∧ a ≤ 226) → T a = τ a) ∧ (∀ i, 0 ≤ i → i < 156 → i < 23 ∨ 31 < i → i ≠ 43 → i ≠ 44 → i ≠ 54 → T 119 i = τ 119 i)
section FQ
variable {σ τ S T U : gM} {c p n x : Int} {y : Option Int}
theorem keepC.sm (h : keepC σ S) : sameC σ S := by
  obtain ⟨h, k0, k8, k42, k52, k87, -⟩ := h
  exact ⟨fun a q => h a (by omega), k0 7 (by decide) (by decide), k0 8 (by decide) (by decide), k0 9 (by decide) (by decide), k0 10 (by decide) (by decide), k0 11 (by decide) (by decide), k0 12 (by decide) (by decide), k0 13 (by decide) (by decide), k8 12 (by decide) (by decide), k8 16 (by decide) (by decide), k8 19 (by decide) (by decide), k8 31 (by decide) (by decide), k42 6 (by decide) (by decide), k42 10 (by decide) (by decide), k42 11 (by decide) (by decide), k52 10 (by decide) (by decide), k52 11 (by decide) (by decide), k52 12 (by decide) (by decide), k52 19 (by decide) (by decide), k87 31 (by decide) (by decide)⟩
theorem keepT.sm (h : keepT τ T) : sameT τ T := by
  obtain ⟨h, k⟩ := h
  exact ⟨fun a q => h a (by omega), k 9 (by decide) (by decide) (by decide) (by decide) (by decide) (by decide), k 10 (by decide) (by decide) (by decide) (by decide) (by decide) (by decide), k 12 (by decide) (by decide) (by decide) (by decide) (by decide) (by decide), k 13 (by decide) (by decide) (by decide) (by decide) (by decide) (by decide), k 15 (by decide) (by decide) (by decide) (by decide) (by decide) (by decide), k 16 (by decide) (by decide) (by decide) (by decide) (by decide) (by decide), k 55 (by decide) (by decide) (by decide) (by decide) (by decide) (by decide), k 56 (by decide) (by decide) (by decide) (by decide) (by decide) (by decide), k 57 (by decide) (by decide) (by decide) (by decide) (by decide) (by decide), k 89 (by decide) (by decide) (by decide) (by decide) (by decide) (by decide), k 92 (by decide) (by decide) (by decide) (by decide) (by decide) (by decide), k 93 (by decide) (by decide) (by decide) (by decide) (by decide) (by decide), k 94 (by decide) (by decide) (by decide) (by decide) (by decide) (by decide), k 104 (by decide) (by decide) (by decide) (by decide) (by decide) (by decide)⟩
theorem ps_read_fr (e : ps_read σ c p n = some (S, x)) : keepC σ S := by
  have F := fr_inl fm_ps_read (ps_read_l σ c p n) e
  refine ⟨fun a q => ?_, fun i q1 q2 => F.f 0 0 15 (by decide +kernel) q1 q2, fun i q1 q2 => F.f 8 0 42 (by decide +kernel) q1 q2, fun i q1 q2 => F.f 42 0 13 (by decide +kernel) q1 q2, fun i q1 q2 => F.f 52 0 20 (by decide +kernel) q1 q2, fun i q1 q2 => F.f 87 0 48 (by decide +kernel) q1 q2, fun i q1 q2 => F.f 117 0 10 (by decide +kernel) q1 q2⟩
  rcases q with q | q | q | q | q | q | q
  · exact F.r 1 7 (by decide +kernel) (by omega) (by omega)
  · exact F.r 9 27 (by decide +kernel) (by omega) (by omega)
  · exact F.r 39 3 (by decide +kernel) (by omega) (by omega)
  · exact F.r 43 9 (by decide +kernel) (by omega) (by omega)
  · exact F.r 53 15 (by decide +kernel) (by omega) (by omega)
  · exact F.r 88 17 (by decide +kernel) (by omega) (by omega)
  · exact F.r 118 1 (by decide +kernel) (by omega) (by omega)
theorem md_readText_fr (e : md_readText τ = some (T, y)) : keepT τ T ∧ T 134 = τ 134 ∧ T 119 23 = τ 119 23 := by
  have F := fr_inr fm_md_readText (md_readText_l τ) e
  refine ⟨⟨fun a q => ?_, fun i q1 q2 q3 q4 q5 q6 => ?_⟩, F.r 134 1 (by decide +kernel) (by omega) (by omega), F.f 119 23 1 (by decide +kernel) (by omega) (by omega)⟩
  · rcases q with q | q | q
    · exact F.r 121 13 (by decide +kernel) (by omega) (by omega)
    · exact F.r 144 1 (by decide +kernel) (by omega) (by omega)
    · exact F.r 155 72 (by decide +kernel) (by omega) (by omega)
  · by_cases z : i < 23
    · exact F.f 119 0 23 (by decide +kernel) q1 (by omega)
    · by_cases z : i < 43
      · exact F.f 119 32 11 (by decide +kernel) (by omega) (by omega)
      · by_cases z : i < 54
        · exact F.f 119 45 9 (by decide +kernel) (by omega) (by omega)
        · exact F.f 119 55 101 (by decide +kernel) (by omega) (by omega)
end FQ
