/-! how much names, numbers and strings of a text may take: never more than the text is long -/
def wp (x : Int) : Int := if x ≤ 0 then 0 else x + 1
def fqN (σ : gM) : Nat → Int
  | 0 => 0
  | m + 1 => fqN σ m + wp (σ 77 m)
/-- all nodes so far -/
def Fq (σ : gM) : Int := fqN σ (σ 68 10).toNat
/-- a token is at hand -/
def tkI (σ : gM) : Prop := (∃ τ, tX σ τ ∧ tK σ τ) ∧ 0 ≤ σ 68 10
def okS (σ : gM) : Prop := σ 69 8 = 0 → tkI σ
/-- no fault: p signs further at least, s more than the text allows at most -/
def Bd (s p : Int) (σ S : gM) : Prop := S 69 8 = 0 → σ 69 8 = 0 ∧ tkI S ∧ Fq S - S 69 5 ≤ Fq σ - σ 69 5 + s ∧ σ 69 5 + p ≤ S 69 5
section PO
variable {σ S T : gM} {s s' p p' : Int}
theorem ob {α β : Type} {x : Option α} {f : α → Option β} {b : β} (h : x.bind f = some b) : ∃ a, x = some a ∧ f a = some b := by
  cases x with
  | none => cases h
  | some a => exact ⟨a, rfl, h⟩
theorem sp {a c : gM} {b d : Int} (h : some (a, b) = some (c, d)) : c = a ∧ d = b := by
  cases h
  exact ⟨rfl, rfl⟩
theorem fqN_mv (h : S 77 = σ 77) : ∀ m, fqN S m = fqN σ m
  | 0 => rfl
  | m + 1 => by
    unfold fqN
    rw [fqN_mv h m, h]
theorem fqN_lo : ∀ (m : Nat), (∀ i : Int, i < m → S 77 i = σ 77 i) → fqN S m = fqN σ m
  | 0, _ => rfl
  | m + 1, h => by
    unfold fqN
    rw [fqN_lo m fun i hi => h i (by omega), h m (by omega)]
theorem Fq_mv (h : S 77 = σ 77) (h2 : S 68 10 = σ 68 10) : Fq S = Fq σ := by
  unfold Fq
  rw [h2, fqN_mv h]
theorem Fq_nx (h0 : 0 ≤ σ 68 10) (h : ∀ i, i < σ 68 10 → S 77 i = σ 77 i) (h2 : S 68 10 = σ 68 10 + 1) : Fq S = Fq σ + wp (S 77 (σ 68 10)) := by
  unfold Fq
  rw [h2, show (σ 68 10 + 1).toNat = (σ 68 10).toNat + 1 by omega]
  show fqN S _ + wp (S 77 ((σ 68 10).toNat : Nat)) = _
  rw [fqN_lo (σ := σ) _ fun i hi => h i (by omega), show (((σ 68 10).toNat : Nat) : Int) = σ 68 10 by omega]
theorem Fq_set {r v : Int} (h0 : 0 ≤ r) (h2 : σ 68 10 = r + 1) (h3 : σ 77 r = 0) : Fq (gW σ 77 r v) = Fq σ + wp v := by
  have e : gW σ 77 r v 68 10 = σ 68 10 := by rw [gW_c (by decide)]
  unfold Fq
  rw [e, h2, show (r + 1).toNat = r.toNat + 1 by omega]
  show fqN (gW σ 77 r v) _ + wp (gW σ 77 r v 77 (r.toNat : Nat)) = fqN σ _ + wp (σ 77 (r.toNat : Nat)) + wp v
  rw [fqN_lo (σ := σ) _ fun i hi => gW_i (by omega), show ((r.toNat : Nat) : Int) = r by omega, gW_at, h3]
  have : wp 0 = 0 := rfl
  omega
theorem tkI_mv (h : tkI σ) (c1 : S 1 = σ 1) (c118 : S 118 = σ 118) (c69 : S 69 = σ 69) (c : 0 ≤ S 68 10) : tkI S := by
  obtain ⟨⟨τ, ⟨x1, x2, x3, x4⟩, k⟩, -⟩ := h
  refine ⟨⟨τ, ⟨by rw [c69]; exact x1, by rw [c69]; exact x2, by rw [c69]; exact x3, fun k k0 k1 => ?_⟩, ?_⟩, c⟩
  · rw [c69] at k1 ⊢
    refine ⟨?_, (x4 k k0 k1).2⟩
    rw [← (x4 k k0 k1).1]
    rcases x1 with ⟨z, _⟩ | ⟨z, _⟩
    · rw [z, c1]
    · rw [z, c118]
  · unfold tK tKp tKk at k ⊢
    rw [c69]
    exact k
theorem tkI.w {a i v : Int} (h : tkI σ) (h1 : a ≠ 1 ∧ a ≠ 118 ∧ a ≠ 69) (h2 : a ≠ 68 ∨ i ≠ 10) : tkI (gW σ a i v) := by
  refine tkI_mv h (funext fun j => gW_c (by omega)) (funext fun j => gW_c (by omega)) (funext fun j => gW_c (by omega)) ?_
  unfold gW
  rw [if_neg (by omega)]
  exact h.2
theorem okS.w {a i v : Int} (h : okS σ) (h1 : a ≠ 1 ∧ a ≠ 118 ∧ a ≠ 69) (h2 : a ≠ 68 ∨ i ≠ 10) : okS (gW σ a i v) := by
  intro g
  rw [gW_c (by omega)] at g
  exact (h g).w h1 h2
theorem Bd.ok (h : Bd s p σ S) : okS S := fun g => (h g).2.1
theorem Bd.rf (h : okS σ) : Bd 0 0 σ σ := fun g => ⟨g, h g, by omega, by omega⟩
theorem Bd.tr (h : Bd s p σ S) (h' : Bd s' p' S T) : Bd (s + s') (p + p') σ T := fun g => by
  obtain ⟨a1, a2, a3, a4⟩ := h' g
  obtain ⟨b1, b2, b3, b4⟩ := h a1
  exact ⟨b1, a2, by omega, by omega⟩
theorem Bd.le (h : Bd s p σ S) (h1 : s ≤ s') (h2 : p' ≤ p) : Bd s' p' σ S := fun g => by
  obtain ⟨b1, b2, b3, b4⟩ := h g
  exact ⟨b1, b2, by omega, by omega⟩
theorem Bd.bad (h : S 69 8 ≠ 0) : Bd s p σ S := fun g => absurd g h
theorem Bd.fr {S' : gM} (h : Bd s p σ S) (c1 : S' 1 = S 1) (c118 : S' 118 = S 118) (c69 : S' 69 = S 69) (c77 : S' 77 = S 77) (c68 : S' 68 10 = S 68 10) : Bd s p σ S' := fun g => by
  rw [c69] at g
  obtain ⟨b1, b2, b3, b4⟩ := h g
  refine ⟨b1, tkI_mv b2 c1 c118 c69 (by rw [c68]; exact b2.2), ?_, by rw [c69]; exact b4⟩
  rw [Fq_mv c77 c68, c69]
  exact b3
theorem Bd.w {a i v : Int} (h : Bd s p σ S) (h1 : a ≠ 1 ∧ a ≠ 118 ∧ a ≠ 69 ∧ a ≠ 77) (h2 : a ≠ 68 ∨ i ≠ 10) : Bd s p σ (gW S a i v) := by
  refine h.fr (funext fun j => gW_c (by omega)) (funext fun j => gW_c (by omega)) (funext fun j => gW_c (by omega)) (funext fun j => gW_c (by omega)) ?_
  unfold gW
  rw [if_neg (by omega)]
/-- a write ahead -/
theorem Bd.wl {a i v : Int} (h : Bd s p (gW σ a i v) S) (h1 : a ≠ 1 ∧ a ≠ 118 ∧ a ≠ 69 ∧ a ≠ 77) (h2 : a ≠ 68 ∨ i ≠ 10) : Bd s p σ S := fun g => by
  obtain ⟨b1, b2, b3, b4⟩ := h g
  have e : Fq (gW σ a i v) = Fq σ := Fq_mv (funext fun j => gW_c (by omega)) (by unfold gW; rw [if_neg (by omega)])
  rw [gW_c (by omega)] at b1
  rw [gW_c (by omega), e] at b3
  rw [gW_c (by omega)] at b4
  exact ⟨b1, b2, b3, b4⟩
end PO
section PP
variable {σ S : gM} {c r k x : Int}
theorem q_good (h : ps_good σ = some (S, r)) : σ = S ∧ (r = 0 ↔ σ 69 8 ≠ 0) := by
  rw [ps_good_e] at h
  split at h <;> obtain ⟨rfl, rfl⟩ := sp h <;> exact ⟨rfl, by omega⟩
theorem q_is (h : tk_is σ c = some (S, r)) : σ = S ∧ (r ≠ 0 → σ 69 4 = 4 ∧ σ 69 8 = 0) := by
  rw [tk_is_e] at h
  split at h
  · split at h
    · split at h <;> obtain ⟨rfl, rfl⟩ := sp h <;> exact ⟨rfl, by omega⟩
    · obtain ⟨rfl, rfl⟩ := sp h; exact ⟨rfl, by omega⟩
  · obtain ⟨rfl, rfl⟩ := sp h; exact ⟨rfl, by omega⟩
theorem q_word (h : tk_isWord_2 σ c = some (S, r)) : σ = S ∧ (r ≠ 0 → σ 69 4 = 5 ∧ σ 69 8 = 0) := by
  have F := fr_inl fm_tk_isWord_2 (tk_isWord_2_l σ c) h
  have e : S = σ := by
    funext a k
    exact F a k (by unfold gbit; simp; rfl)
  refine ⟨e.symm, fun hr => ?_⟩
  rw [tk_isWord_2_e] at h
  split at h
  · rename_i z
    refine ⟨z, ?_⟩
    obtain ⟨q1, -, h⟩ := ob h
    obtain ⟨q2, -, h⟩ := ob h
    split at h
    · split at h
      · rename_i g
        obtain ⟨rfl, -⟩ := sp h
        rw [← e]; exact g
      · obtain ⟨-, rfl⟩ := sp h; omega
    · obtain ⟨-, rfl⟩ := sp h; omega
  · obtain ⟨-, rfl⟩ := sp h; omega
theorem q_fails (h : tk_fails σ k x = some (S, r)) (hk : k ≠ 0) : S 69 8 ≠ 0 := by
  rw [tk_fails_e] at h
  split at h
  · obtain ⟨rfl, rfl⟩ := sp h
    rw [gW_i (by decide), gW_at]; exact hk
  · obtain ⟨rfl, rfl⟩ := sp h
    assumption
theorem q_read (h : tk_read σ = some (S, r)) (ok : okS σ) (g : σ 69 8 = 0) : Bd (-(σ 69 6)) (σ 69 6) σ S ∧ (∀ a, a ≠ 69 → S a = σ a) := by
  obtain ⟨⟨τ, tx, tk⟩, m⟩ := ok g
  have kp := tk.1
  unfold tKp at kp
  obtain ⟨a, ha, S', T', e1, F, q⟩ := read_s tx g (by omega) (by omega) (by omega)
  rw [h] at e1
  obtain ⟨rfl, -⟩ := sp e1
  have c68 : S' 68 = σ 68 := F.1 68 (by decide)
  refine ⟨fun g' => ?_, F.1⟩
  rcases q with ⟨q1, q2, q3, q4, q5⟩ | ⟨q1, q2, q3, q4⟩
  · refine ⟨g, ⟨⟨T', F.tx tx, q2⟩, by rw [c68]; exact m⟩, ?_, by omega⟩
    rw [Fq_mv (F.1 77 (by decide)) (by rw [c68])]
    omega
  · omega
theorem tkI.sz (h : tkI σ) : 0 ≤ σ 69 6 ∧ (σ 69 4 ≠ 0 → 1 ≤ σ 69 6) := by
  obtain ⟨⟨τ, tx, k1, k2⟩, -⟩ := h
  unfold tKp at k1
  unfold tKk at k2
  rcases k2 with z | z | z | z | z | z <;> omega
/-- a token that is there is passed -/
theorem q_read1 (h : tk_read σ = some (S, r)) (ok : okS σ) (g : σ 69 8 = 0) (n : σ 69 4 ≠ 0) : Bd (-1) 1 σ S := by
  have := (ok g).sz
  exact (q_read h ok g).1.le (by omega) (by omega)
theorem q_read0 (h : tk_read σ = some (S, r)) (ok : okS σ) (g : σ 69 8 = 0) : Bd 0 0 σ S := by
  have := (ok g).sz
  exact (q_read h ok g).1.le (by omega) (by omega)
end PP
