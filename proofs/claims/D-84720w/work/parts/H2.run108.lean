/-! the law's calls, at one memory -/
/-- what a call of the component leaves -/
def cFt (σ S : gM) : Prop := (∀ a, 121 ≤ a → a < 227 → S a = σ a) ∧ (∀ i, 0 ≤ i → i < 156 → S 119 i = σ 119 i) ∧ S 39 = σ 39 ∧ (gb8 119 σ → gb8 119 S)
/-- what a call of the model leaves -/
def mFt (τ T : gM) : Prop := (∀ a, (1 ≤ a ∧ a ≤ 7) ∨ (9 ≤ a ∧ a ≤ 35) ∨ (39 ≤ a ∧ a ≤ 40) ∨ (43 ≤ a ∧ a ≤ 50) ∨ (53 ≤ a ∧ a ≤ 67) ∨ (88 ≤ a ∧ a ≤ 104) ∨ a = 118 → T a = τ a) ∧ ((∀ i, 0 ≤ i → i < 14 → T 0 i = τ 0 i) ∧ (∀ i, 0 ≤ i → i < 42 → T 8 i = τ 8 i) ∧ (∀ i, 0 ≤ i → i < 12 → T 42 i = τ 42 i) ∧ (∀ i, 0 ≤ i → i < 20 → T 52 i = τ 52 i) ∧ (∀ i, 0 ≤ i → i < 47 → T 87 i = τ 87 i) ∧ ∀ i, 7 ≤ i → i < 10 → T 117 i = τ 117 i) ∧ (gb8 227 τ → gb8 227 T)
/-- one memory, both systems in it -/
def RL (M : gM) : Prop := gb8 227 M ∧ (∀ k, 0 ≤ k → k < 7 → M 39 k = kX k) ∧ (RW M M ∨ (M 87 23 = 0 ∧ ∃ τ', agO M τ' ∧ RW M τ'))
section LAW
variable {σ τ S T M : gM} {f g : gM → Option (gM × Int)}
theorem gb8.lo (b : gb8 227 M) : gb8 119 M := fun a h1 h2 => b a h1 (by omega)
theorem cFt.b8 (F : cFt σ S) (b : gb8 227 σ) : gb8 227 S := fun a h1 h2 => by
  by_cases z : a.toNat < 119
  · exact F.2.2.2 b.lo a h1 z
  · have a0 := (gK_nat (by decide) h1).2
    have n1 : a ≠ 119 := fun q => by rw [q] at h1; exact absurd h1 (by decide +kernel)
    have n2 : a ≠ 120 := fun q => by rw [q] at h1; exact absurd h1 (by decide +kernel)
    rw [F.1 a (by omega) (by omega)]
    exact b a h1 h2
theorem mFt.lw (G : mFt τ T) : lwC τ T := ⟨fun a q => G.1 a (by omega), G.2.1.1, G.2.1.2.1, G.2.1.2.2.1, G.2.1.2.2.2.1, G.2.1.2.2.2.2.1⟩
theorem law_1 (pl : ∀ σ τ, RW σ τ → gb8 227 τ → ∃ S T r, f σ = some (S, r) ∧ g τ = some (T, r) ∧ RW S T) (cf : ∀ σ S r, f σ = some (S, r) → cFt σ S) (mf : ∀ τ T r, g τ = some (T, r) → mFt τ T) (b : gb8 227 M) (h39 : ∀ k, 0 ≤ k → k < 7 → M 39 k = kX k) (R : RW M M) : ∃ M1 r M2, f M = some (M1, r) ∧ g M1 = some (M2, r) ∧ RL M2 := by
  obtain ⟨M1, -, r, e1, -, -⟩ := pl M M R b
  have F := cf _ _ _ e1
  have b1 := F.b8 b
  have i134 : ∀ i, i8 (M1 134 i) := b1 134 (by decide +kernel) (by decide)
  have R1 : RW M M1 := R.lw (R.1.mv (fun _ _ _ => rfl) rfl (fun i q1 q2 => F.2.1 i (by omega) (by omega)) (F.1 226 (by decide) (by decide))) R.2.1 ⟨fun _ _ => rfl, fun _ _ _ => rfl, fun _ _ _ => rfl, fun _ _ _ => rfl, fun _ _ _ => rfl, fun _ _ _ => rfl⟩ ⟨fun a q => F.1 a (by omega) (by omega), fun i q => F.2.1 i (by omega) (by omega), i134⟩
  obtain ⟨S, M2, r', e2, e3, R2⟩ := pl M M1 R1 b1
  rw [e1] at e2
  have eS : M1 = S := congrArg Prod.fst (Option.some.inj e2)
  have er : r = r' := congrArg Prod.snd (Option.some.inj e2)
  subst eS er
  have G := mf _ _ _ e3
  have b2 := G.2.2 b1
  refine ⟨M1, r, M2, e1, e3, b2, fun k q1 q2 => by rw [G.1 39 (by decide), F.2.2.1]; exact h39 k q1 q2, Or.inl ?_⟩
  exact R2.lw (R2.1.mv (fun i q1 q2 => G.2.1.2.2.2.2.2 i q1 q2) (G.1 118 (by decide)) (fun _ _ _ => rfl) rfl) b2.lo G.lw ⟨fun _ _ => rfl, fun _ _ => rfl, b2 134 (by decide +kernel) (by decide)⟩
theorem agO.b8 {τ' : gM} (h : agO τ τ') (b : gb8 227 τ) : gb8 227 τ' := fun a h1 h2 => by
  have n1 : a ≠ 119 := fun q => by rw [q] at h1; exact absurd h1 (by decide +kernel)
  rw [h.c n1]
  exact b a h1 h2
/-- the marks that the model was given stay while the component does its part -/
theorem law_m {τ' M1 : gM} (F : cFt M M1) (b1 : gb8 227 M1) (ag : agO M τ') (R : RW M τ') : RW M (gO τ' M1) ∧ agO M1 (gO τ' M1) := by
  have c : ∀ a, 121 ≤ a → a < 227 → gO τ' M1 a = τ' a := fun a q1 q2 => by
    have n : a ≠ 119 := by omega
    rw [show gO τ' M1 a = M1 a from funext fun k => gO_n (by unfold gDr; rw [decide_eq_false n]; rfl), F.1 a q1 q2, ag.c n]
  have d : ∀ i, 0 ≤ i → i < 156 → gO τ' M1 119 i = τ' 119 i := fun i q1 q2 => by
    by_cases z : gDr 119 i = true
    · unfold gO
      rw [if_pos z]
    · have z' : gDr 119 i = false := by cases hw : gDr 119 i with | true => exact absurd hw z | false => rfl
      rw [gO_n z', F.2.1 i q1 q2, ag 119 i z']
  refine ⟨R.lw (R.1.mv (fun _ _ _ => rfl) rfl (fun i q1 q2 => d i (by omega) (by omega)) (c 226 (by decide) (by decide))) R.2.1 ⟨fun _ _ => rfl, fun _ _ _ => rfl, fun _ _ _ => rfl, fun _ _ _ => rfl, fun _ _ _ => rfl, fun _ _ _ => rfl⟩ ⟨fun a q => c a (by omega) (by omega), fun i q => d i (by omega) (by omega), fun i => ?_⟩, fun a k h => gO_n h⟩
  rw [gO_n (by unfold gDr; rw [decide_eq_false (by decide)]; rfl)]
  exact b1 134 (by decide +kernel) (by decide) i
/-- behind the model's part -/
theorem law_e {τ1 T' M1 : gM} (G : mFt τ1 T') (ag : agO M1 τ1) (b : gb8 227 T') (R : RW M1 T') : RW (gO M1 T') T' ∧ agO (gO M1 T') T' ∧ gb8 227 (gO M1 T') ∧ (gO M1 T') 39 = M1 39 ∧ (gO M1 T') 87 23 = M1 87 23 := by
  have w : ∀ a, a ≠ 119 → gO M1 T' a = T' a := fun a q => funext fun k => gO_n (by unfold gDr; rw [decide_eq_false q]; rfl)
  have bM : gb8 227 (gO M1 T') := fun a h1 h2 => by
    have n1 : a ≠ 119 := fun q => by rw [q] at h1; exact absurd h1 (by decide +kernel)
    rw [w a n1]
    exact b a h1 h2
  have kc : lwC M1 (gO M1 T') := ⟨fun a q => by rw [w a (by omega), G.1 a (by omega), ag.c (by omega)], fun i q1 q2 => by rw [w 0 (by decide), G.2.1.1 i q1 q2, ag.c (by decide)], fun i q1 q2 => by rw [w 8 (by decide), G.2.1.2.1 i q1 q2, ag.c (by decide)], fun i q1 q2 => by rw [w 42 (by decide), G.2.1.2.2.1 i q1 q2, ag.c (by decide)], fun i q1 q2 => by rw [w 52 (by decide), G.2.1.2.2.2.1 i q1 q2, ag.c (by decide)], fun i q1 q2 => by rw [w 87 (by decide), G.2.1.2.2.2.2.1 i q1 q2, ag.c (by decide)]⟩
  refine ⟨R.lw (R.1.mv (fun i q1 q2 => by rw [w 117 (by decide), G.2.1.2.2.2.2.2 i q1 q2, ag.c (by decide)]) (by rw [w 118 (by decide), G.1 118 (by decide), ag.c (by decide)]) (fun _ _ _ => rfl) rfl) bM.lo kc ⟨fun _ _ => rfl, fun _ _ => rfl, b 134 (by decide +kernel) (by decide)⟩, gO_ag, bM, by rw [w 39 (by decide), G.1 39 (by decide), ag.c (by decide)], kc.2.2.2.2.2 23 (by decide) (by decide)⟩
theorem law_e2 {τ1 T T' M1 : gM} (G : mFt τ1 T) (ag : agO M1 τ1) (b : gb8 227 T) (ag2 : agO T T') (R : RW M1 T') : RW (gO M1 T) T' ∧ agO (gO M1 T) T' ∧ gb8 227 (gO M1 T) ∧ (gO M1 T) 39 = M1 39 ∧ (gO M1 T) 87 23 = M1 87 23 := by
  have w : ∀ a, a ≠ 119 → gO M1 T a = T a := fun a q => funext fun k => gO_n (by unfold gDr; rw [decide_eq_false q]; rfl)
  have bM : gb8 227 (gO M1 T) := fun a h1 h2 => by
    have n1 : a ≠ 119 := fun q => by rw [q] at h1; exact absurd h1 (by decide +kernel)
    rw [w a n1]
    exact b a h1 h2
  have kc : lwC M1 (gO M1 T) := ⟨fun a q => by rw [w a (by omega), G.1 a (by omega), ag.c (by omega)], fun i q1 q2 => by rw [w 0 (by decide), G.2.1.1 i q1 q2, ag.c (by decide)], fun i q1 q2 => by rw [w 8 (by decide), G.2.1.2.1 i q1 q2, ag.c (by decide)], fun i q1 q2 => by rw [w 42 (by decide), G.2.1.2.2.1 i q1 q2, ag.c (by decide)], fun i q1 q2 => by rw [w 52 (by decide), G.2.1.2.2.2.1 i q1 q2, ag.c (by decide)], fun i q1 q2 => by rw [w 87 (by decide), G.2.1.2.2.2.2.1 i q1 q2, ag.c (by decide)]⟩
  refine ⟨R.lw (R.1.mv (fun i q1 q2 => by rw [w 117 (by decide), G.2.1.2.2.2.2.2 i q1 q2, ag.c (by decide)]) (by rw [w 118 (by decide), G.1 118 (by decide), ag.c (by decide)]) (fun _ _ _ => rfl) rfl) bM.lo kc ⟨fun _ _ => rfl, fun _ _ => rfl, (ag2.b8 b) 134 (by decide +kernel) (by decide)⟩, fun a k h => by rw [gO_n h]; exact ag2 a k h, bM, by rw [w 39 (by decide), G.1 39 (by decide), ag.c (by decide)], kc.2.2.2.2.2 23 (by decide) (by decide)⟩
theorem law_2 (pl : ∀ σ τ, RW σ τ → gb8 227 τ → ∃ S T r, f σ = some (S, r) ∧ g τ = some (T, r) ∧ RW S T) (cf : ∀ σ S r, f σ = some (S, r) → cFt σ S) (mf : ∀ τ T r, g τ = some (T, r) → mFt τ T) (ri : ∀ δ τ T r, g τ = some (T, r) → g (gO δ τ) = some (gO δ T, r)) (f0 : ∀ σ S r, f σ = some (S, r) → S 87 23 = σ 87 23) (b : gb8 227 M) (h39 : ∀ k, 0 ≤ k → k < 7 → M 39 k = kX k) (q0 : M 87 23 = 0) {τ' : gM} (ag : agO M τ') (R : RW M τ') : ∃ M1 r M2, f M = some (M1, r) ∧ g M1 = some (M2, r) ∧ RL M2 := by
  obtain ⟨M1, -, r, e1, -, -⟩ := pl M τ' R (ag.b8 b)
  have F := cf _ _ _ e1
  have b1 := F.b8 b
  obtain ⟨R1, ag1⟩ := law_m F b1 ag R
  obtain ⟨S, T', r', e2, e3, R2⟩ := pl M _ R1 (ag1.b8 b1)
  rw [e1] at e2
  have eS : M1 = S := congrArg Prod.fst (Option.some.inj e2)
  have er : r = r' := congrArg Prod.snd (Option.some.inj e2)
  subst eS er
  have G := mf _ _ _ e3
  obtain ⟨w1, w2, w3, w4, w5⟩ := law_e G ag1 (G.2.2 (ag1.b8 b1)) R2
  have e4 := ri M1 _ _ _ e3
  rw [ag1.e] at e4
  exact ⟨M1, r, gO M1 T', e1, e4, w3, fun k q1 q2 => by rw [w4, F.2.2.1]; exact h39 k q1 q2, Or.inr ⟨by rw [w5, f0 _ _ _ e1, q0], T', w2, w1⟩⟩
theorem law_g (pl : ∀ σ τ, RW σ τ → gb8 227 τ → ∃ S T r, f σ = some (S, r) ∧ g τ = some (T, r) ∧ RW S T) (cf : ∀ σ S r, f σ = some (S, r) → cFt σ S) (mf : ∀ τ T r, g τ = some (T, r) → mFt τ T) (ri : ∀ δ τ T r, g τ = some (T, r) → g (gO δ τ) = some (gO δ T, r)) (f0 : ∀ σ S r, f σ = some (S, r) → S 87 23 = σ 87 23) (R : RL M) : ∃ M1 r M2, f M = some (M1, r) ∧ g M1 = some (M2, r) ∧ RL M2 := by
  obtain ⟨b, h39, R | ⟨q0, τ', ag, R⟩⟩ := R
  · exact law_1 pl cf mf b h39 R
  · exact law_2 pl cf mf ri f0 b h39 q0 ag R
end LAW
section FT
variable {σ τ S T M : gM} {r : Int}
theorem cf_feed {x1 x2 x3 x4 x5 : Int} (e : gt_feed σ x1 x2 x3 x4 x5 = some (S, r)) : cFt σ S := by
  have F := fr_inl fm_gt_feed (gt_feed_l σ x1 x2 x3 x4 x5) e
  exact ⟨fun a h1 h2 => F.r 121 106 (by decide +kernel) (by omega) (by omega), fun i h1 h2 => F.f 119 0 156 (by decide +kernel) (by omega) (by omega), F.r 39 1 (by decide +kernel) (by decide) (by decide), b8_inl bm_gt_feed (gt_feed_l σ x1 x2 x3 x4 x5) e⟩
theorem mf_feed {x1 x2 x3 x4 x5 : Int} (e : md_feed τ x1 x2 x3 x4 x5 = some (T, r)) : mFt τ T := by
  have F := fr_inl fm_md_feed (md_feed_l τ x1 x2 x3 x4 x5) e
  refine ⟨fun a q => ?_, ⟨fun i h1 h2 => F.f 0 0 14 (by decide +kernel) h1 h2, fun i h1 h2 => F.f 8 0 42 (by decide +kernel) h1 h2, fun i h1 h2 => F.f 42 0 12 (by decide +kernel) h1 h2, fun i h1 h2 => F.f 52 0 20 (by decide +kernel) h1 h2, fun i h1 h2 => F.f 87 0 47 (by decide +kernel) h1 h2, fun i h1 h2 => F.f 117 7 3 (by decide +kernel) (by omega) (by omega)⟩, b8_inl bm_md_feed (md_feed_l τ x1 x2 x3 x4 x5) e⟩
  rcases q with q | q | q | q | q | q | q
  · exact F.r 1 7 (by decide +kernel) (by omega) (by omega)
  · exact F.r 9 27 (by decide +kernel) (by omega) (by omega)
  · exact F.r 39 2 (by decide +kernel) (by omega) (by omega)
  · exact F.r 43 8 (by decide +kernel) (by omega) (by omega)
  · exact F.r 53 15 (by decide +kernel) (by omega) (by omega)
  · exact F.r 88 17 (by decide +kernel) (by omega) (by omega)
  · exact F.r 118 1 (by decide +kernel) (by omega) (by omega)
theorem ri_feed {x1 x2 x3 x4 x5 : Int} (δ : gM) (e : md_feed τ x1 x2 x3 x4 x5 = some (T, r)) : md_feed (gO δ τ) x1 x2 x3 x4 x5 = some (gO δ T, r) := ov_inl (δ := δ) ri_md_feed (md_feed_l τ x1 x2 x3 x4 x5) (md_feed_l (gO δ τ) x1 x2 x3 x4 x5) e
theorem f0_feed {x1 x2 x3 x4 x5 : Int} (e : gt_feed σ x1 x2 x3 x4 x5 = some (S, r)) : S 87 23 = σ 87 23 := (fr_inl fm_gt_feed (gt_feed_l σ x1 x2 x3 x4 x5) e).f 87 23 1 (by decide +kernel) (by decide) (by decide)
theorem cf_load {x1 : Int} (e : gt_load σ x1 = some (S, r)) : cFt σ S := by
  have F := fr_inl fm_gt_load (gt_load_l σ x1) e
  exact ⟨fun a h1 h2 => F.r 121 106 (by decide +kernel) (by omega) (by omega), fun i h1 h2 => F.f 119 0 156 (by decide +kernel) (by omega) (by omega), F.r 39 1 (by decide +kernel) (by decide) (by decide), b8_inl bm_gt_load (gt_load_l σ x1) e⟩
theorem mf_load {x1 : Int} (e : md_load τ x1 = some (T, r)) : mFt τ T := by
  have F := fr_inl fm_md_load (md_load_l τ x1) e
  refine ⟨fun a q => ?_, ⟨fun i h1 h2 => F.f 0 0 14 (by decide +kernel) h1 h2, fun i h1 h2 => F.f 8 0 42 (by decide +kernel) h1 h2, fun i h1 h2 => F.f 42 0 12 (by decide +kernel) h1 h2, fun i h1 h2 => F.f 52 0 20 (by decide +kernel) h1 h2, fun i h1 h2 => F.f 87 0 47 (by decide +kernel) h1 h2, fun i h1 h2 => F.f 117 7 3 (by decide +kernel) (by omega) (by omega)⟩, b8_inl bm_md_load (md_load_l τ x1) e⟩
  rcases q with q | q | q | q | q | q | q
  · exact F.r 1 7 (by decide +kernel) (by omega) (by omega)
  · exact F.r 9 27 (by decide +kernel) (by omega) (by omega)
  · exact F.r 39 2 (by decide +kernel) (by omega) (by omega)
  · exact F.r 43 8 (by decide +kernel) (by omega) (by omega)
  · exact F.r 53 15 (by decide +kernel) (by omega) (by omega)
  · exact F.r 88 17 (by decide +kernel) (by omega) (by omega)
  · exact F.r 118 1 (by decide +kernel) (by omega) (by omega)
theorem cf_fault {x1 : Int} (e : gt_fault σ x1 = some (S, r)) : cFt σ S := by
  have F := fr_inl fm_gt_fault (gt_fault_l σ x1) e
  exact ⟨fun a h1 h2 => F.r 121 106 (by decide +kernel) (by omega) (by omega), fun i h1 h2 => F.f 119 0 156 (by decide +kernel) (by omega) (by omega), F.r 39 1 (by decide +kernel) (by decide) (by decide), b8_inl bm_gt_fault (gt_fault_l σ x1) e⟩
theorem mf_fault {x1 : Int} (e : md_fault τ x1 = some (T, r)) : mFt τ T := by
  have F := fr_inl fm_md_fault (md_fault_l τ x1) e
  refine ⟨fun a q => ?_, ⟨fun i h1 h2 => F.f 0 0 14 (by decide +kernel) h1 h2, fun i h1 h2 => F.f 8 0 42 (by decide +kernel) h1 h2, fun i h1 h2 => F.f 42 0 12 (by decide +kernel) h1 h2, fun i h1 h2 => F.f 52 0 20 (by decide +kernel) h1 h2, fun i h1 h2 => F.f 87 0 47 (by decide +kernel) h1 h2, fun i h1 h2 => F.f 117 7 3 (by decide +kernel) (by omega) (by omega)⟩, b8_inl bm_md_fault (md_fault_l τ x1) e⟩
  rcases q with q | q | q | q | q | q | q
  · exact F.r 1 7 (by decide +kernel) (by omega) (by omega)
  · exact F.r 9 27 (by decide +kernel) (by omega) (by omega)
  · exact F.r 39 2 (by decide +kernel) (by omega) (by omega)
  · exact F.r 43 8 (by decide +kernel) (by omega) (by omega)
  · exact F.r 53 15 (by decide +kernel) (by omega) (by omega)
  · exact F.r 88 17 (by decide +kernel) (by omega) (by omega)
  · exact F.r 118 1 (by decide +kernel) (by omega) (by omega)
theorem ri_fault {x1 : Int} (δ : gM) (e : md_fault τ x1 = some (T, r)) : md_fault (gO δ τ) x1 = some (gO δ T, r) := ov_inl (δ := δ) ri_md_fault (md_fault_l τ x1) (md_fault_l (gO δ τ) x1) e
theorem f0_fault {x1 : Int} (e : gt_fault σ x1 = some (S, r)) : S 87 23 = σ 87 23 := (fr_inl fm_gt_fault (gt_fault_l σ x1) e).f 87 23 1 (by decide +kernel) (by decide) (by decide)
theorem cf_start {x1 x2 : Int} (e : gt_start σ x1 x2 = some (S, r)) : cFt σ S := by
  have F := fr_inl fm_gt_start (gt_start_l σ x1 x2) e
  exact ⟨fun a h1 h2 => F.r 121 106 (by decide +kernel) (by omega) (by omega), fun i h1 h2 => F.f 119 0 156 (by decide +kernel) (by omega) (by omega), F.r 39 1 (by decide +kernel) (by decide) (by decide), b8_inl bm_gt_start (gt_start_l σ x1 x2) e⟩
theorem mf_start {x1 x2 : Int} (e : md_start τ x1 x2 = some (T, r)) : mFt τ T := by
  have F := fr_inl fm_md_start (md_start_l τ x1 x2) e
  refine ⟨fun a q => ?_, ⟨fun i h1 h2 => F.f 0 0 14 (by decide +kernel) h1 h2, fun i h1 h2 => F.f 8 0 42 (by decide +kernel) h1 h2, fun i h1 h2 => F.f 42 0 12 (by decide +kernel) h1 h2, fun i h1 h2 => F.f 52 0 20 (by decide +kernel) h1 h2, fun i h1 h2 => F.f 87 0 47 (by decide +kernel) h1 h2, fun i h1 h2 => F.f 117 7 3 (by decide +kernel) (by omega) (by omega)⟩, b8_inl bm_md_start (md_start_l τ x1 x2) e⟩
  rcases q with q | q | q | q | q | q | q
  · exact F.r 1 7 (by decide +kernel) (by omega) (by omega)
  · exact F.r 9 27 (by decide +kernel) (by omega) (by omega)
  · exact F.r 39 2 (by decide +kernel) (by omega) (by omega)
  · exact F.r 43 8 (by decide +kernel) (by omega) (by omega)
  · exact F.r 53 15 (by decide +kernel) (by omega) (by omega)
  · exact F.r 88 17 (by decide +kernel) (by omega) (by omega)
  · exact F.r 118 1 (by decide +kernel) (by omega) (by omega)
theorem cf_run {x1 : Int} (e : gt_run σ x1 = some (S, r)) : cFt σ S := by
  have F := fr_inl fm_gt_run (gt_run_l σ x1) e
  exact ⟨fun a h1 h2 => F.r 121 106 (by decide +kernel) (by omega) (by omega), fun i h1 h2 => F.f 119 0 156 (by decide +kernel) (by omega) (by omega), F.r 39 1 (by decide +kernel) (by decide) (by decide), b8_inl bm_gt_run (gt_run_l σ x1) e⟩
theorem mf_run {x1 : Int} (e : md_run τ x1 = some (T, r)) : mFt τ T := by
  have F := fr_inl fm_md_run (md_run_l τ x1) e
  refine ⟨fun a q => ?_, ⟨fun i h1 h2 => F.f 0 0 14 (by decide +kernel) h1 h2, fun i h1 h2 => F.f 8 0 42 (by decide +kernel) h1 h2, fun i h1 h2 => F.f 42 0 12 (by decide +kernel) h1 h2, fun i h1 h2 => F.f 52 0 20 (by decide +kernel) h1 h2, fun i h1 h2 => F.f 87 0 47 (by decide +kernel) h1 h2, fun i h1 h2 => F.f 117 7 3 (by decide +kernel) (by omega) (by omega)⟩, b8_inl bm_md_run (md_run_l τ x1) e⟩
  rcases q with q | q | q | q | q | q | q
  · exact F.r 1 7 (by decide +kernel) (by omega) (by omega)
  · exact F.r 9 27 (by decide +kernel) (by omega) (by omega)
  · exact F.r 39 2 (by decide +kernel) (by omega) (by omega)
  · exact F.r 43 8 (by decide +kernel) (by omega) (by omega)
  · exact F.r 53 15 (by decide +kernel) (by omega) (by omega)
  · exact F.r 88 17 (by decide +kernel) (by omega) (by omega)
  · exact F.r 118 1 (by decide +kernel) (by omega) (by omega)
theorem cf_state (e : gt_state σ = some (S, r)) : cFt σ S := by
  have F := fr_inl fm_gt_state (gt_state_l σ) e
  exact ⟨fun a h1 h2 => F.r 121 106 (by decide +kernel) (by omega) (by omega), fun i h1 h2 => F.f 119 0 156 (by decide +kernel) (by omega) (by omega), F.r 39 1 (by decide +kernel) (by decide) (by decide), b8_inl bm_gt_state (gt_state_l σ) e⟩
theorem mf_state (e : md_state τ = some (T, r)) : mFt τ T := by
  have F := fr_inl fm_md_state (md_state_l τ) e
  refine ⟨fun a q => ?_, ⟨fun i h1 h2 => F.f 0 0 14 (by decide +kernel) h1 h2, fun i h1 h2 => F.f 8 0 42 (by decide +kernel) h1 h2, fun i h1 h2 => F.f 42 0 12 (by decide +kernel) h1 h2, fun i h1 h2 => F.f 52 0 20 (by decide +kernel) h1 h2, fun i h1 h2 => F.f 87 0 47 (by decide +kernel) h1 h2, fun i h1 h2 => F.f 117 7 3 (by decide +kernel) (by omega) (by omega)⟩, b8_inl bm_md_state (md_state_l τ) e⟩
  rcases q with q | q | q | q | q | q | q
  · exact F.r 1 7 (by decide +kernel) (by omega) (by omega)
  · exact F.r 9 27 (by decide +kernel) (by omega) (by omega)
  · exact F.r 39 2 (by decide +kernel) (by omega) (by omega)
  · exact F.r 43 8 (by decide +kernel) (by omega) (by omega)
  · exact F.r 53 15 (by decide +kernel) (by omega) (by omega)
  · exact F.r 88 17 (by decide +kernel) (by omega) (by omega)
  · exact F.r 118 1 (by decide +kernel) (by omega) (by omega)
theorem ri_state (δ : gM) (e : md_state τ = some (T, r)) : md_state (gO δ τ) = some (gO δ T, r) := ov_inl (δ := δ) ri_md_state (md_state_l τ) (md_state_l (gO δ τ)) e
theorem f0_state (e : gt_state σ = some (S, r)) : S 87 23 = σ 87 23 := (fr_inl fm_gt_state (gt_state_l σ) e).f 87 23 1 (by decide +kernel) (by decide) (by decide)
theorem cf_error {x1 : Int} (e : gt_error σ x1 = some (S, r)) : cFt σ S := by
  have F := fr_inl fm_gt_error (gt_error_l σ x1) e
  exact ⟨fun a h1 h2 => F.r 121 106 (by decide +kernel) (by omega) (by omega), fun i h1 h2 => F.f 119 0 156 (by decide +kernel) (by omega) (by omega), F.r 39 1 (by decide +kernel) (by decide) (by decide), b8_inl bm_gt_error (gt_error_l σ x1) e⟩
theorem mf_error {x1 : Int} (e : md_error_2 τ x1 = some (T, r)) : mFt τ T := by
  have F := fr_inl fm_md_error_2 (md_error_2_l τ x1) e
  refine ⟨fun a q => ?_, ⟨fun i h1 h2 => F.f 0 0 14 (by decide +kernel) h1 h2, fun i h1 h2 => F.f 8 0 42 (by decide +kernel) h1 h2, fun i h1 h2 => F.f 42 0 12 (by decide +kernel) h1 h2, fun i h1 h2 => F.f 52 0 20 (by decide +kernel) h1 h2, fun i h1 h2 => F.f 87 0 47 (by decide +kernel) h1 h2, fun i h1 h2 => F.f 117 7 3 (by decide +kernel) (by omega) (by omega)⟩, b8_inl bm_md_error_2 (md_error_2_l τ x1) e⟩
  rcases q with q | q | q | q | q | q | q
  · exact F.r 1 7 (by decide +kernel) (by omega) (by omega)
  · exact F.r 9 27 (by decide +kernel) (by omega) (by omega)
  · exact F.r 39 2 (by decide +kernel) (by omega) (by omega)
  · exact F.r 43 8 (by decide +kernel) (by omega) (by omega)
  · exact F.r 53 15 (by decide +kernel) (by omega) (by omega)
  · exact F.r 88 17 (by decide +kernel) (by omega) (by omega)
  · exact F.r 118 1 (by decide +kernel) (by omega) (by omega)
theorem ri_error {x1 : Int} (δ : gM) (e : md_error_2 τ x1 = some (T, r)) : md_error_2 (gO δ τ) x1 = some (gO δ T, r) := ov_inl (δ := δ) ri_md_error_2 (md_error_2_l τ x1) (md_error_2_l (gO δ τ) x1) e
theorem f0_error {x1 : Int} (e : gt_error σ x1 = some (S, r)) : S 87 23 = σ 87 23 := (fr_inl fm_gt_error (gt_error_l σ x1) e).f 87 23 1 (by decide +kernel) (by decide) (by decide)
theorem cf_result {x1 : Int} (e : gt_result σ x1 = some (S, r)) : cFt σ S := by
  have F := fr_inl fm_gt_result (gt_result_l σ x1) e
  exact ⟨fun a h1 h2 => F.r 121 106 (by decide +kernel) (by omega) (by omega), fun i h1 h2 => F.f 119 0 156 (by decide +kernel) (by omega) (by omega), F.r 39 1 (by decide +kernel) (by decide) (by decide), b8_inl bm_gt_result (gt_result_l σ x1) e⟩
theorem mf_result {x1 : Int} (e : md_result τ x1 = some (T, r)) : mFt τ T := by
  have F := fr_inl fm_md_result (md_result_l τ x1) e
  refine ⟨fun a q => ?_, ⟨fun i h1 h2 => F.f 0 0 14 (by decide +kernel) h1 h2, fun i h1 h2 => F.f 8 0 42 (by decide +kernel) h1 h2, fun i h1 h2 => F.f 42 0 12 (by decide +kernel) h1 h2, fun i h1 h2 => F.f 52 0 20 (by decide +kernel) h1 h2, fun i h1 h2 => F.f 87 0 47 (by decide +kernel) h1 h2, fun i h1 h2 => F.f 117 7 3 (by decide +kernel) (by omega) (by omega)⟩, b8_inl bm_md_result (md_result_l τ x1) e⟩
  rcases q with q | q | q | q | q | q | q
  · exact F.r 1 7 (by decide +kernel) (by omega) (by omega)
  · exact F.r 9 27 (by decide +kernel) (by omega) (by omega)
  · exact F.r 39 2 (by decide +kernel) (by omega) (by omega)
  · exact F.r 43 8 (by decide +kernel) (by omega) (by omega)
  · exact F.r 53 15 (by decide +kernel) (by omega) (by omega)
  · exact F.r 88 17 (by decide +kernel) (by omega) (by omega)
  · exact F.r 118 1 (by decide +kernel) (by omega) (by omega)
theorem ri_result {x1 : Int} (δ : gM) (e : md_result τ x1 = some (T, r)) : md_result (gO δ τ) x1 = some (gO δ T, r) := ov_inl (δ := δ) ri_md_result (md_result_l τ x1) (md_result_l (gO δ τ) x1) e
theorem f0_result {x1 : Int} (e : gt_result σ x1 = some (S, r)) : S 87 23 = σ 87 23 := (fr_inl fm_gt_result (gt_result_l σ x1) e).f 87 23 1 (by decide +kernel) (by decide) (by decide)
theorem cf_out {x1 : Int} (e : gt_out σ x1 = some (S, r)) : cFt σ S := by
  have F := fr_inl fm_gt_out (gt_out_l σ x1) e
  exact ⟨fun a h1 h2 => F.r 121 106 (by decide +kernel) (by omega) (by omega), fun i h1 h2 => F.f 119 0 156 (by decide +kernel) (by omega) (by omega), F.r 39 1 (by decide +kernel) (by decide) (by decide), b8_inl bm_gt_out (gt_out_l σ x1) e⟩
theorem mf_out {x1 : Int} (e : md_out τ x1 = some (T, r)) : mFt τ T := by
  have F := fr_inl fm_md_out (md_out_l τ x1) e
  refine ⟨fun a q => ?_, ⟨fun i h1 h2 => F.f 0 0 14 (by decide +kernel) h1 h2, fun i h1 h2 => F.f 8 0 42 (by decide +kernel) h1 h2, fun i h1 h2 => F.f 42 0 12 (by decide +kernel) h1 h2, fun i h1 h2 => F.f 52 0 20 (by decide +kernel) h1 h2, fun i h1 h2 => F.f 87 0 47 (by decide +kernel) h1 h2, fun i h1 h2 => F.f 117 7 3 (by decide +kernel) (by omega) (by omega)⟩, b8_inl bm_md_out (md_out_l τ x1) e⟩
  rcases q with q | q | q | q | q | q | q
  · exact F.r 1 7 (by decide +kernel) (by omega) (by omega)
  · exact F.r 9 27 (by decide +kernel) (by omega) (by omega)
  · exact F.r 39 2 (by decide +kernel) (by omega) (by omega)
  · exact F.r 43 8 (by decide +kernel) (by omega) (by omega)
  · exact F.r 53 15 (by decide +kernel) (by omega) (by omega)
  · exact F.r 88 17 (by decide +kernel) (by omega) (by omega)
  · exact F.r 118 1 (by decide +kernel) (by omega) (by omega)
theorem ri_out {x1 : Int} (δ : gM) (e : md_out τ x1 = some (T, r)) : md_out (gO δ τ) x1 = some (gO δ T, r) := ov_inl (δ := δ) ri_md_out (md_out_l τ x1) (md_out_l (gO δ τ) x1) e
theorem f0_out {x1 : Int} (e : gt_out σ x1 = some (S, r)) : S 87 23 = σ 87 23 := (fr_inl fm_gt_out (gt_out_l σ x1) e).f 87 23 1 (by decide +kernel) (by decide) (by decide)
theorem cf_compile (e : gt_compile σ = some (S, r)) : cFt σ S := by
  have F := fr_inl fm_gt_compile (gt_compile_l σ) e
  exact ⟨fun a h1 h2 => F.r 121 106 (by decide +kernel) (by omega) (by omega), fun i h1 h2 => F.f 119 0 156 (by decide +kernel) (by omega) (by omega), F.r 39 1 (by decide +kernel) (by decide) (by decide), b8_inl bm_gt_compile (gt_compile_l σ) e⟩
theorem mf_compile (e : md_compile τ = some (T, r)) : mFt τ T := by
  have F := fr_inl fm_md_compile (md_compile_l τ) e
  refine ⟨fun a q => ?_, ⟨fun i h1 h2 => F.f 0 0 14 (by decide +kernel) h1 h2, fun i h1 h2 => F.f 8 0 42 (by decide +kernel) h1 h2, fun i h1 h2 => F.f 42 0 12 (by decide +kernel) h1 h2, fun i h1 h2 => F.f 52 0 20 (by decide +kernel) h1 h2, fun i h1 h2 => F.f 87 0 47 (by decide +kernel) h1 h2, fun i h1 h2 => F.f 117 7 3 (by decide +kernel) (by omega) (by omega)⟩, b8_inl bm_md_compile (md_compile_l τ) e⟩
  rcases q with q | q | q | q | q | q | q
  · exact F.r 1 7 (by decide +kernel) (by omega) (by omega)
  · exact F.r 9 27 (by decide +kernel) (by omega) (by omega)
  · exact F.r 39 2 (by decide +kernel) (by omega) (by omega)
  · exact F.r 43 8 (by decide +kernel) (by omega) (by omega)
  · exact F.r 53 15 (by decide +kernel) (by omega) (by omega)
  · exact F.r 88 17 (by decide +kernel) (by omega) (by omega)
  · exact F.r 118 1 (by decide +kernel) (by omega) (by omega)
theorem ri_compile (δ : gM) (e : md_compile τ = some (T, r)) : md_compile (gO δ τ) = some (gO δ T, r) := ov_inl (δ := δ) ri_md_compile (md_compile_l τ) (md_compile_l (gO δ τ)) e
theorem f0_compile (e : gt_compile σ = some (S, r)) : S 87 23 = σ 87 23 := (fr_inl fm_gt_compile (gt_compile_l σ) e).f 87 23 1 (by decide +kernel) (by decide) (by decide)
theorem cf_root {x1 x2 : Int} (e : gt_root σ x1 x2 = some (S, r)) : cFt σ S := by
  have F := fr_inl fm_gt_root (gt_root_l σ x1 x2) e
  exact ⟨fun a h1 h2 => F.r 121 106 (by decide +kernel) (by omega) (by omega), fun i h1 h2 => F.f 119 0 156 (by decide +kernel) (by omega) (by omega), F.r 39 1 (by decide +kernel) (by decide) (by decide), b8_inl bm_gt_root (gt_root_l σ x1 x2) e⟩
theorem mf_root {x1 x2 : Int} (e : md_root τ x1 x2 = some (T, r)) : mFt τ T := by
  have F := fr_inl fm_md_root (md_root_l τ x1 x2) e
  refine ⟨fun a q => ?_, ⟨fun i h1 h2 => F.f 0 0 14 (by decide +kernel) h1 h2, fun i h1 h2 => F.f 8 0 42 (by decide +kernel) h1 h2, fun i h1 h2 => F.f 42 0 12 (by decide +kernel) h1 h2, fun i h1 h2 => F.f 52 0 20 (by decide +kernel) h1 h2, fun i h1 h2 => F.f 87 0 47 (by decide +kernel) h1 h2, fun i h1 h2 => F.f 117 7 3 (by decide +kernel) (by omega) (by omega)⟩, b8_inl bm_md_root (md_root_l τ x1 x2) e⟩
  rcases q with q | q | q | q | q | q | q
  · exact F.r 1 7 (by decide +kernel) (by omega) (by omega)
  · exact F.r 9 27 (by decide +kernel) (by omega) (by omega)
  · exact F.r 39 2 (by decide +kernel) (by omega) (by omega)
  · exact F.r 43 8 (by decide +kernel) (by omega) (by omega)
  · exact F.r 53 15 (by decide +kernel) (by omega) (by omega)
  · exact F.r 88 17 (by decide +kernel) (by omega) (by omega)
  · exact F.r 118 1 (by decide +kernel) (by omega) (by omega)
theorem ri_root {x1 x2 : Int} (δ : gM) (e : md_root τ x1 x2 = some (T, r)) : md_root (gO δ τ) x1 x2 = some (gO δ T, r) := ov_inl (δ := δ) ri_md_root (md_root_l τ x1 x2) (md_root_l (gO δ τ) x1 x2) e
theorem f0_root {x1 x2 : Int} (e : gt_root σ x1 x2 = some (S, r)) : S 87 23 = σ 87 23 := (fr_inl fm_gt_root (gt_root_l σ x1 x2) e).f 87 23 1 (by decide +kernel) (by decide) (by decide)
theorem cf_node {x1 x2 x3 : Int} (e : gt_node σ x1 x2 x3 = some (S, r)) : cFt σ S := by
  have F := fr_inl fm_gt_node (gt_node_l σ x1 x2 x3) e
  exact ⟨fun a h1 h2 => F.r 121 106 (by decide +kernel) (by omega) (by omega), fun i h1 h2 => F.f 119 0 156 (by decide +kernel) (by omega) (by omega), F.r 39 1 (by decide +kernel) (by decide) (by decide), b8_inl bm_gt_node (gt_node_l σ x1 x2 x3) e⟩
theorem mf_node {x1 x2 x3 : Int} (e : md_node τ x1 x2 x3 = some (T, r)) : mFt τ T := by
  have F := fr_inl fm_md_node (md_node_l τ x1 x2 x3) e
  refine ⟨fun a q => ?_, ⟨fun i h1 h2 => F.f 0 0 14 (by decide +kernel) h1 h2, fun i h1 h2 => F.f 8 0 42 (by decide +kernel) h1 h2, fun i h1 h2 => F.f 42 0 12 (by decide +kernel) h1 h2, fun i h1 h2 => F.f 52 0 20 (by decide +kernel) h1 h2, fun i h1 h2 => F.f 87 0 47 (by decide +kernel) h1 h2, fun i h1 h2 => F.f 117 7 3 (by decide +kernel) (by omega) (by omega)⟩, b8_inl bm_md_node (md_node_l τ x1 x2 x3) e⟩
  rcases q with q | q | q | q | q | q | q
  · exact F.r 1 7 (by decide +kernel) (by omega) (by omega)
  · exact F.r 9 27 (by decide +kernel) (by omega) (by omega)
  · exact F.r 39 2 (by decide +kernel) (by omega) (by omega)
  · exact F.r 43 8 (by decide +kernel) (by omega) (by omega)
  · exact F.r 53 15 (by decide +kernel) (by omega) (by omega)
  · exact F.r 88 17 (by decide +kernel) (by omega) (by omega)
  · exact F.r 118 1 (by decide +kernel) (by omega) (by omega)
theorem ri_node {x1 x2 x3 : Int} (δ : gM) (e : md_node τ x1 x2 x3 = some (T, r)) : md_node (gO δ τ) x1 x2 x3 = some (gO δ T, r) := ov_inl (δ := δ) ri_md_node (md_node_l τ x1 x2 x3) (md_node_l (gO δ τ) x1 x2 x3) e
theorem f0_node {x1 x2 x3 : Int} (e : gt_node σ x1 x2 x3 = some (S, r)) : S 87 23 = σ 87 23 := (fr_inl fm_gt_node (gt_node_l σ x1 x2 x3) e).f 87 23 1 (by decide +kernel) (by decide) (by decide)
theorem cf_shape {x1 x2 : Int} (e : gt_shape σ x1 x2 = some (S, r)) : cFt σ S := by
  have F := fr_inl fm_gt_shape (gt_shape_l σ x1 x2) e
  exact ⟨fun a h1 h2 => F.r 121 106 (by decide +kernel) (by omega) (by omega), fun i h1 h2 => F.f 119 0 156 (by decide +kernel) (by omega) (by omega), F.r 39 1 (by decide +kernel) (by decide) (by decide), b8_inl bm_gt_shape (gt_shape_l σ x1 x2) e⟩
theorem mf_shape {x1 x2 : Int} (e : md_shape τ x1 x2 = some (T, r)) : mFt τ T := by
  have F := fr_inl fm_md_shape (md_shape_l τ x1 x2) e
  refine ⟨fun a q => ?_, ⟨fun i h1 h2 => F.f 0 0 14 (by decide +kernel) h1 h2, fun i h1 h2 => F.f 8 0 42 (by decide +kernel) h1 h2, fun i h1 h2 => F.f 42 0 12 (by decide +kernel) h1 h2, fun i h1 h2 => F.f 52 0 20 (by decide +kernel) h1 h2, fun i h1 h2 => F.f 87 0 47 (by decide +kernel) h1 h2, fun i h1 h2 => F.f 117 7 3 (by decide +kernel) (by omega) (by omega)⟩, b8_inl bm_md_shape (md_shape_l τ x1 x2) e⟩
  rcases q with q | q | q | q | q | q | q
  · exact F.r 1 7 (by decide +kernel) (by omega) (by omega)
  · exact F.r 9 27 (by decide +kernel) (by omega) (by omega)
  · exact F.r 39 2 (by decide +kernel) (by omega) (by omega)
  · exact F.r 43 8 (by decide +kernel) (by omega) (by omega)
  · exact F.r 53 15 (by decide +kernel) (by omega) (by omega)
  · exact F.r 88 17 (by decide +kernel) (by omega) (by omega)
  · exact F.r 118 1 (by decide +kernel) (by omega) (by omega)
theorem ri_shape {x1 x2 : Int} (δ : gM) (e : md_shape τ x1 x2 = some (T, r)) : md_shape (gO δ τ) x1 x2 = some (gO δ T, r) := ov_inl (δ := δ) ri_md_shape (md_shape_l τ x1 x2) (md_shape_l (gO δ τ) x1 x2) e
theorem f0_shape {x1 x2 : Int} (e : gt_shape σ x1 x2 = some (S, r)) : S 87 23 = σ 87 23 := (fr_inl fm_gt_shape (gt_shape_l σ x1 x2) e).f 87 23 1 (by decide +kernel) (by decide) (by decide)
theorem cf_code {x1 x2 : Int} (e : gt_code σ x1 x2 = some (S, r)) : cFt σ S := by
  have F := fr_inl fm_gt_code (gt_code_l σ x1 x2) e
  exact ⟨fun a h1 h2 => F.r 121 106 (by decide +kernel) (by omega) (by omega), fun i h1 h2 => F.f 119 0 156 (by decide +kernel) (by omega) (by omega), F.r 39 1 (by decide +kernel) (by decide) (by decide), b8_inl bm_gt_code (gt_code_l σ x1 x2) e⟩
theorem mf_code {x1 x2 : Int} (e : md_code τ x1 x2 = some (T, r)) : mFt τ T := by
  have F := fr_inl fm_md_code (md_code_l τ x1 x2) e
  refine ⟨fun a q => ?_, ⟨fun i h1 h2 => F.f 0 0 14 (by decide +kernel) h1 h2, fun i h1 h2 => F.f 8 0 42 (by decide +kernel) h1 h2, fun i h1 h2 => F.f 42 0 12 (by decide +kernel) h1 h2, fun i h1 h2 => F.f 52 0 20 (by decide +kernel) h1 h2, fun i h1 h2 => F.f 87 0 47 (by decide +kernel) h1 h2, fun i h1 h2 => F.f 117 7 3 (by decide +kernel) (by omega) (by omega)⟩, b8_inl bm_md_code (md_code_l τ x1 x2) e⟩
  rcases q with q | q | q | q | q | q | q
  · exact F.r 1 7 (by decide +kernel) (by omega) (by omega)
  · exact F.r 9 27 (by decide +kernel) (by omega) (by omega)
  · exact F.r 39 2 (by decide +kernel) (by omega) (by omega)
  · exact F.r 43 8 (by decide +kernel) (by omega) (by omega)
  · exact F.r 53 15 (by decide +kernel) (by omega) (by omega)
  · exact F.r 88 17 (by decide +kernel) (by omega) (by omega)
  · exact F.r 118 1 (by decide +kernel) (by omega) (by omega)
theorem ri_code {x1 x2 : Int} (δ : gM) (e : md_code τ x1 x2 = some (T, r)) : md_code (gO δ τ) x1 x2 = some (gO δ T, r) := ov_inl (δ := δ) ri_md_code (md_code_l τ x1 x2) (md_code_l (gO δ τ) x1 x2) e
theorem f0_code {x1 x2 : Int} (e : gt_code σ x1 x2 = some (S, r)) : S 87 23 = σ 87 23 := (fr_inl fm_gt_code (gt_code_l σ x1 x2) e).f 87 23 1 (by decide +kernel) (by decide) (by decide)
theorem cf_frame {x1 x2 : Int} (e : gt_frame σ x1 x2 = some (S, r)) : cFt σ S := by
  have F := fr_inl fm_gt_frame (gt_frame_l σ x1 x2) e
  exact ⟨fun a h1 h2 => F.r 121 106 (by decide +kernel) (by omega) (by omega), fun i h1 h2 => F.f 119 0 156 (by decide +kernel) (by omega) (by omega), F.r 39 1 (by decide +kernel) (by decide) (by decide), b8_inl bm_gt_frame (gt_frame_l σ x1 x2) e⟩
theorem mf_frame {x1 x2 : Int} (e : md_frame τ x1 x2 = some (T, r)) : mFt τ T := by
  have F := fr_inl fm_md_frame (md_frame_l τ x1 x2) e
  refine ⟨fun a q => ?_, ⟨fun i h1 h2 => F.f 0 0 14 (by decide +kernel) h1 h2, fun i h1 h2 => F.f 8 0 42 (by decide +kernel) h1 h2, fun i h1 h2 => F.f 42 0 12 (by decide +kernel) h1 h2, fun i h1 h2 => F.f 52 0 20 (by decide +kernel) h1 h2, fun i h1 h2 => F.f 87 0 47 (by decide +kernel) h1 h2, fun i h1 h2 => F.f 117 7 3 (by decide +kernel) (by omega) (by omega)⟩, b8_inl bm_md_frame (md_frame_l τ x1 x2) e⟩
  rcases q with q | q | q | q | q | q | q
  · exact F.r 1 7 (by decide +kernel) (by omega) (by omega)
  · exact F.r 9 27 (by decide +kernel) (by omega) (by omega)
  · exact F.r 39 2 (by decide +kernel) (by omega) (by omega)
  · exact F.r 43 8 (by decide +kernel) (by omega) (by omega)
  · exact F.r 53 15 (by decide +kernel) (by omega) (by omega)
  · exact F.r 88 17 (by decide +kernel) (by omega) (by omega)
  · exact F.r 118 1 (by decide +kernel) (by omega) (by omega)
theorem ri_frame {x1 x2 : Int} (δ : gM) (e : md_frame τ x1 x2 = some (T, r)) : md_frame (gO δ τ) x1 x2 = some (gO δ T, r) := ov_inl (δ := δ) ri_md_frame (md_frame_l τ x1 x2) (md_frame_l (gO δ τ) x1 x2) e
theorem f0_frame {x1 x2 : Int} (e : gt_frame σ x1 x2 = some (S, r)) : S 87 23 = σ 87 23 := (fr_inl fm_gt_frame (gt_frame_l σ x1 x2) e).f 87 23 1 (by decide +kernel) (by decide) (by decide)
theorem cf_total {x1 : Int} (e : gt_total σ x1 = some (S, r)) : cFt σ S := by
  have F := fr_inl fm_gt_total (gt_total_l σ x1) e
  exact ⟨fun a h1 h2 => F.r 121 106 (by decide +kernel) (by omega) (by omega), fun i h1 h2 => F.f 119 0 156 (by decide +kernel) (by omega) (by omega), F.r 39 1 (by decide +kernel) (by decide) (by decide), b8_inl bm_gt_total (gt_total_l σ x1) e⟩
theorem mf_total {x1 : Int} (e : md_total τ x1 = some (T, r)) : mFt τ T := by
  have F := fr_inl fm_md_total (md_total_l τ x1) e
  refine ⟨fun a q => ?_, ⟨fun i h1 h2 => F.f 0 0 14 (by decide +kernel) h1 h2, fun i h1 h2 => F.f 8 0 42 (by decide +kernel) h1 h2, fun i h1 h2 => F.f 42 0 12 (by decide +kernel) h1 h2, fun i h1 h2 => F.f 52 0 20 (by decide +kernel) h1 h2, fun i h1 h2 => F.f 87 0 47 (by decide +kernel) h1 h2, fun i h1 h2 => F.f 117 7 3 (by decide +kernel) (by omega) (by omega)⟩, b8_inl bm_md_total (md_total_l τ x1) e⟩
  rcases q with q | q | q | q | q | q | q
  · exact F.r 1 7 (by decide +kernel) (by omega) (by omega)
  · exact F.r 9 27 (by decide +kernel) (by omega) (by omega)
  · exact F.r 39 2 (by decide +kernel) (by omega) (by omega)
  · exact F.r 43 8 (by decide +kernel) (by omega) (by omega)
  · exact F.r 53 15 (by decide +kernel) (by omega) (by omega)
  · exact F.r 88 17 (by decide +kernel) (by omega) (by omega)
  · exact F.r 118 1 (by decide +kernel) (by omega) (by omega)
theorem ri_total {x1 : Int} (δ : gM) (e : md_total τ x1 = some (T, r)) : md_total (gO δ τ) x1 = some (gO δ T, r) := ov_inl (δ := δ) ri_md_total (md_total_l τ x1) (md_total_l (gO δ τ) x1) e
theorem f0_total {x1 : Int} (e : gt_total σ x1 = some (S, r)) : S 87 23 = σ 87 23 := (fr_inl fm_gt_total (gt_total_l σ x1) e).f 87 23 1 (by decide +kernel) (by decide) (by decide)
end FT
section STP
variable {M : gM}
theorem st_feed {x1 x2 x3 x4 x5 : Int} (R : RL M) : ∃ M1 r M2, gt_feed M x1 x2 x3 x4 x5 = some (M1, r) ∧ md_feed M1 x1 x2 x3 x4 x5 = some (M2, r) ∧ RL M2 :=
  law_g (f := fun σ => gt_feed σ x1 x2 x3 x4 x5) (g := fun τ => md_feed τ x1 x2 x3 x4 x5) (fun σ τ R _ => feed_pair R) (fun _ _ _ e => cf_feed e) (fun _ _ _ e => mf_feed e) (fun δ _ _ _ e => ri_feed δ e) (fun _ _ _ e => f0_feed e) R
theorem st_fault {x1 : Int} (R : RL M) : ∃ M1 r M2, gt_fault M x1 = some (M1, r) ∧ md_fault M1 x1 = some (M2, r) ∧ RL M2 :=
  law_g (f := fun σ => gt_fault σ x1) (g := fun τ => md_fault τ x1) (fun σ τ R _ => by
    obtain ⟨r, e1, e2⟩ := obs_fault (x := x1) R
    exact ⟨σ, τ, r, e1, e2, R⟩) (fun _ _ _ e => cf_fault e) (fun _ _ _ e => mf_fault e) (fun δ _ _ _ e => ri_fault δ e) (fun _ _ _ e => f0_fault e) R
theorem st_state (R : RL M) : ∃ M1 r M2, gt_state M = some (M1, r) ∧ md_state M1 = some (M2, r) ∧ RL M2 :=
  law_g (f := fun σ => gt_state σ) (g := fun τ => md_state τ) (fun σ τ R _ => ⟨σ, τ, _, (obs_state R).1, (obs_state R).2, R⟩) (fun _ _ _ e => cf_state e) (fun _ _ _ e => mf_state e) (fun δ _ _ _ e => ri_state δ e) (fun _ _ _ e => f0_state e) R
theorem st_error {x1 : Int} (R : RL M) : ∃ M1 r M2, gt_error M x1 = some (M1, r) ∧ md_error_2 M1 x1 = some (M2, r) ∧ RL M2 :=
  law_g (f := fun σ => gt_error σ x1) (g := fun τ => md_error_2 τ x1) (fun σ τ R _ => by
    obtain ⟨r, e1, e2⟩ := obs_error (x := x1) R
    exact ⟨σ, τ, r, e1, e2, R⟩) (fun _ _ _ e => cf_error e) (fun _ _ _ e => mf_error e) (fun δ _ _ _ e => ri_error δ e) (fun _ _ _ e => f0_error e) R
theorem st_result {x1 : Int} (R : RL M) : ∃ M1 r M2, gt_result M x1 = some (M1, r) ∧ md_result M1 x1 = some (M2, r) ∧ RL M2 :=
  law_g (f := fun σ => gt_result σ x1) (g := fun τ => md_result τ x1) (fun σ τ R _ => by
    obtain ⟨T, r, e1, e2, e3⟩ := obs_result (x := x1) R
    exact ⟨σ, T, r, e1, e2, e3⟩) (fun _ _ _ e => cf_result e) (fun _ _ _ e => mf_result e) (fun δ _ _ _ e => ri_result δ e) (fun _ _ _ e => f0_result e) R
theorem st_out {x1 : Int} (R : RL M) : ∃ M1 r M2, gt_out M x1 = some (M1, r) ∧ md_out M1 x1 = some (M2, r) ∧ RL M2 :=
  law_g (f := fun σ => gt_out σ x1) (g := fun τ => md_out τ x1) (fun σ τ R _ => by
    obtain ⟨r, e1, e2⟩ := obs_out (x := x1) R R.o34
    exact ⟨σ, τ, r, e1, e2, R⟩) (fun _ _ _ e => cf_out e) (fun _ _ _ e => mf_out e) (fun δ _ _ _ e => ri_out δ e) (fun _ _ _ e => f0_out e) R
theorem st_compile (R : RL M) : ∃ M1 r M2, gt_compile M = some (M1, r) ∧ md_compile M1 = some (M2, r) ∧ RL M2 :=
  law_g (f := fun σ => gt_compile σ) (g := fun τ => md_compile τ) (fun σ τ R _ => compile_pair R) (fun _ _ _ e => cf_compile e) (fun _ _ _ e => mf_compile e) (fun δ _ _ _ e => ri_compile δ e) (fun _ _ _ e => f0_compile e) R
theorem st_root {x1 x2 : Int} (R : RL M) (h2 : i32 x2) : ∃ M1 r M2, gt_root M x1 x2 = some (M1, r) ∧ md_root M1 x1 x2 = some (M2, r) ∧ RL M2 :=
  law_g (f := fun σ => gt_root σ x1 x2) (g := fun τ => md_root τ x1 x2) (fun σ τ R _ => by
    obtain ⟨r, e1, e2⟩ := obs_root (x := x1) (y := x2) R R.gv h2
    exact ⟨σ, τ, r, e1, e2, R⟩) (fun _ _ _ e => cf_root e) (fun _ _ _ e => mf_root e) (fun δ _ _ _ e => ri_root δ e) (fun _ _ _ e => f0_root e) R
theorem st_node {x1 x2 x3 : Int} (R : RL M) (h3 : i32 x3) : ∃ M1 r M2, gt_node M x1 x2 x3 = some (M1, r) ∧ md_node M1 x1 x2 x3 = some (M2, r) ∧ RL M2 :=
  law_g (f := fun σ => gt_node σ x1 x2 x3) (g := fun τ => md_node τ x1 x2 x3) (fun σ τ R _ => by
    obtain ⟨r, e1, e2⟩ := obs_node (x := x1) (y := x2) (z := x3) R R.gv h3
    exact ⟨σ, τ, r, e1, e2, R⟩) (fun _ _ _ e => cf_node e) (fun _ _ _ e => mf_node e) (fun δ _ _ _ e => ri_node δ e) (fun _ _ _ e => f0_node e) R
theorem st_shape {x1 x2 : Int} (R : RL M) (h2 : i32 x2) : ∃ M1 r M2, gt_shape M x1 x2 = some (M1, r) ∧ md_shape M1 x1 x2 = some (M2, r) ∧ RL M2 :=
  law_g (f := fun σ => gt_shape σ x1 x2) (g := fun τ => md_shape τ x1 x2) (fun σ τ R _ => by
    obtain ⟨r, e1, e2⟩ := obs_shape (x := x1) (y := x2) R R.gv h2.2
    exact ⟨σ, τ, r, e1, e2, R⟩) (fun _ _ _ e => cf_shape e) (fun _ _ _ e => mf_shape e) (fun δ _ _ _ e => ri_shape δ e) (fun _ _ _ e => f0_shape e) R
theorem st_code {x1 x2 : Int} (R : RL M) (h2 : i32 x2) : ∃ M1 r M2, gt_code M x1 x2 = some (M1, r) ∧ md_code M1 x1 x2 = some (M2, r) ∧ RL M2 :=
  law_g (f := fun σ => gt_code σ x1 x2) (g := fun τ => md_code τ x1 x2) (fun σ τ R _ => by
    obtain ⟨r, e1, e2⟩ := obs_code (x := x1) (y := x2) R h2.2
    exact ⟨σ, τ, r, e1, e2, R⟩) (fun _ _ _ e => cf_code e) (fun _ _ _ e => mf_code e) (fun δ _ _ _ e => ri_code δ e) (fun _ _ _ e => f0_code e) R
theorem st_frame {x1 x2 : Int} (R : RL M) (h2 : i32 x2) : ∃ M1 r M2, gt_frame M x1 x2 = some (M1, r) ∧ md_frame M1 x1 x2 = some (M2, r) ∧ RL M2 :=
  law_g (f := fun σ => gt_frame σ x1 x2) (g := fun τ => md_frame τ x1 x2) (fun σ τ R _ => by
    obtain ⟨r, e1, e2⟩ := obs_frame (x := x1) (y := x2) R h2.2
    exact ⟨σ, τ, r, e1, e2, R⟩) (fun _ _ _ e => cf_frame e) (fun _ _ _ e => mf_frame e) (fun δ _ _ _ e => ri_frame δ e) (fun _ _ _ e => f0_frame e) R
theorem st_total {x1 : Int} (R : RL M) : ∃ M1 r M2, gt_total M x1 = some (M1, r) ∧ md_total M1 x1 = some (M2, r) ∧ RL M2 :=
  law_g (f := fun σ => gt_total σ x1) (g := fun τ => md_total τ x1) (fun σ τ R _ => by
    obtain ⟨r, e1, e2⟩ := obs_total (x := x1) R
    exact ⟨σ, τ, r, e1, e2, R⟩) (fun _ _ _ e => cf_total e) (fun _ _ _ e => mf_total e) (fun δ _ _ _ e => ri_total δ e) (fun _ _ _ e => f0_total e) R
theorem st_run {x1 : Int} (R : RL M) : ∃ M1 r M2, gt_run M x1 = some (M1, r) ∧ md_run M1 x1 = some (M2, r) ∧ RL M2 := by
  have R' := R
  obtain ⟨b, h39, R | ⟨q0, τ', ag, R⟩⟩ := R
  · exact law_1 (f := fun σ => gt_run σ x1) (g := fun τ => md_run τ x1) (fun σ τ R _ => run_pair R) (fun _ _ _ e => cf_run e) (fun _ _ _ e => mf_run e) b h39 R
  · have t117 : M 119 117 = 0 := by
      have := R.st.1
      rw [ag.f (by decide) (by decide) (by decide) (by decide) (by decide), q0] at this
      exact this
    refine ⟨M, 0, M, ?_, by rw [md_run_e, if_neg (by omega)], R'⟩
    rw [gt_run_e]
    by_cases z : x1 < 1
    · rw [if_pos z]
    · rw [if_neg z, mc_go_e, mc_go_b2_e, if_neg (by omega)]
      rfl
theorem st_load {x1 : Int} (R : RL M) : ∃ M1 r M2, gt_load M x1 = some (M1, r) ∧ md_load M1 x1 = some (M2, r) ∧ RL M2 := by
  have R0 := R
  obtain ⟨b, h39, R⟩ := R
  obtain ⟨τ', ag, R⟩ : ∃ τ', agO M τ' ∧ RW M τ' := by
    rcases R with R | ⟨-, τ', ag, R⟩
    · exact ⟨M, fun _ _ _ => rfl, R⟩
    · exact ⟨τ', ag, R⟩
  obtain ⟨M1, -, -, r, e1, -⟩ := load_pair (x := x1) R (ag.b8 b) h39
  have F := cf_load e1
  have b1 := F.b8 b
  obtain ⟨R1, ag1⟩ := law_m F b1 ag R
  obtain ⟨S, T, T', r', e2, e3, ag2, R2, hT⟩ := load_pair (x := x1) R1 (ag1.b8 b1) h39
  rw [e1] at e2
  have eS : M1 = S := congrArg Prod.fst (Option.some.inj e2)
  have er : r = r' := congrArg Prod.snd (Option.some.inj e2)
  subst eS er
  have e4 := ov_inl (δ := M1) ri_md_load (md_load_l (gO τ' M1) x1) (md_load_l (gO M1 (gO τ' M1)) x1) e3
  rw [ag1.e] at e4
  rcases hT with hT | ⟨h1, h2, h3⟩
  · have G := mf_load e3
    obtain ⟨w1, w2, w3, w4, w5⟩ := law_e2 G ag1 (G.2.2 (ag1.b8 b1)) ag2 R2
    exact ⟨M1, r, gO M1 T, e1, e4, w3, fun k q1 q2 => by rw [w4, F.2.2.1]; exact h39 k q1 q2, Or.inr ⟨by rw [w5, hT], T', w2, w1⟩⟩
  · rw [h3, ag1.e] at e4
    exact ⟨M1, r, M1, e1, e4, by rw [h1]; exact R0⟩
theorem st_start {x1 x2 : Int} (R : RL M) (h1 : i64 x1) (h2 : i64 x2) : ∃ M1 r M2, gt_start M x1 x2 = some (M1, r) ∧ md_start M1 x1 x2 = some (M2, r) ∧ RL M2 := by
  obtain ⟨b, h39, R⟩ := R
  obtain ⟨τ', ag, R, hd⟩ : ∃ τ', agO M τ' ∧ RW M τ' ∧ (M 87 23 = 0 ∨ τ' = M) := by
    rcases R with R | ⟨q, τ', ag, R⟩
    · exact ⟨M, fun _ _ _ => rfl, R, Or.inr rfl⟩
    · exact ⟨τ', ag, R, Or.inl q⟩
  obtain ⟨M1, -, r, e1, -⟩ := start_pair2 R ag (ag.b8 b 225 (by decide +kernel) (by decide)) h1 h2
  have F := cf_start e1
  have b1 := F.b8 b
  obtain ⟨R1, ag1⟩ := law_m F b1 ag R
  obtain ⟨S, T, r', e2, e3, hR⟩ := start_pair2 R1 ag1 (ag1.b8 b1 225 (by decide +kernel) (by decide)) h1 h2
  rw [e1] at e2
  have eS : M1 = S := congrArg Prod.fst (Option.some.inj e2)
  have er : r = r' := congrArg Prod.snd (Option.some.inj e2)
  subst eS er
  have G := mf_start e3
  have b2 := G.2.2 b1
  have k39 : ∀ k, 0 ≤ k → k < 7 → T 39 k = kX k := fun k q1 q2 => by rw [G.1 39 (by decide), F.2.2.1]; exact h39 k q1 q2
  have lt : ∀ X : gM, gb8 227 X → lwT X X := fun X hb => ⟨fun _ _ => rfl, fun _ _ => rfl, hb 134 (by decide +kernel) (by decide)⟩
  have mv : ∀ X : gM, gb8 227 X → RW M1 X → RW T X := fun X hb RX => RX.lw (RX.1.mv (fun i q1 q2 => G.2.1.2.2.2.2.2 i q1 q2) (G.1 118 (by decide)) (fun _ _ _ => rfl) rfl) b2.lo G.lw (lt X hb)
  refine ⟨M1, r, T, e1, e3, b2, k39, ?_⟩
  rcases hR with hR | ⟨hS, T', ag2, R2, hT⟩
  · exact Or.inl (mv T b2 hR)
  · have R3 := mv T' (ag2.b8 b2) R2
    rcases hd with q | q
    · exact Or.inr ⟨by rw [G.2.1.2.2.2.2.1 23 (by decide) (by decide), hS, q], T', ag2, R3⟩
    · subst q
      have e : gO τ' M1 = M1 := by
        rw [hS]
        funext a k
        unfold gO
        split <;> rfl
      rw [hT e] at R3
      exact Or.inl R3
end STP
