/-! rows of statements -/
/-- twice how deep statements may go; odd within a while -/
def sDp (σ : gM) : Int := 2 * (20 - σ 68 21) + if 0 < σ 68 22 then 1 else 0
theorem sDp_0 {σ τ : gM} {z : Int} (G : pG z σ τ) : 0 ≤ sDp σ := by
  have := G.2.2.2.2.2.2.1
  unfold sDp
  split <;> omega
/-- a statement was read -/
def SD (σ τ S T : gM) : Prop := pG 0 S T ∧ kE (σ 68 10) (nd σ (σ 68 10)) σ S τ T ∧ PX S T 3 (σ 68 10) (S 68 10) (σ 68 10) (sDp σ) ∧ NB S T 0 (σ 68 19 - 1) (σ 68 10) (S 68 10) ∧ (S 68 21 = σ 68 21 ∧ S 68 22 = σ 68 22) ∧ (S 75 (σ 68 10) = -1 ∧ T 141 (ps S (σ 68 10)) = -1) ∧ σ 69 5 < S 69 5
def SR (σ τ : gM) (X : Option (gM × Int)) (Y : Option (gM × Option Int)) : Prop := (∃ S T, X = some (S, σ 68 10) ∧ Y = some (T, some (ps S (σ 68 10))) ∧ SD σ τ S T) ∨ (∃ S T s, X = some (S, s) ∧ Y = some (T, none) ∧ bd 4100 S T ∧ (0 ≤ s ∧ s < 4200))
/-- a block was read -/
def BD (σ τ S T : gM) (r : Int) : Prop := pG 0 S T ∧ kE (σ 68 10) (nd σ (σ 68 10)) σ S τ T ∧ PX S T 2 (σ 68 10) (S 68 10) r (sDp σ - 2) ∧ NB S T 0 (σ 68 19 - 1) (σ 68 10) (S 68 10) ∧ (S 68 21 = σ 68 21 ∧ S 68 22 = σ 68 22) ∧ σ 69 5 < S 69 5
def BR (σ τ : gM) (X : Option (gM × Int)) (Y : Option (gM × Option Int)) : Prop := (∃ S T r, X = some (S, r) ∧ Y = some (T, some (ph S r)) ∧ BD σ τ S T r) ∨ (∃ S T r, X = some (S, r) ∧ Y = some (T, none) ∧ bd 4100 S T)
/-- statements were read, from one on; x is the one ahead of them, h the first -/
def LG (σ τ S T : gM) (x h : Int) : Prop := pG 0 S T ∧ (S 68 21 = σ 68 21 - 1 ∧ S 68 22 = σ 68 22) ∧ kE 0 0 σ S τ T ∧ (∀ e i, 70 ≤ e → e ≤ 78 → i < σ 68 10 → ¬ (0 ≤ x ∧ e = 75 ∧ i = x) → S e i = σ e i) ∧ (∀ e j, 135 ≤ e → e ≤ 145 → j < τ 119 43 → ¬ (0 ≤ x ∧ e = 141 ∧ j = ps σ x) → T e j = τ e j) ∧
  PX S T 2 (σ 68 10) (S 68 10) h (sDp σ) ∧ (0 ≤ x → h = S 75 x ∧ T 141 (ps σ x) = ph S h) ∧ NB S T 0 (σ 68 19 - 1) (σ 68 10) (S 68 10) ∧ σ 69 5 < S 69 5
def LI (σ τ : gM) (x1 x2 : Int) : Prop := (x1 = -1 ∧ x2 = -1) ∨ ((0 ≤ x1 ∧ x1 < σ 68 10) ∧ (0 ≤ x2 ∧ x2 < σ 68 10) ∧ σ 75 x2 = -1 ∧ τ 141 (ps σ x2) = -1 ∧ (0 ≤ ps σ x2 ∧ ps σ x2 < τ 119 43) ∧ (σ 70 x2 = 30 → 0 ≤ σ 72 x2 ∧ σ 72 x2 < σ 68 10) ∧ (σ 70 x1 = 30 → 0 ≤ σ 72 x1 ∧ σ 72 x1 < σ 68 10))
def LR (σ τ : gM) (x1 x2 y1 : Int) (X : Option (gM × Int)) (Y : Option (gM × Option Int)) : Prop := (∃ S T h, X = some (S, if x2 < 0 then h else x1) ∧ Y = some (T, some (if x2 < 0 then ph S h else y1)) ∧ LG σ τ S T x2 h) ∨ (∃ S T r, X = some (S, r) ∧ Y = some (T, none) ∧ bd 4100 S T)
section BL
variable {σ τ S T : gM} {d : Nat} {x1 x2 y1 : Int}
theorem ps_kind {X : gM} {s c : Int} (h : PX σ τ 3 s (σ 68 10) s c) : (0 ≤ s ∧ s < σ 68 10) ∧ nd σ s ≤ ps σ s ∧ ps σ s < nd σ (σ 68 10) ∧ (σ 70 s = 30 → 0 ≤ σ 72 s ∧ σ 72 s < σ 68 10) := by
  obtain ⟨d, h⟩ := h
  have a := (PT_ab _ _ _ _ _ _ h).2.1 (Or.inr (by omega))
  have b := PT3_ps h
  exact ⟨by omega, b.1, b.2.1, fun w => by have := b.2.2 w; omega⟩
/-- no more of them -/
theorem block_end (G : pG 0 σ τ) (I : LI σ τ x1 x2) (ho : 1 ≤ σ 68 21) : LR σ τ x1 x2 y1 (ps_block_b55 d σ x1) ((md_pass τ 33).bind fun p1 => gtry p1.2 (fun _ => some (p1.1, some (if x2 < 0 then -1 else y1))) (some (p1.1, none))) := by
  have hmm := G.2.2.2.1
  have kp := G.2.1.1
  unfold tKp at kp
  have hl := G.1.2.1
  rw [ps_block_b55_e]
  rcases ps_closes_s (c := 125) (t := 33) G (by omega) ho with ⟨S, T, y1', y2, G1, F, p1, o2⟩ | ⟨S, T, y1', y2, b⟩
  · left
    rw [y1', y2]
    simp only [Option.bind_some, gtry]
    have f1 : ∀ a i, a ≠ 69 → a ≠ 68 → S a i = σ a i := fun a i w1 w2 => by rw [F.1 a w1, gW_c w2]
    have f2 : ∀ a i, a ≠ 119 → T a i = τ a i := fun a i w1 => by rw [F.2.2.1 a w1, gW_c w1]
    have kq : kE 0 0 σ S τ T := ((kE.rf.o (i := 21) (v := σ 68 21 - 1) (by decide)).u (i := 28) (v := σ 68 21 - 1) (by decide)).tr (kE.rd F (by rw [gW_c (by decide)]; omega)) (Int.le_refl _) (Int.le_refl _)
    have c10 : S 68 10 = σ 68 10 := by rw [F.1 68 (by decide), gW_i (by decide)]
    refine ⟨S, T, -1, ?_, rfl, G1.le (by decide), ⟨o2, by rw [F.1 68 (by decide), gW_i (by decide)]⟩, kq, fun e i e0 e1 i1 _ => f1 e i (by omega) (by omega), fun e j e0 e1 j1 _ => f2 e j (by omega), ?_, fun hx => ?_, ?_, by omega⟩
    · rcases I with ⟨h1, h2⟩ | ⟨h1, h2, -⟩
      · rw [if_pos (by omega), h1]
      · rw [if_neg (by omega)]
    · rw [c10]; exact ⟨1, Or.inl ⟨rfl, rfl⟩⟩
    · rcases I with ⟨h1, h2⟩ | ⟨h1, h2, h3, h4, -⟩
      · omega
      · refine ⟨by rw [f1 75 _ (by decide) (by decide), h3], ?_⟩
        rw [f2 141 _ (by decide), h4]; rfl
    · rw [c10]; exact NB.nil
  · right
    rw [y1', y2]
    exact ⟨S, T, x1, rfl, rfl, b.le (by omega)⟩
/-- one statement more in front -/
theorem LG.step {S1 T1 S2 T2 : gM} {h : Int} (G : pG 0 σ τ) (I : LI σ τ x1 x2) (x : SD σ τ S1 T1) (hS2 : S2 = if x2 < 0 then S1 else gW S1 75 x2 (σ 68 10)) (hT2 : T2 = if x2 < 0 then T1 else gW T1 141 (ps σ x2) (ps S1 (σ 68 10))) (g : LG S2 T2 S T (σ 68 10) h) : LG σ τ S T x2 (σ 68 10) := by
  obtain ⟨G1, k1, p1, nb1, ⟨o1, u1⟩, ⟨e75, e141⟩, pl1⟩ := x
  obtain ⟨G4, ⟨o4, u4⟩, k4, fa, fb, px, lk, nb, pl4⟩ := g
  have pk := ps_kind (X := σ) p1
  have m0 := G.2.2.2.1.1
  have g43 := G.2.2.2.2.1
  have g43' := G1.2.2.2.2.1
  have c2 : ∀ e i, ¬ (0 ≤ x2 ∧ e = 75 ∧ i = x2) → S2 e i = S1 e i := fun e i q => by
    rw [hS2]
    by_cases z : x2 < 0
    · rw [if_pos z]
    · rw [if_neg z]; unfold gW; rw [if_neg (by omega)]
  have t2 : ∀ e i, ¬ (0 ≤ x2 ∧ e = 141 ∧ i = ps σ x2) → T2 e i = T1 e i := fun e i q => by
    rw [hT2]
    by_cases z : x2 < 0
    · rw [if_pos z]
    · rw [if_neg z]; unfold gW; rw [if_neg (by omega)]
  have nd2 : ∀ i, nd S2 i = nd S1 i := fun i => nd_congr fun j _ _ => by rw [c2 70 j (by omega)]
  have s10 : S2 68 10 = S1 68 10 := c2 68 10 (by omega)
  have sdp : sDp S2 = sDp σ := by
    unfold sDp
    rw [c2 68 21 (by omega), o1, c2 68 22 (by omega), u1]
  rw [sdp] at px
  have s19 : S2 68 19 = σ 68 19 := by rw [c2 68 19 (by omega), k1.2.2.1 19 (by decide)]
  have t43 : T2 119 43 = nd S1 (S1 68 10) := by rw [t2 119 43 (by omega), g43']
  have bnd : nd S1 (σ 68 10) = nd σ (σ 68 10) := k1.nd (Int.le_refl _)
  have pse : ps S2 (σ 68 10) = ps S1 (σ 68 10) := by
    unfold ps
    rw [c2 70 _ (by omega), c2 72 _ (by omega), nd2, nd2]
  rw [s10] at fa px nb
  rw [s19] at nb
  rw [t43, pse] at fb
  obtain ⟨lk1, lk2⟩ := lk m0
  rw [pse] at lk2
  have lim : x2 < σ 68 10 := by
    rcases I with ⟨_, h2⟩ | ⟨_, h2, -⟩ <;> omega
  have x141 : 0 ≤ x2 → ps σ x2 < nd S1 (σ 68 10) := fun hx => by
    rcases I with ⟨_, h2⟩ | ⟨_, _, _, _, h5, -⟩
    · omega
    · omega
  have ndS : ∀ i, 0 ≤ i → i ≤ S1 68 10 → nd S i = nd S1 i := fun i i0 i1 => by
    rw [← nd2]
    exact nd_congr fun j j0 j1 => by rw [fa 70 j (by decide) (by decide) (by omega) (by omega)]
  have mono := nd_r (σ := S1) (i := σ 68 10) (j := S1 68 10) m0 (by omega)
  have psS : ps S (σ 68 10) = ps S1 (σ 68 10) := by
    unfold ps
    rw [fa 70 _ (by decide) (by decide) pk.1.2 (by omega), fa 72 _ (by decide) (by decide) pk.1.2 (by omega), c2 70 _ (by omega), c2 72 _ (by omega), ndS _ m0 (by omega)]
    by_cases q : S1 70 (σ 68 10) = 30
    · have := pk.2.2.2 q
      rw [if_pos q, if_pos q, ndS _ (by omega) (by omega)]
    · rw [if_neg q, if_neg q]
  refine ⟨G4, ⟨by rw [o4, c2 68 21 (by omega), o1], by rw [u4, c2 68 22 (by omega), u1]⟩, ?_, fun e i e0 e1 i1 q => ?_, fun e j e0 e1 j1 q => ?_, ?_, fun hx => ?_, ?_, ?_⟩
  · have k12 : kE 0 0 σ S2 τ T2 := by
      have k1' := k1.le (M := 0) (N := 0) m0 (nd_pos m0).1
      rw [hS2, hT2]
      by_cases z : x2 < 0
      · rw [if_pos z, if_pos z]; exact k1'
      · rw [if_neg z, if_neg z]
        refine (k1'.w (by decide) (by omega)).v (by decide) ?_ (fun _ => ?_)
        · rcases I with ⟨_, h2⟩ | ⟨_, _, _, _, h5, -⟩
          · omega
          · exact h5.1
        · have z1 := nd_pos (σ := S1) (i := σ 68 10) m0
          have z2 := G1.1.2.1
          have z3 := G1.2.2.2.1
          have z4 := G1.2.1.1
          unfold tKp at z4
          unfold ps
          by_cases q : S1 70 (σ 68 10) = 30
          · rw [if_pos q]
            have z5 := pk.2.2.2 q
            have z6 := nd_pos (σ := S1) (i := S1 72 (σ 68 10)) (by omega)
            omega
          · rw [if_neg q]
            omega
    exact k12.tr k4 (Int.le_refl _) (Int.le_refl _)
  · rw [fa e i e0 e1 (by omega) (by omega), c2 e i q, k1.2.1 e i e0 e1 i1]
  · rw [g43] at j1
    have ne : j ≠ ps S1 (σ 68 10) := by omega
    rw [fb e j e0 e1 (by omega) (by omega), t2 e j q, k1.2.2.2.2.2.2.2.1 e j e0 e1 j1]
  · obtain ⟨d1, q1⟩ := p1
    have q1' : PT S T d1 3 (σ 68 10) (S1 68 10) (σ 68 10) (sDp σ) := by
      refine PT_fr d1 3 (σ 68 10) (S1 68 10) (σ 68 10) (sDp σ) m0 (fun i i0 i1 => ?_) (fun i i0 i1 i2 => ?_) ndS (fun i i0 i1 _ i3 => ?_) q1
      · have g : ∀ e, 70 ≤ e → e ≤ 78 → e ≠ 75 → S e i = S1 e i := fun e e0 e1 e2 => by rw [fa e i e0 e1 i1 (by omega), c2 e i (by omega)]
        exact ⟨Or.inl (g 70 (by decide) (by decide) (by decide)), g 72 (by decide) (by decide) (by decide), g 73 (by decide) (by decide) (by decide), g 74 (by decide) (by decide) (by decide), fun _ => g 76 (by decide) (by decide) (by decide)⟩
      · have := i2 (Or.inr (by omega))
        rw [fa 75 i (by decide) (by decide) i1 (by omega), c2 75 i (by omega)]
      · have := i3 (by omega)
        rw [fb 141 i (by decide) (by decide) i1 (by omega), t2 141 i (by omega)]
    obtain ⟨d, w1, w2⟩ := PX.two ⟨d1, q1'⟩ px
    refine ⟨d + 1, Or.inr ⟨m0, S1 68 10, w1, by rw [← lk1]; exact w2, ?_⟩⟩
    rw [psS, lk2, ← lk1]
  · have phs : ph S (σ 68 10) = ps S1 (σ 68 10) := by
      unfold ph
      rw [if_neg (by omega), psS]
    have z : ¬ x2 < 0 := by omega
    refine ⟨?_, ?_⟩
    · rw [fa 75 x2 (by decide) (by decide) (by omega) (by omega), hS2, if_neg z, gW_at]
    · rw [fb 141 _ (by decide) (by decide) (by have := x141 hx; omega) (by have := x141 hx; omega), hT2, if_neg z, gW_at, phs]
  · refine NB.cat (NB.fr nb1 m0 (fun e i e0 e1 e2 i0 i1 => by rw [fa e i e0 (by omega) i1 (by omega), c2 e i (by omega)]) ndS (fun e j e0 e1 e2 j0 j1 => by rw [fb e j e0 (by omega) j1 (by omega), t2 e j (by omega)]) ?_ ?_ (fun l p e w => ?_)) nb ?_
    · rw [k4.2.2.2.2.2.2.1 134 (by decide) (by decide) (by decide)]
      funext i
      exact t2 134 i (by omega)
    · rw [k4.2.2.2.1 2 (by decide), c2 69 2 (by omega)]
    · have w2 : isLoc S2 T2 (σ 68 19 - 1) l p e := by
        have k12 : kE 0 0 S1 S2 T1 T2 := by
          rw [hS2, hT2]
          by_cases z : x2 < 0
          · rw [if_pos z, if_pos z]; exact kE.rf
          · rw [if_neg z, if_neg z]
            refine (kE.rf.w (by decide) (by omega)).v (by decide) ?_ (fun _ => ?_)
            · rcases I with ⟨_, h2⟩ | ⟨_, _, _, _, h5, -⟩
              · omega
              · exact h5.1
            · have z1 := nd_pos (σ := S1) (i := σ 68 10) m0
              have z2 := G1.1.2.1
              have z3 := G1.2.2.2.1
              have z4 := G1.2.1.1
              unfold tKp at z4
              unfold ps
              by_cases q : S1 70 (σ 68 10) = 30
              · rw [if_pos q]
                have z5 := pk.2.2.2 q
                have z6 := nd_pos (σ := S1) (i := S1 72 (σ 68 10)) (by omega)
                omega
              · rw [if_neg q]
                omega
        exact w.kE k12 (by rw [k1.2.2.1 19 (by decide)])
      exact w2.kE k4 (by rw [s19])
    · have := k4.2.2.2.2.1
      omega
  · rw [c2 69 5 (by omega)] at pl4
    omega
theorem LG.psq {x h : Int} (g : LG σ τ S T x h) (x0 : 0 ≤ x) (xM : x < σ 68 10) (h72 : σ 70 x = 30 → 0 ≤ σ 72 x ∧ σ 72 x < σ 68 10) : ps S x = ps σ x := by
  obtain ⟨-, -, -, fa, -⟩ := g
  have ndS : ∀ i, i ≤ σ 68 10 → nd S i = nd σ i := fun i i1 => nd_congr fun j j0 j1 => by rw [fa 70 j (by decide) (by decide) (by omega) (by omega)]
  unfold ps
  rw [fa 70 x (by decide) (by decide) xM (by omega), fa 72 x (by decide) (by decide) xM (by omega), ndS x (by omega)]
  by_cases q : σ 70 x = 30
  · have := h72 q
    rw [if_pos q, if_pos q, ndS _ (by omega)]
  · rw [if_neg q, if_neg q]
/-- statements up to the block's end -/
theorem block_l (ihs : ∀ σ τ, pG 0 σ τ → 1 ≤ σ 68 21 → 2 * (21 - σ 68 21) ≤ d → SR σ τ (ps_statement d σ) (md_statement d τ)) : ∀ (mm : Nat) (σ τ : gM) (x1 x2 : Int), pG 0 σ τ → 1 ≤ σ 68 21 → 2 * (21 - σ 68 21) ≤ d → LI σ τ x1 x2 → σ 69 2 - σ 69 5 ≤ mm → LR σ τ x1 x2 (ph σ x1) (ps_block_b10 d σ x1 x2) (md_block_b10 d τ (ph σ x1) (ph σ x2))
  | mm, σ, τ, x1, x2, G, ho, hd, I, hm => by
    have kp := G.2.1.1
    unfold tKp at kp
    have hmm := G.2.2.2.1
    have hn := G.1.2.1
    have i := tk_is_s G.2.1.2 G.2.2.1 (c := 125) (t := 33) (by unfold sG; decide)
    rw [ps_block_b10_e, ps_good_g G.2.2.1, md_block_b10_e]
    simp only [Option.bind_some]
    rw [if_neg (by decide), i]
    simp only [Option.bind_some]
    by_cases c33 : τ 119 25 = 33
    · rw [if_pos c33, if_pos c33, if_neg (by decide)]
      have := block_end (d := d) (y1 := ph σ x1) G I ho
      have e : (if x2 < 0 then (-1 : Int) else ph σ x1) = ph σ x1 := by
        rcases I with ⟨h1, h2⟩ | ⟨h1, h2, -⟩
        · rw [if_pos (by omega), h1]; rfl
        · rw [if_neg (by omega)]
      rw [e] at this
      exact this
    · rw [if_neg c33, if_neg c33, if_pos (by trivial)]
      rcases ihs σ τ G ho hd with ⟨S1, T1, z1, z2, sd⟩ | ⟨S1, T1, s, z1, z2, b, hs⟩
      · rw [z1, z2]
        simp only [Option.bind_some, gtry]
        have pk := ps_kind (X := σ) sd.2.2.1
        obtain ⟨G1, k1, p1, nb1, ⟨o1, u1⟩, ⟨e75, e141⟩, pl1⟩ := sd
        have g43' := G1.2.2.2.2.1
        have kp1 := G1.2.1.1
        unfold tKp at kp1
        have hm1 := G1.2.2.2.1
        have hn1 := G1.1.2.1
        have np := nd_pos (σ := S1) (i := σ 68 10) (by omega)
        have k2 := k1.2.2.2.1 2 (by decide)
        have nmM := nd_pos (σ := S1) (i := S1 68 10) (by omega)
        have lk : ∃ S2 T2, (S2 = if x2 < 0 then S1 else gW S1 75 x2 (σ 68 10)) ∧ (T2 = if x2 < 0 then T1 else gW T1 141 (ps σ x2) (ps S1 (σ 68 10))) ∧ (if x2 < 0 then ps_block_b50 d S1 (σ 68 10) (σ 68 10) else if 0 ≤ x2 ∧ x2 < 4200 then ps_block_b50 d (gW S1 75 x2 (σ 68 10)) x1 (σ 68 10) else none) = ps_block_b10 d S2 (if x2 < 0 then σ 68 10 else x1) (σ 68 10) ∧ (if ph σ x2 = -1 then md_block_b41 d T1 (ps S1 (σ 68 10)) (ps S1 (σ 68 10)) else if 0 ≤ ph σ x2 ∧ ph σ x2 < 4004 then md_block_b41 d (gW T1 141 (ph σ x2) (ps S1 (σ 68 10))) (ph σ x1) (ps S1 (σ 68 10)) else none) = md_block_b10 d T2 (if x2 < 0 then ps S1 (σ 68 10) else ph σ x1) (ps S1 (σ 68 10)) ∧ pG 0 S2 T2 := by
          by_cases q : x2 < 0
          · refine ⟨S1, T1, by rw [if_pos q], by rw [if_pos q], ?_, ?_, G1⟩
            · rw [if_pos q, if_pos q, ps_block_b50_e]
            · have : ph σ x2 = -1 := by unfold ph; rw [if_pos q]
              rw [if_pos this, if_pos q, md_block_b41_e]
          · have hph : ph σ x2 = ps σ x2 := by unfold ph; rw [if_neg q]
            have hr : 0 ≤ ps σ x2 ∧ ps σ x2 < 4004 := by
              have := G.2.2.2.2.1
              have := nd_pos (σ := σ) (i := σ 68 10) (by omega)
              rcases I with ⟨_, h2⟩ | ⟨_, _, _, _, h5, -⟩ <;> omega
            refine ⟨gW S1 75 x2 (σ 68 10), gW T1 141 (ps σ x2) (ps S1 (σ 68 10)), by rw [if_neg q], by rw [if_neg q], ?_, ?_, (G1.w (by decide)).v (by decide)⟩
            · rw [if_neg q, if_pos (by rcases I with ⟨_, h2⟩ | ⟨_, h2, -⟩ <;> omega), if_neg q, ps_block_b50_e]
            · rw [hph, if_neg (by omega), if_pos hr, if_neg q, md_block_b41_e]
        obtain ⟨S2, T2, hS2, hT2, l1, l2, G2⟩ := lk
        rw [l1, l2]
        have c2 : ∀ e i, e ≠ 75 → S2 e i = S1 e i := fun e i q => by
          rw [hS2]
          split
          · rfl
          · exact gW_c q
        have t2 : ∀ e i, e ≠ 141 → T2 e i = T1 e i := fun e i q => by
          rw [hT2]
          split
          · rfl
          · exact gW_c q
        have nd2 : ∀ i, nd S2 i = nd S1 i := fun i => nd_congr fun j _ _ => by rw [c2 70 j (by decide)]
        have pse : ps S2 (σ 68 10) = ps S1 (σ 68 10) := by
          unfold ps
          rw [c2 70 _ (by decide), c2 72 _ (by decide), nd2, nd2]
        have lim : x2 < σ 68 10 := by
          rcases I with ⟨_, h2⟩ | ⟨_, h2, -⟩ <;> omega
        have I2 : LI S2 T2 (if x2 < 0 then σ 68 10 else x1) (σ 68 10) := by
          right
          rw [c2 68 10 (by decide), pse, t2 119 43 (by decide), c2 70 _ (by decide), c2 72 _ (by decide), c2 70 _ (by decide), c2 72 _ (by decide)]
          refine ⟨?_, by omega, ?_, ?_, by omega, pk.2.2.2, ?_⟩
          rotate_right
          · by_cases q : x2 < 0
            · rw [if_pos q]; exact pk.2.2.2
            · rw [if_neg q]
              rcases I with ⟨_, h2⟩ | ⟨h1, _, _, _, _, _, h7⟩
              · omega
              · rw [k1.2.1 70 x1 (by decide) (by decide) h1.2, k1.2.1 72 x1 (by decide) (by decide) h1.2]
                intro w
                have := h7 w
                omega
          · by_cases q : x2 < 0
            · rw [if_pos q]; omega
            · rw [if_neg q]
              rcases I with ⟨_, h2⟩ | ⟨h1, -⟩ <;> omega
          · rw [hS2]
            split
            · exact e75
            · rw [gW_i (by omega)]; exact e75
          · rw [hT2]
            by_cases q : x2 < 0
            · rw [if_pos q]; exact e141
            · rw [if_neg q]
              have bnd := k1.nd (i := σ 68 10) (Int.le_refl _)
              have g43 := G.2.2.2.2.1
              have : ps σ x2 < τ 119 43 := by
                rcases I with ⟨_, h2⟩ | ⟨_, _, _, _, h5, -⟩
                · omega
                · exact h5.2
              rw [gW_i (by omega)]; exact e141
        have phx : ph S2 (if x2 < 0 then σ 68 10 else x1) = if x2 < 0 then ps S1 (σ 68 10) else ph σ x1 := by
          by_cases q : x2 < 0
          · rw [if_pos q, if_pos q]
            unfold ph
            rw [if_neg (by omega), pse]
          · rw [if_neg q, if_neg q]
            rcases I with ⟨_, h2⟩ | ⟨h1, _, _, _, _, _, h7⟩
            · omega
            · unfold ph
              rw [if_neg (by omega), if_neg (by omega), ← ps_kE k1 h1.2 (fun w => by have := h7 w; omega)]
              unfold ps
              rw [c2 70 _ (by decide), c2 72 _ (by decide), nd2, nd2]
        have phs : ph S2 (σ 68 10) = ps S1 (σ 68 10) := by
          unfold ph
          rw [if_neg (by omega), pse]
        have hih : LR S2 T2 (if x2 < 0 then σ 68 10 else x1) (σ 68 10) (ph S2 (if x2 < 0 then σ 68 10 else x1)) (ps_block_b10 d S2 (if x2 < 0 then σ 68 10 else x1) (σ 68 10)) (md_block_b10 d T2 (ph S2 (if x2 < 0 then σ 68 10 else x1)) (ph S2 (σ 68 10))) := by
          have e5 := c2 69 5 (by decide)
          have e2 := c2 69 2 (by decide)
          have kp2 := G2.2.1.1
          unfold tKp at kp2
          match mm, hm with
          | 0, hm => omega
          | mm + 1, hm => exact block_l ihs mm S2 T2 _ _ G2 (by rw [c2 68 21 (by decide), o1]; exact ho) (by rw [c2 68 21 (by decide), o1]; exact hd) I2 (by omega)
        rw [phx, phs] at hih
        rcases hih with ⟨S, T, h, z1, z2, g⟩ | ⟨S, T, r, z1, z2, b⟩
        · left
          have g' := LG.step G I ⟨G1, k1, p1, nb1, ⟨o1, u1⟩, ⟨e75, e141⟩, pl1⟩ hS2 hT2 g
          rw [if_neg (show ¬ σ 68 10 < 0 by omega)] at z1 z2
          refine ⟨S, T, σ 68 10, z1, ?_, g'⟩
          rw [z2]
          by_cases q : x2 < 0
          · rw [if_pos q, if_pos q]
            have := g.psq (by omega) (by rw [c2 68 10 (by decide)]; omega) (by rw [c2 70 _ (by decide), c2 72 _ (by decide), c2 68 10 (by decide)]; exact pk.2.2.2)
            unfold ph
            rw [if_neg (by omega), this, pse]
          · rw [if_neg q, if_neg q]
        · exact Or.inr ⟨S, T, r, z1, z2, b⟩
      · right
        rw [z1, z2]
        simp only [Option.bind_some]
        have e : ∀ (X : gM) (u v : Int), bd 4100 X T1 → ∃ S', ps_block_b50 d X u v = some (S', u) ∧ bd 4100 S' T1 := by
          intro X u v bb
          refine ⟨gW X 68 21 (w32 (X 68 21 - 1)), ?_, bb.w (by decide) (by omega)⟩
          rw [ps_block_b50_e, ps_block_b10_e, ps_good_b bb.1]
          simp only [Option.bind_some]
          rw [if_pos (by trivial), ps_block_b55_e, ps_closes_b bb.1]
          rfl
        by_cases q : x2 < 0
        · rw [if_pos q]
          obtain ⟨S', e1, e2⟩ := e S1 s s b
          exact ⟨S', T1, _, e1, rfl, e2⟩
        · rw [if_neg q, if_pos (by rcases I with ⟨_, h2⟩ | ⟨_, h2, -⟩ <;> omega)]
          obtain ⟨S', e1, e2⟩ := e (gW S1 75 x2 s) x1 s (b.w (by decide) (by omega))
          exact ⟨S', T1, _, e1, rfl, e2⟩
end BL
