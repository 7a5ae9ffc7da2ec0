/-! the component plants statements -/
/-- how deep statements go; break and continue stand within a while: mode 0 statements, 1 one of them -/
def SN (σ : gM) : Nat → Nat → Int → Int → Prop
  | 0, _, _, _ => False
  | f + 1, 0, n, c => n = -1 ∨ (0 ≤ n ∧ SN σ f 1 n c ∧ SN σ f 0 (σ 75 n) c)
  | f + 1, _ + 1, n, c => 0 ≤ c ∧ ((σ 70 n = 24 ∧ SN σ f 0 (σ 73 n) (c - 2) ∧ SN σ f 0 (σ 74 n) (c - 2)) ∨ (σ 70 n = 25 ∧ SN σ f 0 (σ 73 n) (2 * (c / 2) - 1)) ∨ (σ 70 n = 26 ∨ σ 70 n = 30) ∨ ((σ 70 n = 27 ∨ σ 70 n = 28) ∧ c % 2 = 1))
theorem PT_SN {σ τ : gM} : ∀ (d m : Nat) (a b n c : Int), PT σ τ d (m + 2) a b n c → SN σ d m n c
  | 0, _, _, _, _, _, h => h.elim
  | d + 1, 0, a, b, n, c, h => by
    rcases h with ⟨h, -⟩ | ⟨h0, x, h1, h2, -⟩
    · exact Or.inl h
    · exact Or.inr ⟨h0, PT_SN d 1 _ _ _ _ h1, PT_SN d 0 _ _ _ _ h2⟩
  | d + 1, m + 1, a, b, n, k, h => by
    obtain ⟨h1, h2⟩ := h
    refine ⟨h1.2.2.2, ?_⟩
    rcases h2 with ⟨e, c, f, h, h', h''⟩ | ⟨e, c, h, h', e1⟩ | ⟨e, h, e1⟩ | ⟨e, _, _, _, _, e5⟩ | ⟨e, h⟩
    · exact Or.inl ⟨e, PT_SN d 0 _ _ _ _ h', PT_SN d 0 _ _ _ _ h''⟩
    · exact Or.inr (Or.inl ⟨e, PT_SN d 0 _ _ _ _ h'⟩)
    · exact Or.inr (Or.inr (Or.inl (Or.inl e)))
    · exact Or.inr (Or.inr (Or.inr ⟨e, e5⟩))
    · exact Or.inr (Or.inr (Or.inl (Or.inr e)))
theorem SN_mv {σ S : gM} (c : ∀ e, 70 ≤ e → e ≤ 78 → S e = σ e) : ∀ (f m : Nat) (n k : Int), SN S f m n k = SN σ f m n k
  | 0, _, _, _ => rfl
  | f + 1, 0, n, k => by
    simp only [SN, SN_mv c f, c 75 (by decide) (by decide)]
  | f + 1, m + 1, n, k => by
    simp only [SN, SN_mv c f, c 70 (by decide) (by decide), c 73 (by decide) (by decide), c 74 (by decide) (by decide)]
/-- statements may be planted -/
def cH3 (σ : gM) (a b : Int) : Prop := cH σ a b ∧ σ 8 16 + 3 * (nd σ b - nd σ a) ≤ 64000 ∧ (-1 ≤ σ 8 36 ∧ σ 8 36 < σ 8 16 ∧ -1 ≤ σ 8 37 ∧ σ 8 37 < σ 8 16) ∧ 3 * (nd σ b - nd σ a) < 1000
/-- statements were planted (m is 0), or one (m is 1); B and K are the breaks and continues that lead nowhere yet -/
def cX (ρ S T : gM) (N : Int → Int) (m : Nat) (u v x : Int) (B K : List Int) : Prop := cFr (wq ρ v - wq ρ u) S T ∧ T 8 12 = S 8 12 + (nd ρ v - nd ρ u) ∧ (∃ d, CO T N d m x (S 8 16) (T 8 16) B K) ∧ ch T (S 8 36) (T 8 36) B ∧ ch T (S 8 37) (T 8 37) K ∧ cA T N u v (S 8 12) (T 8 12) ∧ (S 8 16 ≤ T 8 16 ∧ T 8 16 ≤ S 8 16 + 3 * (nd ρ v - nd ρ u))
def cSl (d : Nat) : Prop := ∀ (f D : Nat) (σ : gM) (N : Int → Int) (a b n c : Int), QT σ N d 2 a b n (σ 8 12) → SN σ f 0 n c → 3 * (c / 2) + 3 ≤ D → cH3 σ a b → 0 ≤ a → ∃ S B K, fr_statements_b2 D σ n = some (S, 0) ∧ cX σ σ S N 0 a b n B K
def cS1 (d : Nat) : Prop := ∀ (f D : Nat) (σ : gM) (N : Int → Int) (a b n c : Int), QT σ N d 3 a b n (σ 8 12) → SN σ f 1 n c → 3 * (c / 2) + 3 ≤ D → cH3 σ a b → ∃ S B K, fr_statement D σ n = some (S, 0) ∧ cX σ σ S N 1 a b n B K
section ST
variable {σ S T Z U : gM} {N : Int → Int} {a b n u v x w k c : Int} {d D m f : Nat} {B K : List Int}
theorem cFr.si {P E : Int} (F : cFr w σ S) (hE : E ≤ σ 8 16) : sI σ S P E := fun x _ q => ⟨F.2.2.2.2.2.1 20 x (by decide) (by decide) (by omega), F.2.2.2.2.2.1 21 x (by decide) (by decide) (by omega), F.2.2.2.2.2.1 22 x (by decide) (by decide) (by omega)⟩
theorem sI.tr {P E : Int} (h : sI σ S P E) (h2 : sI S T P E) : sI σ T P E := fun x p q => by
  obtain ⟨a1, a2, a3⟩ := h x p q
  obtain ⟨b1, b2, b3⟩ := h2 x p q
  exact ⟨b1.trans a1, b2.trans a2, b3.trans a3⟩
theorem sI.pt {P E o t y : Int} (hE : E ≤ σ 8 16) : sI σ (cPt σ o t y) P E := fun x _ q => ⟨cPt_o (by omega) (by omega), cPt_o (by omega) (by omega), cPt_o (by omega) (by omega)⟩
theorem sI.gw {P E c i y : Int} (h : c < 20 ∨ 22 < c ∨ i < P ∨ E ≤ i) : sI σ (gW σ c i y) P E := fun x p q => by
  have : ∀ e, 20 ≤ e → e ≤ 22 → gW σ c i y e x = σ e x := fun e e0 e1 => by
    unfold gW
    rw [if_neg (by omega)]
  exact ⟨this 20 (by decide) (by decide), this 21 (by decide) (by decide), this 22 (by decide) (by decide)⟩
theorem sI.nd {P E y : Int} : sI σ (cNd σ y) P E := fun x _ _ => ⟨cNd_o (by omega) (by omega), cNd_o (by omega) (by omega), cNd_o (by omega) (by omega)⟩
theorem cX.ms {ρ : gM} (c : ∀ e, 70 ≤ e → e ≤ 78 → S e = ρ e) (h : cX S S T N m u v x B K) : cX ρ S T N m u v x B K := by
  unfold cX at h ⊢
  rw [← nd_mv c, ← nd_mv c, ← wq_mv c, ← wq_mv c]
  exact h
/-- something is worked out -/
theorem cW.go (H : cH σ a b) (F : cFr w σ S) (q : QT σ N d 0 u v x (S 8 12)) (au : a ≤ u) (vb : v ≤ b) (hw : w + (wq σ v - wq σ u) ≤ wq σ b - wq σ a) (h12 : S 8 12 + (nd σ v - nd σ u) ≤ 16000) (h16 : S 8 16 + 2 * (nd σ v - nd σ u) ≤ 64000) (hD : 3 * (nd σ v - nd σ u) < 1000) : ∃ T, fr_work 1000 S x = some (T, 0) ∧ cE σ S T N 0 u v x :=
  (cT_all d).1.go (D := 1000) H F q au vb hw h12 h16 hD
theorem cSl.go (ih : cSl d) (H : cH σ a b) (F : cFr w σ S) (q : QT σ N d 2 u v x (S 8 12)) (sn : SN σ f 0 x c) (hc : 3 * (c / 2) + 3 ≤ D) (au : a ≤ u) (vb : v ≤ b) (hw : w + (wq σ v - wq σ u) ≤ wq σ b - wq σ a) (h12 : S 8 12 + (nd σ v - nd σ u) ≤ 16000) (h16 : S 8 16 + 3 * (nd σ v - nd σ u) ≤ 64000) (hh : -1 ≤ S 8 36 ∧ S 8 36 < S 8 16 ∧ -1 ≤ S 8 37 ∧ S 8 37 < S 8 16) (hD : 3 * (nd σ v - nd σ u) < 1000) : ∃ T B K, fr_statements_b2 D S x = some (T, 0) ∧ cX σ S T N 0 u v x B K := by
  have c := F.ce
  have uv := (QT_ab _ _ _ _ _ _ q).1
  have a0 := H.2.2.2.2.1.1
  have mm := nd_r (σ := σ) (i := u) (j := v) (by omega) uv
  obtain ⟨T, B, K, e, h⟩ := ih f D S N u v x _ (by rw [QT_mv c]; exact q) (by rw [SN_mv c]; exact sn) hc ⟨H.sub F au vb hw h12 (by omega), by rw [nd_mv c, nd_mv c]; exact h16, hh, by rw [nd_mv c, nd_mv c]; exact hD⟩ (by omega)
  exact ⟨T, B, K, e, h.ms c⟩
theorem ch_hd {h0 h : Int} (q : ch σ h0 h B) (r : ∀ p ∈ B, p < x) (h1 : -1 ≤ h0 ∧ h0 < x) : -1 ≤ h ∧ h < x := by
  cases B with
  | nil =>
    have e : h = h0 := q
    omega
  | cons p L =>
    obtain ⟨e, e1, -⟩ := q
    have := r p List.mem_cons_self
    omega
/-- rows of statements -/
theorem cSl_s (iht : cS1 d) (ihl : cSl d) : cSl (d + 1) := by
  intro f D σ N a b n c q sn hc H3 a0
  have H3' := H3
  obtain ⟨H, r16, rh, rD⟩ := H3'
  have H' := H
  obtain ⟨h1, h2, h3, h4, ⟨_, b4⟩, h6, h7, h8⟩ := H'
  rcases q with ⟨rfl, rfl⟩ | ⟨n0, x, q1, q2⟩
  · exact ⟨σ, [], [], by rw [fr_statements_b2_e, if_pos (by decide)], cFr.rf h1 h2 (by omega), by omega, ⟨1, Or.inl ⟨by decide, rfl, rfl, rfl⟩⟩, rfl, rfl, cA.nil (Int.le_refl _), by omega⟩
  · have ab := (QT_ab _ _ _ _ _ _ q1).2 (Or.inr (by decide))
    have ab2 := (QT_ab _ _ _ _ _ _ q2).1
    have m1 := nd_r (σ := σ) (i := a) (j := x) (by omega) (by omega)
    have m2 := nd_r (σ := σ) (i := x) (j := b) (by omega) (by omega)
    have l1 := wq_le (v := x) H (Int.le_refl _) (by omega) (by omega)
    have l2 := wq_le (u := x) H (by omega) (by omega) (Int.le_refl _)
    cases f with
    | zero => exact sn.elim
    | succ f =>
    rcases sn with sn | ⟨-, sn1, sn2⟩
    · omega
    obtain ⟨T, B1, K1, e1, F1, t12, ⟨d1, C⟩, cB1, cK1, A, t16⟩ := iht f D σ N a x n c q1 sn1 hc ⟨H.sub (cFr.rf h1 h2 (Int.le_refl 0)) (Int.le_refl _) (by omega) (by omega) (by omega) (by omega), by omega, rh, by omega⟩
    have t1 := h3.fr F1
    have rg := (CO_ab _ _ _ _ _ _ _ C).2
    have hd36 := ch_hd (x := T 8 16) cB1 (fun p hp => (rg p (Or.inl hp)).2) (by omega)
    have hd37 := ch_hd (x := T 8 16) cK1 (fun p hp => (rg p (Or.inr hp)).2) (by omega)
    obtain ⟨U, B2, K2, e2, F2, u12, ⟨d2, C2⟩, cB2, cK2, A2, u16⟩ := ihl.go (D := D) H F1 (by rw [t12]; exact q2) sn2 hc (by omega) (Int.le_refl _) (by omega) (by omega) (by omega) ⟨hd36.1, hd36.2, hd37.1, hd37.2⟩ (by omega)
    have F12 := F1.tr F2
    have rg2 := (CO_ab _ _ _ _ _ _ _ C2).2
    have cc := F12.ce
    have nv1 : ∀ i, a ≤ i → i < x → nV T i := fun i i0 i1 => (h4 i i0 (by omega)).fr h3 F1
    have f21 : ∀ p, p < T 8 16 → U 21 p = T 21 p := fun p hp => F2.2.2.2.2.2.1 21 p (by decide) (by decide) (Or.inl hp)
    refine ⟨U, B2 ++ B1, K2 ++ K1, ?_, F12.le (by omega), by omega, ?_, ?_, ?_, ((A.fr F2 F1.2.1 t1 nv1 (Int.le_refl _)).wd (by omega) (by omega)).cat (A2.wd (by omega) (Int.le_refl _)), by omega⟩
    · rw [fr_statements_b2_e, if_neg (by omega), e1]
      simp only [Option.bind_some]
      rw [if_pos (by rw [t1.1]; decide), if_pos (by omega), F1.ce 75 (by decide) (by decide)]
      exact e2
    · obtain ⟨d', g1, g2⟩ := CO_two (CO_fr F2.ce _ _ _ _ _ _ _ (F2.si (Int.le_refl _)) C) C2
      exact ⟨d' + 1, Or.inr ⟨n0, T 8 16, B1, K1, B2, K2, g1, by rw [cc 75 (by decide) (by decide)]; exact g2, rfl, rfl⟩⟩
    · exact ch_app _ _ _ (fun p hp => by have := rg2 p (Or.inl hp); omega) (fun p hp y hy => by have := rg2 p (Or.inl hp); have := rg y (Or.inl hy); omega) cB2 (ch_fr _ _ (fun p hp => f21 p (rg p (Or.inl hp)).2) cB1)
    · exact ch_app _ _ _ (fun p hp => by have := rg2 p (Or.inr hp); omega) (fun p hp y hy => by have := rg2 p (Or.inr hp); have := rg y (Or.inr hy); omega) cK2 (ch_fr _ _ (fun p hp => f21 p (rg p (Or.inr hp)).2) cK1)
/-- a statement's step is put -/
def stp (σ U : gM) : Prop := cFr 0 σ U ∧ U 8 12 = σ 8 12 ∧ U 8 16 = σ 8 16 + 1 ∧ (U 8 36 = σ 8 36 ∧ U 8 37 = σ 8 37) ∧ U 8 32 = 68 ∧ cI U (σ 8 16) 10 0 (σ 8 12)
theorem stp.of (H : cH σ a b) : stp σ (cPt σ 10 0 (σ 8 12)) := by
  obtain ⟨h1, h2, h3, h4, h5, h6, h7, h8⟩ := H
  exact ⟨(cFr.rf h1 h2 (by decide)).put, cPt_o (by omega) (Or.inl (by decide)), cPt_n.1, ⟨cPt_o (by omega) (Or.inl (by decide)), cPt_o (by omega) (Or.inl (by decide))⟩, by rw [cPt_o (by omega) (Or.inl (by decide))]; exact h3.1, cI_put⟩
/-- its node -/
def stn (σ X : gM) (n : Int) : Prop := cFr 0 σ X ∧ X 8 12 = σ 8 12 + 1 ∧ X 8 16 = σ 8 16 + 1 ∧ (X 8 36 = σ 8 36 ∧ X 8 37 = σ 8 37) ∧ X 8 32 = 68 ∧ cI X (σ 8 16) 10 0 (σ 8 12) ∧ oN X (σ 70 n) (σ 71 n) (-1) 0 (σ 8 12)
theorem stp.nd (h : stp σ U) (n : Int) : stn σ (cNd U n) n := by
  obtain ⟨F, e12, e16, e36, e32, ci⟩ := h
  have c := F.ce
  refine ⟨F.node, by rw [cNd_n.1, e12], by rw [cNd_o (by omega) (Or.inl (by decide))]; exact e16, ⟨by rw [cNd_o (by omega) (Or.inl (by decide))]; exact e36.1, by rw [cNd_o (by omega) (Or.inl (by decide))]; exact e36.2⟩, by rw [cNd_o (by omega) (Or.inl (by decide))]; exact e32, ?_, ?_⟩
  · exact (sI.nd (P := σ 8 16) (E := σ 8 16 + 1)).ci ci (Int.le_refl _) (by omega)
  · have := @oN.new U n
    rw [c 70 (by decide) (by decide), c 71 (by decide) (by decide), e12] at this
    exact this
/-- what is only worked out -/
theorem s_does (H3 : cH3 σ n b) (e : σ 70 n = 30) (q : QT σ N d 0 (n + 1) b (σ 72 n) (σ 8 12)) : ∃ S B K, fr_statement (D + 1) σ n = some (S, 0) ∧ cX σ σ S N 1 n b n B K := by
  obtain ⟨H, r16, rh, rD⟩ := H3
  have H' := H
  obtain ⟨h1, h2, h3, h4, ⟨a0, b4⟩, h6, h7, h8⟩ := H'
  have s := stp.of H
  have nS1 : nd σ (n + 1) = nd σ n := by rw [nd_s a0, if_pos e]; omega
  have wS1 := wq_s (σ := σ) (i := n) a0
  have w1 := wt_0 (σ := σ) (n := n) (by omega)
  have ab := QT0_N q
  have m1 := QT0_nd q
  have hn : 0 ≤ n ∧ n < 4200 := by omega
  rw [fr_statement_e, fr_put_s (by omega)]
  simp only [Option.bind_some]
  generalize cPt σ 10 0 (σ 8 12) = U at *
  obtain ⟨F, e12, e16, e36, e32, ci⟩ := s
  have cu := F.ce
  obtain ⟨T, e1, F1, t12, t36, C, A, t16, tm⟩ := cW.go H F (by rw [e12]; exact q) (by omega) (Int.le_refl _) (by omega) (by omega) (by omega) (by omega)
  obtain ⟨tm1, tm2, tm3⟩ := tm rfl
  have F01 := F.tr F1
  have t1 := h3.fr F01
  have h32 : 0 ≤ U 8 32 := by omega
  have u70 : U 70 n = 30 := by rw [cu 70 (by decide) (by decide)]; exact e
  rw [if_pos h32, if_pos hn, u70, if_neg (by decide), if_neg (by decide), if_neg (by decide), if_neg (by decide), if_neg (by decide), if_pos h32, if_pos hn, cu 72 (by decide) (by decide), e1]
  simp only [Option.bind_some]
  rw [fr_put_s (by omega)]
  simp only [Option.bind_some]
  have FZ := F01.put (o := 15) (t := 0) (n := -1)
  have c := FZ.ce
  have CZ := C.pt (o := 15) (t := 0) (x := -1) (by decide) (Int.le_refl _)
  have AZ := A.mv (sameN.put (o := 15) (t := 0) (n := -1)) t1
  have z16 : cPt T 15 0 (-1) 8 16 = T 8 16 + 1 := cPt_n.1
  have z12 : cPt T 15 0 (-1) 8 12 = T 8 12 := cPt_o (by omega) (Or.inl (by decide))
  have z36 : cPt T 15 0 (-1) 8 36 = T 8 36 := cPt_o (by omega) (Or.inl (by decide))
  have z37 : cPt T 15 0 (-1) 8 37 = T 8 37 := cPt_o (by omega) (Or.inl (by decide))
  have cj := @cI_put T (-1) 15 0
  have c0 : cI (cPt T 15 0 (-1)) (σ 8 16) 10 0 (σ 8 12) := ((F1.si (P := σ 8 16) (E := σ 8 16 + 1) (by omega)).tr (sI.pt (by omega))).ci ci (Int.le_refl _) (by omega)
  generalize cPt T 15 0 (-1) = Z at *
  have e70 : Z 70 n = σ 70 n := by rw [c 70 (by decide) (by decide)]
  have e72 : Z 72 n = σ 72 n := by rw [c 72 (by decide) (by decide)]
  refine ⟨Z, [], [], rfl, FZ.le (by omega), by omega, ⟨1, by omega, ?_, Or.inr (Or.inr (Or.inr (Or.inr (Or.inr ⟨by omega, ?_, ?_, rfl, rfl⟩))))⟩, ?_, ?_, cA.cat (cA.one fun q => (q (by omega)).elim) (AZ.wd (by omega) (by omega)), by omega⟩
  · rw [if_pos (by omega), e72, ab.1]; exact c0
  · rw [e72, show Z 8 16 - 1 = T 8 16 by omega, ← e16]; exact CZ
  · rw [show Z 8 16 - 1 = T 8 16 by omega]; exact cj
  · show Z 8 36 = σ 8 36
    omega
  · show Z 8 37 = σ 8 37
    omega
end ST
