/-! the component plants what is worked out -/
/-- a range of nodes may be planted -/
def cH (σ : gM) (a b : Int) : Prop := hI σ ∧ fI σ ∧ tI σ ∧ (∀ i, a ≤ i → i < b → nV σ i) ∧ (0 ≤ a ∧ b ≤ 4200) ∧ cRm σ (wq σ b - wq σ a) ∧ (0 ≤ σ 8 12 ∧ σ 8 12 + (nd σ b - nd σ a) ≤ 16000) ∧ (0 ≤ σ 8 16 ∧ σ 8 16 + 2 * (nd σ b - nd σ a) ≤ 64000)
/-- a part was planted: S is the state ahead, T behind; measured in ρ -/
def cE (ρ S T : gM) (N : Int → Int) (m : Nat) (u v x : Int) : Prop := cFr (wq ρ v - wq ρ u) S T ∧ T 8 12 = S 8 12 + (nd ρ v - nd ρ u) ∧ (T 8 36 = S 8 36 ∧ T 8 37 = S 8 37) ∧ C0 T N m x (S 8 16) (T 8 16) ∧ cA T N u v (S 8 12) (T 8 12) ∧ (S 8 16 ≤ T 8 16 ∧ T 8 16 ≤ S 8 16 + 2 * (nd ρ v - nd ρ u)) ∧ (m = 0 → S 8 16 < T 8 16 ∧ T 8 16 < S 8 16 + 2 * (nd ρ v - nd ρ u) ∧ T 15 (S 8 12) = T 8 12)
/-- the same but for the node's end -/
def cZ (σ Z : gM) (N : Int → Int) (a b n : Int) : Prop := cFr (wq σ b - wq σ a) σ Z ∧ Z 8 12 = σ 8 12 + (nd σ b - nd σ a) ∧ (Z 8 36 = σ 8 36 ∧ Z 8 37 = σ 8 37) ∧ C0 Z N 0 n (σ 8 16) (Z 8 16) ∧ cA Z N a b (σ 8 12) (Z 8 12) ∧ (σ 8 16 < Z 8 16 ∧ Z 8 16 < σ 8 16 + 2 * (nd σ b - nd σ a))
def cT (d : Nat) : Prop := ∀ (D : Nat) (σ : gM) (N : Int → Int) (a b n : Int), QT σ N d 0 a b n (σ 8 12) → cH σ a b → 3 * (nd σ b - nd σ a) < D → ∃ S, fr_work D σ n = some (S, 0) ∧ cE σ σ S N 0 a b n
def cLs (d : Nat) : Prop := ∀ (D : Nat) (σ : gM) (N : Int → Int) (a b n k : Int), QT σ N d 1 a b n (σ 8 12) → cH σ a b → 3 * (nd σ b - nd σ a) < D → ∃ S, fr_work_2_b443 D σ k n = fr_work_2_b443 D S k (-1) ∧ cE σ σ S N 1 a b n
/-- a node more, its parts to come -/
def own (σ S0 : gM) (n : Int) : Prop := cFr 0 σ S0 ∧ S0 8 12 = σ 8 12 + 1 ∧ S0 8 16 = σ 8 16 ∧ (S0 8 36 = σ 8 36 ∧ S0 8 37 = σ 8 37) ∧ S0 8 32 = 68 ∧ oN S0 (σ 70 n) (σ 71 n) (-1) 0 (σ 8 12)
section CE
variable {σ S T Z S0 : gM} {N : Int → Int} {a b n u v x w k : Int} {d D m : Nat}
theorem own.of (H : cH σ a b) : own σ (cNd σ n) n := by
  obtain ⟨h1, h2, h3, h4, h5, h6, h7, h8⟩ := H
  exact ⟨(cFr.rf h1 h2 (by decide)).node, cNd_n.1, cNd_o (by omega) (Or.inl (by decide)), ⟨cNd_o (by omega) (Or.inl (by decide)), cNd_o (by omega) (Or.inl (by decide))⟩, by rw [cNd_o (by omega) (Or.inl (by decide))]; exact h3.1, oN.new⟩
theorem cH.sub (H : cH σ a b) (F : cFr w σ S) (au : a ≤ u) (vb : v ≤ b) (hw : w + (wq σ v - wq σ u) ≤ wq σ b - wq σ a) (h12 : S 8 12 + (nd σ v - nd σ u) ≤ 16000) (h16 : S 8 16 + 2 * (nd σ v - nd σ u) ≤ 64000) : cH S u v := by
  obtain ⟨h1, h2, h3, h4, h5, h6, h7, h8⟩ := H
  have c := F.ce
  have a7 := F.2.2.2.2.2.2.1
  refine ⟨F.1, F.2.1, h3.fr F, fun i i0 i1 => (h4 i (by omega) (by omega)).fr h3 F, by omega, ?_, by rw [nd_mv c, nd_mv c]; omega, by rw [nd_mv c, nd_mv c]; omega⟩
  rw [wq_mv c, wq_mv c]
  refine cRm.fr (w := w) ?_ F
  obtain ⟨r1, r2, r3, r4, r5⟩ := h6
  exact ⟨by omega, by omega, by omega, by omega, r5⟩
theorem cE.ms {ρ : gM} (c : ∀ e, 70 ≤ e → e ≤ 78 → S e = ρ e) (h : cE S S T N m u v x) : cE ρ S T N m u v x := by
  unfold cE at h ⊢
  rw [← nd_mv c, ← nd_mv c, ← wq_mv c, ← wq_mv c]
  exact h
theorem cT.go (ih : cT d) (H : cH σ a b) (F : cFr w σ S) (q : QT σ N d 0 u v x (S 8 12)) (au : a ≤ u) (vb : v ≤ b) (hw : w + (wq σ v - wq σ u) ≤ wq σ b - wq σ a) (h12 : S 8 12 + (nd σ v - nd σ u) ≤ 16000) (h16 : S 8 16 + 2 * (nd σ v - nd σ u) ≤ 64000) (hD : 3 * (nd σ v - nd σ u) < D) : ∃ T, fr_work D S x = some (T, 0) ∧ cE σ S T N 0 u v x := by
  have c := F.ce
  obtain ⟨T, e, h⟩ := ih D S N u v x (by rw [QT_mv c]; exact q) (H.sub F au vb hw h12 h16) (by rw [nd_mv c, nd_mv c]; exact hD)
  exact ⟨T, e, h.ms c⟩
theorem cLs.go (ih : cLs d) (H : cH σ a b) (F : cFr w σ S) (q : QT σ N d 1 u v x (S 8 12)) (au : a ≤ u) (vb : v ≤ b) (hw : w + (wq σ v - wq σ u) ≤ wq σ b - wq σ a) (h12 : S 8 12 + (nd σ v - nd σ u) ≤ 16000) (h16 : S 8 16 + 2 * (nd σ v - nd σ u) ≤ 64000) (hD : 3 * (nd σ v - nd σ u) < D) : ∃ T, fr_work_2_b443 D S k x = fr_work_2_b443 D T k (-1) ∧ cE σ S T N 1 u v x := by
  have c := F.ce
  obtain ⟨T, e, h⟩ := ih D S N u v x k (by rw [QT_mv c]; exact q) (H.sub F au vb hw h12 h16) (by rw [nd_mv c, nd_mv c]; exact hD)
  exact ⟨T, e, h.ms c⟩
theorem cZ.fin (h : cZ σ Z N a b n) (t : tI σ) (h0 : 0 ≤ σ 8 12) : cE σ σ (gW Z 15 (σ 8 12) (Z 8 12)) N 0 a b n := by
  obtain ⟨F, e12, e36, C, A, e16⟩ := h
  have g12 : gW Z 15 (σ 8 12) (Z 8 12) 8 12 = Z 8 12 := gW_c (by decide)
  have g16 : gW Z 15 (σ 8 12) (Z 8 12) 8 16 = Z 8 16 := gW_c (by decide)
  unfold cE
  rw [g12, g16, gW_c (b := 8) (j := 36) (by decide), gW_c (b := 8) (j := 37) (by decide)]
  exact ⟨F.own (by decide) (Int.le_refl _), e12, e36, C.gw (by decide) (by omega), A.mv (sameN.own (by decide) (Or.inr (Or.inr ⟨rfl, Int.le_refl _⟩))) (t.fr F), by omega, fun _ => ⟨e16.1, e16.2, gW_at _ _ _ _⟩⟩
/-- nodes without a constant -/
theorem cN1_op (h : oN Z (Z 70 n) (Z 71 n) (-1) 0 k) (q : 8 ≤ Z 70 n ∧ Z 70 n ≤ 20 ∨ (24 ≤ Z 70 n ∧ Z 70 n ≤ 28)) : cN1 Z n k := by
  refine ⟨?_, fun e => by omega, fun e => by omega, fun e => by omega, fun e => by omega, fun e => by omega, fun e => by omega⟩
  rw [if_neg (by omega), if_neg (by omega), if_neg (by omega)]
  exact h
theorem cEn_no {hi : Int} (q : ¬ (8 ≤ Z 70 n ∧ Z 70 n ≤ 17) ∧ Z 70 n ≠ 6) : cEn Z N hi n := ⟨fun x y => (q.1 ⟨x, y⟩).elim, fun x => (q.2 x).elim⟩
theorem wt_0 (q : σ 70 n ≠ 1 ∧ σ 70 n ≠ 2 ∧ σ 70 n ≠ 7 ∧ ((σ 70 n = 21 ∨ σ 70 n = 22) → σ 73 n ≠ -1)) : wt σ n = 0 := by
  unfold wt
  rw [if_neg]
  rintro (h | h | h | h)
  · exact q.1 h
  · exact q.2.1 h
  · exact q.2.2.1 h
  · exact q.2.2.2 h.1 h.2
theorem wt_1 (q : σ 70 n = 1 ∨ σ 70 n = 2 ∨ σ 70 n = 7 ∨ ((σ 70 n = 21 ∨ σ 70 n = 22) ∧ σ 73 n = -1)) : wt σ n = σ 77 n + 1 := by
  unfold wt
  rw [if_pos q]
/-- an instruction of a node is put -/
theorem cI_put {o t : Int} : cI (cPt S o t n) (S 8 16) o t n := ⟨cPt_n.2.1, cPt_n.2.2.1, cPt_n.2.2.2⟩
/-- a constant is laid, its code put -/
theorem leaf_z {x y : Int} (H : cH σ n (n + 1)) (hN : N n = σ 8 12) (O : own σ S0 n) (F1 : cFr (wt σ n) S0 S) (e12 : S 8 12 = S0 8 12) (e16 : S 8 16 = S0 8 16) (e36 : S 8 36 = S0 8 36 ∧ S 8 37 = S0 8 37) (hk : σ 70 n = 1 ∨ σ 70 n = 2 ∨ σ 70 n = 3 ∨ σ 70 n = 4 ∨ σ 70 n = 7) (ck : cK (cPt (gW (gW S 16 (σ 8 12) x) 17 (σ 8 12) y) 0 0 (σ 8 12)) n (σ 8 12)) :
    cZ σ (cPt (gW (gW S 16 (σ 8 12) x) 17 (σ 8 12) y) 0 0 (σ 8 12)) N n (n + 1) n := by
  obtain ⟨F0, o12, o16, o36, o32, o0⟩ := O
  obtain ⟨h1, h2, h3, h4, ⟨a0, b4⟩, h6, h7, h8⟩ := H
  have nS1 := nd_S (σ := σ) (i := n) a0 (by omega)
  have wS1 := wq_s (σ := σ) (i := n) a0
  have FS : cFr (0 + wt σ n) σ S := F0.tr F1
  have FZ := ((FS.own (a := 16) (i := σ 8 12) (v := x) (by decide) (Int.le_refl _)).own (a := 17) (i := σ 8 12) (v := y) (by decide) (Int.le_refl _)).put (o := 0) (t := 0) (n := σ 8 12)
  have z16 : cPt (gW (gW S 16 (σ 8 12) x) 17 (σ 8 12) y) 0 0 (σ 8 12) 8 16 = σ 8 16 + 1 := by rw [cPt_n.1, gW_c (by decide), gW_c (by decide), e16, o16]
  have c := FZ.ce
  have ow : oN (cPt (gW (gW S 16 (σ 8 12) x) 17 (σ 8 12) y) 0 0 (σ 8 12)) (σ 70 n) (σ 71 n) (-1) 0 (σ 8 12) := (o0.fr F1 (by omega)).mv fun a q1 q2 q3 q4 q5 => by rw [cPt_o (by omega) (by omega), gW_c q5, gW_c q4]
  have ci : cI (cPt (gW (gW S 16 (σ 8 12) x) 17 (σ 8 12) y) 0 0 (σ 8 12)) (σ 8 16) 0 0 (σ 8 12) := by
    have := @cI_put (gW (gW S 16 (σ 8 12) x) 17 (σ 8 12) y) (σ 8 12) 0 0
    rw [gW_c (by decide), gW_c (by decide), e16, o16] at this
    exact this
  have x12 : cPt (gW (gW S 16 (σ 8 12) x) 17 (σ 8 12) y) 0 0 (σ 8 12) 8 12 = σ 8 12 + 1 := by rw [cPt_o (by omega) (Or.inl (by decide)), gW_c (by decide), gW_c (by decide), e12, o12]
  have x36 : ∀ i, i = 36 ∨ i = 37 → cPt (gW (gW S 16 (σ 8 12) x) 17 (σ 8 12) y) 0 0 (σ 8 12) 8 i = S 8 i := fun i q => by rw [cPt_o (by omega) (by omega), gW_c (by decide), gW_c (by decide)]
  generalize cPt (gW (gW S 16 (σ 8 12) x) 17 (σ 8 12) y) 0 0 (σ 8 12) = Z at *
  refine ⟨FZ.le (by omega), by omega, ⟨by rw [x36 36 (by decide), e36.1, o36.1], by rw [x36 37 (by decide), e36.2, o36.2]⟩, ⟨1, fun br co => ⟨by omega, Or.inl ⟨?_, z16, by rw [hN]; exact ci⟩⟩⟩, cA.one fun _ => ⟨?_, by omega, cEn_no ?_⟩, by omega⟩
  · rw [c 70 (by decide) (by decide)]; omega
  · rw [hN]
    refine ⟨?_, ck⟩
    rw [c 70 (by decide) (by decide), c 71 (by decide) (by decide), if_neg (by omega), if_neg (by omega), if_neg (by omega)]
    exact ow
  · rw [c 70 (by decide) (by decide)]; omega
/-- the constant of a node, by kinds -/
theorem cK_1 {x y : Int} (f : sameN S Z 0 0) (t : tI S) (e : Z 70 n = 1) (z16 : Z 16 k = x) (z17 : Z 17 k = y) (h : numIs S (dvN (tl S) (S 76 n) (S 77 n).toNat) x y) : cK Z n k := by
  refine ⟨fun _ => ?_, fun q => by omega, fun q => by omega, fun q => by omega, fun q => by omega, fun q => by omega⟩
  rw [sameN_tl f t, f.1 76 (by decide), f.1 77 (by decide), z16, z17]
  exact h.mv (f.1 0 (by decide)) (f.1 6 (by decide)) (f.1 7 (by decide))
theorem cK_2 {y : Int} (f : sameN S Z 0 0) (t : tI S) (e : Z 70 n = 2) (z16 : Z 16 k = 2) (z17 : Z 17 k = y) (h0 : 0 ≤ y ∧ y < S 0 7) (h : cS S y = lt (tl S) (S 76 n + 1) (S 77 n - 2).toNat) : cK Z n k := by
  refine ⟨fun q => by omega, fun _ => ⟨z16, ?_, ?_⟩, fun q => by omega, fun q => by omega, fun q => by omega, fun q => by omega⟩
  · rw [z17, f.1 0 (by decide)]; exact h0
  · rw [z17, sameN_tl f t, f.1 76 (by decide), f.1 77 (by decide), cS_mv (f.1 1 (by decide)) (f.1 2 (by decide)) (f.1 3 (by decide))]; exact h
theorem cK_3 (e : Z 70 n = 3) (z16 : Z 16 k = 3) (z17 : Z 17 k = if Z 77 n = 4 then 1 else 0) : cK Z n k :=
  ⟨fun q => by omega, fun q => by omega, fun _ => ⟨z16, z17⟩, fun q => by omega, fun q => by omega, fun q => by omega⟩
theorem cK_4 (e : Z 70 n = 4) (z16 : Z 16 k = 4) (z17 : Z 17 k = 0) : cK Z n k :=
  ⟨fun q => by omega, fun q => by omega, fun q => by omega, fun _ => ⟨z16, z17⟩, fun q => by omega, fun q => by omega⟩
theorem cK_7 {y : Int} (f : sameN S Z 0 0) (t : tI S) (e : Z 70 n = 7) (z16 : Z 16 k = 5) (z17 : Z 17 k = y) (h0 : 0 ≤ y ∧ y < S 8 19) (h : cS S (S 23 y) = lt (tl S) (S 76 n) (S 77 n).toNat) : cK Z n k := by
  refine ⟨fun q => by omega, fun q => by omega, fun q => by omega, fun q => by omega, fun _ => ⟨z16, ?_, ?_⟩, fun q => by omega⟩
  · rw [z17, f.2.1 19 (by decide) (by decide) (by decide) (by decide)]; exact h0
  · rw [z17, sameN_tl f t, f.1 76 (by decide), f.1 77 (by decide), f.1 23 (by decide), cS_mv (f.1 1 (by decide)) (f.1 2 (by decide)) (f.1 3 (by decide))]; exact h
theorem cK_21 {y : Int} (f : sameN S Z 0 0) (t : tI S) (e : Z 70 n = 21 ∨ Z 70 n = 22) (h : Z 73 n = -1 → Z 16 k = 2 ∧ Z 17 k = y ∧ (0 ≤ y ∧ y < S 0 7) ∧ cS S y = lt (tl S) (S 76 n) (S 77 n).toNat) : cK Z n k := by
  refine ⟨fun q => by omega, fun q => by omega, fun q => by omega, fun q => by omega, fun q => by omega, fun _ q => ?_⟩
  obtain ⟨z16, z17, h0, h⟩ := h q
  refine ⟨z16, ?_, ?_⟩
  · rw [z17, f.1 0 (by decide)]; exact h0
  · rw [z17, sameN_tl f t, f.1 76 (by decide), f.1 77 (by decide), cS_mv (f.1 1 (by decide)) (f.1 2 (by decide)) (f.1 3 (by decide))]; exact h
/-- the letters of the text stay -/
theorem lt_fr {z : Int} {l : Nat} (t : tI S0) (F : cFr w S0 S) (z0 : 0 ≤ z) (z1 : z + l ≤ S0 69 2) : lt (tl S0) z l = lt (tl S) z l := lt_eq.mpr fun j hj => (tI_tl t F (by omega)).symm
theorem k_leaf (H : cH σ n (n + 1)) (hN : N n = σ 8 12) (O : own σ S0 n) (hk : σ 70 n = 1 ∨ σ 70 n = 2 ∨ σ 70 n = 3 ∨ σ 70 n = 4 ∨ σ 70 n = 7) : ∃ Z, fr_work_2 (D + 1) S0 n (σ 8 12) = some (Z, 0) ∧ cZ σ Z N n (n + 1) n := by
  have H' := H
  have O' := O
  obtain ⟨F0, o12, o16, o36, o32, o0⟩ := O'
  obtain ⟨h1, h2, h3, h4, ⟨a0, b4⟩, h6, h7, h8⟩ := H'
  have c0 := F0.ce
  have nv := (h4 n (Int.le_refl _) (by omega)).fr h3 F0
  have t0 := h3.fr F0
  have nS1 := nd_S (σ := σ) (i := n) a0 (by omega)
  have wS1 := wq_s (σ := σ) (i := n) a0
  have k70 : S0 70 n = σ 70 n := by rw [c0 70 (by decide) (by decide)]
  have k77 : S0 77 n = σ 77 n := by rw [c0 77 (by decide) (by decide)]
  have hkk : 0 ≤ σ 8 12 ∧ σ 8 12 < 16000 := by omega
  have hn : 0 ≤ n ∧ n < 4200 := by omega
  have r33 : 0 ≤ S0 8 33 := by have := t0.row; omega
  have rm : cRm S0 (wt σ n) := by
    refine cRm.fr (w := 0) ?_ F0
    rw [show 0 + wt σ n = wq σ (n + 1) - wq σ n by omega]
    exact h6
  have h16 : 0 ≤ S0 8 16 ∧ S0 8 16 < 164000 := by omega
  have gn := tI_gN t0
  have gl : gN (S0 8 33) ≤ 124600 := by rcases t0.row with q | q | q <;> rw [q] <;> decide
  have t34 := t0.2.2.1
  have zz : ∀ (S : gM) (x y : Int), (cPt (gW (gW S 16 (σ 8 12) x) 17 (σ 8 12) y) 0 0 (σ 8 12) 16 (σ 8 12) = x) ∧ (cPt (gW (gW S 16 (σ 8 12) x) 17 (σ 8 12) y) 0 0 (σ 8 12) 17 (σ 8 12) = y) ∧ sameN S (cPt (gW (gW S 16 (σ 8 12) x) 17 (σ 8 12) y) 0 0 (σ 8 12)) 0 0 := fun S x y =>
    ⟨by rw [cPt_o (by omega) (Or.inl (by decide)), gW_c (by decide), gW_at], by rw [cPt_o (by omega) (Or.inl (by decide)), gW_at], ((sameN.own (by decide) (Or.inr (Or.inl hkk.1))).tr (sameN.own (by decide) (Or.inr (Or.inl hkk.1)))).tr sameN.put⟩
  have kZ : ∀ (S : gM) (x y w : Int), cFr w S0 S → ∀ e, 70 ≤ e → e ≤ 78 → cPt (gW (gW S 16 (σ 8 12) x) 17 (σ 8 12) y) 0 0 (σ 8 12) e n = σ e n := fun S x y w F e q1 q2 => by
    rw [(zz S x y).2.2.1 e (by omega), F.ce e q1 q2, c0 e q1 q2]
  rcases hk with e | e | e | e | e
  · -- a number
    have w1 := wt_1 (σ := σ) (n := n) (Or.inl e)
    obtain ⟨v1, v2, -⟩ := nv (Or.inl (by omega))
    obtain ⟨S, x, y, e1, F1, nm, cc⟩ := fr_number_s (k := σ 8 12) (e := n) F0.1 F0.2.1 t0 hkk hn ⟨v1.1, v1.2.1, (v2 (by omega)).1, v1.2.2⟩ (v2 (by omega)).2 (by rw [k77, ← w1]; exact rm) h16
    rw [k77, ← w1] at F1
    obtain ⟨z1, z2, z3⟩ := zz S x y
    refine ⟨_, w2_1 o32 hn (by omega) e1, leaf_z H hN O F1 (cc 8 12 (by decide) (by decide) (by decide) (by decide)) (cc 8 16 (by decide) (by decide) (by decide) (by decide)) ⟨cc 8 36 (by decide) (by decide) (by decide) (by decide), cc 8 37 (by decide) (by decide) (by decide) (by decide)⟩ (Or.inl e) (cK_1 z3 (t0.fr F1) (by rw [kZ S x y _ F1 70 (by decide) (by decide), e]) z1 z2 ?_)⟩
    rw [F1.ce 76 (by decide) (by decide), F1.ce 77 (by decide) (by decide), dvN_congr (g := tl S0) _ fun j hj => tI_tl t0 F1 (by omega)]
    exact nm
  · -- a string
    have w1 := wt_1 (σ := σ) (n := n) (Or.inr (Or.inl e))
    obtain ⟨v1, -, v3, -⟩ := nv (Or.inr (Or.inl (by omega)))
    have v3 := v3 (by omega)
    obtain ⟨S, y, e1, F1, y0, es, -, cc, -⟩ := fr_str (f := S0 76 n + 1) (n := (S0 77 n - 2).toNat) (w := wt σ n) F0.1 F0.2.1 t0 (by omega) (by omega) rm
    have cc' : ∀ i, S 8 i = S0 8 i := fun i => cc 8 i (by decide)
    obtain ⟨z1, z2, z3⟩ := zz S 2 y
    refine ⟨_, w2_2 o32 r33 hn (by omega) ?_ (fr_constant_s hkk (by rw [cc']; exact h16)), leaf_z (x := 2) (y := y) H hN O F1 (cc' 12) (cc' 16) ⟨cc' 36, cc' 37⟩ (Or.inr (Or.inl e)) (cK_2 z3 (t0.fr F1) (by rw [kZ S 2 y _ F1 70 (by decide) (by decide), e]) z1 z2 y0 ?_)⟩
    · rw [w32_e (x := S0 8 34 + S0 76 n) (by omega) (by omega), w32_e (x := S0 8 34 + S0 76 n + 1) (by omega) (by omega), w32_e (x := S0 77 n - 2) (by omega) (by omega), show S0 8 34 + S0 76 n + 1 = S0 8 34 + (S0 76 n + 1) by omega, show S0 77 n - 2 = (((S0 77 n - 2).toNat : Nat) : Int) by omega]
      exact e1
    · rw [es, F1.ce 76 (by decide) (by decide), F1.ce 77 (by decide) (by decide)]
      exact lt_fr t0 F1 (by omega) (by omega)
  · -- true, false
    have w1 := wt_0 (σ := σ) (n := n) (by omega)
    have F1 : cFr (wt σ n) S0 S0 := cFr.rf F0.1 F0.2.1 (by omega)
    obtain ⟨z1, z2, z3⟩ := zz S0 3 (if S0 77 n = 4 then 1 else 0)
    refine ⟨_, w2_3 o32 hn (by omega) (fr_constant_s hkk h16), leaf_z (x := 3) (y := if S0 77 n = 4 then 1 else 0) H hN O F1 rfl rfl ⟨rfl, rfl⟩ (by omega) (cK_3 (by rw [kZ S0 _ _ _ F1 70 (by decide) (by decide), e]) z1 ?_)⟩
    rw [z2, kZ S0 _ _ _ F1 77 (by decide) (by decide), k77]
  · -- null
    have w1 := wt_0 (σ := σ) (n := n) (by omega)
    have F1 : cFr (wt σ n) S0 S0 := cFr.rf F0.1 F0.2.1 (by omega)
    obtain ⟨z1, z2, z3⟩ := zz S0 4 0
    exact ⟨_, w2_4 o32 hn (by omega) (fr_constant_s hkk h16), leaf_z (x := 4) (y := 0) H hN O F1 rfl rfl ⟨rfl, rfl⟩ (by omega) (cK_4 (by rw [kZ S0 _ _ _ F1 70 (by decide) (by decide), e]) z1 z2)⟩
  · -- a function's name
    have w1 := wt_1 (σ := σ) (n := n) (Or.inr (Or.inr (Or.inl e)))
    obtain ⟨v1, -, -, v4⟩ := nv (Or.inr (Or.inr (Or.inl (by omega))))
    have v4 := v4 (by omega) (by omega)
    obtain ⟨S, y, e1, F1, y0, es, cc, cc', -⟩ := fr_function_s (f := S0 76 n) (n := (S0 77 n).toNat) (w := wt σ n) F0.1 F0.2.1 t0 (by omega) (by omega) rm (by omega)
    obtain ⟨z1, z2, z3⟩ := zz S 5 y
    refine ⟨_, w2_7 o32 r33 hn (by omega) ?_ (fr_constant_s hkk (by rw [cc' 16 (by decide)]; exact h16)), leaf_z (x := 5) (y := y) H hN O F1 (cc' 12 (by decide)) (cc' 16 (by decide)) ⟨cc' 36 (by decide), cc' 37 (by decide)⟩ (by omega) (cK_7 z3 (t0.fr F1) (by rw [kZ S 5 y _ F1 70 (by decide) (by decide), e]) z1 z2 y0 ?_)⟩
    · rw [w32_e (x := S0 8 34 + S0 76 n) (by omega) (by omega)]
      rw [show (((S0 77 n).toNat : Nat) : Int) = S0 77 n by omega] at e1
      exact e1
    · rw [es, F1.ce 76 (by decide) (by decide), F1.ce 77 (by decide) (by decide)]
      exact lt_fr t0 F1 (by omega) (by omega)
theorem k_read (H : cH σ n (n + 1)) (hN : N n = σ 8 12) (O : own σ S0 n) (e : σ 70 n = 5) : ∃ Z, fr_work_2 (D + 1) S0 n (σ 8 12) = some (Z, 0) ∧ cZ σ Z N n (n + 1) n := by
  obtain ⟨F0, o12, o16, o36, o32, o0⟩ := O
  obtain ⟨h1, h2, h3, h4, ⟨a0, b4⟩, h6, h7, h8⟩ := H
  have nS1 := nd_S (σ := σ) (i := n) a0 (by omega)
  have wS1 := wq_s (σ := σ) (i := n) a0
  have w1 := wt_0 (σ := σ) (n := n) (by omega)
  have c0 := F0.ce
  have k70 : S0 70 n = σ 70 n := by rw [c0 70 (by decide) (by decide)]
  refine ⟨_, w2_5 o32 (by omega) (by omega) (by omega) (by omega), ?_⟩
  have FZ := (F0.own (a := 13) (i := σ 8 12) (v := S0 76 n) (by decide) (Int.le_refl _)).put (o := 1) (t := 0) (n := σ 8 12)
  have c := FZ.ce
  have z16 : cPt (gW S0 13 (σ 8 12) (S0 76 n)) 1 0 (σ 8 12) 8 16 = σ 8 16 + 1 := by rw [cPt_n.1, gW_c (by decide), o16]
  have z12 : cPt (gW S0 13 (σ 8 12) (S0 76 n)) 1 0 (σ 8 12) 8 12 = σ 8 12 + 1 := by rw [cPt_o (by omega) (Or.inl (by decide)), gW_c (by decide), o12]
  have z36 : ∀ i, i = 36 ∨ i = 37 → cPt (gW S0 13 (σ 8 12) (S0 76 n)) 1 0 (σ 8 12) 8 i = S0 8 i := fun i q => by rw [cPt_o (by omega) (by omega), gW_c (by decide)]
  have ci : cI (cPt (gW S0 13 (σ 8 12) (S0 76 n)) 1 0 (σ 8 12)) (σ 8 16) 1 0 (σ 8 12) := by
    have := @cI_put (gW S0 13 (σ 8 12) (S0 76 n)) (σ 8 12) 1 0
    rw [gW_c (by decide), o16] at this
    exact this
  have ow : oN (cPt (gW S0 13 (σ 8 12) (S0 76 n)) 1 0 (σ 8 12)) (σ 70 n) (σ 71 n) (σ 76 n) 0 (σ 8 12) := by
    obtain ⟨b1, b2, b3, b4, b5, b6, b7⟩ := o0
    have g : ∀ a, 9 ≤ a → a ≤ 18 → a ≠ 13 → cPt (gW S0 13 (σ 8 12) (S0 76 n)) 1 0 (σ 8 12) a (σ 8 12) = S0 a (σ 8 12) := fun a q1 q2 q3 => by rw [cPt_o (by omega) (by omega), gW_c q3]
    exact ⟨by rw [g 9 (by decide) (by decide) (by decide)]; exact b1, by rw [g 10 (by decide) (by decide) (by decide)]; exact b2, by rw [g 11 (by decide) (by decide) (by decide)]; exact b3, by rw [g 12 (by decide) (by decide) (by decide)]; exact b4, by rw [g 18 (by decide) (by decide) (by decide)]; exact b5, by rw [cPt_o (by omega) (Or.inl (by decide)), gW_at, c0 76 (by decide) (by decide)], by rw [g 14 (by decide) (by decide) (by decide)]; exact b7⟩
  generalize cPt (gW S0 13 (σ 8 12) (S0 76 n)) 1 0 (σ 8 12) = Z at *
  have e70 : Z 70 n = σ 70 n := by rw [c 70 (by decide) (by decide)]
  refine ⟨FZ.le (by omega), by omega, ⟨by rw [z36 36 (by decide), o36.1], by rw [z36 37 (by decide), o36.2]⟩, ⟨1, fun br co => ⟨by omega, Or.inr (Or.inl ⟨by omega, z16, by rw [hN]; exact ci⟩)⟩⟩, cA.one fun _ => ⟨?_, by omega, cEn_no (by omega)⟩, by omega⟩
  rw [hN]
  refine ⟨?_, fun q => by omega, fun q => by omega, fun q => by omega, fun q => by omega, fun q => by omega, fun q => by omega⟩
  rw [c 70 (by decide) (by decide), c 71 (by decide) (by decide), c 76 (by decide) (by decide), if_pos (Or.inl e), if_neg (by omega), if_neg (by omega)]
  exact ow
end CE
