/-! the component plants what is worked out: properties, calls; all of it -/
section CQ
variable {σ S T Z S0 : gM} {N : Int → Int} {a b n u v x w k p q y : Int} {d D m : Nat}
theorem oN.s14 (h : oN S p q u v k) : oN (gW S 14 k y) p q u y k := by
  obtain ⟨b1, b2, b3, b4, b5, b6, b7⟩ := h
  exact ⟨by rw [gW_c (by decide)]; exact b1, by rw [gW_c (by decide)]; exact b2, by rw [gW_c (by decide)]; exact b3, by rw [gW_c (by decide)]; exact b4, by rw [gW_c (by decide)]; exact b5, by rw [gW_c (by decide)]; exact b6, gW_at _ _ _ _⟩
theorem oN.c (h : oN S p q u v k) {c i : Int} (hc : c = 15 ∨ c = 16 ∨ c = 17) : oN (gW S c i y) p q u v k := h.mv fun a _ _ q3 q4 q5 => gW_c (by omega)
/-- a property: the object and its name are planted -/
def pMd (σ V : gM) (N : Int → Int) (a n qq : Int) : Prop := cFr (wq σ qq - wq σ a) σ V ∧ V 8 12 = σ 8 12 + (nd σ qq - nd σ a) ∧ (V 8 36 = σ 8 36 ∧ V 8 37 = σ 8 37) ∧ (σ 8 16 < V 8 16 ∧ V 8 16 + 1 < σ 8 16 + 2 * (nd σ qq - nd σ a)) ∧
  (∃ M, C0 V N 0 (σ 72 n) (σ 8 16) M ∧ ((σ 73 n < 0 ∧ V 8 16 = M) ∨ (0 ≤ σ 73 n ∧ C0 V N 0 (σ 73 n) M (V 8 16)))) ∧ cA V N a n (σ 8 12) (V 8 12) ∧ cA V N (n + 1) qq (σ 8 12) (V 8 12) ∧ oN V (σ 70 n) (σ 71 n) (-1) (if σ 73 n = -1 then 1 else 0) (σ 8 12) ∧
  (σ 73 n = -1 → V 16 (σ 8 12) = 2 ∧ (0 ≤ V 17 (σ 8 12) ∧ V 17 (σ 8 12) < V 0 7) ∧ cS V (V 17 (σ 8 12)) = lt (tl V) (V 76 n) (V 77 n).toNat)
theorem k_mid (ih : cT d) (H : cH σ a b) (hr : a ≤ n ∧ n < b) (hD : 3 * (nd σ b - nd σ a) < D + 3) (O : own σ S0 n) (e : σ 70 n = 21 ∨ σ 70 n = 22) (q1 : QT σ N d 0 a n (σ 72 n) (σ 8 12 + 1)) {qq : Int} (hq : n + 1 ≤ qq ∧ qq ≤ b) (q2 : (σ 73 n = -1 ∧ qq = n + 1) ∨ (0 ≤ σ 73 n ∧ QT σ N d 0 (n + 1) qq (σ 73 n) (σ 8 12 + 1 + (nd σ n - nd σ a)))) : ∃ V, fr_property (D + 1) S0 (σ 8 12) n = fr_property_b96 D V (σ 8 12) n ∧ pMd σ V N a n qq := by
  obtain ⟨F0, o12, o16, o36, o32, o0⟩ := O
  have H' := H
  obtain ⟨h1, h2, h3, h4, ⟨a0, b4⟩, h6, h7, h8⟩ := H'
  have nS1 := nd_S (σ := σ) (i := n) (by omega) (by omega)
  have wS1 := wq_s (σ := σ) (i := n) (by omega)
  have c0 := F0.ce
  have k72 : S0 72 n = σ 72 n := by rw [c0 72 (by decide) (by decide)]
  have ab := QT0_N q1
  have m1 := QT0_nd q1
  have mq := nd_r (σ := σ) (i := n + 1) (j := qq) (by omega) (by omega)
  have mb := nd_r (σ := σ) (i := qq) (j := b) (by omega) (by omega)
  have l1 := wq_le H (Int.le_refl _) hr.1 (by omega)
  have l2 := wq_le (u := n + 1) (v := qq) H (by omega) (by omega) (by omega)
  have l3 := wq_le (u := qq) H (by omega) hq.2 (Int.le_refl _)
  have hn : 0 ≤ n ∧ n < 4200 := by omega
  have wn := (h4 n hr.1 hr.2).wt0
  obtain ⟨T, e1, F1, t12, t36, C, A, t16, tm⟩ := ih.go (D := D) H F0 (by rw [o12]; exact q1) (Int.le_refl _) (by omega) (by omega) (by omega) (by omega) (by omega)
  obtain ⟨tm1, tm2, tm3⟩ := tm rfl
  have F01 := F0.tr F1
  have t1 := h3.fr F01
  have k73 : T 73 n = σ 73 n := by rw [F01.ce 73 (by decide) (by decide)]
  have oT := o0.fr F1 (by omega)
  have nv1 : ∀ i, a ≤ i → i < n → nV T i := fun i i0 i1 => (h4 i i0 (by omega)).fr h3 F01
  rcases q2 with ⟨z, rfl⟩ | ⟨z, q2⟩
  · -- a name
    have w1 := wt_1 (σ := σ) (n := n) (Or.inr (Or.inr (Or.inr ⟨e, z⟩)))
    have FX := (F01.own (a := 14) (i := σ 8 12) (v := 1) (by decide) (Int.le_refl _)).own (a := 16) (i := σ 8 12) (v := 2) (by decide) (Int.le_refl _)
    have x8 : ∀ i, gW (gW T 14 (σ 8 12) 1) 16 (σ 8 12) 2 8 i = T 8 i := fun i => by rw [gW_c (by decide), gW_c (by decide)]
    have xe : ∀ c i, 18 < c → gW (gW T 14 (σ 8 12) 1) 16 (σ 8 12) 2 c i = T c i := fun c i q => by rw [gW_c (by omega), gW_c (by omega)]
    have oX := (oT.s14 (y := 1)).c (y := 2) (c := 16) (i := σ 8 12) (by decide)
    have x16 : gW (gW T 14 (σ 8 12) 1) 16 (σ 8 12) 2 16 (σ 8 12) = 2 := gW_at _ _ _ _
    have AX := (A.mv (sameN.own (a := 14) (k := σ 8 12) (v := 1) (by decide) (Or.inl (by omega))) t1).mv (sameN.own (a := 16) (k := σ 8 12) (v := 2) (by decide) (Or.inl (by omega))) (t1.mv (sameN.own (lo := 0) (hi := 0) (by decide) (Or.inr (Or.inl h7.1))))
    have CX := (C.gw (a := 14) (i := σ 8 12) (v := 1) (by decide) (Or.inl (by decide))).gw (a := 16) (i := σ 8 12) (v := 2) (by decide) (Or.inl (by decide))
    generalize eX : gW (gW T 14 (σ 8 12) 1) 16 (σ 8 12) 2 = X at *
    have tX := h3.fr FX
    have nvX := (h4 n hr.1 hr.2).fr h3 FX
    have xc := FX.ce
    have k70 : X 70 n = σ 70 n := by rw [xc 70 (by decide) (by decide)]
    have k73' : X 73 n = σ 73 n := by rw [xc 73 (by decide) (by decide)]
    have k77 : X 77 n = σ 77 n := by rw [xc 77 (by decide) (by decide)]
    obtain ⟨v1, -, -, v4⟩ := nvX (Or.inr (Or.inr (Or.inr ⟨by omega, by omega⟩)))
    have v4 := v4 (by omega) (by omega)
    have rm : cRm X (wt σ n) := by
      refine cRm.fr (w := 0 + (wq σ n - wq σ a)) ?_ FX
      obtain ⟨r1, r2, r3, r4, r5⟩ := h6
      exact ⟨by omega, by omega, by omega, by omega, r5⟩
    obtain ⟨U, y, e2, F2, y0, es, -, cc, -⟩ := fr_str (f := X 76 n) (n := (X 77 n).toNat) (w := wt σ n) FX.1 FX.2.1 tX (by omega) (by omega) rm
    have FU := FX.tr F2
    have gn := tI_gN tX
    have gl : gN (X 8 33) ≤ 124600 := by rcases tX.row with q | q | q <;> rw [q] <;> decide
    have t34 := tX.2.2.1
    refine ⟨gW U 17 (σ 8 12) y, prop_2 o32 hn (by omega) (by rw [k72]; exact e1) t1.1 (by have := t1.row; omega) (by omega) ?_, ?_⟩
    · rw [eX, ← x8 33, ← x8 34, ← xe 76 n (by decide), ← xe 77 n (by decide), w32_e (by omega) (by omega)]
      rw [show (((X 77 n).toNat : Nat) : Int) = X 77 n by omega] at e2
      exact e2
    · have tU := h3.fr FU
      have FV := FU.own (a := 17) (i := σ 8 12) (v := y) (by decide) (Int.le_refl _)
      have u8 : ∀ i, gW U 17 (σ 8 12) y 8 i = T 8 i := fun i => by rw [gW_c (by decide), cc 8 i (by decide), x8]
      have u12 := u8 12
      have u16 := u8 16
      have u36 := u8 36
      have u37 := u8 37
      have nvX1 : ∀ i, a ≤ i → i < n → nV X i := fun i i0 i1 => (h4 i i0 (by omega)).fr h3 FX
      have AV := (AX.fr F2 FX.2.1 tX nvX1 (by rw [x8]; exact Int.le_refl _)).mv (sameN.own (a := 17) (k := σ 8 12) (v := y) (by decide) (Or.inl (by omega))) tU
      have CV := (CX.cf (by decide) F2 (by rw [x8]; exact Int.le_refl _)).gw (a := 17) (i := σ 8 12) (v := y) (by decide) (Or.inl (by decide))
      have oV := (oX.fr F2 (by rw [x8]; omega)).c (y := y) (c := 17) (i := σ 8 12) (by decide)
      have v16 : gW U 17 (σ 8 12) y 16 (σ 8 12) = 2 := by rw [gW_c (by decide), cc 16 _ (by decide), x16]
      have v17 : gW U 17 (σ 8 12) y 17 (σ 8 12) = y := gW_at _ _ _ _
      have sV : sameN U (gW U 17 (σ 8 12) y) 0 0 := sameN.own (by decide) (Or.inr (Or.inl h7.1))
      have tlV := sameN_tl sV tU
      refine ⟨FV.le (by omega), by omega, ⟨by omega, by omega⟩, by omega, ⟨T 8 16, by rw [← o16]; exact CV, Or.inl ⟨by omega, u16⟩⟩, AV.wd (by omega) (by omega), cA.nil (Int.le_refl _), by rw [if_pos z]; exact oV, fun _ => ⟨v16, ?_, ?_⟩⟩
      · rw [v17, sV.1 0 (by decide)]; exact y0
      · rw [v17, tlV, sV.1 76 (by decide), sV.1 77 (by decide), cS_mv (sV.1 1 (by decide)) (sV.1 2 (by decide)) (sV.1 3 (by decide)), es, F2.ce 76 (by decide) (by decide), F2.ce 77 (by decide) (by decide)]
        exact lt_fr tX F2 (by omega) (by omega)
  · -- worked out
    have w1 := wt_0 (σ := σ) (n := n) (by omega)
    have ab2 := QT0_N q2
    have m2 := QT0_nd q2
    obtain ⟨U, e2, F2, u12, u36, C2, A2, u16, um⟩ := ih.go (D := D) H F01 (by rw [t12, o12]; exact q2) (by omega) hq.2 (by omega) (by omega) (by omega) (by omega)
    obtain ⟨um1, um2, um3⟩ := um rfl
    have F012 := F01.tr F2
    refine ⟨U, prop_1 o32 hn (by rw [k72]; exact e1) t1.1 (by omega) (by rw [k73]; exact e2), F012.le (by omega), by omega, ⟨by omega, by omega⟩, by omega, ⟨T 8 16, ?_, Or.inr ⟨z, C2⟩⟩, (A.fr F2 F01.2.1 t1 nv1 (Int.le_refl _)).wd (by omega) (by omega), A2.wd (by omega) (by omega), ?_, fun q => by omega⟩
    · rw [← o16]; exact C.cf (by decide) F2 (Int.le_refl _)
    · rw [if_neg (by omega)]; exact oT.fr F2 (by omega)
/-- a property -/
theorem k_prop (ih : cT d) (H : cH σ a b) (hr : a ≤ n ∧ n < b) (hD : 3 * (nd σ b - nd σ a) < D + 3) (hN : N n = σ 8 12) (O : own σ S0 n) (e : σ 70 n = 21 ∨ σ 70 n = 22) (q1 : QT σ N d 0 a n (σ 72 n) (σ 8 12 + 1)) {qq : Int} (q2 : (σ 73 n = -1 ∧ qq = n + 1) ∨ (0 ≤ σ 73 n ∧ QT σ N d 0 (n + 1) qq (σ 73 n) (σ 8 12 + 1 + (nd σ n - nd σ a))))
    (q3 : (σ 70 n = 21 ∧ σ 74 n = -1 ∧ qq = b) ∨ (σ 70 n = 22 ∧ QT σ N d 0 qq b (σ 74 n) (σ 8 12 + 1 + (nd σ n - nd σ a) + (nd σ qq - nd σ (n + 1))))) : ∃ Z, fr_work_2 (D + 2) S0 n (σ 8 12) = some (Z, 0) ∧ cZ σ Z N a b n := by
  have hq : n + 1 ≤ qq ∧ qq ≤ b := by
    constructor
    · rcases q2 with ⟨_, h⟩ | ⟨_, h⟩
      · omega
      · exact (QT_ab _ _ _ _ _ _ h).1
    · rcases q3 with ⟨_, _, h⟩ | ⟨_, h⟩
      · omega
      · exact (QT_ab _ _ _ _ _ _ h).1
  obtain ⟨V, e1, FV, v12, v36, v16, ⟨M, C1, C2⟩, A1, A2, oV, kV⟩ := k_mid ih H hr hD O e q1 hq q2
  obtain ⟨F0, o12, o16, o36, o32, o0⟩ := O
  have H' := H
  obtain ⟨h1, h2, h3, h4, ⟨a0, b4⟩, h6, h7, h8⟩ := H'
  have nS1 := nd_S (σ := σ) (i := n) (by omega) (by omega)
  have c0 := F0.ce
  have k70 : S0 70 n = σ 70 n := by rw [c0 70 (by decide) (by decide)]
  have mq := nd_r (σ := σ) (i := n + 1) (j := qq) (by omega) (by omega)
  have mn := nd_r (σ := σ) (i := a) (j := n) (by omega) (by omega)
  have mb := nd_r (σ := σ) (i := qq) (j := b) (by omega) (by omega)
  have l3 := wq_le (u := qq) H (by omega) hq.2 (Int.le_refl _)
  have hn : 0 ≤ n ∧ n < 4200 := by omega
  have tV := h3.fr FV
  have vc := FV.ce
  have k70V : V 70 n = σ 70 n := by rw [vc 70 (by decide) (by decide)]
  have k74V : V 74 n = σ 74 n := by rw [vc 74 (by decide) (by decide)]
  -- the last part
  have last : ∃ W, ((V 70 n = 21 ∧ W = V) ∨ (V 70 n = 22 ∧ fr_work D V (V 74 n) = some (W, 0) ∧ W 8 32 = 68 ∧ W 70 n = V 70 n)) ∧ cFr (wq σ b - wq σ qq) V W ∧ W 8 12 = σ 8 12 + (nd σ b - nd σ a) ∧ (W 8 36 = σ 8 36 ∧ W 8 37 = σ 8 37) ∧ (V 8 16 ≤ W 8 16 ∧ W 8 16 + 1 < σ 8 16 + 2 * (nd σ b - nd σ a)) ∧ ((σ 70 n = 21 ∧ W 8 16 = V 8 16) ∨ (σ 70 n = 22 ∧ C0 W N 0 (σ 74 n) (V 8 16) (W 8 16))) ∧ cA W N qq b (σ 8 12) (W 8 12) := by
    rcases q3 with ⟨z, z1, rfl⟩ | ⟨z, q3⟩
    · exact ⟨V, Or.inl ⟨by omega, rfl⟩, cFr.rf FV.1 FV.2.1 (by omega), v12, v36, by omega, Or.inl ⟨z, rfl⟩, cA.nil (Int.le_refl _)⟩
    · have m3 := QT0_nd q3
      obtain ⟨W, e2, F2, u12, u36, C3, A3, u16, um⟩ := ih.go (D := D) H FV (by rw [v12, show σ 8 12 + (nd σ qq - nd σ a) = σ 8 12 + 1 + (nd σ n - nd σ a) + (nd σ qq - nd σ (n + 1)) by omega]; exact q3) (by omega) (Int.le_refl _) (by omega) (by omega) (by omega) (by omega)
      obtain ⟨um1, um2, um3⟩ := um rfl
      have tW := tV.fr F2
      exact ⟨W, Or.inr ⟨by omega, by rw [k74V]; exact e2, tW.1, by rw [F2.ce 70 (by decide) (by decide)]⟩, F2, by omega, ⟨by omega, by omega⟩, by omega, Or.inr ⟨z, C3⟩, A3.wd (by omega) (Int.le_refl _)⟩
  obtain ⟨W, alt, F2, w12, w36, w16, C3, A3⟩ := last
  have FW := FV.tr F2
  have tW := h3.fr FW
  refine ⟨_, w2_21 (d := D + 1) o32 hn (by omega) (by rw [e1]; exact prop_end (S1 := W) tV.1 hn (by omega) alt (by omega)), ?_⟩
  rw [k70V]
  generalize eo : (if σ 70 n = 22 then (8 : Int) else 7) = o
  have FZ := FW.put (o := o) (t := 0) (n := σ 8 12)
  have c := FZ.ce
  have CM : M ≤ V 8 16 := by
    rcases C2 with q | ⟨-, d', q⟩
    · omega
    · exact CT_ab _ _ _ _ _ _ _ (q 0 0)
  have CZ1 := (C1.cf (by decide) F2 CM).pt (o := o) (t := 0) (x := σ 8 12) (by decide) (by omega)
  have nvV : ∀ i, a ≤ i → i < b → nV V i := fun i i0 i1 => (h4 i i0 i1).fr h3 FV
  have AZ1 := (A1.fr F2 FV.2.1 tV (fun i i0 i1 => nvV i i0 (by omega)) (Int.le_refl _)).mv (sameN.put (o := o) (t := 0) (n := σ 8 12)) tW
  have AZ2 := (A2.fr F2 FV.2.1 tV (fun i i0 i1 => nvV i (by omega) (by omega)) (Int.le_refl _)).mv (sameN.put (o := o) (t := 0) (n := σ 8 12)) tW
  have AZ3 := A3.mv (sameN.put (o := o) (t := 0) (n := σ 8 12)) tW
  have z16 : cPt W o 0 (σ 8 12) 8 16 = W 8 16 + 1 := cPt_n.1
  have z12 : cPt W o 0 (σ 8 12) 8 12 = W 8 12 := cPt_o (by omega) (Or.inl (by decide))
  have z36 : cPt W o 0 (σ 8 12) 8 36 = W 8 36 := cPt_o (by omega) (Or.inl (by decide))
  have z37 : cPt W o 0 (σ 8 12) 8 37 = W 8 37 := cPt_o (by omega) (Or.inl (by decide))
  have ci := @cI_put W (σ 8 12) o 0
  have ow := (oV.fr F2 (by omega)).mv (T := cPt W o 0 (σ 8 12)) fun a q1 q2 _ _ _ => cPt_o (by omega) (by omega)
  have CZ2 : (σ 73 n < 0 ∧ V 8 16 = M) ∨ (0 ≤ σ 73 n ∧ C0 (cPt W o 0 (σ 8 12)) N 0 (σ 73 n) M (V 8 16)) := by
    rcases C2 with q | ⟨q, C2⟩
    · exact Or.inl q
    · exact Or.inr ⟨q, (C2.cf (by decide) F2 (Int.le_refl _)).pt (by decide) w16.1⟩
  have CZ3 : (σ 70 n = 21 ∧ W 8 16 = V 8 16) ∨ (σ 70 n = 22 ∧ C0 (cPt W o 0 (σ 8 12)) N 0 (σ 74 n) (V 8 16) (W 8 16)) := by
    rcases C3 with q | ⟨q, C3⟩
    · exact Or.inl q
    · exact Or.inr ⟨q, C3.pt (by decide) (Int.le_refl _)⟩
  have z1 : ∀ c i, c < 20 ∨ 22 < c → (c ≠ 8 ∨ i ≠ 16) → cPt W o 0 (σ 8 12) c i = W c i := fun c i q1 q2 => cPt_o q2 (Or.inl q1)
  have sZ : sameN W (cPt W o 0 (σ 8 12)) 0 0 := sameN.put
  generalize cPt W o 0 (σ 8 12) = Z at *
  have e70 : Z 70 n = σ 70 n := by rw [c 70 (by decide) (by decide)]
  have e71 : Z 71 n = σ 71 n := by rw [c 71 (by decide) (by decide)]
  have e72 : Z 72 n = σ 72 n := by rw [c 72 (by decide) (by decide)]
  have e73 : Z 73 n = σ 73 n := by rw [c 73 (by decide) (by decide)]
  have e74 : Z 74 n = σ 74 n := by rw [c 74 (by decide) (by decide)]
  have r73 : σ 73 n = -1 ∨ 0 ≤ σ 73 n := by rcases q2 with q | q <;> omega
  refine ⟨FZ.le (by omega), by omega, ⟨by omega, by omega⟩, ?_, ?_, by omega⟩
  · have fin : ∃ d', (∀ br co, CT Z N br co d' 0 (σ 72 n) (σ 8 16) M) ∧ ((σ 73 n < 0 ∧ V 8 16 = M) ∨ (0 ≤ σ 73 n ∧ ∀ br co, CT Z N br co d' 0 (σ 73 n) M (V 8 16))) ∧ ((σ 70 n = 21 ∧ W 8 16 = V 8 16) ∨ (σ 70 n = 22 ∧ ∀ br co, CT Z N br co d' 0 (σ 74 n) (V 8 16) (W 8 16))) := by
      rcases CZ2 with q | ⟨q, g2⟩
      · rcases CZ3 with p | ⟨p, g3⟩
        · obtain ⟨d', g1⟩ := CZ1
          exact ⟨d', g1, Or.inl q, Or.inl p⟩
        · obtain ⟨d', g1, g3⟩ := CZ1.two g3
          exact ⟨d', g1, Or.inl q, Or.inr ⟨p, g3⟩⟩
      · rcases CZ3 with p | ⟨p, g3⟩
        · obtain ⟨d', g1, g2⟩ := CZ1.two g2
          exact ⟨d', g1, Or.inr ⟨q, g2⟩, Or.inl p⟩
        · obtain ⟨d', g1, g2, g3⟩ := CZ1.three g2 g3
          exact ⟨d', g1, Or.inr ⟨q, g2⟩, Or.inr ⟨p, g3⟩⟩
    obtain ⟨d', g1, g2, g3⟩ := fin
    refine ⟨d' + 1, fun br co => ⟨by omega, Or.inr (Or.inr (Or.inr (Or.inr (Or.inr (Or.inr (Or.inl ⟨by omega, ⟨M, V 8 16, ?_, ?_, ?_⟩, ?_⟩))))))⟩⟩
    · rw [e72]; exact g1 br co
    · rw [e73]
      rcases g2 with q | ⟨q, g2⟩
      · exact Or.inl q
      · exact Or.inr ⟨q, g2 br co⟩
    · rw [e70, e74]
      rcases g3 with q | ⟨q, g3⟩
      · exact Or.inl ⟨q.1, by omega⟩
      · exact Or.inr ⟨q, by rw [show Z 8 16 - 1 = W 8 16 by omega]; exact g3 br co⟩
    · rw [show Z 8 16 - 1 = W 8 16 by omega, hN, e70, eo]; exact ci
  · refine cA.cat (cA.cat (AZ1.wd (by omega) (by omega)) (cA.one fun _ => ⟨?_, by omega, cEn_no (by omega)⟩)) (cA.cat (AZ2.wd (by omega) (by omega)) (AZ3.wd (by omega) (by omega)))
    rw [hN]
    refine ⟨?_, cK_21 (S := W) (y := W 17 (σ 8 12)) sZ tW (by omega) fun q => ?_⟩
    · rw [e70, e71, e73, if_neg (by omega), if_neg (by omega)]
      rcases r73 with q | q
      · rw [if_pos ⟨e, q⟩]
        rw [if_pos q] at ow
        exact ow
      · rw [if_neg (by omega)]
        rw [if_neg (by omega)] at ow
        exact ow
    · obtain ⟨x1, x2, x3⟩ := kV (by omega)
      have w17 := F2.2.2.2.2.1 17 (σ 8 12) (by decide) (by decide) (by omega)
      have nvn := nvV n hr.1 hr.2 (Or.inr (Or.inr (Or.inr ⟨by omega, by rw [vc 73 (by decide) (by decide)]; omega⟩)))
      refine ⟨?_, z1 17 _ (by decide) (Or.inl (by decide)), ?_, ?_⟩
      · rw [z1 16 _ (by decide) (Or.inl (by decide)), F2.2.2.2.2.1 16 (σ 8 12) (by decide) (by decide) (by omega)]; exact x1
      · rw [w17]
        have := F2.2.2.2.2.2.2.2.2.2.2.2.2.2.2.1
        omega
      · rw [w17, (F2.2.2.2.2.2.2.2.1 _ (Or.inl x2)).1, x3, F2.ce 76 (by decide) (by decide), F2.ce 77 (by decide) (by decide)]
        exact lt_fr tV F2 (by omega) (by omega)
/-- a call -/
theorem k_call (ih : cT d) (ihl : cLs d) (H : cH σ a b) (hr : a ≤ n ∧ n < b) (hD : 3 * (nd σ b - nd σ a) < D + 3) (hN : N n = σ 8 12) (O : own σ S0 n) (e : σ 70 n = 23) (q1 : QT σ N d 0 a n (σ 72 n) (σ 8 12 + 1)) (q2 : QT σ N d 1 (n + 1) b (σ 73 n) (σ 8 12 + 1 + (nd σ n - nd σ a))) : ∃ Z, fr_work_2 (D + 2) S0 n (σ 8 12) = some (Z, 0) ∧ cZ σ Z N a b n := by
  obtain ⟨F0, o12, o16, o36, o32, o0⟩ := O
  have H' := H
  obtain ⟨h1, h2, h3, h4, ⟨a0, b4⟩, h6, h7, h8⟩ := H'
  have nS1 := nd_S (σ := σ) (i := n) (by omega) (by omega)
  have wS1 := wq_s (σ := σ) (i := n) (by omega)
  have w1 := wt_0 (σ := σ) (n := n) (by omega)
  have c0 := F0.ce
  have k70 : S0 70 n = σ 70 n := by rw [c0 70 (by decide) (by decide)]
  have k72 : S0 72 n = σ 72 n := by rw [c0 72 (by decide) (by decide)]
  have ab := QT0_N q1
  have m1 := QT0_nd q1
  have ab2 := (QT_ab _ _ _ _ _ _ q2).1
  have m2 := nd_r (σ := σ) (i := n + 1) (j := b) (by omega) (by omega)
  have l1 := wq_le H (Int.le_refl _) hr.1 (by omega)
  have l2 := wq_le (u := n + 1) H (by omega) (by omega) (Int.le_refl _)
  have hn : 0 ≤ n ∧ n < 4200 := by omega
  obtain ⟨T, e1, F1, t12, t36, C, A, t16, tm⟩ := ih.go (D := D + 1) H F0 (by rw [o12]; exact q1) (Int.le_refl _) (by omega) (by omega) (by omega) (by omega) (by omega)
  obtain ⟨tm1, tm2, tm3⟩ := tm rfl
  have F01 := F0.tr F1
  have t1 := h3.fr F01
  have FX := F01.own (a := 14) (i := σ 8 12) (v := T 76 n) (by decide) (Int.le_refl _)
  have x8 : ∀ i, gW T 14 (σ 8 12) (T 76 n) 8 i = T 8 i := fun i => gW_c (by decide)
  have oX := (o0.fr F1 (by omega)).s14 (y := T 76 n)
  have k76 : T 76 n = σ 76 n := by rw [F01.ce 76 (by decide) (by decide)]
  have k73 : T 73 n = σ 73 n := by rw [F01.ce 73 (by decide) (by decide)]
  have AX := A.mv (sameN.own (a := 14) (k := σ 8 12) (v := T 76 n) (by decide) (Or.inl (by omega))) t1
  have CX := C.gw (a := 14) (i := σ 8 12) (v := T 76 n) (by decide) (Or.inl (by decide))
  have eq1 := w2_23 (d := D + 1) (S1 := T) (k := σ 8 12) o32 hn (by omega) (by omega) (by rw [k72]; exact e1) t1.1
  generalize gW T 14 (σ 8 12) (T 76 n) = X at *
  have x12 := x8 12
  have x16 := x8 16
  have x36 := x8 36
  have x37 := x8 37
  obtain ⟨U, e2, F2, u12, u36, C2, A2, u16, um⟩ := ihl.go (D := D + 1) (k := σ 8 12) H FX (by rw [x12, t12, o12]; exact q2) (by omega) (Int.le_refl _) (by omega) (by omega) (by omega) (by omega)
  have F012 := FX.tr F2
  have t2 := h3.fr F012
  have tX := h3.fr FX
  refine ⟨cPt U 9 0 (σ 8 12), ?_, ?_⟩
  · rw [eq1, k73, e2, fr_work_2_b443_e, if_pos (by decide), fr_put_s (by omega)]
    rfl
  have FZ := F012.put (o := 9) (t := 0) (n := σ 8 12)
  have c := FZ.ce
  have CZ := (CX.cf (by decide) F2 (by omega)).pt (o := 9) (t := 0) (x := σ 8 12) (by decide) (by omega)
  have CZ2 := C2.pt (o := 9) (t := 0) (x := σ 8 12) (by decide) (Int.le_refl _)
  have nv1 : ∀ i, a ≤ i → i < n → nV X i := fun i i0 i1 => (h4 i i0 (by omega)).fr h3 FX
  have AZ := (AX.fr F2 FX.2.1 tX nv1 (by omega)).mv (sameN.put (o := 9) (t := 0) (n := σ 8 12)) t2
  have AZ2 := A2.mv (sameN.put (o := 9) (t := 0) (n := σ 8 12)) t2
  have z16 : cPt U 9 0 (σ 8 12) 8 16 = U 8 16 + 1 := cPt_n.1
  have z12 : cPt U 9 0 (σ 8 12) 8 12 = U 8 12 := cPt_o (by omega) (Or.inl (by decide))
  have z36 : cPt U 9 0 (σ 8 12) 8 36 = U 8 36 := cPt_o (by omega) (Or.inl (by decide))
  have z37 : cPt U 9 0 (σ 8 12) 8 37 = U 8 37 := cPt_o (by omega) (Or.inl (by decide))
  have ci := @cI_put U (σ 8 12) 9 0
  have ow := (oX.fr F2 (by omega)).mv (T := cPt U 9 0 (σ 8 12)) fun a q1 q2 _ _ _ => cPt_o (by omega) (by omega)
  generalize cPt U 9 0 (σ 8 12) = Z at *
  have e70 : Z 70 n = σ 70 n := by rw [c 70 (by decide) (by decide)]
  have e71 : Z 71 n = σ 71 n := by rw [c 71 (by decide) (by decide)]
  have e72 : Z 72 n = σ 72 n := by rw [c 72 (by decide) (by decide)]
  have e73 : Z 73 n = σ 73 n := by rw [c 73 (by decide) (by decide)]
  have e76 : Z 76 n = σ 76 n := by rw [c 76 (by decide) (by decide)]
  refine ⟨FZ.le (by omega), by omega, ⟨by omega, by omega⟩, ?_, ?_, by omega⟩
  · obtain ⟨d', g1, g2⟩ := CZ.two CZ2
    refine ⟨d' + 1, fun br co => ⟨by omega, Or.inr (Or.inr (Or.inr (Or.inr (Or.inr (Or.inr (Or.inr ⟨by omega, ⟨T 8 16, ?_, ?_⟩, ?_⟩))))))⟩⟩
    · rw [e72, ← o16]; exact g1 br co
    · rw [e73, show Z 8 16 - 1 = U 8 16 by omega, ← x16]; exact g2 br co
    · rw [show Z 8 16 - 1 = U 8 16 by omega, hN]; exact ci
  · refine cA.cat (cA.cat (AZ.wd (by omega) (by omega)) (cA.one fun _ => ⟨?_, by omega, cEn_no (by omega)⟩)) (AZ2.wd (by omega) (by omega))
    rw [hN]
    refine ⟨?_, fun q => by omega, fun q => by omega, fun q => by omega, fun q => by omega, fun q => by omega, fun q => by omega⟩
    rw [e70, e71, e76, if_neg (by omega), if_pos e, ← k76]
    exact ow
theorem cLs_s (iht : cT d) (ihl : cLs d) : cLs (d + 1) := by
  intro D σ N a b n k q H hD
  have H' := H
  obtain ⟨h1, h2, h3, h4, ⟨a0, b4⟩, h6, h7, h8⟩ := H'
  rcases q with ⟨rfl, rfl⟩ | ⟨n0, x, q1, q2⟩
  · exact ⟨σ, rfl, cFr.rf h1 h2 (by omega), by omega, ⟨rfl, rfl⟩, ⟨1, fun br co => Or.inl ⟨by omega, rfl⟩⟩, cA.nil (Int.le_refl _), by omega, fun q => by omega⟩
  · have ab := QT0_N q1
    have m1 := QT0_nd q1
    have ab2 := (QT_ab _ _ _ _ _ _ q2).1
    have m2 := nd_r (σ := σ) (i := x) (j := b) (by omega) (by omega)
    have l1 := wq_le (v := x) H (Int.le_refl _) (by omega) (by omega)
    have l2 := wq_le (u := x) H (by omega) (by omega) (Int.le_refl _)
    obtain ⟨T, e1, F1, t12, t36, C, A, t16, tm⟩ := iht.go (D := D) H (cFr.rf h1 h2 (Int.le_refl 0)) q1 (Int.le_refl _) (by omega) (by omega) (by omega) (by omega) (by omega)
    obtain ⟨tm1, tm2, tm3⟩ := tm rfl
    have t1 := h3.fr F1
    obtain ⟨U, e2, F2, u12, u36, C2, A2, u16, um⟩ := ihl.go (D := D) (k := k) H F1 (by rw [t12]; exact q2) (by omega) (Int.le_refl _) (by omega) (by omega) (by omega) (by omega)
    have F12 := F1.tr F2
    have c := F12.ce
    have nv1 : ∀ i, a ≤ i → i < x → nV T i := fun i i0 i1 => (h4 i i0 (by omega)).fr h3 F1
    refine ⟨U, ?_, F12.le (by omega), by omega, ⟨by omega, by omega⟩, ?_, ((A.fr F2 F1.2.1 t1 nv1 (Int.le_refl _)).wd (by omega) (by omega)).cat (A2.wd (by omega) (Int.le_refl _)), by omega, fun q => by omega⟩
    · rw [fr_work_2_b443_e, if_neg (by omega), e1]
      simp only [Option.bind_some]
      rw [if_pos (by rw [t1.1]; decide), if_pos (by omega), F1.ce 75 (by decide) (by decide)]
      exact e2
    · obtain ⟨d', g1, g2⟩ := (C.cf (by decide) F2 (Int.le_refl _)).two C2
      refine ⟨d' + 1, fun br co => Or.inr ⟨n0, T 8 16, g1 br co, ?_⟩⟩
      rw [c 75 (by decide) (by decide)]
      exact g2 br co
theorem cT_s (ih : cT d) (ihl : cLs d) : cT (d + 1) := by
  intro D σ N a b n q H hD
  obtain ⟨qN, qr, qk⟩ := q
  have H' := H
  obtain ⟨h1, h2, h3, h4, ⟨a0, b4⟩, h6, h7, h8⟩ := H'
  have k30 : σ 70 n ≠ 30 := by
    rcases qk with ⟨e, -⟩ | ⟨e, -⟩ | ⟨e, -⟩ | ⟨e, -⟩ | ⟨e, -⟩ | ⟨e, -⟩ <;> omega
  have nlt := nd_lt (σ := σ) (i := n) (j := b) (by omega) (by omega) k30
  have nla := nd_r (σ := σ) (i := a) (j := n) (by omega) (by omega)
  have t32 := h3.1
  obtain ⟨D, rfl⟩ : ∃ D', D = D' + 3 := ⟨D - 3, by omega⟩
  have hD' : 3 * (nd σ b - nd σ a) < (D : Int) + 3 := by omega
  have O := own.of (n := n) H
  suffices hs : ∃ Z, fr_work_2 (D + 2) (cNd σ n) n (σ 8 12) = some (Z, 0) ∧ cZ σ Z N a b n by
    obtain ⟨Z, z1, z2⟩ := hs
    refine ⟨_, ?_, z2.fin h3 h7.1⟩
    rw [fr_work_e, fr_node_s (by omega) (by omega) (by omega)]
    simp only [Option.bind_some]
    rw [z1]
    simp only [Option.bind_some]
    rw [if_pos (by omega)]
  generalize cNd σ n = S0 at *
  rcases qk with ⟨e, rfl, rfl, e72, e73, e74⟩ | ⟨e, rfl, e72, e73, q1⟩ | ⟨e, q1, q2, e74⟩ | ⟨e, rfl, q1, e73, e74⟩ | ⟨e, q1, qq, q2, q3⟩ | ⟨e, q1, q2, e74⟩
  · by_cases z : σ 70 a = 5
    · exact k_read (D := D + 1) H qN O z
    · exact k_leaf (D := D + 1) H qN O (by omega)
  · exact k_write ih H hD' qN O e q1
  · by_cases z : σ 70 n ≤ 17
    · exact k_two ih H qr.2 hD' qN O (by omega) q1 q2
    · exact k_and ih H qr.2 hD' qN O (by omega) q1 q2
  · exact k_not ih H hD' qN O e q1
  · exact k_prop ih H qr.2 hD' qN O e q1 q2 q3
  · exact k_call ih ihl H qr.2 hD' qN O e q1 q2
theorem cT_all : ∀ d : Nat, cT d ∧ cLs d
  | 0 => ⟨fun _ _ _ _ _ _ q => q.elim, fun _ _ _ _ _ _ _ q => q.elim⟩
  | d + 1 => ⟨cT_s (cT_all d).1 (cT_all d).2, cLs_s (cT_all d).1 (cT_all d).2⟩
end CQ
