/-! what is worked out: operators -/
/-- may be set -/
def bare0 (σ τ : gM) (n : Int) : Prop := (σ 78 n = 1 ∧ τ 145 (nd σ n) = 0 ∧ (σ 70 n = 5 ∨ σ 70 n = 21)) ∨ (σ 78 n = 0 ∧ (τ 145 (nd σ n) = 1 ∨ (σ 70 n ≠ 5 ∧ σ 70 n ≠ 21)))
/-- nothing follows it yet -/
def anyB (σ τ : gM) (n : Int) : Prop := σ 75 n = -1 ∧ τ 141 (nd σ n) = -1
def bare (σ τ : gM) (n : Int) : Prop := bare0 σ τ n ∧ anyB σ τ n
/-- a tree was read, from M0 on -/
def XG (σ τ : gM) (M0 : Int) (σ' τ' : gM) (n : Int) : Prop := pG 1 σ' τ' ∧ kE M0 (nd σ M0) σ σ' τ τ' ∧ PX σ' τ' 0 M0 (σ' 68 10) n 0 ∧ NB σ' τ' 0 (σ 68 19 - 1) M0 (σ' 68 10) ∧ σ' 68 21 = σ 68 21 ∧ σ' 68 22 = σ 68 22
def XR (B : gM → gM → Int → Prop) (σ τ : gM) (M0 : Int) (X : Option (gM × Int)) (Y : Option (gM × Option Int)) : Prop := (∃ σ' τ' n, X = some (σ', n) ∧ Y = some (τ', some (nd σ' n)) ∧ XG σ τ M0 σ' τ' n ∧ B σ' τ' n) ∨ (∃ σ' τ' n, X = some (σ', n) ∧ Y = some (τ', none) ∧ bd 4100 σ' τ' ∧ (0 ≤ n ∧ n < 4200))
/-- a function of the grammar on both sides; d says how deep it may go -/
def XS (B : gM → gM → Int → Prop) (d : Nat) (X : gM → Option (gM × Int)) (Y : gM → Option (gM × Option Int)) : Prop := ∀ σ τ, pG 1 σ τ → 10 * (21 - σ 68 21) + 20 ≤ d → XR B σ τ (σ 68 10) (X σ) (Y τ)
/-- the same where there is a fault: one node more -/
def XB (X : gM → Option (gM × Int)) : Prop := ∀ σ τ k, bd k σ τ → k < 4200 → ∃ σ', X σ = some (σ', σ 68 10) ∧ bd (k + 1) σ' τ ∧ (0 ≤ σ 68 10 ∧ σ 68 10 < 4200)
theorem bd.le {k k' : Int} {σ τ : gM} (h : bd k σ τ) (hk : k ≤ k') : bd k' σ τ := ⟨h.1, h.2.1, h.2.2.1, h.2.2.2.1, by have := h.2.2.2.2; omega⟩
theorem bd.w {k a i v : Int} {σ τ : gM} (h : bd k σ τ) (ha : a ≠ 69) (h2 : a ≠ 68 ∨ i ≠ 10) : bd k (gW σ a i v) τ := by
  obtain ⟨h1, h3, h4, h5, h6⟩ := h
  have e : gW σ a i v 68 10 = σ 68 10 := by unfold gW; rw [if_neg (by omega)]
  exact ⟨by rw [gW_c (by omega)]; exact h1, by rw [gW_c (by omega)]; exact h3, by rw [gW_c (by omega)]; exact h4, by rw [e]; exact h5, by rw [e]; exact h6⟩
section XX
variable {σ τ σ0 τ0 : gM} {M0 : Int}
theorem XG.of {S T S' T' : gM} {n : Int} (k : kE M0 (nd σ0 M0) σ0 S τ0 T) (o : S 68 21 = σ0 68 21 ∧ S 68 22 = σ0 68 22) (h : XG S T M0 S' T' n) : XG σ0 τ0 M0 S' T' n := by
  obtain ⟨h1, h2, h3, h4, h5, h6⟩ := h
  have e := k.nd (Int.le_refl M0)
  rw [e] at h2
  rw [k.2.2.1 19 (by decide)] at h4
  exact ⟨h1, k.tr h2 (Int.le_refl _) (Int.le_refl _), h3, h4, h5.trans o.1, h6.trans o.2⟩
theorem XR.of {B : gM → gM → Int → Prop} {S T : gM} {X : Option (gM × Int)} {Y : Option (gM × Option Int)} (k : kE M0 (nd σ0 M0) σ0 S τ0 T) (o : S 68 21 = σ0 68 21 ∧ S 68 22 = σ0 68 22) (h : XR B S T M0 X Y) : XR B σ0 τ0 M0 X Y := by
  rcases h with ⟨σ', τ', n, e1, e2, g, b⟩ | h
  · exact Or.inl ⟨σ', τ', n, e1, e2, g.of k o, b⟩
  · exact Or.inr h
theorem XG.n {S T : gM} {n : Int} (h : XG σ τ M0 S T n) : (0 ≤ M0 ∧ M0 ≤ n ∧ n < S 68 10) ∧ S 68 10 ≤ 4001 ∧ T 119 43 = nd S (S 68 10) ∧ S 70 n ≠ 30 ∧ nd S n < T 119 43 ∧ 0 ≤ nd S n ∧ nd S n < 4004 := by
  obtain ⟨h1, h2, ⟨d, h3⟩, h4, -⟩ := h
  have a := (PT_ab _ _ _ _ _ _ h3).2.1 (Or.inl rfl)
  have k := (PT0_k h3).1
  have l := nd_lt (σ := S) (i := n) (j := S 68 10) (by omega) (by omega) k
  have p := nd_pos (σ := S) (i := n) (by omega)
  obtain ⟨g1, ⟨⟨k1, k2, k3, k4, k5, -⟩, -⟩, g3, g4, g5, -⟩ := h1
  have hn := g1.2.1
  refine ⟨a, by omega, g5, k, by omega, p.1, by omega⟩
/-- the tree over an operator's two sides -/
theorem PX.bin {S T : gM} {a b n K : Int} (hK : 8 ≤ K ∧ K ≤ 19) (h70 : S 70 n = K) (hl : PX S T 0 a n (S 72 n) 0) (hr : PX S T 0 (n + 1) b (S 73 n) 0) (h74 : S 74 n = -1) : PX S T 0 a b n 0 := by
  obtain ⟨d, h1, h2⟩ := hl.two hr
  have a1 := (PT_ab _ _ _ _ _ _ h1).2.1 (Or.inl rfl)
  have a2 := (PT_ab _ _ _ _ _ _ h2).2.1 (Or.inl rfl)
  exact ⟨d + 1, by omega, Or.inr (Or.inr (Or.inl ⟨by omega, h1, h2, h74⟩))⟩
theorem nd_w {a i v j : Int} (ha : a ≠ 70 ∨ (v ≠ 30 ∧ σ 70 i ≠ 30)) : nd (gW σ a i v) j = nd σ j := nd_congr fun k _ _ => by
  by_cases e : a = 70
  · subst e
    by_cases q : k = i
    · subst q; rw [gW_at]; omega
    · rw [gW_i q]
  · rw [gW_c (by omega)]
/-- writes beside a tree -/
theorem PX.w {m : Nat} {a b n c e i v : Int} (h : PX σ τ m a b n c) (a0 : 0 ≤ a) (he : e ≠ 70 ∨ (v ≠ 30 ∧ σ 70 i ≠ 30)) (hi : i < a ∨ b ≤ i ∨ e < 70 ∨ 77 ≤ e ∨ e = 71 ∨ (e = 75 ∧ m = 0 ∧ i = n)) : PX (gW σ e i v) τ m a b n c := by
  obtain ⟨d, h⟩ := h
  have f : ∀ x j, ¬ (x = e ∧ j = i) → gW σ e i v x j = σ x j := fun x j q => by unfold gW; rw [if_neg q]
  refine ⟨d, PT_fr d m a b n c a0 (fun j j0 j1 => ⟨Or.inl (f _ _ (by omega)), f _ _ (by omega), f _ _ (by omega), f _ _ (by omega), fun _ => f _ _ (by omega)⟩) (fun j j0 j1 j2 => f _ _ (fun q => ?_)) (fun j _ _ => nd_w he) (fun j _ _ _ _ => rfl) h⟩
  have := j2
  by_cases m0 : m = 0
  · exact absurd (j2 (Or.inl m0)) (by omega)
  · omega
theorem PX.v {m : Nat} {a b n c e i v : Int} (h : PX σ τ m a b n c) (a0 : 0 ≤ a) (hi : e ≠ 141 ∨ i < nd σ a ∨ nd σ b ≤ i ∨ (m = 0 ∧ i = nd σ n)) : PX σ (gW τ e i v) m a b n c := by
  obtain ⟨d, h⟩ := h
  refine ⟨d, PT_fr d m a b n c a0 (fun j j0 j1 => ⟨Or.inl rfl, rfl, rfl, rfl, fun _ => rfl⟩) (fun j j0 j1 j2 => rfl) (fun j _ _ => rfl) (fun j j0 j1 j2 j3 => ?_) h⟩
  unfold gW
  rw [if_neg]
  intro q
  by_cases m0 : m = 0
  · exact absurd (j2 m0) (by omega)
  · omega
theorem RN.w {r f b i e k v : Int} (h : RN σ τ r f b i) (he : 71 ≤ e ∧ e ≤ 78) (hk : k ≠ i ∨ e = 75 ∨ e = 78) (dz : e = 72 → σ 70 k ≠ 30) : RN (gW σ e k v) τ r f b i := by
  have c : ∀ x, x ≠ 75 ∧ x ≠ 78 → gW σ e k v x i = σ x i := fun x _ => by unfold gW; rw [if_neg (by omega)]
  have n : ∀ j, nd (gW σ e k v) j = nd σ j := fun j => nd_w (Or.inl (by omega))
  have nhe : ∀ x, nh (gW σ e k v) x = nh σ x := fun x => by unfold nh; rw [n]
  have pse : ∀ x, ps (gW σ e k v) x = ps σ x := fun x => by
    unfold ps
    rw [gW_c (a := e) (b := 70) (by omega), n, n]
    by_cases q : σ 70 x = 30
    · rw [if_pos q, if_pos q]
      have : gW σ e k v 72 x = σ 72 x := by
        unfold gW
        rw [if_neg]
        intro w
        have := dz w.1.symm
        rw [← w.2] at this
        exact this q
      rw [this]
    · rw [if_neg q, if_neg q]
  have phe : ∀ x, ph (gW σ e k v) x = ph σ x := fun x => by unfold ph; rw [pse]
  have l : ∀ l p q, isLoc σ τ f l p q → isLoc (gW σ e k v) τ f l p q := fun l p q w => by
    unfold isLoc at *
    rw [gW_c (by omega), gW_c (by omega), gW_c (by omega), gW_c (by omega)]
    exact w
  obtain ⟨h1, h2, h3, h4, h5, h6, h7, h8, h9⟩ := h
  unfold RN
  rw [n, c 70 (by decide), c 71 (by decide), c 72 (by decide), c 73 (by decide), c 74 (by decide), c 76 (by decide), c 77 (by decide), nhe, nhe, nhe, phe, phe, gW_c (a := e) (b := 69) (by omega)]
  exact ⟨h1, h2, h3, h4, h5, h6, h7, h8, fun q => l _ _ _ (h9 q)⟩
theorem RN.v {r f b i e k v : Int} (h : RN σ τ r f b i) (he : 135 ≤ e ∧ e ≤ 145) (hk : k ≠ nd σ i ∨ e = 141 ∨ e = 145) : RN σ (gW τ e k v) r f b i := by
  have c : ∀ x, x ≠ 141 ∧ x ≠ 145 → gW τ e k v x (nd σ i) = τ x (nd σ i) := fun x _ => by unfold gW; rw [if_neg (by omega)]
  have c134 : gW τ e k v 134 = τ 134 := gW_cell (by omega)
  obtain ⟨h1, h2, h3, h4, h5, h6, h7, h8, h9⟩ := h
  unfold RN isLoc tE at *
  rw [c 135 (by decide), c 136 (by decide), c 138 (by decide), c 139 (by decide), c 140 (by decide), c 142 (by decide), c 143 (by decide), c134]
  exact ⟨h1, h2, h3, h4, h5, h6, h7, h8, h9⟩
theorem NB.w {r f a b e k v : Int} (h : NB σ τ r f a b) (he : 71 ≤ e ∧ e ≤ 78) (hk : k < a ∨ b ≤ k ∨ e = 75 ∨ e = 78) (dz : e = 72 → σ 70 k ≠ 30) : NB (gW σ e k v) τ r f a b := fun i i0 i1 => by
  have c : ∀ x, x ≠ 75 ∧ x ≠ 78 → gW σ e k v x i = σ x i := fun x _ => by unfold gW; rw [if_neg (by omega)]
  rw [c 70 (by decide), c 72 (by decide)]
  exact ⟨fun q => ((h i i0 i1).1 q).w he (by omega) dz, (h i i0 i1).2⟩
theorem NB.v {r f a b e k v : Int} (h : NB σ τ r f a b) (a0 : 0 ≤ a) (he : 135 ≤ e ∧ e ≤ 145) (hk : k < nd σ a ∨ nd σ b ≤ k ∨ e = 141 ∨ e = 145) : NB σ (gW τ e k v) r f a b := fun i i0 i1 => by
  refine ⟨fun q => ((h i i0 i1).1 q).v he ?_, (h i i0 i1).2⟩
  have := nd_r (σ := σ) (i := a) (j := i) a0 i0
  have := nd_lt (σ := σ) (i := i) (j := b) (by omega) i1 q
  omega
/-- a node with neither a name nor statements -/
theorem RN.op {r f b n : Int} (hk : 8 ≤ σ 70 n ∧ σ 70 n ≤ 20 ∨ σ 70 n = 4 ∨ σ 70 n = 23 ∨ (26 ≤ σ 70 n ∧ σ 70 n ≤ 28)) (t135 : τ 135 (nd σ n) = σ 70 n) (t136 : τ 136 (nd σ n) = σ 71 n) (hb : -1 ≤ σ 72 n ∧ σ 72 n < b ∧ -1 ≤ σ 73 n ∧ σ 73 n < b ∧ -1 ≤ σ 74 n ∧ σ 74 n < b) (t138 : τ 138 (nd σ n) = nh σ (σ 72 n)) (t139 : τ 139 (nd σ n) = nh σ (σ 73 n)) (t140 : τ 140 (nd σ n) = nh σ (σ 74 n)) : RN σ τ r f b n := by
  refine ⟨⟨t135, by omega, by omega⟩, t136, ⟨hb.1, hb.2.1, hb.2.2.1, hb.2.2.2.1, hb.2.2.2.2.1, hb.2.2.2.2.2, fun q => by omega⟩, by rw [if_neg (by omega)]; exact t138, fun _ => by rw [if_neg (by omega)]; exact t139, by rw [if_neg (by omega), if_neg (by omega)]; exact t140, fun q => by omega, fun q => by omega, fun q => by omega⟩
/-- a node with its left side, and what follows it -/
theorem two_n {K L l : Int} (G : pG 1 σ τ) (hK : K ≠ 30) (h4 : τ 119 25 ≠ 0) :
    (∃ S T, ps_two σ K L = some (S, σ 68 10) ∧ md_pair τ K l = some (T, some (τ 119 43)) ∧ pG 1 S T ∧ (∀ M N, M ≤ σ 68 10 → N ≤ τ 119 43 → kE M N σ S τ T) ∧ S 68 10 = σ 68 10 + 1 ∧ T 119 43 = τ 119 43 + 1 ∧ nd S (σ 68 10) = τ 119 43 ∧ σ 69 5 < S 69 5 ∧ (S 70 (σ 68 10) = K ∧ S 71 (σ 68 10) = σ 69 5 ∧ S 72 (σ 68 10) = L ∧ S 73 (σ 68 10) = -1 ∧ S 74 (σ 68 10) = -1 ∧ S 75 (σ 68 10) = -1 ∧ S 78 (σ 68 10) = 0) ∧ (T 135 (τ 119 43) = K ∧ T 136 (τ 119 43) = σ 69 5 ∧ T 138 (τ 119 43) = l ∧ T 139 (τ 119 43) = -1 ∧ T 140 (τ 119 43) = -1 ∧ T 141 (τ 119 43) = -1 ∧ T 145 (τ 119 43) = 0) ∧ (0 ≤ σ 68 10 ∧ σ 68 10 < 4200) ∧ (0 ≤ τ 119 43 ∧ τ 119 43 < 4004) ∧ (S 68 21 = σ 68 21 ∧ S 68 22 = σ 68 22)) ∨
    (∃ S T, ps_two σ K L = some (S, σ 68 10) ∧ md_pair τ K l = some (T, none) ∧ bd 4005 S T ∧ (0 ≤ σ 68 10 ∧ σ 68 10 < 4200)) := by
  by_cases q : σ 68 20 = 300
  · obtain ⟨S, T, e1, e2, b, hb, -⟩ := node_x (K := K) G (by decide) q
    right
    refine ⟨gW S 72 (σ 68 10) L, T, ?_, ?_, (b.le (by omega)).w (by decide) (by omega), by omega⟩
    · rw [ps_two_e, e1]
      simp only [Option.bind_some]
      rw [if_pos (by omega), ps_good_b (b.w (a := 72) (by decide) (by omega)).1]
      rfl
    · rw [md_pair_e, e2]
      rfl
  · obtain ⟨e1, e2, hb, hc⟩ := node_g (K := K) G (by decide) q
    obtain ⟨G1, n1⟩ := pG_node G q hK
    have G2 : pG 2 (gW (nC σ K) 72 (σ 68 10) L) (gW (nM τ K) 138 (τ 119 43) l) := (G1.w (by decide)).v (by decide)
    have c1 : ps_two σ K L = (tk_read (gW (nC σ K) 72 (σ 68 10) L)).bind fun p3 => some (p3.1, σ 68 10) := by
      rw [ps_two_e, e1]
      simp only [Option.bind_some]
      rw [if_pos (by omega), ps_good_g G2.2.2.1]
      simp only [Option.bind_some]
      rw [if_neg (by decide)]
    have c2 : md_pair τ K l = (md_take (gW (nM τ K) 138 (τ 119 43) l)).bind fun p3 => gtry p3.2 (fun _ => some (p3.1, some (τ 119 43))) (some (p3.1, none)) := by
      rw [md_pair_e, e2]
      simp only [Option.bind_some, gtry]
      rw [if_pos hc]
    have t25 : gW (nM τ K) 138 (τ 119 43) l 119 25 ≠ 0 := by rw [gW_c (by decide), nM_o (by omega) (by omega)]; exact h4
    rcases rd_p G2 t25 with ⟨S, T, r1, r2, r3, F, r5⟩ | ⟨S, T, r1, r2, b, F⟩
    · left
      have f1 : ∀ a, a ≠ 69 → ∀ i, S a i = gW (nC σ K) 72 (σ 68 10) L a i := fun a w i => by rw [F.1 a w]
      have f2 : ∀ a, a ≠ 119 → ∀ i, T a i = gW (nM τ K) 138 (τ 119 43) l a i := fun a w i => by rw [F.2.2.1 a w]
      have n := @nC_n σ K
      have m := @nM_n τ K
      have hp : gW (nC σ K) 72 (σ 68 10) L 69 5 = σ 69 5 := by rw [gW_c (by decide), nC_o (by omega) (by omega)]
      rw [hp] at r5
      refine ⟨S, T, by rw [c1, r1]; rfl, by rw [c2, r2]; rfl, r3, fun M N hM hN => ?_, ?_, ?_, ?_, r5, ⟨?_, ?_, ?_, ?_, ?_, ?_, ?_⟩, ⟨?_, ?_, ?_, ?_, ?_, ?_, ?_⟩, by omega, hc, ?_, ?_⟩
      · exact ((((kE_node hM hN).w (by decide) hM).v (by decide) hN)).tr (kE.rd (M := M) (N := N) F (by rw [hp]; omega)) (Int.le_refl _) (Int.le_refl _)
      · rw [f1 68 (by decide), gW_c (by decide), n.1]
      · rw [F.2.2.2 43 (by omega) (by decide) (by decide), gW_c (by decide), m.1]
      · rw [← n1]
        refine nd_congr fun j _ _ => ?_
        rw [f1 70 (by decide), gW_c (by decide)]
      · rw [f1 70 (by decide), gW_c (by decide), n.2.2.1]
      · rw [f1 71 (by decide), gW_c (by decide), n.2.2.2.1]
      · rw [f1 72 (by decide), gW_at]
      · rw [f1 73 (by decide), gW_c (by decide), n.2.2.2.2.2.1]
      · rw [f1 74 (by decide), gW_c (by decide), n.2.2.2.2.2.2.1]
      · rw [f1 75 (by decide), gW_c (by decide), n.2.2.2.2.2.2.2.1]
      · rw [f1 78 (by decide), gW_c (by decide), n.2.2.2.2.2.2.2.2.2.2]
      · rw [f2 135 (by decide), gW_c (by decide), m.2.1]
      · rw [f2 136 (by decide), gW_c (by decide), m.2.2.1]; exact G.2.1.1.1.symm
      · rw [f2 138 (by decide), gW_at]
      · rw [f2 139 (by decide), gW_c (by decide), m.2.2.2.2.1]
      · rw [f2 140 (by decide), gW_c (by decide), m.2.2.2.2.2.1]
      · rw [f2 141 (by decide), gW_c (by decide), m.2.2.2.2.2.2.1]
      · rw [f2 145 (by decide), gW_c (by decide), m.2.2.2.2.2.2.2.2.2]
      · rw [f1 68 (by decide), gW_c (by decide), nC_o (by omega) (by omega)]
      · rw [f1 68 (by decide), gW_c (by decide), nC_o (by omega) (by omega)]
    · right
      refine ⟨S, T, by rw [c1, r1]; rfl, by rw [c2, r2]; rfl, b.le ?_, by omega⟩
      rw [gW_c (by decide), nC_n.1]
      omega
/-- an operator, its right side -/
theorem two_s {B : gM → gM → Int → Prop} {K L : Int} {X : gM → Option (gM × Int)} {Y : gM → Option (gM × Option Int)} {d : Nat} (hK : 8 ≤ K ∧ K ≤ 19) (ih : XS B d X Y) (ihb : XB X) (G : pG 1 σ τ) (ho : 10 * (21 - σ 68 21) + 20 ≤ d) (h4 : τ 119 25 ≠ 0) (hL : PX σ τ 0 M0 (σ 68 10) L 0) (hN : NB σ τ 0 (σ 68 19 - 1) M0 (σ 68 10)) (m0 : 0 ≤ M0) :
    (∃ S1 n S2 rr T1 m T2 rm, ps_two σ K L = some (S1, n) ∧ X S1 = some (S2, rr) ∧ md_pair τ K (nd σ L) = some (T1, some m) ∧ Y T1 = some (T2, some rm) ∧ (0 ≤ n ∧ n < 4200) ∧ (0 ≤ m ∧ m < 4004) ∧ nd (gW S2 73 n rr) n = m ∧ XG σ τ M0 (gW S2 73 n rr) (gW T2 139 m rm) n ∧ bare (gW S2 73 n rr) (gW T2 139 m rm) n ∧ σ 69 5 < S2 69 5) ∨
    (∃ S1 n S2 rr T', ps_two σ K L = some (S1, n) ∧ X S1 = some (S2, rr) ∧ (0 ≤ n ∧ n < 4200) ∧ bd 4100 (gW S2 73 n rr) T' ∧ (md_pair τ K (nd σ L) = some (T', none) ∨ ∃ T1 m, md_pair τ K (nd σ L) = some (T1, some m) ∧ Y T1 = some (T', none))) := by
  obtain ⟨dl, hL'⟩ := hL
  have lb := (PT_ab _ _ _ _ _ _ hL').2.1 (Or.inl rfl)
  have hL : PX σ τ 0 M0 (σ 68 10) L 0 := ⟨dl, hL'⟩
  have g43 := G.2.2.2.2.1
  rcases two_n (K := K) (L := L) (l := nd σ L) G (by omega) h4 with ⟨S1, T1, e1, e2, G1, k1, s10, t43, n1, p1, ⟨a70, a71, a72, a73, a74, a75, a78⟩, ⟨b135, b136, b138, b139, b140, b141, b145⟩, hb, hc, o1, u1⟩ | ⟨S, T, e1, e2, b, hb⟩
  · rcases ih S1 T1 G1 (by rw [o1]; exact ho) with ⟨S2, T2, rr, x1, x2, x3, -⟩ | ⟨S2, T2, rr, x1, x2, b, hr⟩
    · left
      have xn := x3.n
      obtain ⟨G2, k2, p2, nb2, o2, u2⟩ := x3
      have n2 : nd S1 (S1 68 10) = τ 119 43 + 1 := by rw [← G1.2.2.2.2.1, t43]
      rw [n2] at k2
      rw [s10] at k2 p2 nb2 xn
      have c : ∀ a, 70 ≤ a → a ≤ 78 → S2 a (σ 68 10) = S1 a (σ 68 10) := fun a q1 q2 => k2.2.1 a _ q1 q2 (by omega)
      have t : ∀ a, 135 ≤ a → a ≤ 145 → T2 a (τ 119 43) = T1 a (τ 119 43) := fun a q1 q2 => k2.2.2.2.2.2.2.2.1 a _ q1 q2 (by omega)
      have nn : nd S2 (σ 68 10) = τ 119 43 := by rw [k2.nd (by omega), n1]
      have nf : nd (gW S2 73 (σ 68 10) rr) (σ 68 10) = τ 119 43 := by rw [nd_w (by omega), nn]
      have kk : ∀ M N, M ≤ σ 68 10 → N ≤ τ 119 43 → kE M N σ (gW S2 73 (σ 68 10) rr) τ (gW T2 139 (τ 119 43) (nd S2 rr)) := fun M N q1 q2 => (((k1 M N q1 q2).tr k2 (by omega) (by omega)).w (by decide) q1).v (by decide) q2
      have kM := kk (σ 68 10) (τ 119 43) (Int.le_refl _) (Int.le_refl _)
      have f19 : σ 68 19 - 1 = S1 68 19 - 1 := by rw [(k1 M0 (nd σ M0) (by omega) (by rw [g43]; exact (nd_r m0 (by omega)).1)).2.2.1 19 (by decide)]
      have c10 : gW S2 73 (σ 68 10) rr 68 10 = S2 68 10 := gW_c (by decide)
      have w73 : gW S2 73 (σ 68 10) rr 73 (σ 68 10) = rr := gW_at _ _ _ _
      have wc : ∀ a, a ≠ 73 → gW S2 73 (σ 68 10) rr a (σ 68 10) = S2 a (σ 68 10) := fun a q => gW_c q
      have wt : ∀ a, a ≠ 139 → gW T2 139 (τ 119 43) (nd S2 rr) a (τ 119 43) = T2 a (τ 119 43) := fun a q => gW_c q
      have i70 : gW S2 73 (σ 68 10) rr 70 (σ 68 10) = K := by rw [wc 70 (by decide), c 70 (by decide) (by decide), a70]
      refine ⟨S1, σ 68 10, S2, rr, T1, τ 119 43, T2, nd S2 rr, e1, x1, e2, x2, hb, hc, nf, ⟨(G2.w (by decide)).v (by decide), kk _ _ (by omega) (by rw [g43]; exact (nd_r m0 (by omega)).1), ?_, ?_, by rw [gW_c (by decide), o2, o1], by rw [gW_c (by decide), u2, u1]⟩, ?_, by have := k2.2.2.2.2.1; omega⟩
      · rw [c10]
        refine PX.bin hK i70 ?_ ?_ (by rw [wc 74 (by decide), c 74 (by decide) (by decide), a74])
        · rw [wc 72 (by decide), c 72 (by decide) (by decide), a72]
          exact hL.kE kM m0 (Int.le_refl _) (by rw [g43]; exact Int.le_refl _)
        · rw [w73]
          exact (p2.w (by omega) (by omega) (by omega)).v (by omega) (by omega)
      · rw [c10]
        refine (hN.kE kM rfl m0 (Int.le_refl _) (by rw [g43]; exact Int.le_refl _)).cat (NB.one (by rw [i70]; omega) ?_ ?_) (by omega)
        · refine RN.op (by rw [i70]; omega) ?_ ?_ ?_ ?_ ?_ ?_
          · rw [nf, wt 135 (by decide), t 135 (by decide) (by decide), b135, i70]
          · rw [nf, wt 136 (by decide), t 136 (by decide) (by decide), b136, wc 71 (by decide), c 71 (by decide) (by decide), a71]
          · rw [w73, wc 72 (by decide), wc 74 (by decide), c 72 (by decide) (by decide), c 74 (by decide) (by decide), a72, a74]; omega
          · rw [nf, wt 138 (by decide), t 138 (by decide) (by decide), b138, wc 72 (by decide), c 72 (by decide) (by decide), a72]
            unfold nh
            rw [if_neg (by omega), nd_w (by omega), k2.nd (by omega), (k1 (σ 68 10) (τ 119 43) (Int.le_refl _) (Int.le_refl _)).nd (by omega)]
          · rw [nf, gW_at, w73]
            unfold nh
            rw [if_neg (by omega), nd_w (by omega)]
          · rw [nf, wt 140 (by decide), t 140 (by decide) (by decide), b140, wc 74 (by decide), c 74 (by decide) (by decide), a74]
            rfl
        · rw [f19]
          have h30 : S2 70 (σ 68 10) ≠ 30 := by rw [c 70 (by decide) (by decide), a70]; omega
          have ns := nd_S (σ := S2) (i := σ 68 10) (by omega) h30
          exact (nb2.w (by decide) (by omega) (by omega)).v (by omega) (by decide) (by rw [nd_w (by omega), nd_w (by omega)]; omega)
      · refine ⟨Or.inr ⟨by rw [wc 78 (by decide), c 78 (by decide) (by decide), a78], Or.inr (by rw [i70]; omega)⟩, by rw [wc 75 (by decide), c 75 (by decide) (by decide), a75], by rw [nf, wt 141 (by decide), t 141 (by decide) (by decide), b141]⟩
    · right
      exact ⟨S1, σ 68 10, S2, rr, T2, e1, x1, hb, b.w (by decide) (by omega), Or.inr ⟨T1, τ 119 43, e2, x2⟩⟩
  · obtain ⟨S2, x1, x2, x3⟩ := ihb S T 4005 b (by decide)
    right
    exact ⟨S, σ 68 10, S2, _, T, e1, x1, hb, (x2.le (by decide)).w (by decide) (by omega), Or.inl e2⟩
end XX
