/-! strings of the model: rows of a run, constant texts -/
theorem md_rowOfRun_b101_s {x1 hh s : Int} {n : Nat} (hn : x1 = n) (h420 : n ≤ 420) (b : Int) (hb : 60000 ≤ b ∧ b + n ≤ 160000) (f : Int → Int) :
    ∀ (m k : Nat) (σ : gM), k + m = n → σ 119 12 = b → (∀ i, i8 (σ 225 i)) → (∀ i : Nat, i < n → σ 225 i = f i) →
      ∃ σ', md_rowOfRun_b101 σ x1 hh s k = md_rowOfRun_b101 σ' x1 hh s x1 ∧ (∀ c i, c ≠ 121 → σ' c i = σ c i) ∧ (∀ i : Nat, k ≤ i → i < n → σ' 121 (b + i) = f i) ∧ (∀ i, i < b + k ∨ b + n ≤ i → σ' 121 i = σ 121 i)
  | 0, k, σ, hk, h9, h8, hf => by
    rw [show (k : Int) = x1 by omega]
    exact ⟨σ, rfl, fun _ _ _ => rfl, fun i q1 q2 => by omega, fun _ _ => rfl⟩
  | m + 1, k, σ, hk, h9, h8, hf => by
    rw [md_rowOfRun_b101_e, if_pos (by omega), h9, w32_e (x := b + k) (by omega) (by omega), w32_e (x := (k : Int) + 1) (by omega) (by omega)]
    have b1 : 0 ≤ (k : Int) ∧ (k : Int) < 420 := by omega
    have b2 : 0 ≤ b + (k : Int) ∧ b + (k : Int) < 160400 := by omega
    simp only [b1, b2, and_self, if_true]
    have h8k := h8 k
    unfold i8 at h8k
    rw [w8_e h8k.1 h8k.2, hf k (by omega), show (k : Int) + 1 = ((k + 1 : Nat) : Int) by omega]
    obtain ⟨σ', i1, i2, i3, i4⟩ := md_rowOfRun_b101_s (hh := hh) (s := s) hn h420 b hb f m (k + 1) (gW σ 121 (b + k) (f k)) (by omega) (by rw [gW_c (by decide)]; exact h9) (fun i => by rw [gW_c (by decide)]; exact h8 i) (fun i hi => by rw [gW_c (by decide)]; exact hf i hi)
    refine ⟨σ', i1, fun c i hc => (i2 c i hc).trans (gW_c hc), fun i q1 q2 => ?_, fun i q => ?_⟩
    · by_cases e : i = k
      · subst e
        rw [i4 _ (by omega), gW_at]
      · exact i3 i (by omega) q2
    · rw [i4 i (by omega), gW_i (by omega)]
/-- a row of the run: it is there, or it comes -/
theorem md_rowOfRun_s {τ : gM} {x1 : Int} {n : Nat} (h : mI τ) (hn : x1 = n) (h420 : n ≤ 420) (h8 : ∀ i, i8 (τ 225 i)) (r1 : τ 119 13 < 100000) (r2 : τ 119 12 + n ≤ 160000) :
    ∃ τ' k, md_rowOfRun τ x1 = some (τ', k) ∧ mI τ' ∧ vM τ' k ∧ mS τ' k = lt (τ 225) 0 n ∧ mKeep τ τ' ∧ (τ 119 13 ≤ τ' 119 13 ∧ τ' 119 13 ≤ τ 119 13 + 1) ∧ (τ 119 12 ≤ τ' 119 12 ∧ τ' 119 12 ≤ τ 119 12 + n) ∧
      (∀ c i, c ≠ 119 → c ≠ 121 → c ≠ 122 → c ≠ 123 → c ≠ 124 → c ≠ 125 → c ≠ 127 → τ' c i = τ c i) ∧ (∀ i, i ≠ 12 → i ≠ 13 → τ' 119 i = τ 119 i) ∧ (∀ i, i < 60000 → τ' 121 i = τ 121 i) ∧ ((∀ i, i8 (τ 121 i)) → ∀ i, i8 (τ' 121 i)) := by
  have hr : gisb 227 225 (some ()) = some () := rfl
  have hl : gN 225 ≤ 1000000 := by decide
  have ht : x1 ≤ gN 225 := by show x1 ≤ 420; omega
  have hh := h
  obtain ⟨g1, g2, g3, g4, g5, g6, g7, g8, g9, g10⟩ := hh
  have bL := bk4_r (lt (τ 225) 0 n)
  have bL6 := bk6_r (lt (τ 225) 0 n)
  rw [md_rowOfRun_e, md_hash_s (n := n) hr (by omega) (by omega) ht hl]
  simp only [Option.bind_some]
  rw [show i_and (hsh (lt (τ 225) 0 n)) 4095 = bk4 (lt (τ 225) 0 n) from rfl, show i_and (hsh (lt (τ 225) 0 n)) 16383 = bk6 (lt (τ 225) 0 n) from rfl]
  simp only [bL, bL6, and_self, if_true]
  obtain ⟨r, e1, e2⟩ := md_find_s (τ := τ) (row := 225) (a := 0) (t := x1) (n := n) (lo := 0) (P := fun q => bk4 (mS τ q) = bk4 (lt (τ 225) 0 n)) hr (by omega) (by omega) ht hl (by omega) (fun s q => by rw [q]) (τ 119 10).toNat (τ 119 10) (τ 126 (bk4 (lt (τ 225) 0 n))) (by omega) (by omega) (fun s q1 q2 => ⟨by have := (g5 s q1 q2).1; omega, fun q3 => by
    have := (g5 s q1 q2).2.2
    rw [q3] at this
    exact this⟩) (g9 _ bL.1 bL.2)
  rw [e1]
  simp only [Option.bind_some]
  have same : ∀ k, vM τ k → mS τ k = lt (τ 225) 0 n → ∃ τ' k', some (τ, k) = some (τ', k') ∧ mI τ' ∧ vM τ' k' ∧ mS τ' k' = lt (τ 225) 0 n ∧ mKeep τ τ' ∧ (τ 119 13 ≤ τ' 119 13 ∧ τ' 119 13 ≤ τ 119 13 + 1) ∧ (τ 119 12 ≤ τ' 119 12 ∧ τ' 119 12 ≤ τ 119 12 + n) ∧
      (∀ c i, c ≠ 119 → c ≠ 121 → c ≠ 122 → c ≠ 123 → c ≠ 124 → c ≠ 125 → c ≠ 127 → τ' c i = τ c i) ∧ (∀ i, i ≠ 12 → i ≠ 13 → τ' 119 i = τ 119 i) ∧ (∀ i, i < 60000 → τ' 121 i = τ 121 i) ∧ ((∀ i, i8 (τ 121 i)) → ∀ i, i8 (τ' 121 i)) := fun k hk hS => ⟨τ, k, rfl, h, hk, hS, fun q hq => ⟨hq, rfl, rfl, rfl⟩, by omega, by omega, fun _ _ _ _ _ _ _ _ _ => rfl, fun _ _ _ => rfl, fun _ _ => rfl, fun q => q⟩
  rcases e2 with ⟨e2, e3⟩ | ⟨e2, e3, e4⟩
  · subst e2
    rw [if_pos (by decide)]
    obtain ⟨r, f1, f2⟩ := md_find_s (τ := τ) (row := 225) (a := 0) (t := x1) (n := n) (lo := 9000) (P := fun q => bk6 (mS τ q) = bk6 (lt (τ 225) 0 n)) hr (by omega) (by omega) ht hl (by omega) (fun s q => by rw [q]) (τ 119 13).toNat (9000 + τ 119 13) (τ 127 (bk6 (lt (τ 225) 0 n))) (by omega) (by omega) (fun s q1 q2 => ⟨by have := (g6 s q1 q2).1; omega, fun q3 => by
      have := (g6 s q1 q2).2.1
      rw [q3] at this
      exact this⟩) (g10 _ bL6.1 bL6.2)
    rw [f1]
    simp only [Option.bind_some]
    rw [md_rowOfRun_b56_e]
    rcases f2 with ⟨f2, f3⟩ | ⟨f2, f3, f4⟩
    · subst f2
      rw [if_pos (by decide), w32_e (x := 9000 + τ 119 13) (by omega) (by omega), w32_e (x := τ 119 13 + 1) (by omega) (by omega)]
      have b1 : 0 ≤ 9000 + τ 119 13 ∧ 9000 + τ 119 13 < 109004 := by omega
      simp only [b1, and_self, if_true]
      generalize hk : 9000 + τ 119 13 = K at *
      generalize hS : gW (gW (gW τ 119 13 (τ 119 13 + 1)) 122 K (τ 119 12)) 123 K x1 = S
      have s119 : ∀ i, S 119 i = if i = 13 then τ 119 13 + 1 else τ 119 i := by intro i; rw [← hS, gW_c (by decide), gW_c (by decide), gW_if]
      have s122 : ∀ i, S 122 i = if i = K then τ 119 12 else τ 122 i := by intro i; rw [← hS, gW_c (by decide), gW_if, gW_c (by decide)]
      have s123 : ∀ i, S 123 i = if i = K then x1 else τ 123 i := by intro i; rw [← hS, gW_if, gW_c (by decide), gW_c (by decide)]
      have so : ∀ c i, c ≠ 119 → c ≠ 122 → c ≠ 123 → S c i = τ c i := by intro c i q1 q2 q3; rw [← hS, gW_c q3, gW_c q2, gW_c q1]
      clear hS
      obtain ⟨S2, i1, i2, i3, i4⟩ := md_rowOfRun_b101_s (hh := hsh (lt (τ 225) 0 n)) (s := K) hn h420 (τ 119 12) (by omega) (fun i => τ 225 i) n 0 S (by omega) (by rw [s119, if_neg (by decide)]) (fun i => by rw [so _ _ (by decide) (by decide) (by decide)]; exact h8 i) (fun i _ => so _ _ (by decide) (by decide) (by decide))
      have i1' : md_rowOfRun_b101 S x1 (hsh (lt (τ 225) 0 n)) K 0 = md_rowOfRun_b101 S2 x1 (hsh (lt (τ 225) 0 n)) K x1 := i1
      rw [i1', md_rowOfRun_b101_e, if_neg (by omega), show i_and (hsh (lt (τ 225) 0 n)) 16383 = bk6 (lt (τ 225) 0 n) from rfl]
      simp only [bL6, b1, and_self, if_true]
      have t9 : S2 119 12 = τ 119 12 := by rw [i2 _ _ (by decide), s119, if_neg (by decide)]
      rw [t9, w32_e (x := τ 119 12 + x1) (by omega) (by omega)]
      generalize hT : gW (gW (gW (gW S2 119 12 (τ 119 12 + x1)) 124 K (S2 127 (bk6 (lt (τ 225) 0 n)))) 127 (bk6 (lt (τ 225) 0 n)) K) 125 K K = T
      have u119 : ∀ i, T 119 i = if i = 12 then τ 119 12 + x1 else if i = 13 then τ 119 13 + 1 else τ 119 i := by intro i; rw [← hT, gW_c (by decide), gW_c (by decide), gW_c (by decide), gW_if, i2 _ _ (by decide), s119]
      have u121 : ∀ i, i < τ 119 12 ∨ τ 119 12 + n ≤ i → T 121 i = τ 121 i := by intro i q; rw [← hT, gW_c (by decide), gW_c (by decide), gW_c (by decide), gW_c (by decide), i4 i (by omega), so _ _ (by decide) (by decide) (by decide)]
      have u121' : ∀ i : Nat, i < n → T 121 (τ 119 12 + i) = τ 225 i := by intro i q; rw [← hT, gW_c (by decide), gW_c (by decide), gW_c (by decide), gW_c (by decide), i3 i (Nat.zero_le _) q]
      have u122 : ∀ i, T 122 i = if i = K then τ 119 12 else τ 122 i := by intro i; rw [← hT, gW_c (by decide), gW_c (by decide), gW_c (by decide), gW_c (by decide), i2 _ _ (by decide), s122]
      have u123 : ∀ i, T 123 i = if i = K then x1 else τ 123 i := by intro i; rw [← hT, gW_c (by decide), gW_c (by decide), gW_c (by decide), gW_c (by decide), i2 _ _ (by decide), s123]
      have u124 : ∀ i, T 124 i = if i = K then τ 127 (bk6 (lt (τ 225) 0 n)) else τ 124 i := by intro i; rw [← hT, gW_c (by decide), gW_c (by decide), gW_if, gW_c (by decide), i2 _ _ (by decide), i2 _ _ (by decide), so _ _ (by decide) (by decide) (by decide), so _ _ (by decide) (by decide) (by decide)]
      have u125 : ∀ i, T 125 i = if i = K then K else τ 125 i := by intro i; rw [← hT, gW_if, gW_c (by decide), gW_c (by decide), gW_c (by decide), i2 _ _ (by decide), so _ _ (by decide) (by decide) (by decide)]
      have u127 : ∀ i, T 127 i = if i = bk6 (lt (τ 225) 0 n) then K else τ 127 i := by intro i; rw [← hT, gW_c (by decide), gW_if, gW_c (by decide), gW_c (by decide), i2 _ _ (by decide), so _ _ (by decide) (by decide) (by decide)]
      have uo : ∀ c i, c ≠ 119 → c ≠ 121 → c ≠ 122 → c ≠ 123 → c ≠ 124 → c ≠ 125 → c ≠ 127 → T c i = τ c i := by intro c i q1 q2 q3 q4 q5 q6 q7; rw [← hT, gW_c q6, gW_c q7, gW_c q5, gW_c q1, i2 _ _ q2, so _ _ q1 q3 q4]
      clear hT i1 i1' i2 i3 i4 s119 s122 s123 so t9
      have keep : ∀ r, vM τ r → mS T r = mS τ r ∧ T 122 r = τ 122 r ∧ T 123 r = τ 123 r := by
        intro r hr
        have nr : r ≠ K := by rcases hr with q | q <;> omega
        have e2 : T 122 r = τ 122 r := by rw [u122, if_neg nr]
        have e3 : T 123 r = τ 123 r := by rw [u123, if_neg nr]
        refine ⟨?_, e2, e3⟩
        unfold mS
        rw [e2, e3, lt_eq]
        intro i hi
        apply u121
        rcases hr with q | q
        · have := (g5 r q.1 q.2).1; omega
        · have := (g6 r q.1 (by omega)).1; omega
      have newS : mS T K = lt (τ 225) 0 n := by
        unfold mS
        rw [u122, u123, if_pos rfl, if_pos rfl, hn, Int.toNat_natCast, lt_eq]
        intro i hi
        rw [u121' i hi, Int.zero_add]
      have k13 : T 119 13 = τ 119 13 + 1 := by rw [u119]; simp
      have k12 : T 119 12 = τ 119 12 + x1 := by rw [u119]; simp
      have k10 : T 119 10 = τ 119 10 := by rw [u119]; simp
      have k9 : T 119 9 = τ 119 9 := by rw [u119]; simp
      have kS : ∀ q, 0 ≤ q → q < τ 119 10 → mS T q = mS τ q := fun q a b => (keep q (Or.inl ⟨a, b⟩)).1
      have rS : ∀ q, 9000 ≤ q → q < K → mS T q = mS τ q := fun q a b => (keep q (Or.inr ⟨a, by omega⟩)).1
      refine ⟨T, K, rfl, ⟨by omega, by omega, by omega, by omega, ?_, ?_, ?_, ?_, ?_, ?_⟩, Or.inr ⟨by omega, by omega⟩, newS, ?_, by omega, by omega, uo, ?_, ?_, ?_⟩
      · intro s q1 q2
        rw [k10] at q2
        have w := g5 s q1 q2
        have v := keep s (Or.inl ⟨q1, q2⟩)
        refine ⟨by rw [v.2.1, v.2.2, k9]; omega, by rw [u125, if_neg (by omega)]; exact w.2.1, ?_⟩
        rw [u124, if_neg (by omega), v.1]
        exact w.2.2.congr (fun q a b => by rw [kS q a (by omega)])
      · intro s q1 q2
        by_cases es : s = K
        · subst es
          refine ⟨by rw [u122, u123, if_pos rfl, if_pos rfl, k12]; omega, ?_, Or.inr ⟨fun k a b => ?_, by rw [u125, if_pos rfl]⟩⟩
          · rw [u124, if_pos rfl, newS]
            exact (g10 _ bL6.1 bL6.2).congr (fun q a b => by rw [rS q a b])
          · rw [k10] at b
            rw [newS, kS k a b]
            exact e3 k a b
        · have w := g6 s q1 (by omega)
          have v := keep s (Or.inr ⟨q1, by omega⟩)
          refine ⟨by rw [v.2.1, v.2.2, k12]; omega, ?_, ?_⟩
          · rw [u124, if_neg es, v.1]
            exact w.2.1.congr (fun q a b => by rw [rS q a (by omega)])
          · rw [v.1, u125, if_neg es, k10]
            rcases w.2.2 with ⟨k, w1, w2, w3, w4⟩ | ⟨w1, w2⟩
            · exact Or.inl ⟨k, w1, w2, by rw [kS k w1 w2, w3], w4⟩
            · exact Or.inr ⟨fun k a b => by rw [kS k a b]; exact w1 k a b, w2⟩
      · intro s t' q1 q2 q3 q4 q5
        rw [k10] at q2 q4
        rw [kS s q1 q2, kS t' q3 q4] at q5
        exact g7 s t' q1 q2 q3 q4 q5
      · intro s t' q1 q2 q3 q4 q5
        by_cases hs : s = K <;> by_cases ht' : t' = K
        · omega
        · subst hs
          rw [newS, rS t' q3 (by omega)] at q5
          exact absurd q5.symm (f3 t' q3 (by omega))
        · subst ht'
          rw [newS, rS s q1 (by omega)] at q5
          exact absurd q5 (f3 s q1 (by omega))
        · rw [rS s q1 (by omega), rS t' q3 (by omega)] at q5
          exact g8 s t' q1 (by omega) q3 (by omega) q5
      · intro b q1 q2
        rw [k10, uo 126 b (by decide) (by decide) (by decide) (by decide) (by decide) (by decide) (by decide)]
        exact (g9 b q1 q2).congr (fun q a b => by rw [kS q a b])
      · intro b q1 q2
        rw [u127, k13, show 9000 + (τ 119 13 + 1) = K + 1 by omega]
        by_cases eb : b = bk6 (lt (τ 225) 0 n)
        · rw [if_pos eb]
          exact lgst.top (by omega) (by show bk6 (mS T K) = b; rw [newS, eb])
        · rw [if_neg eb]
          exact ((g10 b q1 q2).congr (Q := fun q => bk6 (mS T q) = b) (fun q a b => by rw [rS q a b])).up (by show ¬ bk6 (mS T K) = b; rw [newS]; exact fun z => eb z.symm)
      · intro r hr
        have v := keep r hr
        refine ⟨?_, v⟩
        rcases hr with q | q
        · exact Or.inl ⟨q.1, by omega⟩
        · exact Or.inr ⟨q.1, by omega⟩
      · intro i q1 q2
        rw [u119, if_neg q1, if_neg q2]
      · intro i q
        exact u121 i (by omega)
      · intro q i
        by_cases z : τ 119 12 ≤ i ∧ i < τ 119 12 + n
        · have := u121' (i - τ 119 12).toNat (by omega)
          rw [show τ 119 12 + (((i - τ 119 12).toNat : Nat) : Int) = i by omega] at this
          rw [this]; exact h8 _
        · rw [u121 i (by omega)]; exact q i
    · rw [if_neg (by omega)]
      exact same r (Or.inr ⟨f2, f3⟩) f4
  · rw [if_neg (by omega), md_rowOfRun_b56_e, if_neg (by omega)]
    exact same r (Or.inl ⟨e2, e3⟩) e4
