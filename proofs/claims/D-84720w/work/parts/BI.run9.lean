/-! entries of a node: the loops of both sides -/
section SM
variable {σ τ S T W : gM} {pT : Int → Int} {n x2 x3 x4 x5 y2 y3 y4 : Int}
theorem settles_cp {j k x7 : Int} (hn : 0 ≤ n ∧ n < 16000) (hj : 0 ≤ j ∧ j ≤ k) (hk : k < 3) : ∃ W', mc_settles_b131 W n x2 x3 x4 x5 j x7 (9 * n) k (9 * n + 3 * k) 0 = mc_settles_b32 W' n x2 x3 x4 x5 (j + 1) x7 (9 * n) (k + 1) ∧ (∀ a i, a ≠ 19 → W' a i = W a i) ∧ (∀ i, i < 9 * n + 3 * j ∨ 9 * n + 3 * j + 3 ≤ i → W' 19 i = W 19 i) ∧ ∀ t, 0 ≤ t → t < 3 → W' 19 (9 * n + 3 * j + t) = W 19 (9 * n + 3 * k + t) := by
  have st : ∀ (V : gM) (t : Int), 0 ≤ t → t < 3 → mc_settles_b131 V n x2 x3 x4 x5 j x7 (9 * n) k (9 * n + 3 * k) t = mc_settles_b131 (gW V 19 (9 * n + 3 * j + t) (V 19 (9 * n + 3 * k + t))) n x2 x3 x4 x5 j x7 (9 * n) k (9 * n + 3 * k) (t + 1) := fun V t t0 t1 => by
    rw [mc_settles_b131_e, if_pos t1, w32_e (x := 9 * n + 3 * k + t) (by omega) (by omega), w32_e (x := 3 * j) (by omega) (by omega), w32_e (x := 9 * n + 3 * j) (by omega) (by omega), w32_e (x := 9 * n + 3 * j + t) (by omega) (by omega), if_pos (by omega), if_pos (by omega), w32_e (x := t + 1) (by omega) (by omega)]
  rw [st W 0 (by decide) (by decide), st _ (0 + 1) (by decide) (by decide), st _ (0 + 1 + 1) (by decide) (by decide), mc_settles_b131_e, if_neg (by decide), mc_settles_b177_e, w32_e (x := j + 1) (by omega) (by omega), w32_e (x := k + 1) (by omega) (by omega)]
  refine ⟨_, rfl, fun a i q => ?_, fun i q => ?_, fun t t0 t1 => ?_⟩
  · rw [gW_c q, gW_c q, gW_c q]
  · rw [gW_i (by omega), gW_i (by omega), gW_i (by omega)]
  · have : t = 0 ∨ t = 1 ∨ t = 2 := by omega
    rcases this with e | e | e <;> subst e
    · rw [gW_i (by omega), gW_i (by omega), gW_at]
    · rw [gW_i (by omega), show (0 : Int) + 1 = 1 by decide, gW_at, gW_i (by omega)]
    · rw [show (0 : Int) + 1 + 1 = 2 by decide, gW_at, gW_i (by omega), gW_i (by omega)]
theorem anI_app {L : List Nat} {k : Nat} {p : Nat → Bool} : anI (L ++ [k]) p = if anI L p = 0 then (if p k then 1 else 0) else 1 := by
  unfold anI
  rw [List.any_append]
  cases h : L.any p
  · simp
  · simp
theorem anI_01 {L : List Nat} {p : Nat → Bool} : anI L p = 0 ∨ anI L p = 1 := by
  unfold anI
  split
  · exact Or.inr rfl
  · exact Or.inl rfl
theorem settles_b32_s (hn : 0 ≤ n ∧ n < 16000) (hb : rBk σ τ) (hs : rSh σ τ) (h18 : 0 ≤ σ 18 n ∧ σ 18 n ≤ 3) (en : ∀ i, 0 ≤ i → i < σ 18 n → rEn σ τ n i) : ∀ (d k : Nat) (W : gM), (k : Int) + d = σ 18 n → stI σ W n (kpL (stB σ n) k) →
    ∃ W', mc_settles_b32 W n x2 x3 x4 x5 (kpL (stB σ n) k).length (anI (kpL (stB σ n) k) (mtB σ n x3 x4 x5)) (9 * n) k = mc_settles_b202 W' n x2 x3 x4 x5 (kpL (stB σ n) (σ 18 n).toNat).length (anI (kpL (stB σ n) (σ 18 n).toNat) (mtB σ n x3 x4 x5)) (9 * n) (if ((kpL (stB σ n) (σ 18 n).toNat).length : Int) < σ 18 n then 1 else 0) ∧ stI σ W' n (kpL (stB σ n) (σ 18 n).toNat)
  | 0, k, W, hk, hW => by
    have e : k = (σ 18 n).toNat := by omega
    rw [mc_settles_b32_e, if_pos hn, hW.1 18 n (by decide), if_neg (by omega), if_pos hn, ← e]
    refine ⟨W, ?_, hW⟩
    split <;> rfl
  | d + 1, k, W, hk, hW => by
    obtain ⟨w1, w2, w3⟩ := hW
    have hl := kpL_len (st := stB σ n) k
    have k3 : k < 3 := by omega
    have e3 : w32 (9 * n + w32 (3 * (k : Int))) = 9 * n + 3 * k := by rw [w32_e (x := 3 * (k : Int)) (by omega) (by omega), w32_e (by omega) (by omega)]
    have r0 := w2 (9 * n + 3 * k) (by omega)
    have r1 := w2 (9 * n + 3 * k + 1) (by omega)
    have r2 := w2 (9 * n + 3 * k + 2) (by omega)
    have b0 : 0 ≤ 9 * n + 3 * (k : Int) ∧ 9 * n + 3 * (k : Int) < 144000 := by omega
    have b1 : 0 ≤ 9 * n + 3 * (k : Int) + 1 ∧ 9 * n + 3 * (k : Int) + 1 < 144000 := by omega
    have b2 : 0 ≤ 9 * n + 3 * (k : Int) + 2 ∧ 9 * n + 3 * (k : Int) + 2 < 144000 := by omega
    rw [mc_settles_b32_e, if_pos hn, w1 18 n (by decide), if_pos (by omega), e3, stale_c hn hb hs (en k (by omega) (by omega)) k3 w1 r0 r2]
    simp only [Option.bind_some]
    rw [w32_e (x := 9 * n + 3 * (k : Int) + 1) (by omega) (by omega), w32_e (x := 9 * n + 3 * (k : Int) + 2) (by omega) (by omega), r0, r1, r2]
    by_cases z : stB σ n k = true
    · rw [z]
      simp only [if_true]
      rw [if_neg (by decide), mc_settles_b177_e, w32_e (by omega) (by omega)]
      have e : kpL (stB σ n) (k + 1) = kpL (stB σ n) k := by
        conv => lhs; unfold kpL
        rw [if_pos z]
      have ih := settles_b32_s hn hb hs h18 en d (k + 1) W (by omega) (by rw [e]; exact ⟨w1, w2, w3⟩)
      rw [e] at ih
      exact ih
    · have e : kpL (stB σ n) (k + 1) = kpL (stB σ n) k ++ [k] := by
        conv => lhs; unfold kpL
        rw [if_neg z]
      simp only [z, if_false, if_true]
      -- kept: copied to its place
      have go : mc_settles_b131 W n x2 x3 x4 x5 (kpL (stB σ n) k).length (anI (kpL (stB σ n) (k + 1)) (mtB σ n x3 x4 x5)) (9 * n) k (9 * n + 3 * k) 0 = mc_settles_b131 W n x2 x3 x4 x5 (kpL (stB σ n) k).length (anI (kpL (stB σ n) (k + 1)) (mtB σ n x3 x4 x5)) (9 * n) k (9 * n + 3 * k) 0 → ∃ W', mc_settles_b131 W n x2 x3 x4 x5 (kpL (stB σ n) k).length (anI (kpL (stB σ n) (k + 1)) (mtB σ n x3 x4 x5)) (9 * n) k (9 * n + 3 * k) 0 = mc_settles_b202 W' n x2 x3 x4 x5 (kpL (stB σ n) (σ 18 n).toNat).length (anI (kpL (stB σ n) (σ 18 n).toNat) (mtB σ n x3 x4 x5)) (9 * n) (if ((kpL (stB σ n) (σ 18 n).toNat).length : Int) < σ 18 n then 1 else 0) ∧ stI σ W' n (kpL (stB σ n) (σ 18 n).toNat) := fun _ => by
        obtain ⟨V, v1, v2, v3, v4⟩ := settles_cp (W := W) (x2 := x2) (x3 := x3) (x4 := x4) (x5 := x5) (x7 := anI (kpL (stB σ n) (k + 1)) (mtB σ n x3 x4 x5)) (j := ((kpL (stB σ n) k).length : Int)) (k := (k : Int)) hn (by omega) (by omega)
        rw [v1]
        have le : ((kpL (stB σ n) (k + 1)).length : Int) = (kpL (stB σ n) k).length + 1 := by
          rw [e, List.length_append]
          simp only [List.length_cons, List.length_nil]
          omega
        have ih := settles_b32_s hn hb hs h18 en d (k + 1) V (by omega) ⟨fun a i q => by rw [v2 a i q, w1 a i q], fun i q => by rw [v3 i (by omega), w2 i (by omega)], fun i hi t t0 t1 => by
          rw [e, getD_app]
          by_cases y : i < (kpL (stB σ n) k).length
          · rw [if_pos y, v3 _ (by omega), w3 i y t t0 t1]
          · have y' : i = (kpL (stB σ n) k).length := by omega
            rw [if_neg y, if_pos y', y', v4 t t0 t1, w2 _ (by omega)]⟩
        rw [le] at ih
        exact ih
      have nx : anI (kpL (stB σ n) (k + 1)) (mtB σ n x3 x4 x5) = if anI (kpL (stB σ n) k) (mtB σ n x3 x4 x5) = 0 then (if mtB σ n x3 x4 x5 k then 1 else 0) else 1 := by rw [e, anI_app]
      rw [nx] at go
      have go := go rfl
      rcases anI_01 (L := kpL (stB σ n) k) (p := mtB σ n x3 x4 x5) with a0 | a0
      · rw [a0] at go ⊢
        rw [if_pos rfl] at go
        simp only [if_true, b0, b1, b2, and_self, mc_settles_b121_e, mc_settles_b125_e, mc_settles_b126_e]
        unfold mtB at go ⊢
        by_cases p3 : σ 19 (9 * n + 3 * k) = x3
        · by_cases p4 : σ 19 (9 * n + 3 * k + 1) = x4
          · by_cases p5 : σ 19 (9 * n + 3 * k + 2) = x5
            · simp only [p3, p4, p5, decide_true, Bool.and_self, if_true] at go ⊢
              exact go
            · simp only [p3, p4, p5, decide_true, decide_false, Bool.and_false, if_true, if_false] at go ⊢
              exact go
          · simp only [p3, p4, decide_true, decide_false, Bool.and_false, Bool.false_and, if_true, if_false] at go ⊢
            exact go
        · simp only [p3, decide_false, Bool.false_and, if_false] at go ⊢
          exact go
      · rw [a0] at go ⊢
        rw [if_neg (by decide)] at go
        simp only [show ¬ ((1 : Int) = 0) by decide, if_false, mc_settles_b121_e, mc_settles_b126_e]
        exact go
/-- the model counts what is kept -/
theorem enter_b22_s {x5' : Int} (hn : 0 ≤ n ∧ n < 16000) (hb : rBk σ τ) (hs : rSh σ τ) (k9 : τ 168 n = σ 9 n) (h18 : 0 ≤ σ 18 n ∧ σ 18 n ≤ 3) (e181 : τ 181 n = σ 18 n) (en : ∀ i, 0 ≤ i → i < σ 18 n → rEn σ τ n i) (hE : nE σ n x3 x4 x5 y2 y3 y4) : ∀ (d k : Nat), (k : Int) + d = σ 18 n →
    md_enter_b22 τ n y2 y3 y4 x5' (kpL (stB σ n) k).length (anI (kpL (stB σ n) k) (mtB σ n x3 x4 x5)) (3 * n + k) = if anI (kpL (stB σ n) (σ 18 n).toNat) (mtB σ n x3 x4 x5) ≠ 0 ∧ ((kpL (stB σ n) (σ 18 n).toNat).length : Int) = σ 18 n then some (τ, 0) else md_enter_b122 τ n y2 y3 y4 x5' (kpL (stB σ n) (σ 18 n).toNat).length (anI (kpL (stB σ n) (σ 18 n).toNat) (mtB σ n x3 x4 x5))
  | 0, k, hk => by
    have e : k = (σ 18 n).toNat := by omega
    have n2 : 0 ≤ n ∧ n < 20000 := by omega
    rw [md_enter_b22_e, if_pos n2, w32_e (x := 3 * n) (by omega) (by omega), w32_e (by omega) (by omega), e181, if_neg (by omega), ← e, if_pos n2]
    by_cases z : anI (kpL (stB σ n) k) (mtB σ n x3 x4 x5) = 0
    · rw [if_pos z, if_neg (by intro q; exact q.1 z)]
    · rw [if_neg z]
      by_cases y : ((kpL (stB σ n) k).length : Int) = σ 18 n
      · rw [if_pos y, if_pos ⟨z, y⟩]
      · rw [if_neg y, if_neg (by intro q; exact y q.2)]
  | d + 1, k, hk => by
    have n2 : 0 ≤ n ∧ n < 20000 := by omega
    have hl := kpL_len (st := stB σ n) k
    have k3 : k < 3 := by omega
    have b0 : 0 ≤ 3 * n + (k : Int) ∧ 3 * n + (k : Int) < 60000 := by omega
    have mi := mt_iff hs (en k (by omega) (by omega)) hE
    rw [md_enter_b22_e, if_pos n2, w32_e (x := 3 * n) (by omega) (by omega), w32_e (x := 3 * n + τ 181 n) (by omega) (by omega), if_pos (by omega), stale_m hn hb hs k9 (en k (by omega) (by omega)) k3 (fun _ _ _ => rfl) rfl rfl]
    simp only [Option.bind_some]
    rw [w32_e (x := ((kpL (stB σ n) k).length : Int) + 1) (by omega) (by omega)]
    by_cases z : stB σ n k = true
    · rw [z]
      simp only [if_true]
      rw [if_neg (by decide), md_enter_b99_e, w32_e (by omega) (by omega)]
      have e : kpL (stB σ n) (k + 1) = kpL (stB σ n) k := by
        conv => lhs; unfold kpL
        rw [if_pos z]
      have ih := enter_b22_s (x5' := x5') hn hb hs k9 h18 e181 en hE d (k + 1) (by omega)
      rw [e, show 3 * n + ((k + 1 : Nat) : Int) = 3 * n + k + 1 by omega] at ih
      exact ih
    · have e : kpL (stB σ n) (k + 1) = kpL (stB σ n) k ++ [k] := by
        conv => lhs; unfold kpL
        rw [if_neg z]
      simp only [z, if_false, if_true, b0, and_self, md_enter_b92_e, md_enter_b96_e, md_enter_b97_e, md_enter_b99_e]
      rw [w32_e (x := 3 * n + (k : Int) + 1) (by omega) (by omega)]
      have le : ((kpL (stB σ n) (k + 1)).length : Int) = (kpL (stB σ n) k).length + 1 := by
        rw [e, List.length_append]
        simp only [List.length_cons, List.length_nil]
        omega
      have go := enter_b22_s (x5' := x5') hn hb hs k9 h18 e181 en hE d (k + 1) (by omega)
      have nx : anI (kpL (stB σ n) (k + 1)) (mtB σ n x3 x4 x5) = if anI (kpL (stB σ n) k) (mtB σ n x3 x4 x5) = 0 then (if mtB σ n x3 x4 x5 k then 1 else 0) else 1 := by rw [e, anI_app]
      rw [nx, le, show 3 * n + ((k + 1 : Nat) : Int) = 3 * n + k + 1 by omega] at go
      rcases anI_01 (L := kpL (stB σ n) k) (p := mtB σ n x3 x4 x5) with a0 | a0
      · rw [a0] at go ⊢
        rw [if_pos rfl] at go
        have mb : mtB σ n x3 x4 x5 k = true ↔ (τ 182 (3 * n + k) = y2 ∧ τ 183 (3 * n + k) = y3 ∧ τ 184 (3 * n + k) = y4) := by
          rw [mi]
          unfold mtB
          simp only [Bool.and_eq_true, decide_eq_true_eq, and_assoc]
        by_cases q : mtB σ n x3 x4 x5 k = true
        · have q' := mb.mp q
          rw [if_pos q] at go
          simp only [q'.1, q'.2.1, q'.2.2, if_true]
          exact go
        · rw [if_neg q] at go
          simp only [if_true]
          by_cases p1 : τ 182 (3 * n + k) = y2
          · by_cases p2 : τ 183 (3 * n + k) = y3
            · by_cases p3 : τ 184 (3 * n + k) = y4
              · exact absurd (mb.mpr ⟨p1, p2, p3⟩) q
              · simp only [p1, p2, p3, if_true, if_false]
                exact go
            · simp only [p1, p2, if_true, if_false]
              exact go
          · simp only [p1, if_false]
            exact go
      · rw [a0] at go ⊢
        rw [if_neg (by decide)] at go
        simp only [show ¬ ((1 : Int) = 0) by decide, if_false]
        exact go
/-- the model's memory while entries are moved -/
def stJ (T W : gM) (n : Int) (L : List Nat) : Prop := (∀ a i, (a < 182 ∨ 184 < a) → W a i = T a i) ∧ (∀ a i, 182 ≤ a → a ≤ 184 → i < 3 * n ∨ 3 * n + L.length ≤ i → W a i = T a i) ∧ ∀ a, 182 ≤ a → a ≤ 184 → ∀ i : Nat, i < L.length → W a (3 * n + i) = T a (3 * n + (L.getD i 0 : Nat))
theorem enter_b137_s {x5' x6 x7 : Int} (hn : 0 ≤ n ∧ n < 16000) (hb : rBk σ τ) (hs : rSh σ τ) (k9 : τ 168 n = σ 9 n) (h18 : 0 ≤ σ 18 n ∧ σ 18 n ≤ 3) (e181 : T 181 n = σ 18 n) (en : ∀ i, 0 ≤ i → i < σ 18 n → rEn σ τ n i) (hT : ∀ a j, (a = 156 ∨ a = 157 ∨ a = 168 ∨ a = 190 ∨ (182 ≤ a ∧ a ≤ 184)) → T a j = τ a j) : ∀ (d k : Nat) (W : gM), (k : Int) + d = σ 18 n → stJ T W n (kpL (stB σ n) k) →
    ∃ W', md_enter_b137 W n y2 y3 y4 x5' x6 x7 (3 * n + (kpL (stB σ n) k).length) (3 * n + k) = md_enter_b137 W' n y2 y3 y4 x5' x6 x7 (3 * n + (kpL (stB σ n) (σ 18 n).toNat).length) (3 * n + σ 18 n) ∧ stJ T W' n (kpL (stB σ n) (σ 18 n).toNat)
  | 0, k, W, hk, hW => by
    have e : k = (σ 18 n).toNat := by omega
    rw [← e, show 3 * n + σ 18 n = 3 * n + k by omega]
    exact ⟨W, rfl, hW⟩
  | d + 1, k, W, hk, hW => by
    obtain ⟨w1, w2, w3⟩ := hW
    have n2 : 0 ≤ n ∧ n < 20000 := by omega
    have hl := kpL_len (st := stB σ n) k
    have k3 : k < 3 := by omega
    have b0 : 0 ≤ 3 * n + (k : Int) ∧ 3 * n + (k : Int) < 60000 := by omega
    have b1 : 0 ≤ 3 * n + ((kpL (stB σ n) k).length : Int) ∧ 3 * n + ((kpL (stB σ n) k).length : Int) < 60000 := by omega
    have r : ∀ a, 182 ≤ a → a ≤ 184 → W a (3 * n + k) = τ a (3 * n + k) := fun a q1 q2 => by rw [w2 a _ q1 q2 (by omega), hT a _ (by omega)]
    rw [md_enter_b137_e, if_pos n2, w1 181 n (by decide), w32_e (x := 3 * n) (by omega) (by omega), w32_e (x := 3 * n + T 181 n) (by omega) (by omega), if_pos (by omega), stale_m hn hb hs k9 (en k (by omega) (by omega)) k3 (fun a j q => by rw [w1 a j (by omega), hT a j (by omega)]) (r 182 (by decide) (by decide)) (r 184 (by decide) (by decide))]
    simp only [Option.bind_some]
    by_cases z : stB σ n k = true
    · rw [z]
      simp only [if_true]
      rw [if_neg (by decide), md_enter_b210_e, w32_e (by omega) (by omega)]
      have e : kpL (stB σ n) (k + 1) = kpL (stB σ n) k := by
        conv => lhs; unfold kpL
        rw [if_pos z]
      have ih := enter_b137_s (x5' := x5') (x6 := x6) (x7 := x7) hn hb hs k9 h18 e181 en hT d (k + 1) W (by omega) (by rw [e]; exact ⟨w1, w2, w3⟩)
      rw [e, show 3 * n + ((k + 1 : Nat) : Int) = 3 * n + k + 1 by omega] at ih
      exact ih
    · have e : kpL (stB σ n) (k + 1) = kpL (stB σ n) k ++ [k] := by
        conv => lhs; unfold kpL
        rw [if_neg z]
      have le : ((kpL (stB σ n) (k + 1)).length : Int) = (kpL (stB σ n) k).length + 1 := by
        rw [e, List.length_append]
        simp only [List.length_cons, List.length_nil]
        omega
      simp only [z, if_false, if_true, b0, b1, and_self, md_enter_b210_e]
      rw [w32_e (x := 3 * n + (k : Int) + 1) (by omega) (by omega), w32_e (x := 3 * n + ((kpL (stB σ n) k).length : Int) + 1) (by omega) (by omega)]
      generalize eV : gW (gW (gW W 182 (3 * n + ((kpL (stB σ n) k).length : Int)) (W 182 (3 * n + k))) 183 (3 * n + ((kpL (stB σ n) k).length : Int)) (W 183 (3 * n + k))) 184 (3 * n + ((kpL (stB σ n) k).length : Int)) (W 184 (3 * n + k)) = V
      have v1 : ∀ a i, (a < 182 ∨ 184 < a) → V a i = W a i := fun a i q => by rw [← eV, gW_c (by omega), gW_c (by omega), gW_c (by omega)]
      have v2 : ∀ a i, i ≠ 3 * n + ((kpL (stB σ n) k).length : Int) → V a i = W a i := fun a i q => by rw [← eV, gW_j q, gW_j q, gW_j q]
      have v3 : ∀ a, 182 ≤ a → a ≤ 184 → V a (3 * n + ((kpL (stB σ n) k).length : Int)) = W a (3 * n + k) := fun a q1 q2 => by
        have : a = 182 ∨ a = 183 ∨ a = 184 := by omega
        rcases this with y | y | y <;> subst y
        · rw [← eV, gW_c (by decide), gW_c (by decide), gW_at]
        · rw [← eV, gW_c (by decide), gW_at]
        · rw [← eV, gW_at]
      have ih := enter_b137_s (x5' := x5') (x6 := x6) (x7 := x7) hn hb hs k9 h18 e181 en hT d (k + 1) V (by omega) ⟨fun a i q => by rw [v1 a i q, w1 a i q], fun a i q1 q2 q => by rw [v2 a i (by omega), w2 a i q1 q2 (by omega)], fun a q1 q2 i hi => by
        rw [e, getD_app]
        by_cases y : i < (kpL (stB σ n) k).length
        · rw [if_pos y, v2 a _ (by omega), w3 a q1 q2 i y]
        · have y' : i = (kpL (stB σ n) k).length := by omega
          rw [if_neg y, if_pos y', y', v3 a q1 q2, w2 a _ q1 q2 (by omega)]⟩
      rw [le, show 3 * n + ((k + 1 : Nat) : Int) = 3 * n + k + 1 by omega, show 3 * n + (((kpL (stB σ n) k).length : Int) + 1) = 3 * n + ((kpL (stB σ n) k).length : Int) + 1 by omega] at ih
      exact ih
end SM
