/-! trees taken apart; a part is begun -/
section BG
variable {σ τ S T : gM} {pT hT : Int → Int} {m : Nat} {br co θ lo hi : Int}
theorem RX.x0 {n q P E : Int} (h : RX σ τ lo hi br co 0 n q P E) : (P < E ∧ lo ≤ n ∧ n < hi) ∧
      (((τ 168 n = 1 ∨ τ 168 n = 2 ∨ τ 168 n = 3 ∨ τ 168 n = 4 ∨ τ 168 n = 7) ∧ E = P + 1 ∧ cI σ P 0 0 n) ∨
       (τ 168 n = 5 ∧ E = P + 1 ∧ cI σ P 1 0 n) ∨
       (τ 168 n = 6 ∧ n < τ 170 n ∧ RX σ τ lo hi br co 0 (τ 170 n) 0 P (E - 1) ∧ cI σ (E - 1) 2 0 n) ∨
       ((8 ≤ τ 168 n ∧ τ 168 n ≤ 17) ∧ (n < τ 170 n ∧ τ 170 n < τ 171 n) ∧ (∃ M, RX σ τ lo hi br co 0 (τ 170 n) 0 P M ∧ RX σ τ lo hi br co 0 (τ 171 n) 0 M (E - 1)) ∧ cI σ (E - 1) 3 0 n) ∨
       ((τ 168 n = 18 ∨ τ 168 n = 19) ∧ (n < τ 170 n ∧ τ 170 n < τ 171 n) ∧ (∃ M, RX σ τ lo hi br co 0 (τ 170 n) 0 P M ∧ cI σ M 4 E n ∧ RX σ τ lo hi br co 0 (τ 171 n) 0 (M + 1) (E - 1)) ∧ cI σ (E - 1) 5 0 n) ∨
       (τ 168 n = 20 ∧ n < τ 170 n ∧ RX σ τ lo hi br co 0 (τ 170 n) 0 P (E - 1) ∧ cI σ (E - 1) 6 0 n) ∨
       ((τ 168 n = 21 ∨ τ 168 n = 22) ∧ n < τ 170 n ∧ (∃ M M', RX σ τ lo hi br co 0 (τ 170 n) 0 P M ∧ ((τ 171 n = -1 ∧ M' = M) ∨ (τ 170 n < τ 171 n ∧ RX σ τ lo hi br co 0 (τ 171 n) 0 M M')) ∧ ((τ 168 n = 21 ∧ E = M' + 1) ∨ (τ 168 n = 22 ∧ (τ 170 n < τ 172 n ∧ τ 171 n < τ 172 n) ∧ RX σ τ lo hi br co 0 (τ 172 n) 0 M' (E - 1)))) ∧ cI σ (E - 1) (if τ 168 n = 22 then 8 else 7) 0 n) ∨
       (τ 168 n = 23 ∧ n < τ 170 n ∧ (τ 171 n = -1 ∨ τ 170 n < τ 171 n) ∧ (∃ M, RX σ τ lo hi br co 0 (τ 170 n) 0 P M ∧ RX σ τ lo hi br co 1 (τ 171 n) (σ 14 n) M (E - 1)) ∧ cI σ (E - 1) 9 0 n)) := by
  obtain ⟨d, h⟩ := h
  cases d with
  | zero => exact h.elim
  | succ d =>
    obtain ⟨h1, h2⟩ := h
    refine ⟨h1, ?_⟩
    rcases h2 with h | h | ⟨e, o, x, h⟩ | ⟨e, o, ⟨M, x, x'⟩, h⟩ | ⟨e, o, ⟨M, x, i, x'⟩, h⟩ | ⟨e, o, x, h⟩ | ⟨e, o, ⟨M, M', x, x', x''⟩, h⟩ | ⟨e, o, o', ⟨M, x, x'⟩, h⟩
    · exact Or.inl h
    · exact Or.inr (Or.inl h)
    · exact Or.inr (Or.inr (Or.inl ⟨e, o, ⟨d, x⟩, h⟩))
    · exact Or.inr (Or.inr (Or.inr (Or.inl ⟨e, o, ⟨M, ⟨d, x⟩, ⟨d, x'⟩⟩, h⟩)))
    · exact Or.inr (Or.inr (Or.inr (Or.inr (Or.inl ⟨e, o, ⟨M, ⟨d, x⟩, i, ⟨d, x'⟩⟩, h⟩))))
    · exact Or.inr (Or.inr (Or.inr (Or.inr (Or.inr (Or.inl ⟨e, o, ⟨d, x⟩, h⟩)))))
    · refine Or.inr (Or.inr (Or.inr (Or.inr (Or.inr (Or.inr (Or.inl ⟨e, o, ⟨M, M', ⟨d, x⟩, ?_, ?_⟩, h⟩))))))
      · rcases x' with z | ⟨y, z⟩
        · exact Or.inl z
        · exact Or.inr ⟨y, ⟨d, z⟩⟩
      · rcases x'' with z | ⟨y, y', z⟩
        · exact Or.inl z
        · exact Or.inr ⟨y, y', ⟨d, z⟩⟩
    · exact Or.inr (Or.inr (Or.inr (Or.inr (Or.inr (Or.inr (Or.inr ⟨e, o, o', ⟨M, ⟨d, x⟩, ⟨d, x'⟩⟩, h⟩))))))
theorem RX.k0 {n q P E : Int} (h : RX σ τ lo hi br co 0 n q P E) : 1 ≤ τ 168 n ∧ τ 168 n < 24 := by
  rcases h.x0.2 with h | h | h | h | h | h | h | h
  · have := h.1; omega
  · have := h.1; omega
  · have := h.1; omega
  · have := h.1; omega
  · have := h.1; omega
  · have := h.1; omega
  · have := h.1; omega
  · have := h.1; omega
theorem RX.x1 {n q P E : Int} (h : RX σ τ lo hi br co 1 n q P E) : (n = -1 ∧ q = 0 ∧ E = P) ∨ (0 ≤ n ∧ (τ 173 n = -1 ∨ n < τ 173 n) ∧ ∃ M, RX σ τ lo hi br co 0 n 0 P M ∧ RX σ τ lo hi br co 1 (τ 173 n) (q - 1) M E) := by
  obtain ⟨d, h⟩ := h
  cases d with
  | zero => exact h.elim
  | succ d =>
    rcases h with h | ⟨h0, o, M, h1, h2⟩
    · exact Or.inl h
    · exact Or.inr ⟨h0, o, M, ⟨d, h1⟩, ⟨d, h2⟩⟩
theorem RX.x2 {n q P E : Int} (h : RX σ τ lo hi br co 2 n q P E) : (n = -1 ∧ E = P) ∨ (0 ≤ n ∧ (τ 173 n = -1 ∨ n < τ 173 n) ∧ ∃ M, RX σ τ lo hi br co 3 n 0 P M ∧ RX σ τ lo hi br co 2 (τ 173 n) 0 M E) := by
  obtain ⟨d, h⟩ := h
  cases d with
  | zero => exact h.elim
  | succ d =>
    rcases h with h | ⟨h0, o, M, h1, h2⟩
    · exact Or.inl h
    · exact Or.inr ⟨h0, o, M, ⟨d, h1⟩, ⟨d, h2⟩⟩
theorem RX.n2 {P : Int} : RX σ τ lo hi br co 2 (-1) 0 P P := ⟨1, Or.inl ⟨rfl, rfl⟩⟩
/-- a statement, after its step -/
theorem RX.x3 {be n q P E : Int} (h : RX σ τ lo hi br co 3 n q P E) : (P + 1 < E ∧ lo ≤ n ∧ n < hi) ∧ cI σ P 10 0 n ∧ ((24 ≤ τ 168 n ∧ Ts σ τ lo hi be br co n 0 (P + 1) 0 E br co) ∨ (τ 168 n < 24 ∧ RX σ τ lo hi br co 0 n 0 (P + 1) (E - 1) ∧ cI σ (E - 1) 15 0 (-1))) := by
  obtain ⟨d, h⟩ := h
  cases d with
  | zero => exact h.elim
  | succ d =>
    obtain ⟨h1, h0, h2⟩ := h
    refine ⟨h1, h0, ?_⟩
    rcases h2 with ⟨e, o, o', o'', M, M', x, i, x', i', x''⟩ | ⟨e, o, o', M, x, i, x', i'⟩ | ⟨e, x, i⟩ | ⟨e, b, e1, i⟩ | ⟨e, b, e1, i⟩ | ⟨e, x, i⟩
    · have a1 := RT_ab _ _ _ _ _ _ _ _ x''
      exact Or.inl ⟨by omega, Or.inl ⟨e, ⟨rfl, rfl⟩, Or.inl ⟨rfl, rfl, o, M, ⟨d, x⟩, ⟨by omega, by omega⟩, M', by omega, i, ⟨d, x'⟩, i', ⟨d, x''⟩⟩⟩⟩
    · exact Or.inl ⟨by omega, Or.inr (Or.inl ⟨e, Or.inl ⟨rfl, rfl, ⟨rfl, rfl⟩, M, ⟨o, by omega⟩, ⟨d, x⟩, i, ⟨d, x'⟩, i'⟩⟩)⟩
    · refine Or.inl ⟨by omega, Or.inr (Or.inr (Or.inl ⟨e, ⟨rfl, rfl⟩, i, Or.inl ⟨rfl, rfl, ?_⟩⟩))⟩
      rcases x with ⟨z1, z2, z3⟩ | ⟨z1, z2⟩
      · exact Or.inl ⟨z1, by omega, z3⟩
      · exact Or.inr ⟨z1, ⟨d, z2⟩⟩
    · exact Or.inl ⟨by omega, Or.inr (Or.inr (Or.inr ⟨⟨rfl, rfl⟩, rfl, rfl, b, by omega, Or.inl ⟨e, i⟩⟩))⟩
    · exact Or.inl ⟨by omega, Or.inr (Or.inr (Or.inr ⟨⟨rfl, rfl⟩, rfl, rfl, b, by omega, Or.inr ⟨e, i⟩⟩))⟩
    · exact Or.inr ⟨e, ⟨d, x⟩, i⟩
/-- what the newest activation of a run has begun -/
theorem RR.cur (R : RR σ τ pT hT m br co θ) : (0 ≤ σ 87 21 ∧ σ 87 21 < 59) ∧ σ 87 21 < σ 87 19 ∧ (4 ≤ σ 90 (σ 87 21) ∧ σ 90 (σ 87 21) < σ 8 31) ∧ pcT σ (σ 87 21) (σ 87 22) (pT (σ 87 21)) ∧ (0 ≤ τ 212 (σ 87 21) ∧ τ 212 (σ 87 21) ≤ 34974) ∧ (0 ≤ σ 92 (σ 87 21) ∧ σ 92 (σ 87 21) ≤ 17400) ∧ (0 ≤ σ 26 (σ 90 (σ 87 21)) ∧ σ 26 (σ 90 (σ 87 21)) + σ 27 (σ 90 (σ 87 21)) ≤ 16000) ∧ σ 27 (σ 90 (σ 87 21)) ≤ 300 ∧ (∀ n, σ 26 (σ 90 (σ 87 21)) ≤ n → n < σ 26 (σ 90 (σ 87 21)) + σ 27 (σ 90 (σ 87 21)) → rN1 σ τ n ∧ τ 174 n = σ 90 (σ 87 21) ∧ n < σ 8 12) := by
  obtain ⟨⟨⟨⟨P1, P2⟩, -⟩, ⟨-, ha, -, hap, -, ⟨hm, hc⟩, -⟩, -⟩, -, ⟨⟨-, a2, a3, -⟩, -⟩, -⟩ := R
  have m59 := ha.1
  have r4 := (ha.2.2 (σ 87 21) (by omega) (by omega)).2.1
  have hN := P1.2.2.2.2.2.2.2.2.1
  obtain ⟨-, -, n3, n4, n5, n6⟩ := hN.2.1 _ r4.1 r4.2
  have h16 := hN.1
  have p := hap (σ 87 21) (by omega) (by omega)
  unfold pcA at p
  rw [if_pos rfl] at p
  exact ⟨by omega, by omega, r4, p, by omega, by omega, by omega, by omega, fun n q1 q2 => ⟨hN.2.2 n (by omega) (by omega), n6 n q1 q2, by omega⟩⟩
/-- a part is begun: the model alone goes on -/
theorem RR.beg {τ1 : gM} {n s' x' p M E h' br' co' : Int} (R : RR σ τ pT hT (m + 1) br co θ)
    (en : τ 218 (τ 212 (σ 87 21) + m + 1) = n) (e1 : ∀ a i, (a ≠ 219 ∧ a ≠ 220) ∨ i ≠ τ 212 (σ 87 21) + m + 1 → τ1 a i = τ a i) (e2 : τ1 219 (τ 212 (σ 87 21) + m + 1) = s') (e3 : τ1 220 (τ 212 (σ 87 21) + m + 1) = x')
    (hn : 0 ≤ n) (hp : n < p) (rx : RX σ τ (σ 26 (σ 90 (σ 87 21))) (σ 26 (σ 90 (σ 87 21)) + σ 27 (σ 90 (σ 87 21))) br co 0 p 0 (pT (σ 87 21)) M) (hh : hT (σ 87 21) ≤ p - σ 26 (σ 90 (σ 87 21)))
    (tk : Tk σ τ (σ 26 (σ 90 (σ 87 21))) (σ 26 (σ 90 (σ 87 21)) + σ 27 (σ 90 (σ 87 21))) (σ 28 (σ 90 (σ 87 21))) (m + 1) br co n s' x' M (hT (σ 87 21) + 1) E h' br' co') (st : St σ τ (σ 26 (σ 90 (σ 87 21))) (σ 26 (σ 90 (σ 87 21)) + σ 27 (σ 90 (σ 87 21))) (σ 28 (σ 90 (σ 87 21))) (σ 28 (σ 90 (σ 87 21)) + σ 29 (σ 90 (σ 87 21)) - 2) (τ 212 (σ 87 21)) m E h' br' co') :
    md_task τ1 p (-1) = some (tkW τ1 p (-1), 0) ∧ RR σ (tkW τ1 p (-1)) (updF pT (σ 87 21) (pT (σ 87 21))) (updF hT (σ 87 21) (hT (σ 87 21))) (m + 2) br co θ := by
  obtain ⟨c1, c2, r4, pc, c5, c6, c7, c8, c9⟩ := R.cur
  have R' := R
  obtain ⟨-, -, ⟨⟨k1, k2, k3, k4⟩, k5, k6⟩, -⟩ := R'
  obtain ⟨o, V1, V1', -⟩ := R.pl
  have rg : n < σ 26 (σ 90 (σ 87 21)) + σ 27 (σ 90 (σ 87 21)) ∧ σ 26 (σ 90 (σ 87 21)) ≤ n ∧ ((m : Int) + 1) ≤ 2 * (n - σ 26 (σ 90 (σ 87 21))) + 2 := by
    rcases tk.rg with z | z | z
    · omega
    · omega
    · exact ⟨z.2.2.1, z.2.1, z.2.2.2⟩
  have f124 : τ1 119 124 = τ 212 (σ 87 21) + m + 1 + 1 := by rw [e1 119 124 (by omega), k5]; omega
  obtain ⟨t1, t2, t3, t4⟩ := tkW_n (τ := τ1) (n := p) (x := -1) f124
  have px := rx.pos
  have pk := rx.k0
  have W : ∀ a i, (a < 218 ∧ a ≠ 119) ∨ 220 < a ∨ (a ≠ 119 ∧ i < τ 212 (σ 87 21) + m + 1) ∨ (a = 119 ∧ i ≠ 124) → tkW τ1 p (-1) a i = τ a i := fun a i q => by
    rw [tkW_o (by omega), e1 a i (by omega)]
  have W1 : tkW τ1 p (-1) 218 (τ 212 (σ 87 21) + m + 1) = n ∧ tkW τ1 p (-1) 219 (τ 212 (σ 87 21) + m + 1) = s' ∧ tkW τ1 p (-1) 220 (τ 212 (σ 87 21) + m + 1) = x' := by
    rw [tkW_o (by omega), tkW_o (by omega), tkW_o (by omega), e1 218 _ (by omega), en]
    exact ⟨rfl, e2, e3⟩
  have fc : ∀ a n', (a = 168 ∨ (170 ≤ a ∧ a ≤ 173)) → σ 26 (σ 90 (σ 87 21)) ≤ n' → n' < σ 26 (σ 90 (σ 87 21)) + σ 27 (σ 90 (σ 87 21)) → tkW τ1 p (-1) a n' = τ a n' := fun a n' q _ _ => W a n' (by omega)
  have fs : ∀ P Q, sI σ σ P Q := fun P Q x _ _ => ⟨rfl, rfl, rfl⟩
  have st' := St.fr fc (fun _ _ _ => rfl) (fs _ _) m _ _ _ _ (fun a i q1 q2 q3 q4 => W a i (by omega)) st
  have hl := St.le _ _ _ _ _ st
  have hk := k1.1.1
  have hm3 := k1.1.2
  have tle := tk.le
  have rle := rx.le
  have tk' := Tk.fr (S := σ) (T := tkW τ1 p (-1)) fc (fun _ _ _ => rfl) (fs _ (σ 28 (σ 90 (σ 87 21)) + σ 29 (σ 90 (σ 87 21)) - 2)) tk (by omega) hl.2
  have rx' := RX.st (S := σ) (T := tkW τ1 p (-1)) fc (fun _ _ _ => rfl) (fs (σ 28 (σ 90 (σ 87 21))) (σ 28 (σ 90 (σ 87 21)) + σ 29 (σ 90 (σ 87 21)) - 2)) rx hk (by omega)
  refine ⟨md_task_s (by rw [f124]; omega), R.sm ⟨fun _ _ _ _ _ _ => rfl, fun _ _ _ _ => rfl⟩ ⟨fun a i q1 q2 _ _ => W a i (by omega), fun i q1 q2 _ => W 119 i (by omega), fun a i q1 q2 q3 => W a i (by omega)⟩ (R.pk (f := τ 212 (σ 87 21)) V1 ⟨fun _ _ _ _ _ _ => rfl, fun _ _ _ _ => rfl⟩ ⟨fun a i q1 q2 _ _ => W a i (by omega), fun i q1 q2 _ => W 119 i (by omega), fun a i q1 q2 q3 => W a i (by omega)⟩ (fun _ _ _ _ => rfl) (fun a j q _ => W a j (by omega)) (by rw [W 119 125 (by omega)]; exact V1) fun i i0 i1 => ?_) pc ⟨⟨⟨hk, by omega⟩, ?_, M, hT (σ 87 21) + 1, br, co, ?_, ?_⟩, ?_, ?_, k4⟩ (by rw [t4]; omega) k6 (by omega) (Int.le_refl _)⟩
  · rw [W 221 _ (by omega), W 222 _ (by omega)]
    have d : smM τ (tkW τ1 p (-1)) (τ 212 (σ 87 21)) := ⟨fun a i q1 q2 _ _ => W a i (by omega), fun i q1 q2 _ => W 119 i (by omega), fun a i q1 q2 q3 => W a i (by omega)⟩
    exact (smC.rv (σ := σ) (S := σ) ⟨fun _ _ _ _ _ _ => rfl, fun _ _ _ _ => rfl⟩ d).mpr (V1' i i0 i1)
  · rw [W 212 _ (by omega)]
    unfold rwO
    rw [show τ 212 (σ 87 21) + ((m + 1 : Nat) : Int) + 1 = τ 212 (σ 87 21) + m + 1 + 1 by omega, t1]
    refine ⟨fun q => by omega, fun _ q => ?_⟩
    rw [W 168 p (by omega)] at q
    omega
  · rw [W 212 _ (by omega), show τ 212 (σ 87 21) + ((m + 1 : Nat) : Int) + 1 = τ 212 (σ 87 21) + m + 1 + 1 by omega, t1, t2, t3]
    refine Or.inr (Or.inr ⟨⟨by omega, px.2.1, px.2.2, by omega⟩, Or.inl ⟨⟨⟨by rw [W 168 p (by omega)]; exact pk.2, by omega, by omega, px.1⟩, Or.inl ⟨rfl, by omega, rx'⟩⟩, rfl, rfl⟩⟩)
  · rw [W 212 _ (by omega)]
    refine ⟨⟨by omega, hm3⟩, ?_, E, h', br', co', ?_, st'⟩
    · have hw := k1.2.1
      unfold rwO at hw ⊢
      rw [W1.1]
      rw [en] at hw
      refine ⟨fun q => by omega, fun q q' => ?_⟩
      rw [W 218 _ (by omega)]
      rw [fc 168 n (Or.inl rfl) rg.2.1 rg.1] at q'
      exact hw.2 q q'
    · rw [W1.1, W1.2.1, W1.2.2]
      exact tk'
  · rw [W 212 _ (by omega)]; exact k2
  · exact k3
end BG
