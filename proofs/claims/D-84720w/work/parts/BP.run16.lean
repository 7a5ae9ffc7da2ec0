/-! parts are begun: the model alone goes on -/
/-- how much the model has to do before the component goes on -/
def wM (τ : gM) : Int := if τ 218 (τ 119 124 - 1) < 0 then 100000 + τ 119 124 else 4 * (20000 - τ 218 (τ 119 124 - 1)) + (if τ 219 (τ 119 124 - 1) = 0 then 3 else if τ 219 (τ 119 124 - 1) = 1 then 2 else if τ 219 (τ 119 124 - 1) = 2 then 1 else 0)
/-- both go on, the run is related again -/
def goX (σ τ : gM) (θ : Int) : Prop := ∃ (S T : gM) (pT hT : Int → Int) (m : Nat) (br co θ' : Int), cG σ S ∧ mG τ T ∧ RR S T pT hT m br co θ' ∧ (θ' < θ ∨ (θ' = θ ∧ wM T < wM τ)) ∧ T 119 119 = τ 119 119 ∧ T 119 120 = τ 119 120
section SI
variable {σ τ S T : gM} {pT hT : Int → Int} {m : Nat} {br co θ : Int}
theorem cG.rf : cG σ σ := ⟨fun _ _ => rfl, id⟩
theorem wM_n {i n s : Int} (e : τ 119 124 = i + 1) (en : τ 218 i = n) (es : τ 219 i = s) (hn : 0 ≤ n) : wM τ = 4 * (20000 - n) + (if s = 0 then 3 else if s = 1 then 2 else if s = 2 then 1 else 0) := by
  unfold wM
  rw [e, show i + 1 - 1 = i by omega, en, es, if_neg (show ¬ n < 0 by omega)]
theorem wM_b {i n s : Int} (e : τ 119 124 = i + 1) (en : τ 218 i = n) (es : τ 219 i = s) (hn : 0 ≤ n) : 4 * (20000 - n) ≤ wM τ ∧ wM τ ≤ 4 * (20000 - n) + 3 := by
  rw [wM_n e en es hn]
  split
  · omega
  · split
    · omega
    · split <;> omega
/-- the task on top -/
theorem RR.top (R : RR σ τ pT hT (m + 1) br co θ) : ∃ E h' br' co', (τ 119 124 = τ 212 (σ 87 21) + m + 1 + 1 ∧ 0 ≤ τ 212 (σ 87 21) + m + 1 ∧ τ 212 (σ 87 21) + m + 1 < 42000) ∧ (σ 28 (σ 90 (σ 87 21)) ≤ pT (σ 87 21) ∧ pT (σ 87 21) ≤ σ 28 (σ 90 (σ 87 21)) + σ 29 (σ 90 (σ 87 21)) - 2) ∧ Tk σ τ (σ 26 (σ 90 (σ 87 21))) (σ 26 (σ 90 (σ 87 21)) + σ 27 (σ 90 (σ 87 21))) (σ 28 (σ 90 (σ 87 21))) (m + 1) br co (τ 218 (τ 212 (σ 87 21) + m + 1)) (τ 219 (τ 212 (σ 87 21) + m + 1)) (τ 220 (τ 212 (σ 87 21) + m + 1)) (pT (σ 87 21)) (hT (σ 87 21)) E h' br' co' ∧ St σ τ (σ 26 (σ 90 (σ 87 21))) (σ 26 (σ 90 (σ 87 21)) + σ 27 (σ 90 (σ 87 21))) (σ 28 (σ 90 (σ 87 21))) (σ 28 (σ 90 (σ 87 21)) + σ 29 (σ 90 (σ 87 21)) - 2) (τ 212 (σ 87 21)) m E h' br' co' ∧ rwO τ (τ 212 (σ 87 21) + m) ∧ (σ 87 23 = 1 ∧ τ 119 117 = 1 ∧ τ 119 127 = 0) := by
  obtain ⟨c1, c2, r4, pc, c5, c6, c7, c8, c9⟩ := R.cur
  obtain ⟨⟨-, -, -, -, C, -⟩, -, ⟨⟨k1, k2, k3, k4⟩, k5, k6⟩, -⟩ := R
  have hl := St.le _ _ _ _ _ k1
  obtain ⟨a1, a2, E, h', br', co', a3, a4⟩ := k1
  have e : τ 119 124 = τ 212 (σ 87 21) + m + 1 + 1 := by omega
  have jb := a1.2
  exact ⟨E, h', br', co', ⟨e, by omega, by omega⟩, ⟨a1.1, hl.2⟩, a3, a4, a2, C.1.1, C.1.2, C.2.2.2.2.2.2.2⟩
/-- a part is begun -/
theorem RR.bg {τ1 : gM} {n s' x' p M E h' br' co' : Int} (R : RR σ τ pT hT (m + 1) br co θ)
    (en : τ 218 (τ 212 (σ 87 21) + m + 1) = n) (e1 : ∀ a i, (a ≠ 219 ∧ a ≠ 220) ∨ i ≠ τ 212 (σ 87 21) + m + 1 → τ1 a i = τ a i) (e2 : τ1 219 (τ 212 (σ 87 21) + m + 1) = s') (e3 : τ1 220 (τ 212 (σ 87 21) + m + 1) = x')
    (hn : 0 ≤ n) (hp : n < p) (rx : RX σ τ (σ 26 (σ 90 (σ 87 21))) (σ 26 (σ 90 (σ 87 21)) + σ 27 (σ 90 (σ 87 21))) br co 0 p 0 (pT (σ 87 21)) M) (hh : hT (σ 87 21) ≤ p - σ 26 (σ 90 (σ 87 21)))
    (tk : Tk σ τ (σ 26 (σ 90 (σ 87 21))) (σ 26 (σ 90 (σ 87 21)) + σ 27 (σ 90 (σ 87 21))) (σ 28 (σ 90 (σ 87 21))) (m + 1) br co n s' x' M (hT (σ 87 21) + 1) E h' br' co') (st : St σ τ (σ 26 (σ 90 (σ 87 21))) (σ 26 (σ 90 (σ 87 21)) + σ 27 (σ 90 (σ 87 21))) (σ 28 (σ 90 (σ 87 21))) (σ 28 (σ 90 (σ 87 21)) + σ 29 (σ 90 (σ 87 21)) - 2) (τ 212 (σ 87 21)) m E h' br' co')
    (wk : md_task τ1 p (-1) = some (tkW τ1 p (-1), 0) → md_works τ (τ 212 (σ 87 21) + m + 1) n (τ 168 n) = some (tkW τ1 p (-1), some 0)) : goX σ τ θ := by
  obtain ⟨-, -, -, -, ⟨t1, t2⟩, -, -, -, -, t6⟩ := R.top
  obtain ⟨b1, b2⟩ := R.beg en e1 e2 e3 hn hp rx hh tk st
  have px := rx.pos
  obtain ⟨-, -, -, -, -, -, c7, -⟩ := R.cur
  have f : τ1 119 124 = τ 212 (σ 87 21) + m + 1 + 1 := by rw [e1 119 124 (by omega)]; exact t1
  obtain ⟨w1, w2, w3, w4⟩ := tkW_n (τ := τ1) (n := p) (x := -1) f
  refine ⟨σ, _, _, _, _, _, _, θ, cG.rf, mG_of t6.2.1 t6.2.2 (work_n t1 t2 en ⟨hn, by omega⟩ (wk b1)), b2, Or.inr ⟨rfl, ?_⟩, ?_, ?_⟩
  · have b1 := wM_b (τ := tkW τ1 p (-1)) w4 w1 w2 (by omega)
    have b2 := wM_b t1 en rfl hn
    omega
  · rw [tkW_o (by omega), e1 119 119 (by omega)]
  · rw [tkW_o (by omega), e1 119 120 (by omega)]
theorem st1 {i s : Int} (hs : 0 ≤ s ∧ s < 1000000) : ∀ a j, (a ≠ 219 ∧ a ≠ 220) ∨ j ≠ i → gW τ 219 i s a j = τ a j := fun a j q => by
  rcases q with q | q
  · exact gW_c q.1
  · exact gW_j q
theorem begun0 {i p : Int} (h : 0 ≤ i ∧ i < 42000) (e : τ 219 i = 0) (t : md_task (gW τ 219 i 1) p (-1) = some (tkW (gW τ 219 i 1) p (-1), 0)) : md_begun τ i p = some (tkW (gW τ 219 i 1) p (-1), 0) := by
  rw [md_begun_e, if_pos h, if_pos h, if_pos h, e, gW_at, w32_e (by decide) (by decide), if_neg (by decide), show (0 : Int) + 1 = 1 by decide, t]
  rfl
/-- the stage alone -/
theorem RR.stg {n E h' br' co' : Int} (R : RR σ τ pT hT (m + 1) br co θ) (en : τ 218 (τ 212 (σ 87 21) + m + 1) = n) (es : τ 219 (τ 212 (σ 87 21) + m + 1) = 1) (hn : 0 ≤ n ∧ n < 20000)
    (tk : Tk σ τ (σ 26 (σ 90 (σ 87 21))) (σ 26 (σ 90 (σ 87 21)) + σ 27 (σ 90 (σ 87 21))) (σ 28 (σ 90 (σ 87 21))) (m + 1) br co n 2 (τ 220 (τ 212 (σ 87 21) + m + 1)) (pT (σ 87 21)) (hT (σ 87 21)) E h' br' co') (st : St σ τ (σ 26 (σ 90 (σ 87 21))) (σ 26 (σ 90 (σ 87 21)) + σ 27 (σ 90 (σ 87 21))) (σ 28 (σ 90 (σ 87 21))) (σ 28 (σ 90 (σ 87 21)) + σ 29 (σ 90 (σ 87 21)) - 2) (τ 212 (σ 87 21)) m E h' br' co')
    (wk : md_works τ (τ 212 (σ 87 21) + m + 1) n (τ 168 n) = some (gW τ 219 (τ 212 (σ 87 21) + m + 1) 2, some 0)) : goX σ τ θ := by
  obtain ⟨-, -, -, -, ⟨t1, t2⟩, -, -, -, hw, t6⟩ := R.top
  obtain ⟨-, -, -, pc, c5, -⟩ := R.cur
  have R' := R
  obtain ⟨-, -, ⟨⟨k1, k2, k3, k4⟩, k5, k6⟩, -⟩ := R'
  obtain ⟨o, V1, V1', -⟩ := R.pl
  have W : ∀ a i, a ≠ 219 ∨ i ≠ τ 212 (σ 87 21) + m + 1 → gW τ 219 (τ 212 (σ 87 21) + m + 1) 2 a i = τ a i := fun a i q => by
    rcases q with q | q
    · exact gW_c q
    · exact gW_j q
  have cc : smC σ σ := ⟨fun _ _ _ _ _ _ => rfl, fun _ _ _ _ => rfl⟩
  have d : smM τ (gW τ 219 (τ 212 (σ 87 21) + m + 1) 2) (τ 212 (σ 87 21)) := ⟨fun a i q1 q2 _ _ => W a i (by omega), fun i q1 q2 _ => W 119 i (by omega), fun a i q1 q2 q3 => W a i (by omega)⟩
  have fc : ∀ a n', (a = 168 ∨ (170 ≤ a ∧ a ≤ 173)) → σ 26 (σ 90 (σ 87 21)) ≤ n' → n' < σ 26 (σ 90 (σ 87 21)) + σ 27 (σ 90 (σ 87 21)) → gW τ 219 (τ 212 (σ 87 21) + m + 1) 2 a n' = τ a n' := fun a n' q _ _ => W a n' (by omega)
  have fs : ∀ P Q, sI σ σ P Q := fun P Q x _ _ => ⟨rfl, rfl, rfl⟩
  have hl := St.le _ _ _ _ _ st
  refine ⟨σ, _, _, _, m + 1, _, _, θ, cG.rf, mG_of t6.2.1 t6.2.2 (work_n t1 t2 en hn wk), R.sm (h' := hT (σ 87 21)) (br' := br) (co' := co) cc d (R.pk V1 cc d (fun _ _ _ _ => rfl) (fun a j q _ => W a j (by omega)) (by rw [W 119 125 (by omega)]; exact V1) fun i i0 i1 => by rw [W 221 _ (by omega), W 222 _ (by omega)]; exact (smC.rv cc d).mpr (V1' i i0 i1)) pc ⟨⟨k1.1, ?_, E, h', br', co', ?_, ?_⟩, ?_, k3, k4⟩ (by rw [W 119 124 (by omega)]; exact k5) k6 (by omega) (Int.le_refl _), Or.inr ⟨rfl, ?_⟩, W 119 119 (by omega), W 119 120 (by omega)⟩
  · rw [W 212 _ (by omega)]
    have hw := k1.2.1
    unfold rwO at hw ⊢
    rw [W 218 _ (by omega), W 218 _ (by omega), W 219 (τ 212 (σ 87 21) + m) (by omega)]
    simp only [show ∀ i, gW τ 219 (τ 212 (σ 87 21) + m + 1) 2 168 i = τ 168 i from fun i => W 168 i (by omega)]
    exact hw
  · rw [W 212 _ (by omega), W 218 _ (by omega), W 220 _ (by omega), gW_at, en]
    exact Tk.fr fc (fun _ _ _ => rfl) (fs _ _) tk k1.1.1 hl.2
  · rw [W 212 _ (by omega)]
    exact St.fr fc (fun _ _ _ => rfl) (fs _ _) m _ _ _ _ (fun a i q1 q2 q3 q4 => W a i (by omega)) st
  · rw [W 212 _ (by omega)]; exact k2
  · have b1 := wM_n (τ := gW τ 219 (τ 212 (σ 87 21) + m + 1) 2) (by rw [W 119 124 (by omega)]; exact t1) (by rw [W 218 _ (by omega)]; exact en) (gW_at ..) hn.1
    have b2 := wM_n t1 en es hn.1
    rw [b1, b2, if_neg (show ¬ (2 : Int) = 0 by decide), if_neg (show ¬ (2 : Int) = 1 by decide), if_pos (show (2 : Int) = 2 by decide), if_neg (show ¬ (1 : Int) = 0 by decide), if_pos (show (1 : Int) = 1 by decide)]
    omega
/-- what is worked out from parts: the next one is begun -/
theorem sil_e {n s x E h' : Int} (R : RR σ τ pT hT (m + 1) br co θ) (en : τ 218 (τ 212 (σ 87 21) + m + 1) = n) (es : τ 219 (τ 212 (σ 87 21) + m + 1) = s) (ex : τ 220 (τ 212 (σ 87 21) + m + 1) = x) (hn : 0 ≤ n ∧ σ 26 (σ 90 (σ 87 21)) ≤ n ∧ n < σ 26 (σ 90 (σ 87 21)) + σ 27 (σ 90 (σ 87 21)) ∧ ((m : Int) + 1) ≤ 2 * (n - σ 26 (σ 90 (σ 87 21))) + 2)
    (te : Te σ τ (σ 26 (σ 90 (σ 87 21))) (σ 26 (σ 90 (σ 87 21)) + σ 27 (σ 90 (σ 87 21))) br co n s x (pT (σ 87 21)) (hT (σ 87 21)) E (h' - 1)) (st : St σ τ (σ 26 (σ 90 (σ 87 21))) (σ 26 (σ 90 (σ 87 21)) + σ 27 (σ 90 (σ 87 21))) (σ 28 (σ 90 (σ 87 21))) (σ 28 (σ 90 (σ 87 21)) + σ 29 (σ 90 (σ 87 21)) - 2) (τ 212 (σ 87 21)) m E h' br co) :
    goX σ τ θ ∨ (s = 0 ∧ E = pT (σ 87 21) + 1 ∧ (((τ 168 n = 1 ∨ τ 168 n = 2 ∨ τ 168 n = 3 ∨ τ 168 n = 4 ∨ τ 168 n = 7) ∧ cI σ (pT (σ 87 21)) 0 0 n) ∨ (τ 168 n = 5 ∧ cI σ (pT (σ 87 21)) 1 0 n))) ∨ (s = 1 ∧ (τ 168 n = 18 ∨ τ 168 n = 19)) ∨ (pT (σ 87 21) = E - 1 ∧ ((s = 1 ∧ (τ 168 n = 6 ∨ τ 168 n = 20 ∨ (τ 168 n = 21 ∧ τ 171 n = -1))) ∨ (s = 2 ∧ ((8 ≤ τ 168 n ∧ τ 168 n ≤ 19) ∨ (τ 168 n = 21 ∧ τ 171 n ≠ -1))) ∨ (s = 3 ∧ τ 168 n = 22) ∨ ((1 ≤ s ∧ n + s ≤ σ 26 (σ 90 (σ 87 21)) + σ 27 (σ 90 (σ 87 21))) ∧ τ 168 n = 23 ∧ x = -1 ∧ σ 14 n = s - 1))) := by
  obtain ⟨-, -, -, -, ⟨t1, t2⟩, -, -, -, -, -⟩ := R.top
  obtain ⟨-, -, -, -, -, -, c7, c8, -⟩ := R.cur
  have n2 : 0 ≤ n ∧ n < 20000 := by omega
  obtain ⟨k1, te⟩ := te
  -- the next stage is one more
  have bgn : ∀ {p M s' : Int}, s' = s + 1 → n < p → RX σ τ (σ 26 (σ 90 (σ 87 21))) (σ 26 (σ 90 (σ 87 21)) + σ 27 (σ 90 (σ 87 21))) br co 0 p 0 (pT (σ 87 21)) M → hT (σ 87 21) ≤ p - σ 26 (σ 90 (σ 87 21)) → 0 ≤ s → s ≤ 1000 → Te σ τ (σ 26 (σ 90 (σ 87 21))) (σ 26 (σ 90 (σ 87 21)) + σ 27 (σ 90 (σ 87 21))) br co n s' x M (hT (σ 87 21) + 1) E (h' - 1) → (md_task (gW τ 219 (τ 212 (σ 87 21) + m + 1) s') p (-1) = some (tkW (gW τ 219 (τ 212 (σ 87 21) + m + 1) s') p (-1), 0) → md_works τ (τ 212 (σ 87 21) + m + 1) n (τ 168 n) = some (tkW (gW τ 219 (τ 212 (σ 87 21) + m + 1) s') p (-1), some 0)) → goX σ τ θ := fun e' hp rx hh s0 s1 t' wk =>
    R.bg en (st1 (by omega)) (gW_at ..) (by rw [gW_c (by decide)]; exact ex) n2.1 hp rx hh (Or.inr (Or.inr ⟨hn, Or.inl ⟨t', rfl, rfl⟩⟩)) st wk
  rcases te with ⟨a1, a2, a3⟩ | ⟨a1, a2, a3, a4⟩ | ⟨a1, a2, a3⟩ | ⟨a1, a2, a3⟩ | ⟨a1, a2, a3⟩ | ⟨a1, a2, a3⟩ | ⟨a1, a2, a3, a4, a5, a6⟩
  · -- at its beginning
    obtain ⟨-, a4⟩ := a3.x0
    subst a1
    rcases a4 with ⟨e, e1, i⟩ | ⟨e, e1, i⟩ | ⟨e, o, x1, i⟩ | ⟨e, o, ⟨M, x1, x2⟩, i⟩ | ⟨e, o, ⟨M, x1, i', x2⟩, i⟩ | ⟨e, o, x1, i⟩ | ⟨e, o, ⟨M, M', x1, x2, x3⟩, i⟩ | ⟨e, o, o', ⟨M, x1, x2⟩, i⟩
    · exact Or.inr (Or.inl ⟨rfl, e1, Or.inl ⟨e, i⟩⟩)
    · exact Or.inr (Or.inl ⟨rfl, e1, Or.inr ⟨e, i⟩⟩)
    · have := x1.pos
      refine Or.inl (bgn (s' := 1) (by omega) o x1 (by omega) (by omega) (by omega) ⟨⟨k1.1, k1.2.1, k1.2.2.1, by omega⟩, Or.inr (Or.inl ⟨rfl, by omega, rfl, Or.inl ⟨e, i⟩⟩)⟩ fun t => ?_)
      rw [md_works_e, e, if_pos (by decide), md_works_b109_e, if_neg (by decide), if_pos rfl, if_pos n2, begun0 t2 es t]
      rfl
    · have := x2.pos
      refine Or.inl (bgn (s' := 1) (by omega) o.1 x1 (by omega) (by omega) (by omega) ⟨⟨k1.1, k1.2.1, k1.2.2.1, by omega⟩, Or.inr (Or.inr (Or.inl ⟨e, i, Or.inl ⟨rfl, by omega, by omega, x2⟩⟩))⟩ fun t => ?_)
      rw [md_works_e, if_neg (by omega), if_neg (by omega), if_pos t2, if_pos t2, if_pos t2, es, if_pos (by decide), if_pos rfl, if_pos n2, w32_e (by decide) (by decide), show (0 : Int) + 1 = 1 by decide, md_works_b57_e, t]
      rfl
    · have := x2.pos
      refine Or.inl (bgn (s' := 1) (by omega) o.1 x1 (by omega) (by omega) (by omega) ⟨⟨k1.1, k1.2.1, k1.2.2.1, by omega⟩, Or.inr (Or.inr (Or.inr (Or.inl ⟨e, i, Or.inl ⟨rfl, by omega, by omega, i', x2⟩⟩)))⟩ fun t => ?_)
      rw [md_works_e, if_neg (by omega), if_pos (by omega), md_works_b109_e]
      have q : md_eitherOrBoth τ (τ 212 (σ 87 21) + m + 1) n (τ 168 n) = some (tkW (gW τ 219 (τ 212 (σ 87 21) + m + 1) 1) (τ 170 n) (-1), some 0) := by
        rw [md_eitherOrBoth_e, if_pos t2, if_pos t2, if_pos t2, if_pos es, if_pos n2, es, w32_e (by decide) (by decide), show (0 : Int) + 1 = 1 by decide, t]
        rfl
      rw [q]
      rcases e with e | e
      · rw [e, if_neg (by decide), if_neg (by decide), if_pos rfl]; rfl
      · rw [e, if_neg (by decide), if_neg (by decide), if_neg (by decide), if_pos rfl]; rfl
    · have := x1.pos
      refine Or.inl (bgn (s' := 1) (by omega) o x1 (by omega) (by omega) (by omega) ⟨⟨k1.1, k1.2.1, k1.2.2.1, by omega⟩, Or.inr (Or.inl ⟨rfl, by omega, rfl, Or.inr ⟨e, i⟩⟩)⟩ fun t => ?_)
      rw [md_works_e, e, if_neg (by decide), if_pos (by decide), md_works_b109_e, if_neg (by decide), if_neg (by decide), if_neg (by decide), if_neg (by decide), if_pos rfl, if_pos n2, begun0 t2 es t]
      rfl
    · rcases e with e | e
      · rw [e, if_neg (by decide)] at i
        have x3 : E = M' + 1 := by
          rcases x3 with ⟨-, x3⟩ | ⟨x3, -⟩
          · exact x3
          · omega
        have px := x1.pos
        refine Or.inl (bgn (s' := 1) (by omega) o x1 (by omega) (by omega) (by omega) ⟨⟨k1.1, k1.2.1, k1.2.2.1, ?_⟩, Or.inr (Or.inr (Or.inr (Or.inr (Or.inl ⟨e, i, Or.inl ⟨rfl, by omega, ?_⟩⟩))))⟩ fun t => ?_)
        · rcases x2 with ⟨y1, y2⟩ | ⟨y1, y2⟩
          · omega
          · have := y2.le; omega
        · rcases x2 with ⟨y1, y2⟩ | ⟨y1, y2⟩
          · exact Or.inl ⟨y1, by omega⟩
          · exact Or.inr ⟨by omega, by rw [show E - 1 = M' by omega]; exact y2⟩
        · rw [md_works_e, e, if_neg (by decide), if_pos (by decide), md_works_b109_e, if_neg (by decide), if_neg (by decide), if_neg (by decide), if_neg (by decide), if_neg (by decide), if_pos rfl, md_gets_e, if_pos t2, if_pos t2, if_pos t2, if_pos es, if_pos n2, es, w32_e (by decide) (by decide), show (0 : Int) + 1 = 1 by decide, t]
          rfl
      · rw [e, if_pos rfl] at i
        rcases x3 with ⟨x3, -⟩ | ⟨-, x3, x4⟩
        · omega
        have px := x1.pos
        have py := x4.pos
        refine Or.inl (bgn (s' := 1) (by omega) o x1 (by omega) (by omega) (by omega) ⟨⟨k1.1, k1.2.1, k1.2.2.1, ?_⟩, Or.inr (Or.inr (Or.inr (Or.inr (Or.inr (Or.inl ⟨e, i, Or.inl ⟨rfl, by omega, ⟨by omega, x3.2⟩, M', ?_, x4⟩⟩)))))⟩ fun t => ?_)
        · rcases x2 with ⟨y1, y2⟩ | ⟨y1, y2⟩
          · omega
          · have := y2.le; omega
        · rcases x2 with ⟨y1, y2⟩ | ⟨y1, y2⟩
          · exact Or.inl ⟨y1, y2⟩
          · exact Or.inr ⟨by omega, y2⟩
        · rw [md_works_e, e, if_neg (by decide), if_pos (by decide), md_works_b109_e, if_neg (by decide), if_neg (by decide), if_neg (by decide), if_neg (by decide), if_neg (by decide), if_neg (by decide), if_pos rfl, md_puts_e, if_pos t2, if_pos t2, if_pos t2, es, if_pos (by decide), if_pos rfl, if_pos n2, w32_e (by decide) (by decide), show (0 : Int) + 1 = 1 by decide, md_puts_b55_e, if_neg (by omega), t]
          rfl
    · have px := x1.pos
      have py := x2.le
      refine Or.inl (R.bg (τ1 := gW (gW (gW τ 219 (τ 212 (σ 87 21) + m + 1) 1) 220 (τ 212 (σ 87 21) + m + 1) (τ 171 n)) 218 (τ 212 (σ 87 21) + m + 1) n) (p := τ 170 n) (M := M) en (fun a j q => ?_) (s' := 1) (by rw [gW_c (by decide), gW_c (by decide), gW_at]) (x' := τ 171 n) (by rw [gW_c (by decide), gW_at]) n2.1 o x1 (by omega) (Or.inr (Or.inr ⟨hn, Or.inl ⟨⟨⟨k1.1, k1.2.1, k1.2.2.1, by omega⟩, Or.inr (Or.inr (Or.inr (Or.inr (Or.inr (Or.inr ⟨e, i, by omega, by omega, by omega, by rw [show σ 14 n - (1 - 1) = σ 14 n by omega]; exact x2⟩)))))⟩, rfl, rfl⟩⟩)) st fun t => ?_)
      · by_cases z : a = 218 ∧ j = τ 212 (σ 87 21) + m + 1
        · rw [z.1, z.2, gW_at, en]
        · by_cases y : a = 218
          · rw [y, gW_i (by omega), gW_c (by decide), gW_c (by decide)]
          · rw [gW_c y]
            rcases q with q | q
            · rw [gW_c q.2, gW_c q.1]
            · rw [gW_j q, gW_j q]
      · rw [md_works_e, e, if_neg (by decide), if_pos (by decide), md_works_b109_e, if_neg (by decide), if_neg (by decide), if_neg (by decide), if_neg (by decide), if_neg (by decide), if_neg (by decide), if_neg (by decide), if_pos rfl, md_calls_e, if_pos t2, if_pos t2, if_pos t2, if_pos es, if_pos n2, if_pos t2, if_pos t2, if_pos n2, es, w32_e (by decide) (by decide), show (0 : Int) + 1 = 1 by decide, t]
        rfl
  · refine Or.inr (Or.inr (Or.inr ⟨a3, Or.inl ⟨a1, ?_⟩⟩))
    rcases a4 with ⟨z, -⟩ | ⟨z, -⟩
    · exact Or.inl z
    · exact Or.inr (Or.inl z)
  · rcases a3 with ⟨z1, z2, z3, z4⟩ | ⟨z1, z2, z3⟩
    · subst z1
      have px := z4.pos
      refine Or.inl (bgn (s' := 2) (by omega) (by omega) z4 (by omega) (by omega) (by omega) ⟨⟨k1.1, k1.2.1, k1.2.2.1, by omega⟩, Or.inr (Or.inr (Or.inl ⟨a1, a2, Or.inr ⟨rfl, by omega, rfl⟩⟩))⟩ fun t => ?_)
      rw [md_works_e, if_neg (by omega), if_neg (by omega), if_pos t2, if_pos t2, if_pos t2, es, if_pos (by decide), if_neg (by decide), if_pos n2, w32_e (by decide) (by decide), show (1 : Int) + 1 = 2 by decide, md_works_b57_e, t]
      rfl
    · exact Or.inr (Or.inr (Or.inr ⟨z3, Or.inr (Or.inl ⟨z1, Or.inl ⟨a1.1, by omega⟩⟩)⟩))
  · rcases a3 with ⟨z1, z2, z3, z4, z5⟩ | ⟨z1, z2, z3⟩
    · exact Or.inr (Or.inr (Or.inl ⟨z1, a1⟩))
    · exact Or.inr (Or.inr (Or.inr ⟨z3, Or.inr (Or.inl ⟨z1, Or.inl (by omega)⟩)⟩))
  · rcases a3 with ⟨z1, z2, z3⟩ | ⟨z1, z2, z3, z4⟩
    · rcases z3 with ⟨y1, y2⟩ | ⟨y1, y2⟩
      · exact Or.inr (Or.inr (Or.inr ⟨y2, Or.inl ⟨z1, Or.inr (Or.inr ⟨a1, y1⟩)⟩⟩))
      · subst z1
        have px := y2.pos
        refine Or.inl (bgn (s' := 2) (by omega) (by omega) y2 (by omega) (by omega) (by omega) ⟨⟨k1.1, k1.2.1, k1.2.2.1, by omega⟩, Or.inr (Or.inr (Or.inr (Or.inr (Or.inl ⟨a1, a2, Or.inr ⟨rfl, by omega, by omega, rfl⟩⟩))))⟩ fun t => ?_)
        rw [md_works_e, a1, if_neg (by decide), if_pos (by decide), md_works_b109_e, if_neg (by decide), if_neg (by decide), if_neg (by decide), if_neg (by decide), if_neg (by decide), if_pos rfl, md_gets_e, if_pos t2, if_pos t2, if_pos t2, es, if_neg (by decide), if_pos rfl, if_pos n2, if_neg (by omega), if_pos n2, w32_e (by decide) (by decide), show (1 : Int) + 1 = 2 by decide, t]
        rfl
    · exact Or.inr (Or.inr (Or.inr ⟨z4, Or.inr (Or.inl ⟨z1, Or.inr ⟨a1, by omega⟩⟩)⟩))
  · rcases a3 with ⟨z1, z2, z3, M, z4, z5⟩ | ⟨z1, z2, z3, z4⟩ | ⟨z1, z2, z3⟩
    · subst z1
      rcases z4 with ⟨y1, y2⟩ | ⟨y1, y2⟩
      · -- no second part: the stage alone
        have py := z5.pos
        refine Or.inl (R.stg en es n2 (Or.inr (Or.inr ⟨hn, Or.inl ⟨⟨⟨k1.1, k1.2.1, k1.2.2.1, k1.2.2.2⟩, Or.inr (Or.inr (Or.inr (Or.inr (Or.inr (Or.inl ⟨a1, a2, Or.inr (Or.inl ⟨rfl, z3, Or.inl ⟨y1, z2⟩, by rw [y2] at z5; exact z5⟩)⟩)))))⟩, rfl, rfl⟩⟩)) st ?_)
        rw [md_works_e, a1, if_neg (by decide), if_pos (by decide), md_works_b109_e, if_neg (by decide), if_neg (by decide), if_neg (by decide), if_neg (by decide), if_neg (by decide), if_neg (by decide), if_pos rfl, md_puts_e, if_pos t2, if_pos t2, if_pos t2, es, if_pos (by decide), if_neg (by decide), if_pos rfl, if_pos n2, w32_e (by decide) (by decide), show (1 : Int) + 1 = 2 by decide, md_puts_b55_e, if_pos y1]
        rfl
      · have px := y2.pos
        have py := z5.pos
        refine Or.inl (bgn (s' := 2) (by omega) (by omega) y2 (by omega) (by omega) (by omega) ⟨⟨k1.1, k1.2.1, k1.2.2.1, by omega⟩, Or.inr (Or.inr (Or.inr (Or.inr (Or.inr (Or.inl ⟨a1, a2, Or.inr (Or.inl ⟨rfl, z3, Or.inr ⟨y1, by omega⟩, z5⟩)⟩)))))⟩ fun t => ?_)
        rw [md_works_e, a1, if_neg (by decide), if_pos (by decide), md_works_b109_e, if_neg (by decide), if_neg (by decide), if_neg (by decide), if_neg (by decide), if_neg (by decide), if_neg (by decide), if_pos rfl, md_puts_e, if_pos t2, if_pos t2, if_pos t2, es, if_pos (by decide), if_neg (by decide), if_pos rfl, if_pos n2, w32_e (by decide) (by decide), show (1 : Int) + 1 = 2 by decide, md_puts_b55_e, if_neg (by omega), t]
        rfl
    · subst z1
      have px := z4.pos
      refine Or.inl (bgn (s' := 3) (by omega) (by omega) z4 (by omega) (by omega) (by omega) ⟨⟨k1.1, k1.2.1, k1.2.2.1, by omega⟩, Or.inr (Or.inr (Or.inr (Or.inr (Or.inr (Or.inl ⟨a1, a2, Or.inr (Or.inr ⟨rfl, ?_, rfl⟩)⟩)))))⟩ fun t => ?_)
      · rcases z3 with ⟨y1, y2⟩ | ⟨y1, y2⟩
        · exact Or.inl ⟨y1, by omega⟩
        · exact Or.inr ⟨y1, by omega⟩
      · rw [md_works_e, a1, if_neg (by decide), if_pos (by decide), md_works_b109_e, if_neg (by decide), if_neg (by decide), if_neg (by decide), if_neg (by decide), if_neg (by decide), if_neg (by decide), if_pos rfl, md_puts_e, if_pos t2, if_pos t2, if_pos t2, es, if_pos (by decide), if_neg (by decide), if_neg (by decide), if_pos n2, w32_e (by decide) (by decide), show (2 : Int) + 1 = 3 by decide, md_puts_b55_e, if_neg (by omega), t]
        rfl
    · exact Or.inr (Or.inr (Or.inr ⟨z3, Or.inr (Or.inr (Or.inl ⟨z1, a1⟩))⟩))
  · rcases a6.x1 with ⟨y1, y2, y3⟩ | ⟨y1, y2, M, y3, y4⟩
    · exact Or.inr (Or.inr (Or.inr ⟨y3.symm, Or.inr (Or.inr (Or.inr ⟨a3, a1, y1, by omega⟩))⟩))
    · have px := y3.pos
      have py := y4.le
      have sb : s ≤ 400 := by omega
      refine Or.inl (R.bg (τ1 := gW (gW τ 219 (τ 212 (σ 87 21) + m + 1) (s + 1)) 220 (τ 212 (σ 87 21) + m + 1) (τ 173 x)) (p := x) (M := M) en (fun a j q => ?_) (s' := s + 1) (by rw [gW_c (by decide), gW_at]) (x' := τ 173 x) (gW_at ..) n2.1 (by omega) y3 (by omega) (Or.inr (Or.inr ⟨hn, Or.inl ⟨⟨⟨k1.1, k1.2.1, k1.2.2.1, by omega⟩, Or.inr (Or.inr (Or.inr (Or.inr (Or.inr (Or.inr ⟨a1, a2, by omega, by omega, by omega, by rw [show σ 14 n - (s + 1 - 1) = σ 14 n - (s - 1) - 1 by omega]; exact y4⟩)))))⟩, rfl, rfl⟩⟩)) st fun t => ?_)
      · rcases q with q | q
        · rw [gW_c q.2, gW_c q.1]
        · rw [gW_j q, gW_j q]
      · rw [md_works_e, a1, if_neg (by decide), if_pos (by decide), md_works_b109_e, if_neg (by decide), if_neg (by decide), if_neg (by decide), if_neg (by decide), if_neg (by decide), if_neg (by decide), if_neg (by decide), if_pos rfl, md_calls_e, if_pos t2, if_pos t2, if_pos t2, es, if_neg (by omega), if_pos t2, ex, if_neg (by omega), if_pos (by omega), if_pos t2, w32_e (by omega) (by omega), t]
        rfl
end SI
