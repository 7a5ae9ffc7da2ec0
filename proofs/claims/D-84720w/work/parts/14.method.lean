/-! blocks and methods -/
def gcons : List gC → Bool
  | (pc, len, i) :: (pc2, j) :: r => Nat.beq (pc + len) pc2 && gcons ((pc2, j) :: r)
  | _ => true
def gchk (cc : ByteArray) (nL : Nat) (code : List gC) : Bool := code.all (fun q => decide (decode cc q.1 = .ok (q.2.2.1, q.2.1)) && gok nL q.1 q.2.1 q.2.2.1 q.2.2.2.1) && gcons code
theorem gcons_tail {q : gC} {r : List gC} (h : gcons (q :: r) = true) : gcons r = true := by
  cases r with
  | nil => rfl
  | cons w r =>
    obtain ⟨a, b, d⟩ := q
    obtain ⟨a2, b2⟩ := w
    simp only [gcons, Bool.and_eq_true] at h
    exact h.2
theorem gcons_suffix : ∀ {pre cs : List gC}, gcons (pre ++ cs) = true → gcons cs = true
  | [], _, h => h
  | _ :: pre, _, h => gcons_suffix (pre := pre) (gcons_tail h)
theorem gdrop_spec : ∀ (t : Nat) (code : List gC), ∃ pre, code = pre ++ gdrop t code ∧ (gdrop t code = [] ∨ ∃ q r, gdrop t code = q :: r ∧ q.1 = t)
  | t, [] => ⟨[], rfl, Or.inl rfl⟩
  | t, (pc, q) :: r => by
    unfold gdrop
    split
    · rename_i hb
      exact ⟨[], rfl, Or.inr ⟨(pc, q), r, rfl, Nat.eq_of_beq_eq_true hb⟩⟩
    · obtain ⟨pre, h1, h2⟩ := gdrop_spec t r
      exact ⟨(pc, q) :: pre, by rw [List.cons_append, ← h1], h2⟩
theorem gkeep_at : ∀ {m : List Bool} {ls : List gV} {i : Nat} {v : gV}, (gkeep m ls)[i]? = some v → ls[i]? = some v ∨ v = (9, 0)
  | [], ls, i, v, h => by simp [gkeep] at h
  | true :: m, [], i, v, h => by simp [gkeep] at h
  | false :: m, [], i, v, h => by simp [gkeep] at h
  | true :: m, w :: ls, i, v, h => by
    simp only [gkeep] at h
    cases i with
    | zero => exact Or.inl (by simpa using h)
    | succ i => simpa using gkeep_at (m := m) (ls := ls) (i := i) (v := v) (by simpa using h)
  | false :: m, w :: ls, i, v, h => by
    simp only [gkeep] at h
    cases i with
    | zero => exact Or.inr (by simp at h; exact h.symm)
    | succ i => simpa using gkeep_at (m := m) (ls := ls) (i := i) (v := v) (by simpa using h)
section GB
variable {p : Program} {l : Launch} {e : Env} {R : Room} {s : State} {m : MethodId} {args : Array Value} {below : List Frame} {meth : Method} {c : Code} {Q : State → Prop} {cc : ByteArray} {nL : Nat} {Z : gZ} {own : String} {ρ : Type} {r : ρ}
  {ret thr : gM → Int → Option ρ} {E : gE}
theorem gev_sound {n : Nat} {kont : Nat → List gV → List gV → gM → Option ρ} (C : gCx p s m args c cc nL own Z) (T : gTab p l e R s m args below meth c Q cc nL Z own E) (F : gFin p l e R s m args below meth c Q cc nL Z E ret thr r) (hk : gchk cc nL E.1 = true)
    (hkont : ∀ pc, gNx p l e R s m args below meth c Q nL Z r (kont pc) pc) :
    ∀ (K : Nat) (chk : Bool) (cs : List gC) (ls st : List gV) (σ : gM), (∃ pre, E.1 = pre ++ cs) → gI (zN Z) σ → gcans ls → gcans st → gev E n ret thr kont K chk cs ls st σ = some r → ∃ q rest, cs = q :: rest ∧ gAt p l e R s m args below meth c Q nL Z σ q.1 ls st := by
  intro K
  induction K with
  | zero => intro chk cs ls st σ _ _ _ _ h; cases h
  | succ K ih =>
    intro chk cs ls st σ hpre hI hls hst h
    cases cs with
    | nil => cases h
    | cons q rest =>
      obtain ⟨pc, len, i, tg, sp⟩ := q
      refine ⟨_, rest, rfl, ?_⟩
      obtain ⟨pre, hpre⟩ := hpre
      simp only [gchk, Bool.and_eq_true] at hk
      have hq := List.all_eq_true.mp hk.1 (pc, len, i, tg, sp) (by rw [hpre]; simp)
      simp only [Bool.and_eq_true, decide_eq_true_eq] at hq
      have hcons : gcons ((pc, len, i, tg, sp) :: rest) = true := gcons_suffix (pre := pre) (by rw [← hpre]; exact hk.2)
      have run : gex E n (gev E n ret thr kont K true rest) (fun t => gev E n ret thr kont K true (gdrop t E.1)) ret thr pc tg ls st σ i = some r → gAt p l e R s m args below meth c Q nL Z σ pc ls st := by
        intro h
        refine gex_sound C T F hI hls hst hq.1 hq.2 ?_ ?_ h
        · intro ls2 st2 σ2 hI2 hls2 hst2 h2
          obtain ⟨q, rest2, h3, h4⟩ := ih true rest ls2 st2 σ2 ⟨pre ++ [(pc, len, i, tg, sp)], by rw [hpre]; simp⟩ hI2 hls2 hst2 h2
          have : q.1 = pc + len := by
            rw [h3] at hcons
            obtain ⟨a, b⟩ := q
            simp only [gcons, Bool.and_eq_true] at hcons
            exact (Nat.eq_of_beq_eq_true hcons.1).symm
          rw [← this]
          exact h4
        · intro t ls2 st2 σ2 hI2 hls2 hst2 h2
          obtain ⟨pre2, h5, h6⟩ := gdrop_spec t E.1
          obtain ⟨q, rest2, h3, h4⟩ := ih true (gdrop t E.1) ls2 st2 σ2 ⟨pre2, h5⟩ hI2 hls2 hst2 h2
          rcases h6 with h6 | ⟨q', r', h6, h7⟩
          · rw [h6] at h3; cases h3
          · rw [h6] at h3
            cases h3
            rw [← h7]
            exact h4
      unfold gev at h
      split at h
      · rename_i keep
        have h2 := hkont pc (gkeep keep ls) st σ hI (fun v hv => by
          obtain ⟨j, hj⟩ := List.getElem?_of_mem hv
          rcases gkeep_at hj with h3 | h3
          · exact hls v (List.mem_of_getElem? h3)
          · rw [h3]; exact gcan9) hst h
        intro H locs la hP hS hL
        refine h2 H locs la hP hS ⟨hL.1, hL.2.1, fun j v hj hv => ?_⟩
        rcases gkeep_at hj with h3 | h3
        · exact hL.2.2 j v h3 hv
        · rw [h3] at hv; simp at hv
      · exact run h
theorem gB_sound (C : gCx p s m args c cc nL own Z) (T : gTab p l e R s m args below meth c Q cc nL Z own E) (F : gFin p l e R s m args below meth c Q cc nL Z E ret thr r) (hk : gchk cc nL E.1 = true) :
    ∀ (n pc : Nat), gNx p l e R s m args below meth c Q nL Z r (gB E ret thr n pc) pc := by
  intro n
  induction n with
  | zero => intro pc ls st σ _ _ _ h; cases h
  | succ n ih =>
    intro pc ls st σ hI hls hst h
    unfold gB at h
    obtain ⟨pre, h5, h6⟩ := gdrop_spec pc E.1
    obtain ⟨q, rest, h3, h4⟩ := gev_sound C T F hk ih 1000 false (gdrop pc E.1) ls st σ ⟨pre, h5⟩ hI hls hst h
    rcases h6 with h6 | ⟨q', r', h6, h7⟩
    · rw [h6] at h3; cases h3
    · rw [h6] at h3
      cases h3
      rw [← h7]
      exact h4
end GB
theorem gpad_at {Z : gZ} : ∀ {L : Nat} {as : List gV} {i0 j : Nat} {v : gV}, (gpad L as)[j]? = some v → v.1 ≤ 4 → (i0 + j, cv Z v) ∈ lv_args i0 (as.map (cv Z))
  | 0, as, i0, j, v, h, _ => by simp [gpad] at h
  | L + 1, [], i0, j, v, h, hv => by
    simp only [gpad] at h
    cases j with
    | zero =>
      simp at h
      rw [← h] at hv
      simp at hv
    | succ j =>
      have := gpad_at (Z := Z) (L := L) (as := []) (i0 := 0) (j := j) (v := v) (by simpa using h) hv
      simp [lv_args] at this
  | L + 1, (u, x) :: r, i0, j, v, h, hv => by
    unfold gpad at h
    simp only [List.map_cons, lv_args]
    split at h
    · rename_i hu
      have hu := Nat.eq_of_beq_eq_true hu
      subst hu
      have hc : (cv Z (1, x)).category = 2 := by simp [cv, Value.category]
      rw [if_pos hc]
      split at h
      · cases j with
        | zero => simp at h; rw [← h]; exact List.mem_cons_self
        | succ j => simp at h
      · rename_i d
        cases j with
        | zero => simp at h; rw [← h]; exact List.mem_cons_self
        | succ j =>
          cases j with
          | zero =>
            simp at h
            rw [← h] at hv
            simp at hv
          | succ j =>
            have h2 := gpad_at (Z := Z) (L := d) (as := r) (i0 := i0 + 2) (j := j) (v := v) (by simpa using h) hv
            rw [show i0 + (j + 1 + 1) = i0 + 2 + j by omega]
            exact List.mem_cons_of_mem _ h2
    · rename_i hu
      have hc : ¬ (cv Z (u, x)).category = 2 := by
        rw [g_cat1 hu]; decide
      rw [if_neg hc]
      cases j with
      | zero => simp at h; rw [← h]; exact List.mem_cons_self
      | succ j =>
        have h2 := gpad_at (Z := Z) (L := L) (as := r) (i0 := i0 + 1) (j := j) (v := v) (by simpa using h) hv
        rw [show i0 + (j + 1) = i0 + 1 + j by omega]
        exact List.mem_cons_of_mem _ h2
theorem gcans_pad : ∀ {L : Nat} {as : List gV}, gcans as → gcans (gpad L as)
  | 0, as, _ => fun v hv => by simp [gpad] at hv
  | L + 1, [], h => by
    intro v hv
    simp only [gpad] at hv
    rcases List.mem_cons.mp hv with h1 | h1
    · rw [h1]; exact gcan9
    · exact gcans_pad (L := L) (as := []) h v h1
  | L + 1, (u, x) :: r, h => by
    intro v hv
    rw [gcans_cons] at h
    unfold gpad at hv
    split at hv
    · split at hv
      · rcases List.mem_cons.mp hv with h1 | h1
        · rw [h1]; exact h.1
        · cases h1
      · rcases List.mem_cons.mp hv with h1 | h1
        · rw [h1]; exact h.1
        · rcases List.mem_cons.mp h1 with h2 | h2
          · rw [h2]; exact gcan9
          · exact gcans_pad h.2 v h2
    · rcases List.mem_cons.mp hv with h1 | h1
      · rw [h1]; exact h.1
      · exact gcans_pad h.2 v h1
theorem glg_len {vs : List Value} : (lg_sl vs).length = (vs.map fun v => v.category).sum := by
  induction vs with
  | nil => rfl
  | cons v t ih =>
    have : lg_sl (v :: t) = (if v.category = 2 then [.val v, .second] else [.val v]) ++ lg_sl t := by simp [lg_sl]
    rw [this, List.length_append, ih]
    simp only [List.map_cons, List.sum_cons]
    rcases lv_cat v with h | h <;> simp [h]
