theorem gtake_spec : ∀ {k : Nat} {st acc as st2 : List gV}, gtake k st acc = some (as, st2) → ∃ l : List gV, l.length = k ∧ st = l ++ st2 ∧ as = l.reverse ++ acc
  | 0, st, acc, as, st2, h => by
    simp only [gtake, Option.some.injEq, Prod.mk.injEq] at h
    exact ⟨[], rfl, by simp [h.2], by simp [h.1]⟩
  | k + 1, [], acc, as, st2, h => by cases h
  | k + 1, v :: st, acc, as, st2, h => by
    obtain ⟨l, h1, h2, h3⟩ := gtake_spec (k := k) h
    exact ⟨v :: l, by simp [h1], by simp [h2], by simp [h3]⟩
theorem glight_spec {Z : gZ} : ∀ {b : Nat} {st : List gV}, glight b st = true → ((st.map (cv Z)).map fun v => v.category).sum ≤ b
  | b, [], _ => by simp
  | 0, _ :: _, h => by cases h
  | b + 1, (u, x) :: r, h => by
    unfold glight at h
    simp only [List.map_cons, List.sum_cons]
    split at h
    · rename_i hu
      split at h
      · cases h
      · rename_i d
        have := glight_spec (Z := Z) h
        have h1 : (cv Z (u, x)).category ≤ 2 := by
          rcases lv_cat (cv Z (u, x)) with q | q <;> omega
        omega
    · rename_i hu
      have := glight_spec (Z := Z) h
      have h1 : (cv Z (u, x)).category = 1 := by
        rcases lv_cat (cv Z (u, x)) with q | q
        · exact q
        · have h2 := cv_cat q
          simp only at h2
          rw [h2] at hu
          simp at hu
      omega
section GEX
variable {p : Program} {l : Launch} {e : Env} {R : Room} {s : State} {m : MethodId} {args : Array Value} {below : List Frame} {meth : Method} {c : Code} {Q : State → Prop} {cc : ByteArray} {nL : Nat} {Z : gZ} {own : String} {σ : gM} {pc len : Nat} {ls st : List gV} {ρ : Type} {r : ρ}
  {nx : List gV → List gV → gM → Option ρ} {jp : Nat → List gV → List gV → gM → Option ρ} {ret thr : gM → Int → Option ρ} {E : gE} {n : Nat} {tg : List (Int × Nat)}
/-- what a method's end and its throws need -/
def grt (rk : Nat) : Nat := if rk = 6 ∨ rk = 7 ∨ rk = 8 then 0 else rk
def gnar (rk : Nat) (v : Int) : Prop := (rk = 6 → i1 v) ∧ (rk = 7 → 0 ≤ v ∧ v ≤ 65535) ∧ (rk = 8 → i8 v)
def gFin (p : Program) (l : Launch) (e : Env) (R : Room) (s : State) (m : MethodId) (args : Array Value) (below : List Frame) (meth : Method) (c : Code) (Q : State → Prop) (cc : ByteArray) (nL : Nat) (Z : gZ) (E : gE) (ret thr : gM → Int → Option ρ) (r : ρ) : Prop :=
  (∀ (σ : gM) (v : Int) (pc : Nat) (ls : List gV), gI (zN Z) σ → (E.2.2.2.2.2.2 ≠ 5 → gcan (grt E.2.2.2.2.2.2, v)) → gnar E.2.2.2.2.2.2 v → ret σ v = some r → decode cc pc = .ok (grins E.2.2.2.2.2.2, 1) → gAt p l e R s m args below meth c Q nL Z σ pc ls (if E.2.2.2.2.2.2 = 5 then [] else [(grt E.2.2.2.2.2.2, v)])) ∧
  (∀ (σ : gM) (x : Int) (pc : Nat) (ls st : List gV), gI (zN Z) σ → thr σ x = some r → ghnd E.2.2.2.2.1 pc = none → decode cc pc = .ok (.athrow, 1) → gAt p l e R s m args below meth c Q nL Z σ pc ls ((2, x) :: st)) ∧
  (∀ (σ : gM) (pc : Nat) (ls : List gV), gI (zN Z) σ → thr σ gStop = some r → ghnd E.2.2.2.2.1 pc = none → gThr p l e R s m args below meth c Q nL Z σ pc ls) ∧
  (∀ (σ : gM) (pc t : Nat) (ls : List gV), gI (zN Z) σ → ghnd E.2.2.2.2.1 pc = some t → gAt p l e R s m args below meth c Q nL Z σ t ls [(2, gStop)] → gThr p l e R s m args below meth c Q nL Z σ pc ls)
/-- a method's tables are the machine's -/
def gTab (p : Program) (l : Launch) (e : Env) (R : Room) (s : State) (m : MethodId) (args : Array Value) (below : List Frame) (meth : Method) (c : Code) (Q : State → Prop) (cc : ByteArray) (nL : Nat) (Z : gZ) (own : String) (E : gE) : Prop :=
  E.2.2.2.2.2.1.1 ≤ zN Z ∧ (∀ idx c k t, gat E.2.1 idx = some (c, k, t) → gFld own idx c k t) ∧ (∀ idx v, gat E.2.2.1 idx = some v → gCst own idx v) ∧
  (∀ idx k rc rt f, gat E.2.2.2.1 idx = some (k, rc, rt, f) → gCW p l e R s m args below meth c Q cc nL Z idx k rc rt f)
theorem grecv_spec {rc : Nat} {as : List gV} {x : Option ρ} (hN : E.2.2.2.2.2.1.1 ≤ zN Z) (h : grecv E rc as x = some r) : gRecv Z rc as ∧ x = some r := by
  unfold grecv at h
  split at h
  · exact ⟨Or.inl rfl, h⟩
  · split at h
    · cases h
    · rename_i t o rs
      split at h
      · rename_i hb
        have := Nat.eq_of_beq_eq_true hb
        subst this
        unfold gtx at h
        split at h
        · rename_i k0
          split at h
          · rename_i hlt
            exact ⟨Or.inr (Or.inl ⟨rfl, k0, rs, rfl, by simpa using hlt⟩), h⟩
          · cases h
        · cases h
      · cases h
  · rename_i n0 n1
    split at h
    · cases h
    · rename_i t o rs
      split at h
      · rename_i hb
        have := Nat.eq_of_beq_eq_true hb
        subst this
        obtain ⟨hK, hlt, h2⟩ := gis_spec h
        obtain ⟨ho, hoe⟩ := gK_nat (show rc ≠ 0 from n0) hK
        exact ⟨Or.inr (Or.inr ⟨n0, n1, o.toNat, rs, by rw [hoe], by rw [hoe]; exact hK, Nat.lt_of_lt_of_le hlt hN⟩), h2⟩
      · cases h
theorem gx_call {vi : Bool} {idx : Nat} (C : gCx p s m args c cc nL own Z) (T : gTab p l e R s m args below meth c Q cc nL Z own E) (F : gFin p l e R s m args below meth c Q cc nL Z E ret thr r) (hI : gI (zN Z) σ) (hls : gcans ls) (hst : gcans st) (hd : decode cc pc = .ok (if vi then .invokevirtual idx else .invokestatic idx, 3))
    (hnx : gNx p l e R s m args below meth c Q nL Z r nx (pc + 3)) (hjp : ∀ t, gNx p l e R s m args below meth c Q nL Z r (jp t) t) (h : gcall E n nx jp thr pc ls st σ vi idx = some r) : gAt p l e R s m args below meth c Q nL Z σ pc ls st := by
  unfold gcall at h
  split at h
  · cases h
  · rename_i k rc rt f hg
    split at h
    · cases h
    · rename_i hxor
      split at h
      · cases h
      · rename_i as st2 ht
        split at h
        · cases h
        · rename_i hli
          obtain ⟨lst, h1, rfl, h3⟩ := gtake_spec ht
          rw [List.append_nil] at h3
          subst h3
          obtain ⟨hrec, h⟩ := grecv_spec (Z := Z) T.1 h
          have hcs : gcans lst.reverse ∧ gcans st2 := by
            refine ⟨fun v hv => hst v (List.mem_append_left _ (List.mem_reverse.mp hv)), fun v hv => hst v (List.mem_append_right _ hv)⟩
          have hvi : vi = true ↔ rc ≠ 0 := by
            cases vi <;> cases hz : Nat.beq rc 0 <;> simp [hz] at hxor ⊢
            · exact Nat.eq_of_beq_eq_true hz
            · intro q; rw [q] at hz; simp at hz
          have back : ∀ (σ' : gM) (v : Int), gI (zN Z) σ' → (rt ≠ 5 → gcan (rt, v)) → gback nx ls rt v st2 σ' = some r → gAt p l e R s m args below meth c Q nL Z σ' (pc + 3) ls (if rt = 5 then st2 else (rt, v) :: st2) := by
            intro σ' v hI' hv hb
            unfold gback at hb
            split at hb
            · rename_i h5
              have h5 := Nat.eq_of_beq_eq_true h5
              rw [if_pos h5]
              exact hnx ls st2 σ' hI' hls hcs.2 hb
            · rename_i h5
              have h5 : rt ≠ 5 := fun q => by rw [q] at h5; simp at h5
              rw [if_neg h5]
              exact hnx ls ((rt, v) :: st2) σ' hI' hls (gcans_cons.mpr ⟨hv h5, hcs.2⟩) hb
          have hlen : lst.reverse.length = k := by rw [List.length_reverse, h1]
          rw [show lst ++ st2 = lst.reverse.reverse ++ st2 by rw [List.reverse_reverse]]
          cases f with
          | inl f =>
            simp only at h
            cases hf : f n lst.reverse σ with
            | none => rw [hf] at h; cases h
            | some q =>
              rw [hf] at h
              refine T.2.2.2 idx k rc rt _ hg n lst.reverse st2 ls σ q.1 (some q.2) pc vi hd hvi (by simp [gft, hf]) hI hcs.1 hcs.2 hlen hrec (glight_spec hli) (fun v hv hI' hc => ?_) (fun q => by cases q)
              cases hv
              exact back q.1 q.2 hI' hc h
          | inr f =>
            simp only at h
            cases hf : f n lst.reverse σ with
            | none => rw [hf] at h; cases h
            | some q =>
              rw [hf] at h
              obtain ⟨σ', x⟩ := q
              refine T.2.2.2 idx k rc rt _ hg n lst.reverse st2 ls σ σ' x pc vi hd hvi (by simp [gft, hf]) hI hcs.1 hcs.2 hlen hrec (glight_spec hli) (fun v hv hI' hc => ?_) (fun hv hI' => ?_)
              · subst hv
                exact back σ' v hI' hc h
              · subst hv
                simp only [Option.bind_some, gtry] at h
                cases hh : ghnd E.2.2.2.2.1 pc with
                | none =>
                  rw [hh] at h
                  exact F.2.2.1 σ' pc ls hI' h hh
                | some t =>
                  rw [hh] at h
                  exact F.2.2.2 σ' pc t ls hI' hh (hjp t ls [(2, gStop)] σ' hI' hls (gcans_cons.mpr ⟨gcan2, fun v hv => by cases hv⟩) h)
end GEX
