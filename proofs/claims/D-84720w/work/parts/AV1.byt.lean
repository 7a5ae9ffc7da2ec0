/-! letters stay bytes -/
def gb8 (m : Nat) (σ : gM) : Prop := ∀ a, gK a = 2 → a.toNat < m → ∀ i, i8 (σ a i)
theorem gb8.w {m : Nat} {σ : gM} {a i v : Int} (h : gb8 m σ) (h0 : gK a ≠ 2) : gb8 m (gW σ a i v) := by
  intro b hb hm j
  unfold gW
  rw [if_neg (fun q => h0 (by rw [← q.1]; exact hb))]
  exact h b hb hm j
theorem w8_r (v : Int) : i8 (w8 v) := by
  unfold w8 i8
  have h1 := Int.le_bmod (x := v) (m := 256) (by decide)
  have h2 := Int.bmod_lt (x := v) (m := 256) (by decide)
  omega
theorem gb8.w8 {m : Nat} {σ : gM} {a i v : Int} (h : gb8 m σ) : gb8 m (gW σ a i (w8 v)) := by
  intro b hb hm j
  unfold gW
  split
  · exact w8_r v
  · exact h b hb hm j
def gfb (m : Nat) (f : gFn ⊕ gFt) : Prop := ∀ (n : Nat) (as : List gV) (σ σ' : gM) (x : Option Int), gft f n as σ = some (σ', x) → gb8 m σ → gb8 m σ'
section FB
variable {ρ : Type} {r : ρ} {nx : List gV → List gV → gM → Option ρ} {jp : Nat → List gV → List gV → gM → Option ρ} {ret thr : gM → Int → Option ρ} {E : gE} {n pc : Nat} {tg : List (Int × Nat)} {ls st : List gV} {σ : gM} {P : Prop}
/-- the run goes on from a memory whose letters are bytes -/
def gbx (m : Nat) (r : ρ) (P : Prop) (nx : List gV → List gV → gM → Option ρ) : Prop := ∀ ls st σ, gb8 m σ → nx ls st σ = some r → P
theorem gbx_if {k : ClassFile.Cond} {x y : Int} {st2 : List gV} (hn : gbx E.2.2.2.2.2.1.1 r P nx) (hj : ∀ t, gbx E.2.2.2.2.2.1.1 r P (jp t)) (hσ : gb8 E.2.2.2.2.2.1.1 σ) (h : gif nx jp tg ls σ k x y st2 = some r) : P := by
  unfold gif at h
  cases k <;> simp only at h <;> split at h <;> first | exact hn _ _ _ hσ h | exact hj _ _ _ _ hσ h
set_option maxHeartbeats 4000000 in
theorem gex_b8 {i : Instr} (hf : ∀ idx c k t, gat E.2.1 idx = some (c, k, t) → c ≠ 2) (hcal : ∀ idx k rc rt f, gat E.2.2.2.1 idx = some (k, rc, rt, f) → gfb E.2.2.2.2.2.1.1 f) (hσ : gb8 E.2.2.2.2.2.1.1 σ)
    (hn : gbx E.2.2.2.2.2.1.1 r P nx) (hj : ∀ t, gbx E.2.2.2.2.2.1.1 r P (jp t)) (hr : ∀ σ v, gb8 E.2.2.2.2.2.1.1 σ → ret σ v = some r → P) (ht : ∀ σ v, gb8 E.2.2.2.2.2.1.1 σ → thr σ v = some r → P)
    (h : gex E n nx jp ret thr pc tg ls st σ i = some r) : P := by
  cases i with
  | iconst v => exact hn _ _ _ hσ h
  | bipush v => exact hn _ _ _ hσ h
  | sipush v => exact hn _ _ _ hσ h
  | lconst v => exact hn _ _ _ hσ h
  | ldc k | ldc_w k | ldc2_w k =>
    simp only [gex, gcst] at h
    split at h
    · cases h
    · split at h
      · cases h
      · exact hn _ _ _ hσ h
  | iload k | lload k | iload_n k | lload_n k =>
    simp only [gex, gld] at h
    obtain ⟨u, x, -, h⟩ := glk_spec h
    split at h
    · exact hn _ _ _ hσ h
    · cases h
  | aload k | aload_n k =>
    simp only [gex, glda] at h
    obtain ⟨u, x, -, h⟩ := glk_spec h
    split at h
    · exact hn _ _ _ hσ h
    · split at h
      · exact hn _ _ _ hσ h
      · split at h
        · exact hn _ _ _ hσ h
        · cases h
  | istore k | istore_n k =>
    simp only [gex] at h
    obtain ⟨x, st2, -, h⟩ := p1_spec h
    rw [gsetK_eq] at h
    exact hn _ _ _ hσ h
  | lstore k | lstore_n k =>
    simp only [gex] at h
    obtain ⟨x, st2, -, h⟩ := p1_spec h
    rw [gsetK_eq, gput2K_eq] at h
    exact hn _ _ _ hσ h
  | astore k | astore_n k =>
    simp only [gex] at h
    obtain ⟨t, x, st2, -, -, h⟩ := p1r_spec h
    rw [gsetK_eq] at h
    exact hn _ _ _ hσ h
  | iinc k d =>
    simp only [gex, ginc] at h
    obtain ⟨u, x, -, h⟩ := glk_spec h
    split at h
    · rw [gsetK_eq] at h
      exact hn _ _ _ hσ h
    · cases h
  | iadd | isub | imul | iand | ior | ixor | ishr | iushr =>
    simp only [gex, gii] at h
    obtain ⟨y, st1, -, h⟩ := p1_spec h
    obtain ⟨x, st2, -, h⟩ := p1_spec h
    exact hn _ _ _ hσ h
  | ladd | lsub | lmul | land | lor | lxor =>
    simp only [gex, gll] at h
    obtain ⟨y, st1, -, h⟩ := p1_spec h
    obtain ⟨x, st2, -, h⟩ := p1_spec h
    exact hn _ _ _ hσ h
  | idiv | irem | ldiv | lrem =>
    simp only [gex] at h
    obtain ⟨y, st1, -, h⟩ := p1_spec h
    obtain ⟨x, st2, -, h⟩ := p1_spec h
    split at h
    · cases h
    · exact hn _ _ _ hσ h
  | lshl | lshr | lushr | lcmp =>
    simp only [gex] at h
    obtain ⟨y, st1, -, h⟩ := p1_spec h
    obtain ⟨x, st2, -, h⟩ := p1_spec h
    exact hn _ _ _ hσ h
  | ineg | lneg | i2l | l2i | i2b | i2c =>
    simp only [gex] at h
    obtain ⟨x, st2, -, h⟩ := p1_spec h
    exact hn _ _ _ hσ h
  | dup =>
    simp only [gex] at h
    split at h
    · cases h
    · split at h
      · cases h
      · exact hn _ _ _ hσ h
  | dup2 =>
    simp only [gex] at h
    split at h
    · split at h
      · cases h
      · exact hn _ _ _ hσ h
    · cases h
  | pop =>
    simp only [gex] at h
    split at h
    · cases h
    · split at h
      · cases h
      · exact hn _ _ _ hσ h
  | ifCond k off =>
    simp only [gex] at h
    obtain ⟨x, st2, -, h⟩ := p1_spec h
    exact gbx_if hn hj hσ h
  | if_icmp k off =>
    simp only [gex] at h
    obtain ⟨y, st1, -, h⟩ := p1_spec h
    obtain ⟨x, st2, -, h⟩ := p1_spec h
    exact gbx_if hn hj hσ h
  | goto off => exact hj _ _ _ _ hσ h
  | tableswitch d lo hi offs =>
    simp only [gex] at h
    obtain ⟨x, st2, -, h⟩ := p1_spec h
    split at h
    · cases h
    · obtain ⟨t, h⟩ := gsw_in h
      exact hj _ _ _ _ hσ h
  | lookupswitch d ps =>
    simp only [gex] at h
    obtain ⟨x, st2, -, h⟩ := p1_spec h
    split at h
    · cases h
    · obtain ⟨t, h⟩ := gsw_in h
      exact hj _ _ _ _ hσ h
  | getstatic k =>
    simp only [gex, gsta] at h
    split at h
    · cases h
    · split at h
      · exact hn _ _ _ hσ h
      · cases h
  | getfield k =>
    simp only [gex, gget] at h
    split at h
    · cases h
    · split at h
      · split at h
        · obtain ⟨x, st2, -, h⟩ := p1_spec h
          obtain ⟨kx, -, -, h⟩ := gtx_spec h
          split at h <;> exact hn _ _ _ hσ h
        · cases h
      · obtain ⟨o, st2, -, h⟩ := p1_spec h
        obtain ⟨-, -, h⟩ := gis_spec h
        split at h
        · exact hn _ _ _ hσ h
        · exact hn _ _ _ hσ h
        · exact hn _ _ _ hσ h
        · split at h
          · exact hn _ _ _ hσ h
          · cases h
        · split at h
          · exact hn _ _ _ hσ h
          · cases h
        · exact hn _ _ _ hσ h
  | putfield k =>
    simp only [gex, gput] at h
    split at h
    · cases h
    · rename_i co kk t hg
      have pos : ∀ (o : Int) (v : Int) (x : Option ρ) (st2 : List gV), gis E.2.2.2.2.2.1.1 o co (gwe E o kk x) = some r → (x = some r → nx ls st2 (gW σ o kk v) = some r) → P := by
        intro o v x st2 hg2 hx
        obtain ⟨hK, hlt, h2⟩ := gis_spec hg2
        obtain ⟨hbt, h2⟩ := gwe_spec h2
        exact hn _ _ _ (hσ.w (by rw [hK]; exact hf _ _ _ _ hg)) (hx h2)
      split at h
      · cases h
      split at h
      · obtain ⟨v, st1, -, h⟩ := p1_spec h
        obtain ⟨o, st2, -, h⟩ := p1_spec h
        exact pos o v _ st2 h (fun q => q)
      · obtain ⟨v, st1, -, h⟩ := p1_spec h
        obtain ⟨o, st2, -, h⟩ := p1_spec h
        exact pos o v _ st2 h (fun q => q)
      · obtain ⟨v, st1, -, h⟩ := p1_spec h
        obtain ⟨o, st2, -, h⟩ := p1_spec h
        refine pos o v _ st2 h (fun q => ?_)
        split at q
        · exact q
        · cases q
      · obtain ⟨v, st1, -, h⟩ := p1_spec h
        obtain ⟨o, st2, -, h⟩ := p1_spec h
        exact pos o v _ st2 h (fun q => (geq_spec q).2)
      · obtain ⟨v, st1, -, h⟩ := p1_spec h
        obtain ⟨o, st2, -, h⟩ := p1_spec h
        exact pos o v _ st2 h (fun q => (g01_spec q).2)
      · cases h
  | iaload | laload | aaload =>
    simp only [gex, gald] at h
    obtain ⟨i, st1, -, h⟩ := p1_spec h
    obtain ⟨o, st2, -, h⟩ := p1_spec h
    obtain ⟨-, -, h⟩ := gis_spec h
    split at h
    · exact hn _ _ _ hσ h
    · cases h
  | baload =>
    simp only [gex, galb] at h
    obtain ⟨i, st1, -, h⟩ := p1_spec h
    split at h
    · cases h
    · split at h
      · obtain ⟨kx, -, -, h⟩ := gtx_spec h
        split at h
        · exact hn _ _ _ hσ h
        · cases h
      · obtain ⟨o, st2, -, h⟩ := p1_spec h
        obtain ⟨-, -, h⟩ := gisb_spec h
        split at h
        · exact hn _ _ _ hσ h
        · cases h
  | iastore | lastore =>
    simp only [gex, gast] at h
    obtain ⟨v, st0, -, h⟩ := p1_spec h
    obtain ⟨i, st1, -, h⟩ := p1_spec h
    obtain ⟨o, st2, -, h⟩ := p1_spec h
    obtain ⟨hK, hlt, h⟩ := gis_spec h
    obtain ⟨hbt, h⟩ := gwe_spec h
    split at h
    · exact hn _ _ _ (hσ.w (by omega)) h
    · cases h
  | bastore =>
    simp only [gex, gasb] at h
    obtain ⟨v, st0, -, h⟩ := p1_spec h
    obtain ⟨i, st1, -, h⟩ := p1_spec h
    obtain ⟨o, st2, -, h⟩ := p1_spec h
    obtain ⟨hK, hlt, h⟩ := gisb_spec h
    obtain ⟨hbt, h⟩ := gwe_spec h
    split at h
    · split at h
      · exact hn _ _ _ hσ.w8 h
      · rename_i hz
        exact hn _ _ _ (hσ.w (fun q => by rw [q] at hz; cases hz)) (g01_spec h).2
    · cases h
  | arraylength =>
    simp only [gex] at h
    split at h
    · cases h
    · split at h
      · obtain ⟨kx, -, -, h⟩ := gtx_spec h
        exact hn _ _ _ hσ h
      · obtain ⟨o, st2, -, h⟩ := p1_spec h
        obtain ⟨-, -, h⟩ := gisa_spec h
        exact hn _ _ _ hσ h
  | invokevirtual k | invokestatic k =>
    simp only [gex, gcall] at h
    split at h
    · cases h
    · rename_i k rc rt f hg
      split at h
      · cases h
      · split at h
        · cases h
        · rename_i as st2 htk
          split at h
          · cases h
          · have hrec : ∀ (as : List gV) (x : Option ρ), grecv E rc as x = some r → x = some r := by
              intro as x hx
              unfold grecv at hx
              split at hx
              · exact hx
              · split at hx
                · cases hx
                · split at hx
                  · unfold gtx at hx
                    split at hx
                    · split at hx
                      · exact hx
                      · cases hx
                    · cases hx
                  · cases hx
              · split at hx
                · cases hx
                · split at hx
                  · exact (gis_spec hx).2.2
                  · cases hx
            have h := hrec _ _ h
            have hb : ∀ (v : Int) (st2 : List gV) (σ' : gM), gb8 E.2.2.2.2.2.1.1 σ' → gback nx ls rt v st2 σ' = some r → P := by
              intro v st2 σ' hσ' hb
              unfold gback at hb
              split at hb <;> exact hn _ _ _ hσ' hb
            have hfc := hcal _ _ _ _ _ hg
            cases f with
            | inl f =>
              simp only at h
              cases hq : f n as σ with
              | none => rw [hq] at h; cases h
              | some q =>
                rw [hq] at h
                exact hb _ _ _ (hfc n as σ q.1 (some q.2) (by simp [gft, hq]) hσ) h
            | inr f =>
              simp only at h
              cases hq : f n as σ with
              | none => rw [hq] at h; cases h
              | some q =>
                rw [hq] at h
                obtain ⟨σ', x⟩ := q
                have h3 := hfc n as σ σ' x (by simp [gft, hq]) hσ
                cases x with
                | some v => exact hb _ _ _ h3 h
                | none =>
                  simp only [Option.bind_some, gtry] at h
                  split at h
                  · exact ht _ _ h3 h
                  · exact hj _ _ _ _ h3 h
  | ireturn =>
    simp only [gex] at h
    obtain ⟨x, st2, -, h⟩ := p1_spec h
    obtain ⟨-, h⟩ := g0_spec h
    unfold grz at h
    split at h
    · exact hr _ _ hσ h
    · exact hr _ _ hσ (g01_spec h).2
    · split at h
      · exact hr _ _ hσ h
      · cases h
    · split at h
      · exact hr _ _ hσ h
      · cases h
    · cases h
  | lreturn | areturn =>
    simp only [gex] at h
    obtain ⟨-, h⟩ := grk_spec h
    obtain ⟨x, st2, -, h⟩ := p1_spec h
    obtain ⟨-, h⟩ := g0_spec h
    exact hr _ _ hσ h
  | return_ =>
    simp only [gex] at h
    obtain ⟨-, h⟩ := grk_spec h
    obtain ⟨-, h⟩ := g0_spec h
    exact hr _ _ hσ h
  | athrow =>
    simp only [gex] at h
    obtain ⟨x, st2, -, h⟩ := p1_spec h
    split at h
    · exact ht _ _ hσ h
    · cases h
  | _ => cases h
variable {kont : Nat → List gV → List gV → gM → Option ρ}
theorem gev_b8 (hf : ∀ idx c k t, gat E.2.1 idx = some (c, k, t) → c ≠ 2) (hcal : ∀ idx k rc rt f, gat E.2.2.2.1 idx = some (k, rc, rt, f) → gfb E.2.2.2.2.2.1.1 f)
    (hk : ∀ t, gbx E.2.2.2.2.2.1.1 r P (kont t)) (hr : ∀ σ v, gb8 E.2.2.2.2.2.1.1 σ → ret σ v = some r → P) (ht : ∀ σ v, gb8 E.2.2.2.2.2.1.1 σ → thr σ v = some r → P) :
    ∀ (K : Nat) (chk : Bool) (cs : List gC), gbx E.2.2.2.2.2.1.1 r P (gev E n ret thr kont K chk cs)
  | 0, _, _ => by intro ls st σ _ h; cases h
  | _ + 1, _, [] => by intro ls st σ _ h; cases h
  | K + 1, chk, (pc, ln, i, tg, sp) :: rest => by
    intro ls st σ hσ h
    unfold gev at h
    split at h
    · exact hk _ _ _ _ hσ h
    · exact gex_b8 hf hcal hσ (gev_b8 hf hcal hk hr ht K true rest) (fun t => gev_b8 hf hcal hk hr ht K true _) hr ht h
theorem gB_b8 (hf : ∀ idx c k t, gat E.2.1 idx = some (c, k, t) → c ≠ 2) (hcal : ∀ idx k rc rt f, gat E.2.2.2.1 idx = some (k, rc, rt, f) → gfb E.2.2.2.2.2.1.1 f)
    (hr : ∀ σ v, gb8 E.2.2.2.2.2.1.1 σ → ret σ v = some r → P) (ht : ∀ σ v, gb8 E.2.2.2.2.2.1.1 σ → thr σ v = some r → P) :
    ∀ (n pc : Nat), gbx E.2.2.2.2.2.1.1 r P (gB E ret thr n pc)
  | 0, _ => by intro ls st σ _ h; cases h
  | n + 1, pc => by
    intro ls st σ hσ h
    unfold gB at h
    exact gev_b8 hf hcal (fun t => gB_b8 hf hcal hr ht n t) hr ht _ _ _ _ _ _ hσ h
end FB
def gcb (m : Nat) : List (Nat × Nat × Nat × Nat × (gFn ⊕ gFt)) → Prop
  | [] => True
  | (_, _, _, _, f) :: r => gfb m f ∧ gcb m r
theorem gcb_spec {m : Nat} : ∀ {cs : List (Nat × Nat × Nat × Nat × (gFn ⊕ gFt))}, gcb m cs → ∀ idx k rc rt f, gat cs idx = some (k, rc, rt, f) → gfb m f
  | [], _, _, _, _, _, _, h => by cases h
  | (j, k', rc', rt', f') :: r, hc, idx, k, rc, rt, f, h => by
    unfold gat at h
    split at h
    · cases h
      exact hc.1
    · exact gcb_spec hc.2 idx k rc rt f h
theorem gfl_spec : ∀ {fs : List (Nat × Nat × Int × Nat)}, (fs.all fun p => Nat.ble 10 p.2.1) = true → ∀ idx c k t, gat fs idx = some (c, k, t) → c ≠ 2
  | [], _, _, _, _, _, h => by cases h
  | (j, c', k', t') :: r, hc, idx, c, k, t, h => by
    rw [List.all_cons, Bool.and_eq_true] at hc
    unfold gat at h
    split at h
    · cases h
      have := Nat.le_of_ble_eq_true hc.1
      intro q
      simp only at this
      omega
    · exact gfl_spec hc.2 idx c k t h
theorem gF_b8 {E : gE} {L m : Nat} (hw : E.2.2.2.2.2.1.1 = m) (hfl : (E.2.1.all fun p => Nat.ble 10 p.2.1) = true) (hc : gcb m E.2.2.2.1) : gfb m (.inl (gF E L)) := by
  subst hw
  intro n as σ σ' x h hb
  have hf := gfl_spec hfl
  simp only [gft, Option.map_eq_some_iff] at h
  obtain ⟨q, h, hq⟩ := h
  cases hq
  unfold gF at h
  split at h
  · cases h
  · rw [gpadK_eq] at h
    refine gB_b8 (r := q) (P := gb8 E.2.2.2.2.2.1.1 q.1) hf (gcb_spec hc) ?_ ?_ n 0 _ _ σ hb h
    · intro σ1 v h1 h2; cases h2; exact h1
    · intro σ1 v h1 h2; cases h2
theorem gG_b8 {E : gE} {L m : Nat} (hw : E.2.2.2.2.2.1.1 = m) (hfl : (E.2.1.all fun p => Nat.ble 10 p.2.1) = true) (hc : gcb m E.2.2.2.1) : gfb m (.inr (gG E L)) := by
  subst hw
  intro n as σ σ' x h hb
  have hf := gfl_spec hfl
  simp only [gft] at h
  unfold gG at h
  split at h
  · cases h
  · rw [gpadK_eq] at h
    refine gB_b8 (r := (σ', x)) (P := gb8 E.2.2.2.2.2.1.1 σ') hf (gcb_spec hc) ?_ ?_ n 0 _ _ σ hb h
    · intro σ1 v h1 h2; cases h2; exact h1
    · intro σ1 v h1 h2
      unfold gthr at h2
      split at h2
      · cases h2; exact h1
      · cases h2
theorem gfb_none {m : Nat} : gfb m (.inl (fun _ _ _ => none)) := by
  intro n as σ σ' x hf
  cases hf
theorem gfb_none2 {m : Nat} : gfb m (.inr (fun _ _ _ => none)) := by
  intro n as σ σ' x hf
  cases hf
theorem gfb_copy {m w : Nat} : gfb m (.inl (jcopy (m, w))) := by
  intro n as σ σ' x hf hb8
  simp only [gft, Option.map_eq_some_iff] at hf
  obtain ⟨q, hf, hq⟩ := hf
  cases hq
  unfold jcopy at hf
  split at hf
  · rename_i a sp b dp k
    obtain ⟨ha, ham, hf⟩ := gis_spec hf
    obtain ⟨hb, -, hf⟩ := gis_spec hf
    obtain ⟨hbt, hf⟩ := gwr_spec hf
    split at hf
    · cases hf
      intro y hy hm j
      show i8 (gCpy σ a sp b dp k y j)
      unfold gCpy
      split
      · exact hb8 a ha ham _
      · exact hb8 y hy hm j
    · cases hf
  · cases hf
/-- of a finished method -/
theorem b8_inl {m : Nat} {σ σ' : gM} {as : List gV} {f : gFn} (h : gfb m (.inl f)) {r : Option (gM × Int)} {x : Int} (l : Lm (fun n => f n as σ) r) (e : r = some (σ', x)) (hb : gb8 m σ) : gb8 m σ' := by
  obtain ⟨n, hn⟩ := (l.2 _).mp e
  refine h n as σ σ' (some x) ?_ hb
  have hn' : f n as σ = some (σ', x) := hn
  show (f n as σ).map _ = _
  rw [hn']
  rfl
