/-! what a method cannot reach it does not change -/
theorem gbit_arr {w : Nat} {b i j : Int} (hb : gK b < 10) : gbit w b i = gbit w b j := by
  unfold gbit gfid
  have : Nat.ble 10 (gK b) = false := by
    rw [← Bool.not_eq_true, Nat.ble_eq]
    omega
  rw [this]
def gfr (w : Nat) (σ σ' : gM) : Prop := ∀ a k : Int, gbit w a k = false → σ' a k = σ a k
theorem gfr.rf {w : Nat} {σ : gM} : gfr w σ σ := fun _ _ _ => rfl
theorem gfr.tr {w : Nat} {σ σ' σ'' : gM} (h : gfr w σ σ') (h2 : gfr w σ' σ'') : gfr w σ σ'' := fun a k ha => (h2 a k ha).trans (h a k ha)
theorem gfr.w {w : Nat} {σ σ' : gM} {a i v : Int} (h : gfr w σ σ') (h0 : gbit w a i = true) : gfr w σ (gW σ' a i v) := by
  intro b k hb
  rw [← h b k hb]
  unfold gW
  rw [if_neg (fun q => by rw [q.1, q.2, h0] at hb; cases hb)]
def gffr (w : Nat) (f : gFn ⊕ gFt) : Prop := ∀ (n : Nat) (as : List gV) (σ σ' : gM) (x : Option Int), gft f n as σ = some (σ', x) → gfr w σ σ'
section FR
variable {ρ : Type} {r : ρ} {nx : List gV → List gV → gM → Option ρ} {jp : Nat → List gV → List gV → gM → Option ρ} {ret thr : gM → Int → Option ρ} {E : gE} {n pc : Nat} {tg : List (Int × Nat)} {ls st : List gV} {σ σ0 : gM} {P : Prop}
/-- the run goes on from a memory that is good -/
def gfx (m : Nat) (σ0 : gM) (r : ρ) (P : Prop) (nx : List gV → List gV → gM → Option ρ) : Prop := ∀ ls st σ, gfr m σ0 σ → nx ls st σ = some r → P
theorem gfx_if {k : ClassFile.Cond} {x y : Int} {st2 : List gV} (hn : gfx E.2.2.2.2.2.1.2 σ0 r P nx) (hj : ∀ t, gfx E.2.2.2.2.2.1.2 σ0 r P (jp t)) (hσ : gfr E.2.2.2.2.2.1.2 σ0 σ) (h : gif nx jp tg ls σ k x y st2 = some r) : P := by
  unfold gif at h
  cases k <;> simp only at h <;> split at h <;> first | exact hn _ _ _ hσ h | exact hj _ _ _ _ hσ h
theorem gsw_in {x : Int} {d : Nat} {f : Nat → Option ρ} {ps : List (Int × Nat)} (h : gsw x d f ps = some r) : ∃ t, f t = some r := ⟨_, gsw_spec h⟩
set_option maxHeartbeats 4000000 in
theorem gex_frame {i : Instr} (hcal : ∀ idx k rc rt f, gat E.2.2.2.1 idx = some (k, rc, rt, f) → gffr E.2.2.2.2.2.1.2 f) (hσ : gfr E.2.2.2.2.2.1.2 σ0 σ)
    (hn : gfx E.2.2.2.2.2.1.2 σ0 r P nx) (hj : ∀ t, gfx E.2.2.2.2.2.1.2 σ0 r P (jp t)) (hr : ∀ σ v, gfr E.2.2.2.2.2.1.2 σ0 σ → ret σ v = some r → P) (ht : ∀ σ v, gfr E.2.2.2.2.2.1.2 σ0 σ → thr σ v = some r → P)
    (h : gex E n nx jp ret thr pc tg ls st σ i = some r) : P := by
  cases i with
  | iconst v => exact hn _ _ _ hσ h
  | bipush v => exact hn _ _ _ hσ h
  | sipush v => exact hn _ _ _ hσ h
  | lconst v => exact hn _ _ _ hσ h
  | ldc k | ldc_w k | ldc2_w k =>
    simp only [gex, gcst] at h
    split at h
    · cases h
    · split at h
      · cases h
      · exact hn _ _ _ hσ h
  | iload k | lload k | iload_n k | lload_n k =>
    simp only [gex, gld] at h
    obtain ⟨u, x, -, h⟩ := glk_spec h
    split at h
    · exact hn _ _ _ hσ h
    · cases h
  | aload k | aload_n k =>
    simp only [gex, glda] at h
    obtain ⟨u, x, -, h⟩ := glk_spec h
    split at h
    · exact hn _ _ _ hσ h
    · split at h
      · exact hn _ _ _ hσ h
      · split at h
        · exact hn _ _ _ hσ h
        · cases h
  | istore k | istore_n k =>
    simp only [gex] at h
    obtain ⟨x, st2, -, h⟩ := p1_spec h
    rw [gsetK_eq] at h
    exact hn _ _ _ hσ h
  | lstore k | lstore_n k =>
    simp only [gex] at h
    obtain ⟨x, st2, -, h⟩ := p1_spec h
    rw [gsetK_eq, gput2K_eq] at h
    exact hn _ _ _ hσ h
  | astore k | astore_n k =>
    simp only [gex] at h
    obtain ⟨t, x, st2, -, -, h⟩ := p1r_spec h
    rw [gsetK_eq] at h
    exact hn _ _ _ hσ h
  | iinc k d =>
    simp only [gex, ginc] at h
    obtain ⟨u, x, -, h⟩ := glk_spec h
    split at h
    · rw [gsetK_eq] at h
      exact hn _ _ _ hσ h
    · cases h
  | iadd | isub | imul | iand | ior | ixor | ishr | iushr =>
    simp only [gex, gii] at h
    obtain ⟨y, st1, -, h⟩ := p1_spec h
    obtain ⟨x, st2, -, h⟩ := p1_spec h
    exact hn _ _ _ hσ h
  | ladd | lsub | lmul | land | lor | lxor =>
    simp only [gex, gll] at h
    obtain ⟨y, st1, -, h⟩ := p1_spec h
    obtain ⟨x, st2, -, h⟩ := p1_spec h
    exact hn _ _ _ hσ h
  | idiv | irem | ldiv | lrem =>
    simp only [gex] at h
    obtain ⟨y, st1, -, h⟩ := p1_spec h
    obtain ⟨x, st2, -, h⟩ := p1_spec h
    split at h
    · cases h
    · exact hn _ _ _ hσ h
  | lshl | lshr | lushr | lcmp =>
    simp only [gex] at h
    obtain ⟨y, st1, -, h⟩ := p1_spec h
    obtain ⟨x, st2, -, h⟩ := p1_spec h
    exact hn _ _ _ hσ h
  | ineg | lneg | i2l | l2i | i2b | i2c =>
    simp only [gex] at h
    obtain ⟨x, st2, -, h⟩ := p1_spec h
    exact hn _ _ _ hσ h
  | dup =>
    simp only [gex] at h
    split at h
    · cases h
    · split at h
      · cases h
      · exact hn _ _ _ hσ h
  | dup2 =>
    simp only [gex] at h
    split at h
    · split at h
      · cases h
      · exact hn _ _ _ hσ h
    · cases h
  | pop =>
    simp only [gex] at h
    split at h
    · cases h
    · split at h
      · cases h
      · exact hn _ _ _ hσ h
  | ifCond k off =>
    simp only [gex] at h
    obtain ⟨x, st2, -, h⟩ := p1_spec h
    exact gfx_if hn hj hσ h
  | if_icmp k off =>
    simp only [gex] at h
    obtain ⟨y, st1, -, h⟩ := p1_spec h
    obtain ⟨x, st2, -, h⟩ := p1_spec h
    exact gfx_if hn hj hσ h
  | goto off => exact hj _ _ _ _ hσ h
  | tableswitch d lo hi offs =>
    simp only [gex] at h
    obtain ⟨x, st2, -, h⟩ := p1_spec h
    split at h
    · cases h
    · obtain ⟨t, h⟩ := gsw_in h
      exact hj _ _ _ _ hσ h
  | lookupswitch d ps =>
    simp only [gex] at h
    obtain ⟨x, st2, -, h⟩ := p1_spec h
    split at h
    · cases h
    · obtain ⟨t, h⟩ := gsw_in h
      exact hj _ _ _ _ hσ h
  | getstatic k =>
    simp only [gex, gsta] at h
    split at h
    · cases h
    · split at h
      · exact hn _ _ _ hσ h
      · cases h
  | getfield k =>
    simp only [gex, gget] at h
    split at h
    · cases h
    · split at h
      · split at h
        · obtain ⟨x, st2, -, h⟩ := p1_spec h
          obtain ⟨kx, -, -, h⟩ := gtx_spec h
          split at h <;> exact hn _ _ _ hσ h
        · cases h
      · obtain ⟨o, st2, -, h⟩ := p1_spec h
        obtain ⟨-, -, h⟩ := gis_spec h
        split at h
        · exact hn _ _ _ hσ h
        · exact hn _ _ _ hσ h
        · exact hn _ _ _ hσ h
        · split at h
          · exact hn _ _ _ hσ h
          · cases h
        · split at h
          · exact hn _ _ _ hσ h
          · cases h
        · exact hn _ _ _ hσ h
  | putfield k =>
    simp only [gex, gput] at h
    split at h
    · cases h
    · rename_i co kk t hg
      have pos : ∀ (o : Int) (v : Int) (x : Option ρ) (st2 : List gV), gis E.2.2.2.2.2.1.1 o co (gwe E o kk x) = some r → (x = some r → nx ls st2 (gW σ o kk v) = some r) → P := by
        intro o v x st2 hg2 hx
        obtain ⟨hK, hlt, h2⟩ := gis_spec hg2
        obtain ⟨hbt, h2⟩ := gwe_spec h2
        exact hn _ _ _ (hσ.w hbt) (hx h2)
      split at h
      · cases h
      split at h
      · obtain ⟨v, st1, -, h⟩ := p1_spec h
        obtain ⟨o, st2, -, h⟩ := p1_spec h
        exact pos o v _ st2 h (fun q => q)
      · obtain ⟨v, st1, -, h⟩ := p1_spec h
        obtain ⟨o, st2, -, h⟩ := p1_spec h
        exact pos o v _ st2 h (fun q => q)
      · obtain ⟨v, st1, -, h⟩ := p1_spec h
        obtain ⟨o, st2, -, h⟩ := p1_spec h
        refine pos o v _ st2 h (fun q => ?_)
        split at q
        · exact q
        · cases q
      · obtain ⟨v, st1, -, h⟩ := p1_spec h
        obtain ⟨o, st2, -, h⟩ := p1_spec h
        exact pos o v _ st2 h (fun q => (geq_spec q).2)
      · obtain ⟨v, st1, -, h⟩ := p1_spec h
        obtain ⟨o, st2, -, h⟩ := p1_spec h
        exact pos o v _ st2 h (fun q => (g01_spec q).2)
      · cases h
  | iaload | laload | aaload =>
    simp only [gex, gald] at h
    obtain ⟨i, st1, -, h⟩ := p1_spec h
    obtain ⟨o, st2, -, h⟩ := p1_spec h
    obtain ⟨-, -, h⟩ := gis_spec h
    split at h
    · exact hn _ _ _ hσ h
    · cases h
  | baload =>
    simp only [gex, galb] at h
    obtain ⟨i, st1, -, h⟩ := p1_spec h
    split at h
    · cases h
    · split at h
      · obtain ⟨kx, -, -, h⟩ := gtx_spec h
        split at h
        · exact hn _ _ _ hσ h
        · cases h
      · obtain ⟨o, st2, -, h⟩ := p1_spec h
        obtain ⟨-, -, h⟩ := gisb_spec h
        split at h
        · exact hn _ _ _ hσ h
        · cases h
  | iastore | lastore =>
    simp only [gex, gast] at h
    obtain ⟨v, st0, -, h⟩ := p1_spec h
    obtain ⟨i, st1, -, h⟩ := p1_spec h
    obtain ⟨o, st2, -, h⟩ := p1_spec h
    obtain ⟨hK, hlt, h⟩ := gis_spec h
    obtain ⟨hbt, h⟩ := gwe_spec h
    split at h
    · exact hn _ _ _ (hσ.w ((gbit_arr (by omega)).trans hbt)) h
    · cases h
  | bastore =>
    simp only [gex, gasb] at h
    obtain ⟨v, st0, -, h⟩ := p1_spec h
    obtain ⟨i, st1, -, h⟩ := p1_spec h
    obtain ⟨o, st2, -, h⟩ := p1_spec h
    obtain ⟨hK, hlt, h⟩ := gisb_spec h
    obtain ⟨hbt, h⟩ := gwe_spec h
    split at h
    · split at h
      · exact hn _ _ _ (hσ.w ((gbit_arr (by omega)).trans hbt)) h
      · exact hn _ _ _ (hσ.w ((gbit_arr (by omega)).trans hbt)) (g01_spec h).2
    · cases h
  | arraylength =>
    simp only [gex] at h
    split at h
    · cases h
    · split at h
      · obtain ⟨kx, -, -, h⟩ := gtx_spec h
        exact hn _ _ _ hσ h
      · obtain ⟨o, st2, -, h⟩ := p1_spec h
        obtain ⟨-, -, h⟩ := gisa_spec h
        exact hn _ _ _ hσ h
  | invokevirtual k | invokestatic k =>
    simp only [gex, gcall] at h
    split at h
    · cases h
    · rename_i k rc rt f hg
      split at h
      · cases h
      · split at h
        · cases h
        · rename_i as st2 htk
          split at h
          · cases h
          · have hrec : ∀ (as : List gV) (x : Option ρ), grecv E rc as x = some r → x = some r := by
              intro as x hx
              unfold grecv at hx
              split at hx
              · exact hx
              · split at hx
                · cases hx
                · split at hx
                  · unfold gtx at hx
                    split at hx
                    · split at hx
                      · exact hx
                      · cases hx
                    · cases hx
                  · cases hx
              · split at hx
                · cases hx
                · split at hx
                  · exact (gis_spec hx).2.2
                  · cases hx
            have h := hrec _ _ h
            have hb : ∀ (v : Int) (st2 : List gV) (σ' : gM), gfr E.2.2.2.2.2.1.2 σ0 σ' → gback nx ls rt v st2 σ' = some r → P := by
              intro v st2 σ' hσ' hb
              unfold gback at hb
              split at hb <;> exact hn _ _ _ hσ' hb
            have hf := hcal _ _ _ _ _ hg
            cases f with
            | inl f =>
              simp only at h
              cases hq : f n as σ with
              | none => rw [hq] at h; cases h
              | some q =>
                rw [hq] at h
                exact hb _ _ _ (hσ.tr (hf n as σ q.1 (some q.2) (by simp [gft, hq]))) h
            | inr f =>
              simp only at h
              cases hq : f n as σ with
              | none => rw [hq] at h; cases h
              | some q =>
                rw [hq] at h
                obtain ⟨σ', x⟩ := q
                have h3 := hσ.tr (hf n as σ σ' x (by simp [gft, hq]))
                cases x with
                | some v => exact hb _ _ _ h3 h
                | none =>
                  simp only [Option.bind_some, gtry] at h
                  split at h
                  · exact ht _ _ h3 h
                  · exact hj _ _ _ _ h3 h
  | ireturn =>
    simp only [gex] at h
    obtain ⟨x, st2, -, h⟩ := p1_spec h
    obtain ⟨-, h⟩ := g0_spec h
    unfold grz at h
    split at h
    · exact hr _ _ hσ h
    · exact hr _ _ hσ (g01_spec h).2
    · split at h
      · exact hr _ _ hσ h
      · cases h
    · split at h
      · exact hr _ _ hσ h
      · cases h
    · cases h
  | lreturn | areturn =>
    simp only [gex] at h
    obtain ⟨-, h⟩ := grk_spec h
    obtain ⟨x, st2, -, h⟩ := p1_spec h
    obtain ⟨-, h⟩ := g0_spec h
    exact hr _ _ hσ h
  | return_ =>
    simp only [gex] at h
    obtain ⟨-, h⟩ := grk_spec h
    obtain ⟨-, h⟩ := g0_spec h
    exact hr _ _ hσ h
  | athrow =>
    simp only [gex] at h
    obtain ⟨x, st2, -, h⟩ := p1_spec h
    split at h
    · exact ht _ _ hσ h
    · cases h
  | _ => cases h
variable {kont : Nat → List gV → List gV → gM → Option ρ}
theorem gev_frame (hcal : ∀ idx k rc rt f, gat E.2.2.2.1 idx = some (k, rc, rt, f) → gffr E.2.2.2.2.2.1.2 f)
    (hk : ∀ t, gfx E.2.2.2.2.2.1.2 σ0 r P (kont t)) (hr : ∀ σ v, gfr E.2.2.2.2.2.1.2 σ0 σ → ret σ v = some r → P) (ht : ∀ σ v, gfr E.2.2.2.2.2.1.2 σ0 σ → thr σ v = some r → P) :
    ∀ (K : Nat) (chk : Bool) (cs : List gC), gfx E.2.2.2.2.2.1.2 σ0 r P (gev E n ret thr kont K chk cs)
  | 0, _, _ => by intro ls st σ _ h; cases h
  | _ + 1, _, [] => by intro ls st σ _ h; cases h
  | K + 1, chk, (pc, ln, i, tg, sp) :: rest => by
    intro ls st σ hσ h
    unfold gev at h
    split at h
    · exact hk _ _ _ _ hσ h
    · exact gex_frame hcal hσ (gev_frame hcal hk hr ht K true rest) (fun t => gev_frame hcal hk hr ht K true _) hr ht h
theorem gB_frame (hcal : ∀ idx k rc rt f, gat E.2.2.2.1 idx = some (k, rc, rt, f) → gffr E.2.2.2.2.2.1.2 f)
    (hr : ∀ σ v, gfr E.2.2.2.2.2.1.2 σ0 σ → ret σ v = some r → P) (ht : ∀ σ v, gfr E.2.2.2.2.2.1.2 σ0 σ → thr σ v = some r → P) :
    ∀ (n pc : Nat), gfx E.2.2.2.2.2.1.2 σ0 r P (gB E ret thr n pc)
  | 0, _ => by intro ls st σ _ h; cases h
  | n + 1, pc => by
    intro ls st σ hσ h
    unfold gB at h
    exact gev_frame hcal (fun t => gB_frame hcal hr ht n t) hr ht _ _ _ _ _ _ hσ h
end FR
def gcfr (m : Nat) : List (Nat × Nat × Nat × Nat × (gFn ⊕ gFt)) → Prop
  | [] => True
  | (_, _, _, _, f) :: r => gffr m f ∧ gcfr m r
theorem gcfr_spec {m : Nat} : ∀ {cs : List (Nat × Nat × Nat × Nat × (gFn ⊕ gFt))}, gcfr m cs → ∀ idx k rc rt f, gat cs idx = some (k, rc, rt, f) → gffr m f
  | [], _, _, _, _, _, _, h => by cases h
  | (j, k', rc', rt', f') :: r, hc, idx, k, rc, rt, f, h => by
    unfold gat at h
    split at h
    · cases h
      exact hc.1
    · exact gcfr_spec hc.2 idx k rc rt f h
theorem gF_frame {E : gE} {L w : Nat} (hw : E.2.2.2.2.2.1.2 = w) (hc : gcfr w E.2.2.2.1) : gffr w (.inl (gF E L)) := by
  subst hw
  intro n as σ σ' x h
  simp only [gft, Option.map_eq_some_iff] at h
  obtain ⟨q, h, hq⟩ := h
  cases hq
  unfold gF at h
  split at h
  · cases h
  · rw [gpadK_eq] at h
    refine gB_frame (r := q) (P := gfr E.2.2.2.2.2.1.2 σ q.1) (gcfr_spec hc) ?_ ?_ n 0 _ _ σ gfr.rf h
    · intro σ1 v h1 h2; cases h2; exact h1
    · intro σ1 v h1 h2; cases h2
theorem gG_frame {E : gE} {L w : Nat} (hw : E.2.2.2.2.2.1.2 = w) (hc : gcfr w E.2.2.2.1) : gffr w (.inr (gG E L)) := by
  subst hw
  intro n as σ σ' x h
  simp only [gft] at h
  unfold gG at h
  split at h
  · cases h
  · rw [gpadK_eq] at h
    refine gB_frame (r := (σ', x)) (P := gfr E.2.2.2.2.2.1.2 σ σ') (gcfr_spec hc) ?_ ?_ n 0 _ _ σ gfr.rf h
    · intro σ1 v h1 h2; cases h2; exact h1
    · intro σ1 v h1 h2
      unfold gthr at h2
      split at h2
      · cases h2; exact h1
      · cases h2
/-- w's places are all among v's -/
theorem gbit_sub {w v : Nat} (h : w &&& v = w) {a k : Int} (hb : gbit v a k = false) : gbit w a k = false := by
  unfold gbit at *
  rw [← Bool.not_eq_true, Nat.beq_eq] at hb ⊢
  intro q
  apply hb
  have h1 : w.testBit (gfid a k) = true := by
    rw [Nat.testBit_eq_decide_div_mod_eq, decide_eq_true_eq, ← Nat.shiftRight_eq_div_pow]
    exact q
  rw [← h, Nat.testBit_and, Bool.and_eq_true] at h1
  have h2 := h1.2
  rw [Nat.testBit_eq_decide_div_mod_eq, decide_eq_true_eq, ← Nat.shiftRight_eq_div_pow] at h2
  exact h2
theorem gffr.sub {w v : Nat} {f : gFn ⊕ gFt} (h : gffr w f) (hw : w &&& v = w) : gffr v f := by
  intro n as σ σ' x hf a k hb
  exact h n as σ σ' x hf a k (gbit_sub hw hb)
theorem gffr_same {w : Nat} {f : gFn} (h : ∀ n as σ q, f n as σ = some q → q.1 = σ) : gffr w (.inl f) := by
  intro n as σ σ' x hf
  simp only [gft, Option.map_eq_some_iff] at hf
  obtain ⟨q, hf, hq⟩ := hf
  cases hq
  rw [h n as σ q hf]
  exact gfr.rf
theorem gffr_none {w : Nat} : gffr w (.inl (fun _ _ _ => none)) := by
  intro n as σ σ' x hf
  cases hf
theorem gffr_none2 {w : Nat} : gffr w (.inr (fun _ _ _ => none)) := by
  intro n as σ σ' x hf
  cases hf
theorem gffr_copy {m w : Nat} : gffr w (.inl (jcopy (m, w))) := by
  intro n as σ σ' x hf
  simp only [gft, Option.map_eq_some_iff] at hf
  obtain ⟨q, hf, hq⟩ := hf
  cases hq
  unfold jcopy at hf
  split at hf
  · rename_i a sp b dp k
    obtain ⟨-, -, hf⟩ := gis_spec hf
    obtain ⟨hb, -, hf⟩ := gis_spec hf
    obtain ⟨hbt, hf⟩ := gwr_spec hf
    split at hf
    · cases hf
      intro y j hy
      show gCpy σ a sp b dp k y j = σ y j
      unfold gCpy
      rw [if_neg (fun q => by rw [q.1, gbit_arr (j := 0) (by omega), hbt] at hy; cases hy)]
    · cases hf
  · cases hf
