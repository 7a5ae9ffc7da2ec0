/-! rows of arrays that a constructor makes -/
/-- the length's instruction, its length, the length, the kind, the field's index -/
abbrev kG : Type := Instr × Nat × Int × Nat × Nat
def kcst (kc : List (Nat × Int)) (i : Instr) (len : Nat) (v : Int) : Bool := match i with
  | .iconst w => decide (w = v) && Nat.beq len 1
  | .bipush w => decide (w = v) && Nat.beq len 2 && decide (-128 ≤ v ∧ v ≤ 127)
  | .sipush w => decide (w = v) && Nat.beq len 3 && decide (-32768 ≤ v ∧ v ≤ 32767)
  | .ldc k => Nat.beq len 2 && decide (gat kc k = some v)
  | .ldc_w k => Nat.beq len 3 && decide (gat kc k = some v)
  | _ => false
def kCo (own : String) (idx : Nat) (v : Int) : Prop := Cond.constant own idx (Int32.ofInt v) ∈ lw_all
def kFo (own : String) (co : Nat) (idx kk : Nat) : Prop := kFld own idx co kk 2
theorem kcst_ok {own : String} {kc : List (Nat × Int)} {i : Instr} {len : Nat} {v : Int} (hk : gall (kCo own) kc) (h : kcst kc i len v = true) : kCst own i len v := by
  unfold kcst at h
  split at h
  · simp only [Bool.and_eq_true, decide_eq_true_eq] at h
    exact Or.inl ⟨by rw [h.1], Nat.eq_of_beq_eq_true h.2⟩
  · simp only [Bool.and_eq_true, decide_eq_true_eq] at h
    exact Or.inr (Or.inl ⟨by rw [h.1.1], Nat.eq_of_beq_eq_true h.1.2, h.2⟩)
  · simp only [Bool.and_eq_true, decide_eq_true_eq] at h
    exact Or.inr (Or.inr (Or.inl ⟨by rw [h.1.1], Nat.eq_of_beq_eq_true h.1.2, h.2⟩))
  · rename_i k
    simp only [Bool.and_eq_true, decide_eq_true_eq] at h
    exact Or.inr (Or.inr (Or.inr (Or.inl ⟨k, rfl, Nat.eq_of_beq_eq_true h.1, gall_spec hk k v h.2⟩)))
  · rename_i k
    simp only [Bool.and_eq_true, decide_eq_true_eq] at h
    exact Or.inr (Or.inr (Or.inr (Or.inr ⟨k, rfl, Nat.eq_of_beq_eq_true h.1, gall_spec hk k v h.2⟩)))
  · cases h
def kchk (cc : ByteArray) (kc : List (Nat × Int)) (kf : List (Nat × Nat)) : Nat → Nat → List kG → Bool
  | _, _, [] => true
  | a, pc, (i, len, N, t, idx) :: r => decide (decode cc pc = .ok (.aload_n 0, 1)) && decide (decode cc (pc + 1) = .ok (i, len)) && kcst kc i len N && decide (decode cc (pc + 1 + len) = .ok (.newarray (kAty t), 2)) && decide (decode cc (pc + 1 + len + 2) = .ok (.putfield idx, 3)) && (Nat.ble 1 t && Nat.ble t 4 && Nat.beq (gK a) t && decide (gN a = N) && decide (0 ≤ N ∧ N ≤ 1000000)) && (gat kf idx).isSome && kchk cc kc kf (a + 1) (pc + 1 + len + 2 + 3) r
def kmem (kf : List (Nat × Nat)) (o : Nat) : Nat → List kG → gM → gM
  | _, [], σ => σ
  | a, (_, _, _, _, idx) :: r, σ => kmem kf o (a + 1) r (gW σ o (((gat kf idx).getD 0 : Nat) : Int) (a : Int))
def kslo : List kG → Nat
  | [] => 0
  | (_, _, N, _, _) :: r => N.toNat + kslo r
def kend : Nat → List kG → Nat
  | pc, [] => pc
  | pc, (_, len, _, _, _) :: r => kend (pc + 1 + len + 2 + 3) r
section KR
variable {p : Program} {l : Launch} {e : Env} {R : Room} {s : State} {m : MethodId} {args : Array Value} {below : List Frame} {meth : Method} {c : Code} {Q : State → Prop} {cc : ByteArray} {nL : Nat} {Z : gZ} {own : String} {A : Nat → Prop} {σ σ' : gM} {cs cs1 nw : List Nat} {n n1 cells slots pc : Nat} {ls st : List gV}
theorem k_putr {idx o kk b : Nat} (C : gCx p s m args c cc nL own Z) (hin2 : meth.name = "<init>") (ok : kOk Z A cs) (ho : o ∈ cs) (hf : kFld own idx (gK o) kk 2) (hd : decode cc pc = .ok (.putfield idx, 3))
    (K : kAt p l e R s m args below meth c Q nL A Z (gW σ o kk (b : Int)) cs n cells slots (pc + 3) ls st) : kAt p l e R s m args below meth c Q nL A Z σ cs n cells slots pc ls ((2, (b : Int)) :: (2, (o : Int)) :: st) :=
  k_put (t := 2) C hin2 ok ho hf (Or.inl ⟨rfl, Int.natCast_nonneg b⟩) hd K
theorem k_puti {idx o kk t : Nat} {v : Int} (C : gCx p s m args c cc nL own Z) (hin2 : meth.name = "<init>") (ok : kOk Z A cs) (ho : o ∈ cs) (hf : kFld own idx (gK o) kk t) (ht : t = 8 ∨ t = 0) (hd : decode cc pc = .ok (.putfield idx, 3))
    (K : kAt p l e R s m args below meth c Q nL A Z (gW σ o kk v) cs n cells slots (pc + 3) ls st) : kAt p l e R s m args below meth c Q nL A Z σ cs n cells slots pc ls ((0, v) :: (2, (o : Int)) :: st) := by
  have h2 : t ≠ 2 := by omega
  have := k_put (v := v) C hin2 ok ho hf (Or.inr ht) hd K
  rw [if_neg h2] at this
  exact this
theorem k_grps {kc : List (Nat × Int)} {kf : List (Nat × Nat)} {o : Nat} (C : kCx p s m args c cc nL own Z A) (hin2 : meth.name = "<init>") (hkc : gall (kCo own) kc) (hkf : gall (kFo own (gK o)) kf) (hls : ls[0]? = some (2, (o : Int))) :
    ∀ (gs : List kG) (σ : gM) (cs : List Nat) (a n cells slots pc : Nat), kchk cc kc kf a pc gs = true → kOk Z A cs → o ∈ cs → (∀ q, n ≤ q → A q) → (∀ i, i < gs.length → zA Z (a + i) = n + i ∧ a + i ∉ cs ∧ a + i < zN Z ∧ ∀ j, σ ((a + i : Nat) : Int) j = 0) → cells + gs.length ≤ R.cells → slots + kslo gs ≤ R.slots →
      kAt p l e R s m args below meth c Q nL A Z (kmem kf o a gs σ) (cs ++ List.range' a gs.length) (n + gs.length) (cells + gs.length) (slots + kslo gs) (kend pc gs) ls [] → kAt p l e R s m args below meth c Q nL A Z σ cs n cells slots pc ls []
  | [], σ, cs, a, n, cells, slots, pc, _, _, _, _, _, _, _, K => by
    simpa [kmem, kslo, kend] using K
  | (i, len, N, t, idx) :: r, σ, cs, a, n, cells, slots, pc, hk, ok, ho, hAn, hfs, hcl, hsl, K => by
    unfold kchk at hk
    simp only [Bool.and_eq_true, decide_eq_true_eq, Nat.ble_eq] at hk
    obtain ⟨⟨⟨⟨⟨⟨⟨d1, d2⟩, d3⟩, d4⟩, d5⟩, ⟨⟨⟨⟨t1, t2⟩, t3⟩, t4⟩, t5⟩⟩, d6⟩, d7⟩ := hk
    have t3 := Nat.eq_of_beq_eq_true t3
    simp only [List.length_cons] at hfs hcl K
    unfold kslo at hsl
    obtain ⟨f1, f2, f3, f4⟩ := hfs 0 (by omega)
    simp only [Nat.add_zero] at f1 f2 f3 f4
    have hoa : o ≠ a := fun q => f2 (by rw [← q]; exact ho)
    obtain ⟨kk, hkk⟩ := Option.isSome_iff_exists.mp d6
    refine k_aload (k := 0) C.1 hls (Or.inl rfl) d1 ?_
    refine k_const C.1 (kcst_ok hkc d3) d2 ?_
    refine k_newa C.1 (by omega) t3 t4 t5 f1 f4 (by omega) (by omega) C.2.2.2 d4 ?_
    have ok' : kOk Z A (cs ++ [a]) := ok.snoc f3 f2 (hAn _ (by omega))
    refine k_putr C.1 hin2 ok' (List.mem_append_left _ ho) (gall_spec hkf idx kk hkk) d5 ?_
    refine k_grps C hin2 hkc hkf hls r (gW σ o kk a) (cs ++ [a]) (a + 1) (n + 1) (cells + 1) (slots + N.toNat) (pc + 1 + len + 2 + 3) d7 ok' (List.mem_append_left _ ho) (fun q h => hAn q (by omega)) (fun i hi => ?_) (by omega) (by omega) ?_
    · obtain ⟨g1, g2, g3, g4⟩ := hfs (i + 1) (by omega)
      have e : a + 1 + i = a + (i + 1) := by omega
      rw [e]
      refine ⟨by rw [g1]; omega, fun q => ?_, g3, fun j => ?_⟩
      · rcases List.mem_append.mp q with q | q
        · exact g2 q
        · have := List.mem_singleton.mp q
          omega
      · have hne : (((a + (i + 1) : Nat)) : Int) ≠ (o : Int) := fun q => g2 (by rw [show a + (i + 1) = o by omega]; exact ho)
        rw [gW_c hne]
        exact g4 j
    · have e1 : cs ++ [a] ++ List.range' (a + 1) r.length = cs ++ List.range' a (r.length + 1) := by rw [List.range'_succ, List.append_assoc]; rfl
      have e2 : kmem kf o a ((i, len, N, t, idx) :: r) σ = kmem kf o (a + 1) r (gW σ o kk a) := by simp only [kmem, hkk, Option.getD_some]
      rw [e2] at K
      rw [e1]
      have e3 : n + 1 + r.length = n + (r.length + 1) := by omega
      have e4 : cells + 1 + r.length = cells + (r.length + 1) := by omega
      have e5 : slots + N.toNat + kslo r = slots + kslo ((i, len, N, t, idx) :: r) := by simp only [kslo]; omega
      rw [e3, e4, e5]
      exact K
end KR
