/-! the cases of the law's loop (printed by mkloop.py) -/
section LC
variable {p : Program} {l : Launch} {e : Env} {R : Room} {s : State} {m : MethodId} {args : Array Value} {below : List Frame} {meth : Method} {c : Code} {Q : State → Prop} {Z : gZ} {A : Nat → Prop} {M : gM} {cs : List Nat} {n cells slots : Nat} {L : Nat} {xs : Nat → Int32} {i : Int}
/-- what stands all through the law's loop -/
def lawC (p : Program) (s : State) (m : MethodId) (args : Array Value) (c : Code) (R : Room) (Z : gZ) (A : Nat → Prop) (cs : List Nat) (cells slots L : Nat) (xs : Nat → Int32) : Prop := gCx p s m args c code 4 RX0 Z ∧ (va_X (zS Z 999) L xs s s.heap ∧ zS Z 999 < s.heap.size ∧ ¬ A (zS Z 999) ∧ L ≤ 385) ∧ zN Z = 227 ∧ kOk Z A cs ∧ (∀ a, a < 227 → a ∈ cs) ∧ (∀ a ∈ cs, a < 227) ∧ (∀ a, a < s.heap.size → A a → gA Z a) ∧ (1200 ≤ R.frames ∧ 27000 ≤ R.locals ∧ cells ≤ R.cells ∧ slots ≤ R.slots)
theorem lc_feed (H : lawC p s m args c R Z A cs cells slots L xs) (hi : 0 ≤ i ∧ i + 6 ≤ L) (hI : gI 227 M) (Rl : RL M) (K : ∀ M2, gI 227 M2 → RL M2 → kAt p l e R s m args below meth c Q 4 A Z M2 cs n cells slots 638 (lwL i) []) : kAt p l e R s m args below meth c Q 4 A Z M cs n cells slots 120 (lwL i) [] := by
  obtain ⟨C, ⟨hX, hb, hbA, hL0⟩, hN, ok, hcs, hlt, hAZ, r1, r2, r3, r4⟩ := H
  obtain ⟨M1, r, M2, e1, e2, R2⟩ := st_feed (x1 := (xs (i + (1 : Nat)).toNat).toInt) (x2 := (xs (i + (2 : Nat)).toNat).toInt) (x3 := (xs (i + (3 : Nat)).toNat).toInt) (x4 := (xs (i + (4 : Nat)).toNat).toInt) (x5 := (xs (i + (5 : Nat)).toNat).toInt) Rl
  obtain ⟨n1, h1⟩ := ((gt_feed_l M ((xs (i + (1 : Nat)).toNat).toInt) ((xs (i + (2 : Nat)).toNat).toInt) ((xs (i + (3 : Nat)).toNat).toInt) ((xs (i + (4 : Nat)).toNat).toInt) ((xs (i + (5 : Nat)).toNat).toInt)).2 _).mp e1
  obtain ⟨n2, h2⟩ := ((md_feed_l M1 ((xs (i + (1 : Nat)).toNat).toInt) ((xs (i + (2 : Nat)).toNat).toInt) ((xs (i + (3 : Nat)).toNat).toInt) ((xs (i + (4 : Nat)).toNat).toInt) ((xs (i + (5 : Nat)).toNat).toInt)).2 _).mp e2
  have nil : gcans [] := fun v hv => by cases hv
  refine k_aload (k := 1) C (t := 2) (x := 117) rfl (Or.inl rfl) (by decide +kernel) ?_
  refine k_arg (kk := 1) C hX hb hbA hi hL0 (by decide) (by decide +kernel) (by decide +kernel) (by decide +kernel) (by decide +kernel) (by decide +kernel) ?_
  refine k_arg (kk := 2) C hX hb hbA hi hL0 (by decide) (by decide +kernel) (by decide +kernel) (by decide +kernel) (by decide +kernel) (by decide +kernel) ?_
  refine k_arg (kk := 3) C hX hb hbA hi hL0 (by decide) (by decide +kernel) (by decide +kernel) (by decide +kernel) (by decide +kernel) (by decide +kernel) ?_
  refine k_arg (kk := 4) C hX hb hbA hi hL0 (by decide) (by decide +kernel) (by decide +kernel) (by decide +kernel) (by decide +kernel) (by decide +kernel) ?_
  refine k_arg (kk := 5) C hX hb hbA hi hL0 (by decide) (by decide +kernel) (by decide +kernel) (by decide +kernel) (by decide +kernel) (by decide +kernel) ?_
  refine kx_call (N := 227) (vi := true) (w0 := 8) (as := [(2, 117), (0, (xs (i + (1 : Nat)).toNat).toInt), (0, (xs (i + (2 : Nat)).toNat).toInt), (0, (xs (i + (3 : Nat)).toNat).toInt), (0, (xs (i + (4 : Nat)).toNat).toInt), (0, (xs (i + (5 : Nat)).toNat).toInt)]) (st := []) (σ' := M1) (v := r) (nn := n1) C (gm_gt_feed (m := 119) (zlim_inj C.2.2.2.2.2.2.1 (by rw [hN]; decide)) (show 119 ≤ 227 by decide)) (Or.inl q1156) (by omega) (by omega) r3 r4 (by rw [hN]; decide) hcs ok hAZ (by decide) (gft_inl h1) hI (gcans_cons.mpr ⟨gcan2, gcans_cons.mpr ⟨gcan0.mpr (i32_toInt _), gcans_cons.mpr ⟨gcan0.mpr (i32_toInt _), gcans_cons.mpr ⟨gcan0.mpr (i32_toInt _), gcans_cons.mpr ⟨gcan0.mpr (i32_toInt _), gcans_cons.mpr ⟨gcan0.mpr (i32_toInt _), nil⟩⟩⟩⟩⟩⟩) nil rfl (Or.inr (Or.inr ⟨by decide, by decide, 117, _, rfl, by decide +kernel, show 117 < 227 by decide⟩)) (show (0 : Nat) ≤ 8 by decide) (fun a ha h => absurd (hlt a ha) (by omega)) ⟨fun _ => by decide, fun _ => rfl⟩ (by decide +kernel) ?_
  intro I1 c1
  refine k_aload (k := 2) C (t := 2) (x := 119) rfl (Or.inl rfl) (by decide +kernel) ?_
  refine k_arg (kk := 1) C hX hb hbA hi hL0 (by decide) (by decide +kernel) (by decide +kernel) (by decide +kernel) (by decide +kernel) (by decide +kernel) ?_
  refine k_arg (kk := 2) C hX hb hbA hi hL0 (by decide) (by decide +kernel) (by decide +kernel) (by decide +kernel) (by decide +kernel) (by decide +kernel) ?_
  refine k_arg (kk := 3) C hX hb hbA hi hL0 (by decide) (by decide +kernel) (by decide +kernel) (by decide +kernel) (by decide +kernel) (by decide +kernel) ?_
  refine k_arg (kk := 4) C hX hb hbA hi hL0 (by decide) (by decide +kernel) (by decide +kernel) (by decide +kernel) (by decide +kernel) (by decide +kernel) ?_
  refine k_arg (kk := 5) C hX hb hbA hi hL0 (by decide) (by decide +kernel) (by decide +kernel) (by decide +kernel) (by decide +kernel) (by decide +kernel) ?_
  refine kx_call (N := 227) (vi := true) (w0 := 8) (as := [(2, 119), (0, (xs (i + (1 : Nat)).toNat).toInt), (0, (xs (i + (2 : Nat)).toNat).toInt), (0, (xs (i + (3 : Nat)).toNat).toInt), (0, (xs (i + (4 : Nat)).toNat).toInt), (0, (xs (i + (5 : Nat)).toNat).toInt)]) (st := [(0, r)]) (σ' := M2) (v := r) (nn := n2) C (gm_md_feed (m := 227) (zlim_inj C.2.2.2.2.2.2.1 (by rw [hN]; decide)) (show 227 ≤ 227 by decide) (show gStop.toNat < 227 by decide)) (Or.inl q2610) (by omega) (by omega) r3 r4 (by rw [hN]; decide) hcs ok hAZ (by decide) (gft_inl h2) I1 (gcans_cons.mpr ⟨gcan2, gcans_cons.mpr ⟨gcan0.mpr (i32_toInt _), gcans_cons.mpr ⟨gcan0.mpr (i32_toInt _), gcans_cons.mpr ⟨gcan0.mpr (i32_toInt _), gcans_cons.mpr ⟨gcan0.mpr (i32_toInt _), gcans_cons.mpr ⟨gcan0.mpr (i32_toInt _), nil⟩⟩⟩⟩⟩⟩) (gcans_cons.mpr ⟨c1 (by decide), nil⟩) rfl (Or.inr (Or.inr ⟨by decide, by decide, 119, _, rfl, by decide +kernel, show 119 < 227 by decide⟩)) (by simp [cv, Value.category]) (fun a ha h => absurd (hlt a ha) (by omega)) ⟨fun _ => by decide, fun _ => rfl⟩ (by decide +kernel) ?_
  intro I2 _
  show kAt p l e R s m args below meth c Q 4 A Z M2 cs n cells slots _ (lwL i) [(0, r), (0, r)]
  refine k_eq (tgt := 638) (off := 460) C (by decide +kernel) (by decide) ?_
  exact K M2 I2 R2
theorem lc_load (H : lawC p s m args c R Z A cs cells slots L xs) (hi : 0 ≤ i ∧ i + 6 ≤ L) (hI : gI 227 M) (Rl : RL M) (K : ∀ M2, gI 227 M2 → RL M2 → kAt p l e R s m args below meth c Q 4 A Z M2 cs n cells slots 638 (lwL i) []) : kAt p l e R s m args below meth c Q 4 A Z M cs n cells slots 183 (lwL i) [] := by
  obtain ⟨C, ⟨hX, hb, hbA, hL0⟩, hN, ok, hcs, hlt, hAZ, r1, r2, r3, r4⟩ := H
  obtain ⟨M1, r, M2, e1, e2, R2⟩ := st_load (x1 := (xs (i + (1 : Nat)).toNat).toInt) Rl
  obtain ⟨n1, h1⟩ := ((gt_load_l M ((xs (i + (1 : Nat)).toNat).toInt)).2 _).mp e1
  obtain ⟨n2, h2⟩ := ((md_load_l M1 ((xs (i + (1 : Nat)).toNat).toInt)).2 _).mp e2
  have nil : gcans [] := fun v hv => by cases hv
  refine k_aload (k := 1) C (t := 2) (x := 117) rfl (Or.inl rfl) (by decide +kernel) ?_
  refine k_arg (kk := 1) C hX hb hbA hi hL0 (by decide) (by decide +kernel) (by decide +kernel) (by decide +kernel) (by decide +kernel) (by decide +kernel) ?_
  refine kx_call (N := 227) (vi := true) (w0 := 8) (as := [(2, 117), (0, (xs (i + (1 : Nat)).toNat).toInt)]) (st := []) (σ' := M1) (v := r) (nn := n1) C (gm_gt_load (m := 119) (zlim_inj C.2.2.2.2.2.2.1 (by rw [hN]; decide)) (show 119 ≤ 227 by decide)) (Or.inl q1164) (by omega) (by omega) r3 r4 (by rw [hN]; decide) hcs ok hAZ (by decide) (gft_inl h1) hI (gcans_cons.mpr ⟨gcan2, gcans_cons.mpr ⟨gcan0.mpr (i32_toInt _), nil⟩⟩) nil rfl (Or.inr (Or.inr ⟨by decide, by decide, 117, _, rfl, by decide +kernel, show 117 < 227 by decide⟩)) (show (0 : Nat) ≤ 8 by decide) (fun a ha h => absurd (hlt a ha) (by omega)) ⟨fun _ => by decide, fun _ => rfl⟩ (by decide +kernel) ?_
  intro I1 c1
  refine k_aload (k := 2) C (t := 2) (x := 119) rfl (Or.inl rfl) (by decide +kernel) ?_
  refine k_arg (kk := 1) C hX hb hbA hi hL0 (by decide) (by decide +kernel) (by decide +kernel) (by decide +kernel) (by decide +kernel) (by decide +kernel) ?_
  refine kx_call (N := 227) (vi := true) (w0 := 8) (as := [(2, 119), (0, (xs (i + (1 : Nat)).toNat).toInt)]) (st := [(0, r)]) (σ' := M2) (v := r) (nn := n2) C (gm_md_load (m := 227) (zlim_inj C.2.2.2.2.2.2.1 (by rw [hN]; decide)) (show 227 ≤ 227 by decide) (show gStop.toNat < 227 by decide)) (Or.inl q2614) (by omega) (by omega) r3 r4 (by rw [hN]; decide) hcs ok hAZ (by decide) (gft_inl h2) I1 (gcans_cons.mpr ⟨gcan2, gcans_cons.mpr ⟨gcan0.mpr (i32_toInt _), nil⟩⟩) (gcans_cons.mpr ⟨c1 (by decide), nil⟩) rfl (Or.inr (Or.inr ⟨by decide, by decide, 119, _, rfl, by decide +kernel, show 119 < 227 by decide⟩)) (by simp [cv, Value.category]) (fun a ha h => absurd (hlt a ha) (by omega)) ⟨fun _ => by decide, fun _ => rfl⟩ (by decide +kernel) ?_
  intro I2 _
  show kAt p l e R s m args below meth c Q 4 A Z M2 cs n cells slots _ (lwL i) [(0, r), (0, r)]
  refine k_eq (tgt := 638) (off := 437) C (by decide +kernel) (by decide) ?_
  exact K M2 I2 R2
theorem lc_fault (H : lawC p s m args c R Z A cs cells slots L xs) (hi : 0 ≤ i ∧ i + 6 ≤ L) (hI : gI 227 M) (Rl : RL M) (K : ∀ M2, gI 227 M2 → RL M2 → kAt p l e R s m args below meth c Q 4 A Z M2 cs n cells slots 638 (lwL i) []) : kAt p l e R s m args below meth c Q 4 A Z M cs n cells slots 206 (lwL i) [] := by
  obtain ⟨C, ⟨hX, hb, hbA, hL0⟩, hN, ok, hcs, hlt, hAZ, r1, r2, r3, r4⟩ := H
  obtain ⟨M1, r, M2, e1, e2, R2⟩ := st_fault (x1 := (xs (i + (1 : Nat)).toNat).toInt) Rl
  obtain ⟨n1, h1⟩ := ((gt_fault_l M ((xs (i + (1 : Nat)).toNat).toInt)).2 _).mp e1
  obtain ⟨n2, h2⟩ := ((md_fault_l M1 ((xs (i + (1 : Nat)).toNat).toInt)).2 _).mp e2
  have nil : gcans [] := fun v hv => by cases hv
  refine k_aload (k := 1) C (t := 2) (x := 117) rfl (Or.inl rfl) (by decide +kernel) ?_
  refine k_arg (kk := 1) C hX hb hbA hi hL0 (by decide) (by decide +kernel) (by decide +kernel) (by decide +kernel) (by decide +kernel) (by decide +kernel) ?_
  refine kx_call (N := 227) (vi := true) (w0 := 8) (as := [(2, 117), (0, (xs (i + (1 : Nat)).toNat).toInt)]) (st := []) (σ' := M1) (v := r) (nn := n1) C (gm_gt_fault (m := 119) (zlim_inj C.2.2.2.2.2.2.1 (by rw [hN]; decide)) (show 119 ≤ 227 by decide)) (Or.inl q1536) (by omega) (by omega) r3 r4 (by rw [hN]; decide) hcs ok hAZ (by decide) (gft_inl h1) hI (gcans_cons.mpr ⟨gcan2, gcans_cons.mpr ⟨gcan0.mpr (i32_toInt _), nil⟩⟩) nil rfl (Or.inr (Or.inr ⟨by decide, by decide, 117, _, rfl, by decide +kernel, show 117 < 227 by decide⟩)) (show (0 : Nat) ≤ 8 by decide) (fun a ha h => absurd (hlt a ha) (by omega)) ⟨fun _ => by decide, fun _ => rfl⟩ (by decide +kernel) ?_
  intro I1 c1
  refine k_aload (k := 2) C (t := 2) (x := 119) rfl (Or.inl rfl) (by decide +kernel) ?_
  refine k_arg (kk := 1) C hX hb hbA hi hL0 (by decide) (by decide +kernel) (by decide +kernel) (by decide +kernel) (by decide +kernel) (by decide +kernel) ?_
  refine kx_call (N := 227) (vi := true) (w0 := 8) (as := [(2, 119), (0, (xs (i + (1 : Nat)).toNat).toInt)]) (st := [(0, r)]) (σ' := M2) (v := r) (nn := n2) C (gm_md_fault (m := 227) (zlim_inj C.2.2.2.2.2.2.1 (by rw [hN]; decide)) (show 227 ≤ 227 by decide) (show gStop.toNat < 227 by decide)) (Or.inl q2786) (by omega) (by omega) r3 r4 (by rw [hN]; decide) hcs ok hAZ (by decide) (gft_inl h2) I1 (gcans_cons.mpr ⟨gcan2, gcans_cons.mpr ⟨gcan0.mpr (i32_toInt _), nil⟩⟩) (gcans_cons.mpr ⟨c1 (by decide), nil⟩) rfl (Or.inr (Or.inr ⟨by decide, by decide, 119, _, rfl, by decide +kernel, show 119 < 227 by decide⟩)) (by simp [cv, Value.category]) (fun a ha h => absurd (hlt a ha) (by omega)) ⟨fun _ => by decide, fun _ => rfl⟩ (by decide +kernel) ?_
  intro I2 _
  show kAt p l e R s m args below meth c Q 4 A Z M2 cs n cells slots _ (lwL i) [(0, r), (0, r)]
  refine k_eq (tgt := 638) (off := 414) C (by decide +kernel) (by decide) ?_
  exact K M2 I2 R2
theorem lc_run (H : lawC p s m args c R Z A cs cells slots L xs) (hi : 0 ≤ i ∧ i + 6 ≤ L) (hI : gI 227 M) (Rl : RL M) (K : ∀ M2, gI 227 M2 → RL M2 → kAt p l e R s m args below meth c Q 4 A Z M2 cs n cells slots 638 (lwL i) []) : kAt p l e R s m args below meth c Q 4 A Z M cs n cells slots 322 (lwL i) [] := by
  obtain ⟨C, ⟨hX, hb, hbA, hL0⟩, hN, ok, hcs, hlt, hAZ, r1, r2, r3, r4⟩ := H
  obtain ⟨M1, r, M2, e1, e2, R2⟩ := st_run (x1 := (xs (i + (1 : Nat)).toNat).toInt) Rl
  obtain ⟨n1, h1⟩ := ((gt_run_l M ((xs (i + (1 : Nat)).toNat).toInt)).2 _).mp e1
  obtain ⟨n2, h2⟩ := ((md_run_l M1 ((xs (i + (1 : Nat)).toNat).toInt)).2 _).mp e2
  have nil : gcans [] := fun v hv => by cases hv
  refine k_aload (k := 1) C (t := 2) (x := 117) rfl (Or.inl rfl) (by decide +kernel) ?_
  refine k_arg (kk := 1) C hX hb hbA hi hL0 (by decide) (by decide +kernel) (by decide +kernel) (by decide +kernel) (by decide +kernel) (by decide +kernel) ?_
  refine kx_call (N := 227) (vi := true) (w0 := 8) (as := [(2, 117), (0, (xs (i + (1 : Nat)).toNat).toInt)]) (st := []) (σ' := M1) (v := r) (nn := n1) C (gm_gt_run (m := 119) (zlim_inj C.2.2.2.2.2.2.1 (by rw [hN]; decide)) (show 119 ≤ 227 by decide)) (Or.inl q1899) (by omega) (by omega) r3 r4 (by rw [hN]; decide) hcs ok hAZ (by decide) (gft_inl h1) hI (gcans_cons.mpr ⟨gcan2, gcans_cons.mpr ⟨gcan0.mpr (i32_toInt _), nil⟩⟩) nil rfl (Or.inr (Or.inr ⟨by decide, by decide, 117, _, rfl, by decide +kernel, show 117 < 227 by decide⟩)) (show (0 : Nat) ≤ 8 by decide) (fun a ha h => absurd (hlt a ha) (by omega)) ⟨fun _ => by decide, fun _ => rfl⟩ (by decide +kernel) ?_
  intro I1 c1
  refine k_aload (k := 2) C (t := 2) (x := 119) rfl (Or.inl rfl) (by decide +kernel) ?_
  refine k_arg (kk := 1) C hX hb hbA hi hL0 (by decide) (by decide +kernel) (by decide +kernel) (by decide +kernel) (by decide +kernel) (by decide +kernel) ?_
  refine kx_call (N := 227) (vi := true) (w0 := 8) (as := [(2, 119), (0, (xs (i + (1 : Nat)).toNat).toInt)]) (st := [(0, r)]) (σ' := M2) (v := r) (nn := n2) C (gm_md_run (m := 227) (zlim_inj C.2.2.2.2.2.2.1 (by rw [hN]; decide)) (show 227 ≤ 227 by decide) (show gStop.toNat < 227 by decide)) (Or.inl q3061) (by omega) (by omega) r3 r4 (by rw [hN]; decide) hcs ok hAZ (by decide) (gft_inl h2) I1 (gcans_cons.mpr ⟨gcan2, gcans_cons.mpr ⟨gcan0.mpr (i32_toInt _), nil⟩⟩) (gcans_cons.mpr ⟨c1 (by decide), nil⟩) rfl (Or.inr (Or.inr ⟨by decide, by decide, 119, _, rfl, by decide +kernel, show 119 < 227 by decide⟩)) (by simp [cv, Value.category]) (fun a ha h => absurd (hlt a ha) (by omega)) ⟨fun _ => by decide, fun _ => rfl⟩ (by decide +kernel) ?_
  intro I2 _
  show kAt p l e R s m args below meth c Q 4 A Z M2 cs n cells slots _ (lwL i) [(0, r), (0, r)]
  refine k_eq (tgt := 638) (off := 298) C (by decide +kernel) (by decide) ?_
  exact K M2 I2 R2
theorem lc_state (H : lawC p s m args c R Z A cs cells slots L xs) (hi : 0 ≤ i ∧ i + 6 ≤ L) (hI : gI 227 M) (Rl : RL M) (K : ∀ M2, gI 227 M2 → RL M2 → kAt p l e R s m args below meth c Q 4 A Z M2 cs n cells slots 638 (lwL i) []) : kAt p l e R s m args below meth c Q 4 A Z M cs n cells slots 345 (lwL i) [] := by
  obtain ⟨C, ⟨hX, hb, hbA, hL0⟩, hN, ok, hcs, hlt, hAZ, r1, r2, r3, r4⟩ := H
  obtain ⟨M1, r, M2, e1, e2, R2⟩ := st_state Rl
  obtain ⟨n1, h1⟩ := ((gt_state_l M).2 _).mp e1
  obtain ⟨n2, h2⟩ := ((md_state_l M1).2 _).mp e2
  have nil : gcans [] := fun v hv => by cases hv
  refine k_aload (k := 1) C (t := 2) (x := 117) rfl (Or.inl rfl) (by decide +kernel) ?_
  refine kx_call (N := 227) (vi := true) (w0 := 8) (as := [(2, 117)]) (st := []) (σ' := M1) (v := r) (nn := n1) C (gm_gt_state (m := 119) (zlim_inj C.2.2.2.2.2.2.1 (by rw [hN]; decide)) (show 119 ≤ 227 by decide)) (Or.inl q1904) (by omega) (by omega) r3 r4 (by rw [hN]; decide) hcs ok hAZ (by decide) (gft_inl h1) hI (gcans_cons.mpr ⟨gcan2, nil⟩) nil rfl (Or.inr (Or.inr ⟨by decide, by decide, 117, _, rfl, by decide +kernel, show 117 < 227 by decide⟩)) (show (0 : Nat) ≤ 8 by decide) (fun a ha h => absurd (hlt a ha) (by omega)) ⟨fun _ => by decide, fun _ => rfl⟩ (by decide +kernel) ?_
  intro I1 c1
  refine k_aload (k := 2) C (t := 2) (x := 119) rfl (Or.inl rfl) (by decide +kernel) ?_
  refine kx_call (N := 227) (vi := true) (w0 := 8) (as := [(2, 119)]) (st := [(0, r)]) (σ' := M2) (v := r) (nn := n2) C (gm_md_state (m := 227) (zlim_inj C.2.2.2.2.2.2.1 (by rw [hN]; decide)) (show 227 ≤ 227 by decide) (show gStop.toNat < 227 by decide)) (Or.inl q3065) (by omega) (by omega) r3 r4 (by rw [hN]; decide) hcs ok hAZ (by decide) (gft_inl h2) I1 (gcans_cons.mpr ⟨gcan2, nil⟩) (gcans_cons.mpr ⟨c1 (by decide), nil⟩) rfl (Or.inr (Or.inr ⟨by decide, by decide, 119, _, rfl, by decide +kernel, show 119 < 227 by decide⟩)) (by simp [cv, Value.category]) (fun a ha h => absurd (hlt a ha) (by omega)) ⟨fun _ => by decide, fun _ => rfl⟩ (by decide +kernel) ?_
  intro I2 _
  show kAt p l e R s m args below meth c Q 4 A Z M2 cs n cells slots _ (lwL i) [(0, r), (0, r)]
  refine k_eq (tgt := 638) (off := 285) C (by decide +kernel) (by decide) ?_
  exact K M2 I2 R2
theorem lc_error (H : lawC p s m args c R Z A cs cells slots L xs) (hi : 0 ≤ i ∧ i + 6 ≤ L) (hI : gI 227 M) (Rl : RL M) (K : ∀ M2, gI 227 M2 → RL M2 → kAt p l e R s m args below meth c Q 4 A Z M2 cs n cells slots 638 (lwL i) []) : kAt p l e R s m args below meth c Q 4 A Z M cs n cells slots 358 (lwL i) [] := by
  obtain ⟨C, ⟨hX, hb, hbA, hL0⟩, hN, ok, hcs, hlt, hAZ, r1, r2, r3, r4⟩ := H
  obtain ⟨M1, r, M2, e1, e2, R2⟩ := st_error (x1 := (xs (i + (1 : Nat)).toNat).toInt) Rl
  obtain ⟨n1, h1⟩ := ((gt_error_l M ((xs (i + (1 : Nat)).toNat).toInt)).2 _).mp e1
  obtain ⟨n2, h2⟩ := ((md_error_2_l M1 ((xs (i + (1 : Nat)).toNat).toInt)).2 _).mp e2
  have nil : gcans [] := fun v hv => by cases hv
  refine k_aload (k := 1) C (t := 2) (x := 117) rfl (Or.inl rfl) (by decide +kernel) ?_
  refine k_arg (kk := 1) C hX hb hbA hi hL0 (by decide) (by decide +kernel) (by decide +kernel) (by decide +kernel) (by decide +kernel) (by decide +kernel) ?_
  refine kx_call (N := 227) (vi := true) (w0 := 8) (as := [(2, 117), (0, (xs (i + (1 : Nat)).toNat).toInt)]) (st := []) (σ' := M1) (v := r) (nn := n1) C (gm_gt_error (m := 119) (zlim_inj C.2.2.2.2.2.2.1 (by rw [hN]; decide)) (show 119 ≤ 227 by decide)) (Or.inl q1908) (by omega) (by omega) r3 r4 (by rw [hN]; decide) hcs ok hAZ (by decide) (gft_inl h1) hI (gcans_cons.mpr ⟨gcan2, gcans_cons.mpr ⟨gcan0.mpr (i32_toInt _), nil⟩⟩) nil rfl (Or.inr (Or.inr ⟨by decide, by decide, 117, _, rfl, by decide +kernel, show 117 < 227 by decide⟩)) (show (0 : Nat) ≤ 8 by decide) (fun a ha h => absurd (hlt a ha) (by omega)) ⟨fun _ => by decide, fun _ => rfl⟩ (by decide +kernel) ?_
  intro I1 c1
  refine k_aload (k := 2) C (t := 2) (x := 119) rfl (Or.inl rfl) (by decide +kernel) ?_
  refine k_arg (kk := 1) C hX hb hbA hi hL0 (by decide) (by decide +kernel) (by decide +kernel) (by decide +kernel) (by decide +kernel) (by decide +kernel) ?_
  refine kx_call (N := 227) (vi := true) (w0 := 8) (as := [(2, 119), (0, (xs (i + (1 : Nat)).toNat).toInt)]) (st := [(0, r)]) (σ' := M2) (v := r) (nn := n2) C (gm_md_error_2 (m := 227) (zlim_inj C.2.2.2.2.2.2.1 (by rw [hN]; decide)) (show 227 ≤ 227 by decide) (show gStop.toNat < 227 by decide)) (Or.inl q3069) (by omega) (by omega) r3 r4 (by rw [hN]; decide) hcs ok hAZ (by decide) (gft_inl h2) I1 (gcans_cons.mpr ⟨gcan2, gcans_cons.mpr ⟨gcan0.mpr (i32_toInt _), nil⟩⟩) (gcans_cons.mpr ⟨c1 (by decide), nil⟩) rfl (Or.inr (Or.inr ⟨by decide, by decide, 119, _, rfl, by decide +kernel, show 119 < 227 by decide⟩)) (by simp [cv, Value.category]) (fun a ha h => absurd (hlt a ha) (by omega)) ⟨fun _ => by decide, fun _ => rfl⟩ (by decide +kernel) ?_
  intro I2 _
  show kAt p l e R s m args below meth c Q 4 A Z M2 cs n cells slots _ (lwL i) [(0, r), (0, r)]
  refine k_eq (tgt := 638) (off := 262) C (by decide +kernel) (by decide) ?_
  exact K M2 I2 R2
theorem lc_result (H : lawC p s m args c R Z A cs cells slots L xs) (hi : 0 ≤ i ∧ i + 6 ≤ L) (hI : gI 227 M) (Rl : RL M) (K : ∀ M2, gI 227 M2 → RL M2 → kAt p l e R s m args below meth c Q 4 A Z M2 cs n cells slots 638 (lwL i) []) : kAt p l e R s m args below meth c Q 4 A Z M cs n cells slots 381 (lwL i) [] := by
  obtain ⟨C, ⟨hX, hb, hbA, hL0⟩, hN, ok, hcs, hlt, hAZ, r1, r2, r3, r4⟩ := H
  obtain ⟨M1, r, M2, e1, e2, R2⟩ := st_result (x1 := (xs (i + (1 : Nat)).toNat).toInt) Rl
  obtain ⟨n1, h1⟩ := ((gt_result_l M ((xs (i + (1 : Nat)).toNat).toInt)).2 _).mp e1
  obtain ⟨n2, h2⟩ := ((md_result_l M1 ((xs (i + (1 : Nat)).toNat).toInt)).2 _).mp e2
  have nil : gcans [] := fun v hv => by cases hv
  refine k_aload (k := 1) C (t := 2) (x := 117) rfl (Or.inl rfl) (by decide +kernel) ?_
  refine k_arg (kk := 1) C hX hb hbA hi hL0 (by decide) (by decide +kernel) (by decide +kernel) (by decide +kernel) (by decide +kernel) (by decide +kernel) ?_
  refine kx_call (N := 227) (vi := true) (w0 := 8) (as := [(2, 117), (0, (xs (i + (1 : Nat)).toNat).toInt)]) (st := []) (σ' := M1) (v := r) (nn := n1) C (gm_gt_result (m := 119) (zlim_inj C.2.2.2.2.2.2.1 (by rw [hN]; decide)) (show 119 ≤ 227 by decide)) (Or.inl q1912) (by omega) (by omega) r3 r4 (by rw [hN]; decide) hcs ok hAZ (by decide) (gft_inl h1) hI (gcans_cons.mpr ⟨gcan2, gcans_cons.mpr ⟨gcan0.mpr (i32_toInt _), nil⟩⟩) nil rfl (Or.inr (Or.inr ⟨by decide, by decide, 117, _, rfl, by decide +kernel, show 117 < 227 by decide⟩)) (show (0 : Nat) ≤ 8 by decide) (fun a ha h => absurd (hlt a ha) (by omega)) ⟨fun _ => by decide, fun _ => rfl⟩ (by decide +kernel) ?_
  intro I1 c1
  refine k_aload (k := 2) C (t := 2) (x := 119) rfl (Or.inl rfl) (by decide +kernel) ?_
  refine k_arg (kk := 1) C hX hb hbA hi hL0 (by decide) (by decide +kernel) (by decide +kernel) (by decide +kernel) (by decide +kernel) (by decide +kernel) ?_
  refine kx_call (N := 227) (vi := true) (w0 := 8) (as := [(2, 119), (0, (xs (i + (1 : Nat)).toNat).toInt)]) (st := [(0, r)]) (σ' := M2) (v := r) (nn := n2) C (gm_md_result (m := 227) (zlim_inj C.2.2.2.2.2.2.1 (by rw [hN]; decide)) (show 227 ≤ 227 by decide) (show gStop.toNat < 227 by decide)) (Or.inl q3073) (by omega) (by omega) r3 r4 (by rw [hN]; decide) hcs ok hAZ (by decide) (gft_inl h2) I1 (gcans_cons.mpr ⟨gcan2, gcans_cons.mpr ⟨gcan0.mpr (i32_toInt _), nil⟩⟩) (gcans_cons.mpr ⟨c1 (by decide), nil⟩) rfl (Or.inr (Or.inr ⟨by decide, by decide, 119, _, rfl, by decide +kernel, show 119 < 227 by decide⟩)) (by simp [cv, Value.category]) (fun a ha h => absurd (hlt a ha) (by omega)) ⟨fun _ => by decide, fun _ => rfl⟩ (by decide +kernel) ?_
  intro I2 _
  show kAt p l e R s m args below meth c Q 4 A Z M2 cs n cells slots _ (lwL i) [(0, r), (0, r)]
  refine k_eq (tgt := 638) (off := 239) C (by decide +kernel) (by decide) ?_
  exact K M2 I2 R2
theorem lc_out (H : lawC p s m args c R Z A cs cells slots L xs) (hi : 0 ≤ i ∧ i + 6 ≤ L) (hI : gI 227 M) (Rl : RL M) (K : ∀ M2, gI 227 M2 → RL M2 → kAt p l e R s m args below meth c Q 4 A Z M2 cs n cells slots 638 (lwL i) []) : kAt p l e R s m args below meth c Q 4 A Z M cs n cells slots 404 (lwL i) [] := by
  obtain ⟨C, ⟨hX, hb, hbA, hL0⟩, hN, ok, hcs, hlt, hAZ, r1, r2, r3, r4⟩ := H
  obtain ⟨M1, r, M2, e1, e2, R2⟩ := st_out (x1 := (xs (i + (1 : Nat)).toNat).toInt) Rl
  obtain ⟨n1, h1⟩ := ((gt_out_l M ((xs (i + (1 : Nat)).toNat).toInt)).2 _).mp e1
  obtain ⟨n2, h2⟩ := ((md_out_l M1 ((xs (i + (1 : Nat)).toNat).toInt)).2 _).mp e2
  have nil : gcans [] := fun v hv => by cases hv
  refine k_aload (k := 1) C (t := 2) (x := 117) rfl (Or.inl rfl) (by decide +kernel) ?_
  refine k_arg (kk := 1) C hX hb hbA hi hL0 (by decide) (by decide +kernel) (by decide +kernel) (by decide +kernel) (by decide +kernel) (by decide +kernel) ?_
  refine kx_call (N := 227) (vi := true) (w0 := 8) (as := [(2, 117), (0, (xs (i + (1 : Nat)).toNat).toInt)]) (st := []) (σ' := M1) (v := r) (nn := n1) C (gm_gt_out (m := 119) (zlim_inj C.2.2.2.2.2.2.1 (by rw [hN]; decide)) (show 119 ≤ 227 by decide)) (Or.inl q1916) (by omega) (by omega) r3 r4 (by rw [hN]; decide) hcs ok hAZ (by decide) (gft_inl h1) hI (gcans_cons.mpr ⟨gcan2, gcans_cons.mpr ⟨gcan0.mpr (i32_toInt _), nil⟩⟩) nil rfl (Or.inr (Or.inr ⟨by decide, by decide, 117, _, rfl, by decide +kernel, show 117 < 227 by decide⟩)) (show (0 : Nat) ≤ 8 by decide) (fun a ha h => absurd (hlt a ha) (by omega)) ⟨fun _ => by decide, fun _ => rfl⟩ (by decide +kernel) ?_
  intro I1 c1
  refine k_aload (k := 2) C (t := 2) (x := 119) rfl (Or.inl rfl) (by decide +kernel) ?_
  refine k_arg (kk := 1) C hX hb hbA hi hL0 (by decide) (by decide +kernel) (by decide +kernel) (by decide +kernel) (by decide +kernel) (by decide +kernel) ?_
  refine kx_call (N := 227) (vi := true) (w0 := 8) (as := [(2, 119), (0, (xs (i + (1 : Nat)).toNat).toInt)]) (st := [(0, r)]) (σ' := M2) (v := r) (nn := n2) C (gm_md_out (m := 227) (zlim_inj C.2.2.2.2.2.2.1 (by rw [hN]; decide)) (show 227 ≤ 227 by decide) (show gStop.toNat < 227 by decide)) (Or.inl q3077) (by omega) (by omega) r3 r4 (by rw [hN]; decide) hcs ok hAZ (by decide) (gft_inl h2) I1 (gcans_cons.mpr ⟨gcan2, gcans_cons.mpr ⟨gcan0.mpr (i32_toInt _), nil⟩⟩) (gcans_cons.mpr ⟨c1 (by decide), nil⟩) rfl (Or.inr (Or.inr ⟨by decide, by decide, 119, _, rfl, by decide +kernel, show 119 < 227 by decide⟩)) (by simp [cv, Value.category]) (fun a ha h => absurd (hlt a ha) (by omega)) ⟨fun _ => by decide, fun _ => rfl⟩ (by decide +kernel) ?_
  intro I2 _
  show kAt p l e R s m args below meth c Q 4 A Z M2 cs n cells slots _ (lwL i) [(0, r), (0, r)]
  refine k_eq (tgt := 638) (off := 216) C (by decide +kernel) (by decide) ?_
  exact K M2 I2 R2
theorem lc_compile (H : lawC p s m args c R Z A cs cells slots L xs) (hi : 0 ≤ i ∧ i + 6 ≤ L) (hI : gI 227 M) (Rl : RL M) (K : ∀ M2, gI 227 M2 → RL M2 → kAt p l e R s m args below meth c Q 4 A Z M2 cs n cells slots 638 (lwL i) []) : kAt p l e R s m args below meth c Q 4 A Z M cs n cells slots 427 (lwL i) [] := by
  obtain ⟨C, ⟨hX, hb, hbA, hL0⟩, hN, ok, hcs, hlt, hAZ, r1, r2, r3, r4⟩ := H
  obtain ⟨M1, r, M2, e1, e2, R2⟩ := st_compile Rl
  obtain ⟨n1, h1⟩ := ((gt_compile_l M).2 _).mp e1
  obtain ⟨n2, h2⟩ := ((md_compile_l M1).2 _).mp e2
  have nil : gcans [] := fun v hv => by cases hv
  refine k_aload (k := 1) C (t := 2) (x := 117) rfl (Or.inl rfl) (by decide +kernel) ?_
  refine kx_call (N := 227) (vi := true) (w0 := 8) (as := [(2, 117)]) (st := []) (σ' := M1) (v := r) (nn := n1) C (gm_gt_compile (m := 119) (zlim_inj C.2.2.2.2.2.2.1 (by rw [hN]; decide)) (show 119 ≤ 227 by decide)) (Or.inl q1920) (by omega) (by omega) r3 r4 (by rw [hN]; decide) hcs ok hAZ (by decide) (gft_inl h1) hI (gcans_cons.mpr ⟨gcan2, nil⟩) nil rfl (Or.inr (Or.inr ⟨by decide, by decide, 117, _, rfl, by decide +kernel, show 117 < 227 by decide⟩)) (show (0 : Nat) ≤ 8 by decide) (fun a ha h => absurd (hlt a ha) (by omega)) ⟨fun _ => by decide, fun _ => rfl⟩ (by decide +kernel) ?_
  intro I1 c1
  refine k_aload (k := 2) C (t := 2) (x := 119) rfl (Or.inl rfl) (by decide +kernel) ?_
  refine kx_call (N := 227) (vi := true) (w0 := 8) (as := [(2, 119)]) (st := [(0, r)]) (σ' := M2) (v := r) (nn := n2) C (gm_md_compile (m := 227) (zlim_inj C.2.2.2.2.2.2.1 (by rw [hN]; decide)) (show 227 ≤ 227 by decide) (show gStop.toNat < 227 by decide)) (Or.inl q2581) (by omega) (by omega) r3 r4 (by rw [hN]; decide) hcs ok hAZ (by decide) (gft_inl h2) I1 (gcans_cons.mpr ⟨gcan2, nil⟩) (gcans_cons.mpr ⟨c1 (by decide), nil⟩) rfl (Or.inr (Or.inr ⟨by decide, by decide, 119, _, rfl, by decide +kernel, show 119 < 227 by decide⟩)) (by simp [cv, Value.category]) (fun a ha h => absurd (hlt a ha) (by omega)) ⟨fun _ => by decide, fun _ => rfl⟩ (by decide +kernel) ?_
  intro I2 _
  show kAt p l e R s m args below meth c Q 4 A Z M2 cs n cells slots _ (lwL i) [(0, r), (0, r)]
  refine k_eq (tgt := 638) (off := 203) C (by decide +kernel) (by decide) ?_
  exact K M2 I2 R2
theorem lc_root (H : lawC p s m args c R Z A cs cells slots L xs) (hi : 0 ≤ i ∧ i + 6 ≤ L) (hI : gI 227 M) (Rl : RL M) (K : ∀ M2, gI 227 M2 → RL M2 → kAt p l e R s m args below meth c Q 4 A Z M2 cs n cells slots 638 (lwL i) []) : kAt p l e R s m args below meth c Q 4 A Z M cs n cells slots 440 (lwL i) [] := by
  obtain ⟨C, ⟨hX, hb, hbA, hL0⟩, hN, ok, hcs, hlt, hAZ, r1, r2, r3, r4⟩ := H
  obtain ⟨M1, r, M2, e1, e2, R2⟩ := st_root (x1 := (xs (i + (1 : Nat)).toNat).toInt) (x2 := (xs (i + (2 : Nat)).toNat).toInt) Rl (i32_toInt _)
  obtain ⟨n1, h1⟩ := ((gt_root_l M ((xs (i + (1 : Nat)).toNat).toInt) ((xs (i + (2 : Nat)).toNat).toInt)).2 _).mp e1
  obtain ⟨n2, h2⟩ := ((md_root_l M1 ((xs (i + (1 : Nat)).toNat).toInt) ((xs (i + (2 : Nat)).toNat).toInt)).2 _).mp e2
  have nil : gcans [] := fun v hv => by cases hv
  refine k_aload (k := 1) C (t := 2) (x := 117) rfl (Or.inl rfl) (by decide +kernel) ?_
  refine k_arg (kk := 1) C hX hb hbA hi hL0 (by decide) (by decide +kernel) (by decide +kernel) (by decide +kernel) (by decide +kernel) (by decide +kernel) ?_
  refine k_arg (kk := 2) C hX hb hbA hi hL0 (by decide) (by decide +kernel) (by decide +kernel) (by decide +kernel) (by decide +kernel) (by decide +kernel) ?_
  refine kx_call (N := 227) (vi := true) (w0 := 8) (as := [(2, 117), (0, (xs (i + (1 : Nat)).toNat).toInt), (0, (xs (i + (2 : Nat)).toNat).toInt)]) (st := []) (σ' := M1) (v := r) (nn := n1) C (gm_gt_root (m := 119) (zlim_inj C.2.2.2.2.2.2.1 (by rw [hN]; decide)) (show 119 ≤ 227 by decide)) (Or.inl q1954) (by omega) (by omega) r3 r4 (by rw [hN]; decide) hcs ok hAZ (by decide) (gft_inl h1) hI (gcans_cons.mpr ⟨gcan2, gcans_cons.mpr ⟨gcan0.mpr (i32_toInt _), gcans_cons.mpr ⟨gcan0.mpr (i32_toInt _), nil⟩⟩⟩) nil rfl (Or.inr (Or.inr ⟨by decide, by decide, 117, _, rfl, by decide +kernel, show 117 < 227 by decide⟩)) (show (0 : Nat) ≤ 8 by decide) (fun a ha h => absurd (hlt a ha) (by omega)) ⟨fun _ => by decide, fun _ => rfl⟩ (by decide +kernel) ?_
  intro I1 c1
  refine k_aload (k := 2) C (t := 2) (x := 119) rfl (Or.inl rfl) (by decide +kernel) ?_
  refine k_arg (kk := 1) C hX hb hbA hi hL0 (by decide) (by decide +kernel) (by decide +kernel) (by decide +kernel) (by decide +kernel) (by decide +kernel) ?_
  refine k_arg (kk := 2) C hX hb hbA hi hL0 (by decide) (by decide +kernel) (by decide +kernel) (by decide +kernel) (by decide +kernel) (by decide +kernel) ?_
  refine kx_call (N := 227) (vi := true) (w0 := 8) (as := [(2, 119), (0, (xs (i + (1 : Nat)).toNat).toInt), (0, (xs (i + (2 : Nat)).toNat).toInt)]) (st := [(0, r)]) (σ' := M2) (v := r) (nn := n2) C (gm_md_root (m := 227) (zlim_inj C.2.2.2.2.2.2.1 (by rw [hN]; decide)) (show 227 ≤ 227 by decide) (show gStop.toNat < 227 by decide)) (Or.inl q3081) (by omega) (by omega) r3 r4 (by rw [hN]; decide) hcs ok hAZ (by decide) (gft_inl h2) I1 (gcans_cons.mpr ⟨gcan2, gcans_cons.mpr ⟨gcan0.mpr (i32_toInt _), gcans_cons.mpr ⟨gcan0.mpr (i32_toInt _), nil⟩⟩⟩) (gcans_cons.mpr ⟨c1 (by decide), nil⟩) rfl (Or.inr (Or.inr ⟨by decide, by decide, 119, _, rfl, by decide +kernel, show 119 < 227 by decide⟩)) (by simp [cv, Value.category]) (fun a ha h => absurd (hlt a ha) (by omega)) ⟨fun _ => by decide, fun _ => rfl⟩ (by decide +kernel) ?_
  intro I2 _
  show kAt p l e R s m args below meth c Q 4 A Z M2 cs n cells slots _ (lwL i) [(0, r), (0, r)]
  refine k_eq (tgt := 638) (off := 170) C (by decide +kernel) (by decide) ?_
  exact K M2 I2 R2
theorem lc_node (H : lawC p s m args c R Z A cs cells slots L xs) (hi : 0 ≤ i ∧ i + 6 ≤ L) (hI : gI 227 M) (Rl : RL M) (K : ∀ M2, gI 227 M2 → RL M2 → kAt p l e R s m args below meth c Q 4 A Z M2 cs n cells slots 638 (lwL i) []) : kAt p l e R s m args below meth c Q 4 A Z M cs n cells slots 473 (lwL i) [] := by
  obtain ⟨C, ⟨hX, hb, hbA, hL0⟩, hN, ok, hcs, hlt, hAZ, r1, r2, r3, r4⟩ := H
  obtain ⟨M1, r, M2, e1, e2, R2⟩ := st_node (x1 := (xs (i + (1 : Nat)).toNat).toInt) (x2 := (xs (i + (2 : Nat)).toNat).toInt) (x3 := (xs (i + (3 : Nat)).toNat).toInt) Rl (i32_toInt _)
  obtain ⟨n1, h1⟩ := ((gt_node_l M ((xs (i + (1 : Nat)).toNat).toInt) ((xs (i + (2 : Nat)).toNat).toInt) ((xs (i + (3 : Nat)).toNat).toInt)).2 _).mp e1
  obtain ⟨n2, h2⟩ := ((md_node_l M1 ((xs (i + (1 : Nat)).toNat).toInt) ((xs (i + (2 : Nat)).toNat).toInt) ((xs (i + (3 : Nat)).toNat).toInt)).2 _).mp e2
  have nil : gcans [] := fun v hv => by cases hv
  refine k_aload (k := 1) C (t := 2) (x := 117) rfl (Or.inl rfl) (by decide +kernel) ?_
  refine k_arg (kk := 1) C hX hb hbA hi hL0 (by decide) (by decide +kernel) (by decide +kernel) (by decide +kernel) (by decide +kernel) (by decide +kernel) ?_
  refine k_arg (kk := 2) C hX hb hbA hi hL0 (by decide) (by decide +kernel) (by decide +kernel) (by decide +kernel) (by decide +kernel) (by decide +kernel) ?_
  refine k_arg (kk := 3) C hX hb hbA hi hL0 (by decide) (by decide +kernel) (by decide +kernel) (by decide +kernel) (by decide +kernel) (by decide +kernel) ?_
  refine kx_call (N := 227) (vi := true) (w0 := 8) (as := [(2, 117), (0, (xs (i + (1 : Nat)).toNat).toInt), (0, (xs (i + (2 : Nat)).toNat).toInt), (0, (xs (i + (3 : Nat)).toNat).toInt)]) (st := []) (σ' := M1) (v := r) (nn := n1) C (gm_gt_node (m := 119) (zlim_inj C.2.2.2.2.2.2.1 (by rw [hN]; decide)) (show 119 ≤ 227 by decide)) (Or.inl q1964) (by omega) (by omega) r3 r4 (by rw [hN]; decide) hcs ok hAZ (by decide) (gft_inl h1) hI (gcans_cons.mpr ⟨gcan2, gcans_cons.mpr ⟨gcan0.mpr (i32_toInt _), gcans_cons.mpr ⟨gcan0.mpr (i32_toInt _), gcans_cons.mpr ⟨gcan0.mpr (i32_toInt _), nil⟩⟩⟩⟩) nil rfl (Or.inr (Or.inr ⟨by decide, by decide, 117, _, rfl, by decide +kernel, show 117 < 227 by decide⟩)) (show (0 : Nat) ≤ 8 by decide) (fun a ha h => absurd (hlt a ha) (by omega)) ⟨fun _ => by decide, fun _ => rfl⟩ (by decide +kernel) ?_
  intro I1 c1
  refine k_aload (k := 2) C (t := 2) (x := 119) rfl (Or.inl rfl) (by decide +kernel) ?_
  refine k_arg (kk := 1) C hX hb hbA hi hL0 (by decide) (by decide +kernel) (by decide +kernel) (by decide +kernel) (by decide +kernel) (by decide +kernel) ?_
  refine k_arg (kk := 2) C hX hb hbA hi hL0 (by decide) (by decide +kernel) (by decide +kernel) (by decide +kernel) (by decide +kernel) (by decide +kernel) ?_
  refine k_arg (kk := 3) C hX hb hbA hi hL0 (by decide) (by decide +kernel) (by decide +kernel) (by decide +kernel) (by decide +kernel) (by decide +kernel) ?_
  refine kx_call (N := 227) (vi := true) (w0 := 8) (as := [(2, 119), (0, (xs (i + (1 : Nat)).toNat).toInt), (0, (xs (i + (2 : Nat)).toNat).toInt), (0, (xs (i + (3 : Nat)).toNat).toInt)]) (st := [(0, r)]) (σ' := M2) (v := r) (nn := n2) C (gm_md_node (m := 227) (zlim_inj C.2.2.2.2.2.2.1 (by rw [hN]; decide)) (show 227 ≤ 227 by decide) (show gStop.toNat < 227 by decide)) (Or.inl q3085) (by omega) (by omega) r3 r4 (by rw [hN]; decide) hcs ok hAZ (by decide) (gft_inl h2) I1 (gcans_cons.mpr ⟨gcan2, gcans_cons.mpr ⟨gcan0.mpr (i32_toInt _), gcans_cons.mpr ⟨gcan0.mpr (i32_toInt _), gcans_cons.mpr ⟨gcan0.mpr (i32_toInt _), nil⟩⟩⟩⟩) (gcans_cons.mpr ⟨c1 (by decide), nil⟩) rfl (Or.inr (Or.inr ⟨by decide, by decide, 119, _, rfl, by decide +kernel, show 119 < 227 by decide⟩)) (by simp [cv, Value.category]) (fun a ha h => absurd (hlt a ha) (by omega)) ⟨fun _ => by decide, fun _ => rfl⟩ (by decide +kernel) ?_
  intro I2 _
  show kAt p l e R s m args below meth c Q 4 A Z M2 cs n cells slots _ (lwL i) [(0, r), (0, r)]
  refine k_eq (tgt := 638) (off := 127) C (by decide +kernel) (by decide) ?_
  exact K M2 I2 R2
theorem lc_shape (H : lawC p s m args c R Z A cs cells slots L xs) (hi : 0 ≤ i ∧ i + 6 ≤ L) (hI : gI 227 M) (Rl : RL M) (K : ∀ M2, gI 227 M2 → RL M2 → kAt p l e R s m args below meth c Q 4 A Z M2 cs n cells slots 638 (lwL i) []) : kAt p l e R s m args below meth c Q 4 A Z M cs n cells slots 516 (lwL i) [] := by
  obtain ⟨C, ⟨hX, hb, hbA, hL0⟩, hN, ok, hcs, hlt, hAZ, r1, r2, r3, r4⟩ := H
  obtain ⟨M1, r, M2, e1, e2, R2⟩ := st_shape (x1 := (xs (i + (1 : Nat)).toNat).toInt) (x2 := (xs (i + (2 : Nat)).toNat).toInt) Rl (i32_toInt _)
  obtain ⟨n1, h1⟩ := ((gt_shape_l M ((xs (i + (1 : Nat)).toNat).toInt) ((xs (i + (2 : Nat)).toNat).toInt)).2 _).mp e1
  obtain ⟨n2, h2⟩ := ((md_shape_l M1 ((xs (i + (1 : Nat)).toNat).toInt) ((xs (i + (2 : Nat)).toNat).toInt)).2 _).mp e2
  have nil : gcans [] := fun v hv => by cases hv
  refine k_aload (k := 1) C (t := 2) (x := 117) rfl (Or.inl rfl) (by decide +kernel) ?_
  refine k_arg (kk := 1) C hX hb hbA hi hL0 (by decide) (by decide +kernel) (by decide +kernel) (by decide +kernel) (by decide +kernel) (by decide +kernel) ?_
  refine k_arg (kk := 2) C hX hb hbA hi hL0 (by decide) (by decide +kernel) (by decide +kernel) (by decide +kernel) (by decide +kernel) (by decide +kernel) ?_
  refine kx_call (N := 227) (vi := true) (w0 := 8) (as := [(2, 117), (0, (xs (i + (1 : Nat)).toNat).toInt), (0, (xs (i + (2 : Nat)).toNat).toInt)]) (st := []) (σ' := M1) (v := r) (nn := n1) C (gm_gt_shape (m := 119) (zlim_inj C.2.2.2.2.2.2.1 (by rw [hN]; decide)) (show 119 ≤ 227 by decide)) (Or.inl q1968) (by omega) (by omega) r3 r4 (by rw [hN]; decide) hcs ok hAZ (by decide) (gft_inl h1) hI (gcans_cons.mpr ⟨gcan2, gcans_cons.mpr ⟨gcan0.mpr (i32_toInt _), gcans_cons.mpr ⟨gcan0.mpr (i32_toInt _), nil⟩⟩⟩) nil rfl (Or.inr (Or.inr ⟨by decide, by decide, 117, _, rfl, by decide +kernel, show 117 < 227 by decide⟩)) (show (0 : Nat) ≤ 8 by decide) (fun a ha h => absurd (hlt a ha) (by omega)) ⟨fun _ => by decide, fun _ => rfl⟩ (by decide +kernel) ?_
  intro I1 c1
  refine k_aload (k := 2) C (t := 2) (x := 119) rfl (Or.inl rfl) (by decide +kernel) ?_
  refine k_arg (kk := 1) C hX hb hbA hi hL0 (by decide) (by decide +kernel) (by decide +kernel) (by decide +kernel) (by decide +kernel) (by decide +kernel) ?_
  refine k_arg (kk := 2) C hX hb hbA hi hL0 (by decide) (by decide +kernel) (by decide +kernel) (by decide +kernel) (by decide +kernel) (by decide +kernel) ?_
  refine kx_call (N := 227) (vi := true) (w0 := 8) (as := [(2, 119), (0, (xs (i + (1 : Nat)).toNat).toInt), (0, (xs (i + (2 : Nat)).toNat).toInt)]) (st := [(0, r)]) (σ' := M2) (v := r) (nn := n2) C (gm_md_shape (m := 227) (zlim_inj C.2.2.2.2.2.2.1 (by rw [hN]; decide)) (show 227 ≤ 227 by decide) (show gStop.toNat < 227 by decide)) (Or.inl q3089) (by omega) (by omega) r3 r4 (by rw [hN]; decide) hcs ok hAZ (by decide) (gft_inl h2) I1 (gcans_cons.mpr ⟨gcan2, gcans_cons.mpr ⟨gcan0.mpr (i32_toInt _), gcans_cons.mpr ⟨gcan0.mpr (i32_toInt _), nil⟩⟩⟩) (gcans_cons.mpr ⟨c1 (by decide), nil⟩) rfl (Or.inr (Or.inr ⟨by decide, by decide, 119, _, rfl, by decide +kernel, show 119 < 227 by decide⟩)) (by simp [cv, Value.category]) (fun a ha h => absurd (hlt a ha) (by omega)) ⟨fun _ => by decide, fun _ => rfl⟩ (by decide +kernel) ?_
  intro I2 _
  show kAt p l e R s m args below meth c Q 4 A Z M2 cs n cells slots _ (lwL i) [(0, r), (0, r)]
  refine k_eq (tgt := 638) (off := 94) C (by decide +kernel) (by decide) ?_
  exact K M2 I2 R2
theorem lc_code (H : lawC p s m args c R Z A cs cells slots L xs) (hi : 0 ≤ i ∧ i + 6 ≤ L) (hI : gI 227 M) (Rl : RL M) (K : ∀ M2, gI 227 M2 → RL M2 → kAt p l e R s m args below meth c Q 4 A Z M2 cs n cells slots 638 (lwL i) []) : kAt p l e R s m args below meth c Q 4 A Z M cs n cells slots 549 (lwL i) [] := by
  obtain ⟨C, ⟨hX, hb, hbA, hL0⟩, hN, ok, hcs, hlt, hAZ, r1, r2, r3, r4⟩ := H
  obtain ⟨M1, r, M2, e1, e2, R2⟩ := st_code (x1 := (xs (i + (1 : Nat)).toNat).toInt) (x2 := (xs (i + (2 : Nat)).toNat).toInt) Rl (i32_toInt _)
  obtain ⟨n1, h1⟩ := ((gt_code_l M ((xs (i + (1 : Nat)).toNat).toInt) ((xs (i + (2 : Nat)).toNat).toInt)).2 _).mp e1
  obtain ⟨n2, h2⟩ := ((md_code_l M1 ((xs (i + (1 : Nat)).toNat).toInt) ((xs (i + (2 : Nat)).toNat).toInt)).2 _).mp e2
  have nil : gcans [] := fun v hv => by cases hv
  refine k_aload (k := 1) C (t := 2) (x := 117) rfl (Or.inl rfl) (by decide +kernel) ?_
  refine k_arg (kk := 1) C hX hb hbA hi hL0 (by decide) (by decide +kernel) (by decide +kernel) (by decide +kernel) (by decide +kernel) (by decide +kernel) ?_
  refine k_arg (kk := 2) C hX hb hbA hi hL0 (by decide) (by decide +kernel) (by decide +kernel) (by decide +kernel) (by decide +kernel) (by decide +kernel) ?_
  refine kx_call (N := 227) (vi := true) (w0 := 8) (as := [(2, 117), (0, (xs (i + (1 : Nat)).toNat).toInt), (0, (xs (i + (2 : Nat)).toNat).toInt)]) (st := []) (σ' := M1) (v := r) (nn := n1) C (gm_gt_code (m := 119) (zlim_inj C.2.2.2.2.2.2.1 (by rw [hN]; decide)) (show 119 ≤ 227 by decide)) (Or.inl q1972) (by omega) (by omega) r3 r4 (by rw [hN]; decide) hcs ok hAZ (by decide) (gft_inl h1) hI (gcans_cons.mpr ⟨gcan2, gcans_cons.mpr ⟨gcan0.mpr (i32_toInt _), gcans_cons.mpr ⟨gcan0.mpr (i32_toInt _), nil⟩⟩⟩) nil rfl (Or.inr (Or.inr ⟨by decide, by decide, 117, _, rfl, by decide +kernel, show 117 < 227 by decide⟩)) (show (0 : Nat) ≤ 8 by decide) (fun a ha h => absurd (hlt a ha) (by omega)) ⟨fun _ => by decide, fun _ => rfl⟩ (by decide +kernel) ?_
  intro I1 c1
  refine k_aload (k := 2) C (t := 2) (x := 119) rfl (Or.inl rfl) (by decide +kernel) ?_
  refine k_arg (kk := 1) C hX hb hbA hi hL0 (by decide) (by decide +kernel) (by decide +kernel) (by decide +kernel) (by decide +kernel) (by decide +kernel) ?_
  refine k_arg (kk := 2) C hX hb hbA hi hL0 (by decide) (by decide +kernel) (by decide +kernel) (by decide +kernel) (by decide +kernel) (by decide +kernel) ?_
  refine kx_call (N := 227) (vi := true) (w0 := 8) (as := [(2, 119), (0, (xs (i + (1 : Nat)).toNat).toInt), (0, (xs (i + (2 : Nat)).toNat).toInt)]) (st := [(0, r)]) (σ' := M2) (v := r) (nn := n2) C (gm_md_code (m := 227) (zlim_inj C.2.2.2.2.2.2.1 (by rw [hN]; decide)) (show 227 ≤ 227 by decide) (show gStop.toNat < 227 by decide)) (Or.inl q3093) (by omega) (by omega) r3 r4 (by rw [hN]; decide) hcs ok hAZ (by decide) (gft_inl h2) I1 (gcans_cons.mpr ⟨gcan2, gcans_cons.mpr ⟨gcan0.mpr (i32_toInt _), gcans_cons.mpr ⟨gcan0.mpr (i32_toInt _), nil⟩⟩⟩) (gcans_cons.mpr ⟨c1 (by decide), nil⟩) rfl (Or.inr (Or.inr ⟨by decide, by decide, 119, _, rfl, by decide +kernel, show 119 < 227 by decide⟩)) (by simp [cv, Value.category]) (fun a ha h => absurd (hlt a ha) (by omega)) ⟨fun _ => by decide, fun _ => rfl⟩ (by decide +kernel) ?_
  intro I2 _
  show kAt p l e R s m args below meth c Q 4 A Z M2 cs n cells slots _ (lwL i) [(0, r), (0, r)]
  refine k_eq (tgt := 638) (off := 61) C (by decide +kernel) (by decide) ?_
  exact K M2 I2 R2
theorem lc_frame (H : lawC p s m args c R Z A cs cells slots L xs) (hi : 0 ≤ i ∧ i + 6 ≤ L) (hI : gI 227 M) (Rl : RL M) (K : ∀ M2, gI 227 M2 → RL M2 → kAt p l e R s m args below meth c Q 4 A Z M2 cs n cells slots 638 (lwL i) []) : kAt p l e R s m args below meth c Q 4 A Z M cs n cells slots 582 (lwL i) [] := by
  obtain ⟨C, ⟨hX, hb, hbA, hL0⟩, hN, ok, hcs, hlt, hAZ, r1, r2, r3, r4⟩ := H
  obtain ⟨M1, r, M2, e1, e2, R2⟩ := st_frame (x1 := (xs (i + (1 : Nat)).toNat).toInt) (x2 := (xs (i + (2 : Nat)).toNat).toInt) Rl (i32_toInt _)
  obtain ⟨n1, h1⟩ := ((gt_frame_l M ((xs (i + (1 : Nat)).toNat).toInt) ((xs (i + (2 : Nat)).toNat).toInt)).2 _).mp e1
  obtain ⟨n2, h2⟩ := ((md_frame_l M1 ((xs (i + (1 : Nat)).toNat).toInt) ((xs (i + (2 : Nat)).toNat).toInt)).2 _).mp e2
  have nil : gcans [] := fun v hv => by cases hv
  refine k_aload (k := 1) C (t := 2) (x := 117) rfl (Or.inl rfl) (by decide +kernel) ?_
  refine k_arg (kk := 1) C hX hb hbA hi hL0 (by decide) (by decide +kernel) (by decide +kernel) (by decide +kernel) (by decide +kernel) (by decide +kernel) ?_
  refine k_arg (kk := 2) C hX hb hbA hi hL0 (by decide) (by decide +kernel) (by decide +kernel) (by decide +kernel) (by decide +kernel) (by decide +kernel) ?_
  refine kx_call (N := 227) (vi := true) (w0 := 8) (as := [(2, 117), (0, (xs (i + (1 : Nat)).toNat).toInt), (0, (xs (i + (2 : Nat)).toNat).toInt)]) (st := []) (σ' := M1) (v := r) (nn := n1) C (gm_gt_frame (m := 119) (zlim_inj C.2.2.2.2.2.2.1 (by rw [hN]; decide)) (show 119 ≤ 227 by decide)) (Or.inl q1976) (by omega) (by omega) r3 r4 (by rw [hN]; decide) hcs ok hAZ (by decide) (gft_inl h1) hI (gcans_cons.mpr ⟨gcan2, gcans_cons.mpr ⟨gcan0.mpr (i32_toInt _), gcans_cons.mpr ⟨gcan0.mpr (i32_toInt _), nil⟩⟩⟩) nil rfl (Or.inr (Or.inr ⟨by decide, by decide, 117, _, rfl, by decide +kernel, show 117 < 227 by decide⟩)) (show (0 : Nat) ≤ 8 by decide) (fun a ha h => absurd (hlt a ha) (by omega)) ⟨fun _ => by decide, fun _ => rfl⟩ (by decide +kernel) ?_
  intro I1 c1
  refine k_aload (k := 2) C (t := 2) (x := 119) rfl (Or.inl rfl) (by decide +kernel) ?_
  refine k_arg (kk := 1) C hX hb hbA hi hL0 (by decide) (by decide +kernel) (by decide +kernel) (by decide +kernel) (by decide +kernel) (by decide +kernel) ?_
  refine k_arg (kk := 2) C hX hb hbA hi hL0 (by decide) (by decide +kernel) (by decide +kernel) (by decide +kernel) (by decide +kernel) (by decide +kernel) ?_
  refine kx_call (N := 227) (vi := true) (w0 := 8) (as := [(2, 119), (0, (xs (i + (1 : Nat)).toNat).toInt), (0, (xs (i + (2 : Nat)).toNat).toInt)]) (st := [(0, r)]) (σ' := M2) (v := r) (nn := n2) C (gm_md_frame (m := 227) (zlim_inj C.2.2.2.2.2.2.1 (by rw [hN]; decide)) (show 227 ≤ 227 by decide) (show gStop.toNat < 227 by decide)) (Or.inl q3097) (by omega) (by omega) r3 r4 (by rw [hN]; decide) hcs ok hAZ (by decide) (gft_inl h2) I1 (gcans_cons.mpr ⟨gcan2, gcans_cons.mpr ⟨gcan0.mpr (i32_toInt _), gcans_cons.mpr ⟨gcan0.mpr (i32_toInt _), nil⟩⟩⟩) (gcans_cons.mpr ⟨c1 (by decide), nil⟩) rfl (Or.inr (Or.inr ⟨by decide, by decide, 119, _, rfl, by decide +kernel, show 119 < 227 by decide⟩)) (by simp [cv, Value.category]) (fun a ha h => absurd (hlt a ha) (by omega)) ⟨fun _ => by decide, fun _ => rfl⟩ (by decide +kernel) ?_
  intro I2 _
  show kAt p l e R s m args below meth c Q 4 A Z M2 cs n cells slots _ (lwL i) [(0, r), (0, r)]
  refine k_eq (tgt := 638) (off := 28) C (by decide +kernel) (by decide) ?_
  exact K M2 I2 R2
theorem lc_total (H : lawC p s m args c R Z A cs cells slots L xs) (hi : 0 ≤ i ∧ i + 6 ≤ L) (hI : gI 227 M) (Rl : RL M) (K : ∀ M2, gI 227 M2 → RL M2 → kAt p l e R s m args below meth c Q 4 A Z M2 cs n cells slots 638 (lwL i) []) : kAt p l e R s m args below meth c Q 4 A Z M cs n cells slots 615 (lwL i) [] := by
  obtain ⟨C, ⟨hX, hb, hbA, hL0⟩, hN, ok, hcs, hlt, hAZ, r1, r2, r3, r4⟩ := H
  obtain ⟨M1, r, M2, e1, e2, R2⟩ := st_total (x1 := (xs (i + (1 : Nat)).toNat).toInt) Rl
  obtain ⟨n1, h1⟩ := ((gt_total_l M ((xs (i + (1 : Nat)).toNat).toInt)).2 _).mp e1
  obtain ⟨n2, h2⟩ := ((md_total_l M1 ((xs (i + (1 : Nat)).toNat).toInt)).2 _).mp e2
  have nil : gcans [] := fun v hv => by cases hv
  refine k_aload (k := 1) C (t := 2) (x := 117) rfl (Or.inl rfl) (by decide +kernel) ?_
  refine k_arg (kk := 1) C hX hb hbA hi hL0 (by decide) (by decide +kernel) (by decide +kernel) (by decide +kernel) (by decide +kernel) (by decide +kernel) ?_
  refine kx_call (N := 227) (vi := true) (w0 := 8) (as := [(2, 117), (0, (xs (i + (1 : Nat)).toNat).toInt)]) (st := []) (σ' := M1) (v := r) (nn := n1) C (gm_gt_total (m := 119) (zlim_inj C.2.2.2.2.2.2.1 (by rw [hN]; decide)) (show 119 ≤ 227 by decide)) (Or.inl q1980) (by omega) (by omega) r3 r4 (by rw [hN]; decide) hcs ok hAZ (by decide) (gft_inl h1) hI (gcans_cons.mpr ⟨gcan2, gcans_cons.mpr ⟨gcan0.mpr (i32_toInt _), nil⟩⟩) nil rfl (Or.inr (Or.inr ⟨by decide, by decide, 117, _, rfl, by decide +kernel, show 117 < 227 by decide⟩)) (show (0 : Nat) ≤ 8 by decide) (fun a ha h => absurd (hlt a ha) (by omega)) ⟨fun _ => by decide, fun _ => rfl⟩ (by decide +kernel) ?_
  intro I1 c1
  refine k_aload (k := 2) C (t := 2) (x := 119) rfl (Or.inl rfl) (by decide +kernel) ?_
  refine k_arg (kk := 1) C hX hb hbA hi hL0 (by decide) (by decide +kernel) (by decide +kernel) (by decide +kernel) (by decide +kernel) (by decide +kernel) ?_
  refine kx_call (N := 227) (vi := true) (w0 := 8) (as := [(2, 119), (0, (xs (i + (1 : Nat)).toNat).toInt)]) (st := [(0, r)]) (σ' := M2) (v := r) (nn := n2) C (gm_md_total (m := 227) (zlim_inj C.2.2.2.2.2.2.1 (by rw [hN]; decide)) (show 227 ≤ 227 by decide) (show gStop.toNat < 227 by decide)) (Or.inl q3101) (by omega) (by omega) r3 r4 (by rw [hN]; decide) hcs ok hAZ (by decide) (gft_inl h2) I1 (gcans_cons.mpr ⟨gcan2, gcans_cons.mpr ⟨gcan0.mpr (i32_toInt _), nil⟩⟩) (gcans_cons.mpr ⟨c1 (by decide), nil⟩) rfl (Or.inr (Or.inr ⟨by decide, by decide, 119, _, rfl, by decide +kernel, show 119 < 227 by decide⟩)) (by simp [cv, Value.category]) (fun a ha h => absurd (hlt a ha) (by omega)) ⟨fun _ => by decide, fun _ => rfl⟩ (by decide +kernel) ?_
  intro I2 _
  show kAt p l e R s m args below meth c Q 4 A Z M2 cs n cells slots _ (lwL i) [(0, r), (0, r)]
  refine k_eq (tgt := 638) (off := 5) C (by decide +kernel) (by decide) ?_
  exact K M2 I2 R2
end LC
