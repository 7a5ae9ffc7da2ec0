/-! contracts of the printed methods -/
def gall {α : Type} (P : Nat → α → Prop) : List (Nat × α) → Prop
  | [] => True
  | (i, a) :: r => P i a ∧ gall P r
theorem gall_spec {α : Type} {P : Nat → α → Prop} : ∀ {xs : List (Nat × α)}, gall P xs → ∀ i a, gat xs i = some a → P i a
  | [], _, _, _, h => by cases h
  | (j, b) :: r, hp, i, a, h => by
    unfold gat at h
    split at h
    · rename_i e
      cases h
      rw [← Nat.eq_of_beq_eq_true e]
      exact hp.1
    · exact gall_spec hp.2 i a h
def gFl (own : String) (i : Nat) (x : Nat × Int × Nat) : Prop := gFld own i x.1 x.2.1 x.2.2
def gCl (l : Launch) (Z : gZ) (own : String) (R : Room) (i : Nat) (x : Nat × Nat × Nat × (gFn ⊕ gFt)) : Prop := gCal l Z own R i x.1 x.2.1 x.2.2.1 x.2.2.2 ∨ gCalC Z own R i x.1 x.2.1 x.2.2.1 x.2.2.2
/-- a method that may be called -/
def gCee (l : Launch) (Z : gZ) (y : MethodName) (ws : List Cond) (F Lc maxL k rc rt : Nat) (f : gFn ⊕ gFt) : Prop := gMet l Z y ws ⟨F, 0, 0, Lc⟩ rt f ∧ gCode y ws maxL ∧ Cond.initialized y.cls ∈ lw_all ∧
  (y.cls ≠ "java/lang/invoke/MethodHandle" ∧ y.cls ≠ "java/lang/invoke/VarHandle") ∧
  ((rc = 0 ∧ (parseMethodDescriptor y.desc).map (fun d => d.parameters.length) = some k ∧ Cond.static y ∈ lw_all) ∨
     (rc ≠ 0 ∧ (rc = 100 ∨ (10 ≤ rc ∧ rc ≠ 19 ∧ rc < 21)) ∧ (parseMethodDescriptor y.desc).map (fun d => d.parameters.length + 1) = some k ∧ Cond.instanceMethod y ∈ lw_all ∧ Cond.selects (gcn rc) y y ∈ lw_all))
section CEE
variable {l : Launch} {Z : gZ} {y : MethodName} {ws : List Cond} {F Lc F' Lc' maxL k rc rt : Nat} {f : gFn ⊕ gFt} {own : String} {idx : Nat}
theorem gCee.cal (h : gCee l Z y ws F Lc maxL k rc rt f) (h1 : F + 1 ≤ F') (h2 : 8 + (maxL + 11) + Lc ≤ Lc') (hl : Cond.methodLink own idx y ∈ lw_all) : gCl l Z own ⟨F', 0, 0, Lc'⟩ idx (k, rc, rt, f) := by
  obtain ⟨a, b, c, d, e⟩ := h
  refine Or.inl ⟨y, ws, ⟨F, 0, 0, Lc⟩, maxL, a, ⟨rfl, rfl, h1, h2⟩, b, c, d, ?_⟩
  rcases e with ⟨e1, e2, e3⟩ | ⟨e1, e2, e3, e4, e5⟩
  · exact Or.inl ⟨e1, e2, hl, e3⟩
  · exact Or.inr ⟨e1, e2, e3, Or.inl hl, e4, e5⟩
theorem gCee.caln {host : String} (h : gCee l Z y ws F Lc maxL k rc rt f) (h0 : rc ≠ 0) (h1 : F + 1 ≤ F') (h2 : 8 + (maxL + 11) + Lc ≤ Lc') (hl : Cond.methodLinkNest own idx y host ∈ lw_tbl) : gCl l Z own ⟨F', 0, 0, Lc'⟩ idx (k, rc, rt, f) := by
  obtain ⟨a, b, c, d, e⟩ := h
  refine Or.inl ⟨y, ws, ⟨F, 0, 0, Lc⟩, maxL, a, ⟨rfl, rfl, h1, h2⟩, b, c, d, ?_⟩
  rcases e with ⟨e1, e2, e3⟩ | ⟨e1, e2, e3, e4, e5⟩
  · exact absurd e1 h0
  · exact Or.inr ⟨e1, e2, e3, Or.inr ⟨_, hl⟩, e4, e5⟩
theorem gcpy {mm : Nat × Nat} (hm : mm.1 ≤ zN Z) (h1 : 1 ≤ F') (h2 : 120 ≤ Lc') (w1 : Cond.methodLink own idx arraycopyName ∈ lw_all) (w2 : Cond.native arraycopyName ∈ lw_all) (w3 : Cond.static arraycopyName ∈ lw_all) (w4 : Cond.initialized "java/lang/System" ∈ lw_all) : gCl l Z own ⟨F', 0, 0, Lc'⟩ idx (5, 0, 5, .inl (jcopy mm)) :=
  Or.inr ⟨mm, rfl, hm, rfl, rfl, rfl, h1, by
    have : nativeFrameWords "java/lang/System" "arraycopy" 5 + 11 ≤ 100 := by decide
    show _ ≤ Lc'
    omega, w1, w2, w3, w4⟩
theorem gCee.st {cc : ByteArray} {ret : Option FieldType} (h : gMet l Z y (ws_ y cc maxL ret) ⟨F, 0, 0, Lc⟩ rt f) (q : Cond.code y cc maxL ret ∈ lw_all) (qi : Cond.initialized y.cls ∈ lw_all) (hy : y.cls ≠ "java/lang/invoke/MethodHandle" ∧ y.cls ≠ "java/lang/invoke/VarHandle")
    (hd : (parseMethodDescriptor y.desc).map (fun d => d.parameters.length) = some k) (qs : Cond.static y ∈ lw_all) : gCee l Z y (ws_ y cc maxL ret) F Lc maxL k 0 rt f :=
  ⟨h, Or.inl ⟨cc, ret, rfl, q⟩, qi, hy, Or.inl ⟨rfl, hd, qs⟩⟩
theorem gCee.vi {cc : ByteArray} {ret : Option FieldType} (hrc : rc ≠ 0 ∧ (rc = 100 ∨ (10 ≤ rc ∧ rc ≠ 19 ∧ rc < 21))) (h : gMet l Z y (ws_ y cc maxL ret) ⟨F, 0, 0, Lc⟩ rt f) (q : Cond.code y cc maxL ret ∈ lw_all) (qi : Cond.initialized y.cls ∈ lw_all) (hy : y.cls ≠ "java/lang/invoke/MethodHandle" ∧ y.cls ≠ "java/lang/invoke/VarHandle")
    (hd : (parseMethodDescriptor y.desc).map (fun d => d.parameters.length) = some k) (qs : Cond.instanceMethod y ∈ lw_all) (ql : Cond.selects (gcn rc) y y ∈ lw_all) : gCee l Z y (ws_ y cc maxL ret) F Lc maxL (k + 1) rc rt f :=
  ⟨h, Or.inl ⟨cc, ret, rfl, q⟩, qi, hy, Or.inr ⟨hrc.1, hrc.2, by
    rw [Option.map_eq_some_iff] at hd ⊢
    obtain ⟨d, h1, h2⟩ := hd
    exact ⟨d, h1, by omega⟩, qs, ql⟩⟩
theorem gMet_none {rm : Room} : gMet l Z y ws rm rt (.inl (fun _ _ _ => none)) := by
  intro n as σ σ' x h
  simp [gft] at h
theorem gMet_none2 {rm : Room} : gMet l Z y ws rm rt (.inr (fun _ _ _ => none)) := by
  intro n as σ σ' x h
  simp [gft] at h
end CEE
theorem ds_0 : (parseMethodDescriptor "(II)I").map (fun d => d.parameters.length) = some 2 := by decide +kernel
theorem ds_1 : (parseMethodDescriptor "(J)J").map (fun d => d.parameters.length) = some 1 := by decide +kernel
theorem ds_2 : (parseMethodDescriptor "(JJ)J").map (fun d => d.parameters.length) = some 2 := by decide +kernel
theorem ds_3 : (parseMethodDescriptor "(J)I").map (fun d => d.parameters.length) = some 1 := by decide +kernel
theorem ds_4 : (parseMethodDescriptor "(JJ)I").map (fun d => d.parameters.length) = some 2 := by decide +kernel
theorem ds_5 : (parseMethodDescriptor "(IILjava/util/function/BiFunction;)I").map (fun d => d.parameters.length) = some 3 := by decide +kernel
theorem ds_6 : (parseMethodDescriptor "(II)V").map (fun d => d.parameters.length) = some 2 := by decide +kernel
theorem ds_7 : (parseMethodDescriptor "([BI)C").map (fun d => d.parameters.length) = some 2 := by decide +kernel
theorem ds_8 : (parseMethodDescriptor "(I)Z").map (fun d => d.parameters.length) = some 1 := by decide +kernel
theorem ds_9 : (parseMethodDescriptor "([BIII)I").map (fun d => d.parameters.length) = some 4 := by decide +kernel
theorem ds_10 : (parseMethodDescriptor "([BI[BII)I").map (fun d => d.parameters.length) = some 5 := by decide +kernel
theorem ds_11 : (parseMethodDescriptor "([B[B)I").map (fun d => d.parameters.length) = some 2 := by decide +kernel
theorem ds_12 : (parseMethodDescriptor "()B").map (fun d => d.parameters.length) = some 0 := by decide +kernel
theorem ds_13 : (parseMethodDescriptor "()I").map (fun d => d.parameters.length) = some 0 := by decide +kernel
theorem ds_14 : (parseMethodDescriptor "()Z").map (fun d => d.parameters.length) = some 0 := by decide +kernel
theorem ds_15 : (parseMethodDescriptor "(I)C").map (fun d => d.parameters.length) = some 1 := by decide +kernel
theorem ds_16 : (parseMethodDescriptor "(I)I").map (fun d => d.parameters.length) = some 1 := by decide +kernel
theorem ds_17 : (parseMethodDescriptor "(Ljava/lang/String;)I").map (fun d => d.parameters.length) = some 1 := by decide +kernel
theorem ds_18 : (parseMethodDescriptor "(J)V").map (fun d => d.parameters.length) = some 1 := by decide +kernel
theorem ds_19 : (parseMethodDescriptor "(I)V").map (fun d => d.parameters.length) = some 1 := by decide +kernel
theorem ds_20 : (parseMethodDescriptor "(LGraftTrees$Whole;LGraftTrees$Whole;)I").map (fun d => d.parameters.length) = some 2 := by decide +kernel
theorem ds_21 : (parseMethodDescriptor "(LGraftTrees$Whole;)V").map (fun d => d.parameters.length) = some 1 := by decide +kernel
theorem ds_22 : (parseMethodDescriptor "(LGraftTrees$Whole;LGraftTrees$Whole;)V").map (fun d => d.parameters.length) = some 2 := by decide +kernel
theorem ds_23 : (parseMethodDescriptor "(LGraftTrees$Whole;LGraftTrees$Whole;Z)Z").map (fun d => d.parameters.length) = some 3 := by decide +kernel
theorem ds_24 : (parseMethodDescriptor "(LGraftTrees$Whole;LGraftTrees$Whole;)Z").map (fun d => d.parameters.length) = some 2 := by decide +kernel
theorem ds_25 : (parseMethodDescriptor "(LGraftTrees$Whole;LGraftTrees$Whole;LGraftTrees$Whole;)V").map (fun d => d.parameters.length) = some 3 := by decide +kernel
theorem ds_26 : (parseMethodDescriptor "()V").map (fun d => d.parameters.length) = some 0 := by decide +kernel
theorem ds_27 : (parseMethodDescriptor "(I[BII)Z").map (fun d => d.parameters.length) = some 4 := by decide +kernel
theorem ds_28 : (parseMethodDescriptor "([BII)I").map (fun d => d.parameters.length) = some 3 := by decide +kernel
theorem ds_29 : (parseMethodDescriptor "(LGraftTrees$Whole;Z)I").map (fun d => d.parameters.length) = some 2 := by decide +kernel
theorem ds_30 : (parseMethodDescriptor "(ILGraftTrees$Whole;)V").map (fun d => d.parameters.length) = some 2 := by decide +kernel
theorem ds_31 : (parseMethodDescriptor "(II)Z").map (fun d => d.parameters.length) = some 2 := by decide +kernel
theorem ds_32 : (parseMethodDescriptor "([BII)V").map (fun d => d.parameters.length) = some 3 := by decide +kernel
theorem ds_33 : (parseMethodDescriptor "(Ljava/lang/String;)Z").map (fun d => d.parameters.length) = some 1 := by decide +kernel
theorem ds_34 : (parseMethodDescriptor "(IIII)Z").map (fun d => d.parameters.length) = some 4 := by decide +kernel
theorem ds_35 : (parseMethodDescriptor "(III)I").map (fun d => d.parameters.length) = some 3 := by decide +kernel
theorem ds_36 : (parseMethodDescriptor "(III)V").map (fun d => d.parameters.length) = some 3 := by decide +kernel
theorem ds_37 : (parseMethodDescriptor "([BII)Z").map (fun d => d.parameters.length) = some 3 := by decide +kernel
theorem ds_38 : (parseMethodDescriptor "(Ljava/lang/String;)V").map (fun d => d.parameters.length) = some 1 := by decide +kernel
theorem ds_39 : (parseMethodDescriptor "(IIJ)V").map (fun d => d.parameters.length) = some 3 := by decide +kernel
theorem ds_40 : (parseMethodDescriptor "(LGraftTrees$Parser;[BII)I").map (fun d => d.parameters.length) = some 4 := by decide +kernel
theorem ds_41 : (parseMethodDescriptor "(IIII)I").map (fun d => d.parameters.length) = some 4 := by decide +kernel
theorem ds_42 : (parseMethodDescriptor "(IIII)V").map (fun d => d.parameters.length) = some 4 := by decide +kernel
theorem ds_43 : (parseMethodDescriptor "(IJ)V").map (fun d => d.parameters.length) = some 2 := by decide +kernel
theorem ds_44 : (parseMethodDescriptor "(IJJ)Z").map (fun d => d.parameters.length) = some 3 := by decide +kernel
theorem ds_45 : (parseMethodDescriptor "(IIZ)V").map (fun d => d.parameters.length) = some 3 := by decide +kernel
theorem ds_46 : (parseMethodDescriptor "(IIZ)Z").map (fun d => d.parameters.length) = some 3 := by decide +kernel
theorem ds_47 : (parseMethodDescriptor "(IIIII)V").map (fun d => d.parameters.length) = some 5 := by decide +kernel
theorem ds_48 : (parseMethodDescriptor "(IIJ)Z").map (fun d => d.parameters.length) = some 3 := by decide +kernel
theorem ds_49 : (parseMethodDescriptor "(IJJ)V").map (fun d => d.parameters.length) = some 3 := by decide +kernel
theorem ds_50 : (parseMethodDescriptor "(IIIII)I").map (fun d => d.parameters.length) = some 5 := by decide +kernel
theorem ds_51 : (parseMethodDescriptor "(JJ)Z").map (fun d => d.parameters.length) = some 2 := by decide +kernel
theorem ds_52 : (parseMethodDescriptor "(I[BII)I").map (fun d => d.parameters.length) = some 4 := by decide +kernel
theorem ds_53 : (parseMethodDescriptor "(III)Z").map (fun d => d.parameters.length) = some 3 := by decide +kernel
theorem ds_54 : (parseMethodDescriptor "(II)LGraftTreesModel$Stop;").map (fun d => d.parameters.length) = some 2 := by decide +kernel
theorem ds_55 : (parseMethodDescriptor "()J").map (fun d => d.parameters.length) = some 0 := by decide +kernel
theorem ds_56 : (parseMethodDescriptor "(JI)I").map (fun d => d.parameters.length) = some 2 := by decide +kernel
theorem ds_57 : (parseMethodDescriptor "(IJ[I)V").map (fun d => d.parameters.length) = some 3 := by decide +kernel
theorem ds_58 : (parseMethodDescriptor "([I)Z").map (fun d => d.parameters.length) = some 1 := by decide +kernel
theorem ds_59 : (parseMethodDescriptor "([I[I)I").map (fun d => d.parameters.length) = some 2 := by decide +kernel
theorem ds_60 : (parseMethodDescriptor "(II)J").map (fun d => d.parameters.length) = some 2 := by decide +kernel
theorem ds_61 : (parseMethodDescriptor "(IJ)I").map (fun d => d.parameters.length) = some 2 := by decide +kernel
theorem ds_62 : (parseMethodDescriptor "(IJI)I").map (fun d => d.parameters.length) = some 3 := by decide +kernel
