set_option maxRecDepth 100000
theorem F_fr : gall (gFl "GraftTrees$Forest") f_fr := ⟨Or.inl ⟨RX3, TX3, 42, 1, by decide, by decide, rfl, rfl, by decide, rfl, Or.inl q466⟩,
  Or.inl ⟨RX3, TX3, 42, 2, by decide, by decide, rfl, rfl, by decide, rfl, Or.inl q470⟩,
  Or.inl ⟨RX3, TX3, 42, 3, by decide, by decide, rfl, rfl, by decide, rfl, Or.inl q472⟩,
  Or.inl ⟨RX3, TX3, 42, 4, by decide, by decide, rfl, rfl, by decide, rfl, Or.inl q476⟩,
  Or.inl ⟨RX3, TX3, 42, 5, by decide, by decide, rfl, rfl, by decide, rfl, Or.inl q479⟩,
  Or.inl ⟨RX3, TX3, 42, 6, by decide, by decide, rfl, rfl, by decide, rfl, Or.inl q482⟩,
  Or.inl ⟨RX3, TX3, 42, 7, by decide, by decide, rfl, rfl, by decide, rfl, Or.inl q484⟩,
  Or.inl ⟨RX3, TX3, 42, 8, by decide, by decide, rfl, rfl, by decide, rfl, Or.inl q486⟩,
  Or.inl ⟨RX3, TX3, 42, 9, by decide, by decide, rfl, rfl, by decide, rfl, Or.inl q489⟩,
  Or.inl ⟨RX3, TX3, 42, 10, by decide, by decide, rfl, rfl, by decide, rfl, Or.inl q491⟩,
  Or.inl ⟨RX3, TX3, 42, 13, by decide, by decide, rfl, rfl, by decide, rfl, Or.inl q500⟩,
  Or.inl ⟨RX3, TX3, 42, 14, by decide, by decide, rfl, rfl, by decide, rfl, Or.inl q503⟩,
  Or.inl ⟨RX3, TX3, 42, 15, by decide, by decide, rfl, rfl, by decide, rfl, Or.inl q506⟩,
  Or.inl ⟨RX3, TX3, 42, 17, by decide, by decide, rfl, rfl, by decide, rfl, Or.inl q510⟩,
  Or.inl ⟨RX3, TX3, 42, 18, by decide, by decide, rfl, rfl, by decide, rfl, Or.inl q513⟩,
  Or.inl ⟨RX3, TX3, 42, 20, by decide, by decide, rfl, rfl, by decide, rfl, Or.inl q517⟩,
  Or.inl ⟨RX3, TX3, 42, 21, by decide, by decide, rfl, rfl, by decide, rfl, Or.inl q521⟩,
  Or.inl ⟨RX3, TX3, 42, 22, by decide, by decide, rfl, rfl, by decide, rfl, Or.inl q525⟩,
  Or.inl ⟨RX3, TX3, 42, 23, by decide, by decide, rfl, rfl, by decide, rfl, Or.inl q528⟩,
  Or.inl ⟨RX3, TX3, 42, 24, by decide, by decide, rfl, rfl, by decide, rfl, Or.inl q531⟩,
  Or.inl ⟨RX3, TX3, 42, 25, by decide, by decide, rfl, rfl, by decide, rfl, Or.inl q533⟩,
  Or.inl ⟨RX3, TX3, 42, 26, by decide, by decide, rfl, rfl, by decide, rfl, Or.inl q535⟩,
  Or.inl ⟨RX3, TX3, 42, 27, by decide, by decide, rfl, rfl, by decide, rfl, Or.inl q538⟩,
  Or.inl ⟨RX3, TX3, 42, 28, by decide, by decide, rfl, rfl, by decide, rfl, Or.inl q541⟩,
  Or.inl ⟨RX3, TX3, 42, 29, by decide, by decide, rfl, rfl, by decide, rfl, Or.inl q544⟩,
  Or.inl ⟨RX3, TX3, 42, 30, by decide, by decide, rfl, rfl, by decide, rfl, Or.inl q548⟩,
  Or.inl ⟨RX3, TX3, 42, 38, by decide, by decide, rfl, rfl, by decide, rfl, Or.inl q559⟩,
  Or.inl ⟨RX3, TX3, 42, 39, by decide, by decide, rfl, rfl, by decide, rfl, Or.inl q560⟩,
  Or.inl ⟨RX3, TX3, 42, 40, by decide, by decide, rfl, rfl, by decide, rfl, Or.inl q561⟩,
  Or.inl ⟨RX3, TX3, 42, 41, by decide, by decide, rfl, rfl, by decide, rfl, Or.inl q563⟩,
  Or.inl ⟨RX3, TX3, 42, 0, by decide, by decide, rfl, rfl, by decide, rfl, Or.inl q465⟩,
  Or.inl ⟨RX3, TX3, 42, 12, by decide, by decide, rfl, rfl, by decide, rfl, Or.inl q499⟩,
  Or.inl ⟨RX3, TX3, 42, 16, by decide, by decide, rfl, rfl, by decide, rfl, Or.inl q509⟩,
  Or.inl ⟨RX3, TX3, 42, 19, by decide, by decide, rfl, rfl, by decide, rfl, Or.inl q516⟩,
  Or.inl ⟨RX3, TX3, 42, 31, by decide, by decide, rfl, rfl, by decide, rfl, Or.inl q550⟩,
  Or.inl ⟨RX2, TX2, 15, 2, by decide, by decide, rfl, rfl, by decide, rfl, Or.inr ⟨_, q279⟩⟩,
  Or.inl ⟨RX2, TX2, 15, 0, by decide, by decide, rfl, rfl, by decide, rfl, Or.inr ⟨_, q269⟩⟩,
  Or.inl ⟨RX2, TX2, 15, 1, by decide, by decide, rfl, rfl, by decide, rfl, Or.inr ⟨_, q274⟩⟩,
  Or.inl ⟨RX3, TX3, 42, 32, by decide, by decide, rfl, rfl, by decide, rfl, Or.inl q553⟩,
  Or.inl ⟨RX3, TX3, 42, 33, by decide, by decide, rfl, rfl, by decide, rfl, Or.inl q554⟩,
  Or.inl ⟨RX3, TX3, 42, 34, by decide, by decide, rfl, rfl, by decide, rfl, Or.inl q555⟩,
  Or.inl ⟨RX7, TX7, 23, 11, by decide, by decide, rfl, rfl, by decide, rfl, Or.inr ⟨_, q867⟩⟩,
  Or.inl ⟨RX7, TX7, 23, 12, by decide, by decide, rfl, rfl, by decide, rfl, Or.inr ⟨_, q869⟩⟩,
  Or.inl ⟨RX3, TX3, 42, 35, by decide, by decide, rfl, rfl, by decide, rfl, Or.inl q556⟩,
  Or.inl ⟨RX7, TX7, 23, 15, by decide, by decide, rfl, rfl, by decide, rfl, Or.inr ⟨_, q875⟩⟩,
  Or.inl ⟨RX7, TX7, 23, 16, by decide, by decide, rfl, rfl, by decide, rfl, Or.inr ⟨_, q877⟩⟩,
  Or.inl ⟨RX7, TX7, 23, 13, by decide, by decide, rfl, rfl, by decide, rfl, Or.inr ⟨_, q871⟩⟩,
  Or.inl ⟨RX3, TX3, 42, 36, by decide, by decide, rfl, rfl, by decide, rfl, Or.inl q557⟩,
  Or.inl ⟨RX3, TX3, 42, 37, by decide, by decide, rfl, rfl, by decide, rfl, Or.inl q558⟩,
  Or.inl ⟨RX7, TX7, 23, 14, by decide, by decide, rfl, rfl, by decide, rfl, Or.inr ⟨_, q873⟩⟩,
  Or.inl ⟨RX7, TX7, 23, 1, by decide, by decide, rfl, rfl, by decide, rfl, Or.inr ⟨_, q849⟩⟩,
  Or.inl ⟨RX7, TX7, 23, 2, by decide, by decide, rfl, rfl, by decide, rfl, Or.inr ⟨_, q851⟩⟩,
  Or.inl ⟨RX7, TX7, 23, 6, by decide, by decide, rfl, rfl, by decide, rfl, Or.inr ⟨_, q859⟩⟩,
  Or.inl ⟨RX7, TX7, 23, 3, by decide, by decide, rfl, rfl, by decide, rfl, Or.inr ⟨_, q853⟩⟩,
  Or.inl ⟨RX7, TX7, 23, 4, by decide, by decide, rfl, rfl, by decide, rfl, Or.inr ⟨_, q855⟩⟩,
  Or.inl ⟨RX7, TX7, 23, 5, by decide, by decide, rfl, rfl, by decide, rfl, Or.inr ⟨_, q857⟩⟩,
  Or.inl ⟨RX7, TX7, 23, 7, by decide, by decide, rfl, rfl, by decide, rfl, Or.inr ⟨_, q861⟩⟩,
  Or.inl ⟨RX7, TX7, 23, 8, by decide, by decide, rfl, rfl, by decide, rfl, Or.inr ⟨_, q863⟩⟩,
  Or.inl ⟨RX4, TX4, 4, 3, by decide, by decide, rfl, rfl, by decide, rfl, Or.inr ⟨_, q352⟩⟩,
  trivial⟩
theorem C_fr : gall (gCst "GraftTrees$Forest") c_fr := ⟨Or.inr (Or.inr ⟨1, "print", rfl, List.mem_of_getElem? (i := 22) rfl⟩),
  Or.inr (Or.inr ⟨2, "new", rfl, List.mem_of_getElem? (i := 23) rfl⟩),
  Or.inr (Or.inr ⟨3, "kind", rfl, List.mem_of_getElem? (i := 24) rfl⟩),
  Or.inr (Or.inr ⟨4, "define", rfl, List.mem_of_getElem? (i := 25) rfl⟩),
  trivial⟩
theorem pn_fr : plainName "GraftTrees$Forest" = true := by decide +kernel
theorem mh_fr : "GraftTrees$Forest" ≠ "java/lang/invoke/MethodHandle" ∧ "GraftTrees$Forest" ≠ "java/lang/invoke/VarHandle" := by decide
theorem gm_fr_spell {l : Launch} {Z : gZ} {m : Nat} (hi : gInj Z) (hm : m ≤ zN Z) : gCee l Z yX3_spell (ws_ yX3_spell cX3_spell 3 (Option.some Jvm.ClassFile.FieldType.int)) 4 85 3 2 11 0 (.inl (fn_fr_spell m)) :=
  gCee.vi (k := 1) (by decide) (gmetF hi ⟨plainFor_of_name pn_fr, ok_fr_spell, hm, Or.inr (Or.inr (Or.inl ⟨rfl, rfl⟩)), rfl, fun i c k t hg => gall_spec F_fr i _ hg, gall_spec C_fr, fun i k rc rt f hg => gall_spec (P := gCl l Z "GraftTrees$Forest" ⟨4, 0, 0, 85⟩) (xs := (e_fr_spell m).2.2.2.1) ⟨(gm_st_length hi (Nat.zero_le _)).cal (by omega) (by omega) q391,
    (gm_st_charAt hi (Nat.zero_le _)).cal (by omega) (by omega) q401,
    trivial⟩ i _ hg⟩) q390 q229 mh_fr ds_17 q389 qs1
theorem gm_fr_function {l : Launch} {Z : gZ} {m : Nat} (hi : gInj Z) (hm : m ≤ zN Z) : gCee l Z yX3_function (ws_ yX3_function cX3_function 6 (Option.some Jvm.ClassFile.FieldType.int)) 2 144 6 4 11 0 (.inl (fn_fr_function m)) :=
  gCee.vi (k := 3) (by decide) (gmetF hi ⟨plainFor_of_name pn_fr, ok_fr_function, hm, Or.inr (Or.inr (Or.inl ⟨rfl, rfl⟩)), rfl, fun i c k t hg => gall_spec F_fr i _ hg, gall_spec C_fr, fun i k rc rt f hg => gall_spec (P := gCl l Z "GraftTrees$Forest" ⟨2, 0, 0, 144⟩) (xs := (e_fr_function m).2.2.2.1) ⟨(gm_hp_string hi hm).cal (by omega) (by omega) q443,
    trivial⟩ i _ hg⟩) q442 q229 mh_fr ds_28 q441 qs2
theorem gm_fr_rootOf {l : Launch} {Z : gZ} {m : Nat} (hi : gInj Z) (hm : m ≤ zN Z) : gCee l Z yX3_rootOf (ws_ yX3_rootOf cX3_rootOf 4 (Option.some Jvm.ClassFile.FieldType.int)) 0 0 4 2 11 0 (.inl (fn_fr_rootOf m)) :=
  gCee.vi (k := 1) (by decide) (gmetF hi ⟨plainFor_of_name pn_fr, ok_fr_rootOf, hm, Or.inr (Or.inr (Or.inl ⟨rfl, rfl⟩)), rfl, fun i c k t hg => gall_spec F_fr i _ hg, gall_spec C_fr, fun i k rc rt f hg => gall_spec (P := gCl l Z "GraftTrees$Forest" ⟨0, 0, 0, 0⟩) (xs := (e_fr_rootOf m).2.2.2.1) trivial i _ hg⟩) q457 q229 mh_fr ds_16 q456 qs3
theorem gm_fr_plant {l : Launch} {Z : gZ} {m : Nat} (hi : gInj Z) (hm : m ≤ zN Z) : gCee l Z yX3_plant (ws_ yX3_plant cX3_plant 3 (Option.none : Option Jvm.ClassFile.FieldType)) 5 169 3 2 11 5 (.inl (fn_fr_plant m)) :=
  gCee.vi (k := 1) (by decide) (gmetF hi ⟨plainFor_of_name pn_fr, ok_fr_plant, hm, Or.inr (Or.inr (Or.inr (Or.inr (Or.inr (Or.inr ⟨rfl, rfl⟩))))), rfl, fun i c k t hg => gall_spec F_fr i _ hg, gall_spec C_fr, fun i k rc rt f hg => gall_spec (P := gCl l Z "GraftTrees$Forest" ⟨5, 0, 0, 169⟩) (xs := (e_fr_plant m).2.2.2.1) ⟨(gm_fr_spell hi hm).cal (by omega) (by omega) q387,
    (gm_fr_function hi hm).cal (by omega) (by omega) q439,
    (gm_fr_rootOf hi hm).cal (by omega) (by omega) q454,
    trivial⟩ i _ hg⟩) q386 q229 mh_fr ds_38 q385 qs0
theorem gm_fr_text {l : Launch} {Z : gZ} {m : Nat} (hi : gInj Z) (hm : m ≤ zN Z) : gCee l Z yX3_text (ws_ yX3_text cX3_text 3 (Option.some Jvm.ClassFile.FieldType.int)) 5 144 3 2 11 0 (.inl (fn_fr_text m)) :=
  gCee.vi (k := 1) (by decide) (gmetF hi ⟨plainFor_of_name pn_fr, ok_fr_text, hm, Or.inr (Or.inr (Or.inl ⟨rfl, rfl⟩)), rfl, fun i c k t hg => gall_spec F_fr i _ hg, gall_spec C_fr, fun i k rc rt f hg => gall_spec (P := gCl l Z "GraftTrees$Forest" ⟨5, 0, 0, 144⟩) (xs := (e_fr_text m).2.2.2.1) ⟨(gm_fr_spell hi hm).cal (by omega) (by omega) q387,
    (gm_hp_string hi hm).cal (by omega) (by omega) q443,
    trivial⟩ i _ hg⟩) q464 q229 mh_fr ds_17 q463 qs4
theorem gm_fr_clear {l : Launch} {Z : gZ} {m : Nat} (hi : gInj Z) (hm : m ≤ zN Z) : gCee l Z yX3_clear (ws_ yX3_clear cX3_clear 2 (Option.none : Option Jvm.ClassFile.FieldType)) 6 191 2 1 11 5 (.inl (fn_fr_clear m)) :=
  gCee.vi (k := 0) (by decide) (gmetF hi ⟨plainFor_of_name pn_fr, ok_fr_clear, hm, Or.inr (Or.inr (Or.inr (Or.inr (Or.inr (Or.inr ⟨rfl, rfl⟩))))), rfl, fun i c k t hg => gall_spec F_fr i _ hg, gall_spec C_fr, fun i k rc rt f hg => gall_spec (P := gCl l Z "GraftTrees$Forest" ⟨6, 0, 0, 191⟩) (xs := (e_fr_clear m).2.2.2.1) ⟨(gm_hp_clear hi hm).cal (by omega) (by omega) q374,
    (gm_fr_plant hi hm).cal (by omega) (by omega) q383,
    (gm_fr_text hi hm).cal (by omega) (by omega) q461,
    trivial⟩ i _ hg⟩) q373 q229 mh_fr ds_26 q371 q372
theorem gm_fr_node {l : Launch} {Z : gZ} {m : Nat} (hi : gInj Z) (hm : m ≤ zN Z) : gCee l Z yX3_node (ws_ yX3_node cX3_node 3 (Option.some Jvm.ClassFile.FieldType.int)) 0 0 3 2 11 0 (.inl (fn_fr_node m)) :=
  gCee.vi (k := 1) (by decide) (gmetF hi ⟨plainFor_of_name pn_fr, ok_fr_node, hm, Or.inr (Or.inr (Or.inl ⟨rfl, rfl⟩)), rfl, fun i c k t hg => gall_spec F_fr i _ hg, gall_spec C_fr, fun i k rc rt f hg => gall_spec (P := gCl l Z "GraftTrees$Forest" ⟨0, 0, 0, 0⟩) (xs := (e_fr_node m).2.2.2.1) trivial i _ hg⟩) q1455 q229 mh_fr ds_16 q1454 qs42
theorem gm_fr_put {l : Launch} {Z : gZ} {m : Nat} (hi : gInj Z) (hm : m ≤ zN Z) : gCee l Z yX3_put (ws_ yX3_put cX3_put 4 (Option.some Jvm.ClassFile.FieldType.int)) 0 0 4 4 11 0 (.inl (fn_fr_put m)) :=
  gCee.vi (k := 3) (by decide) (gmetF hi ⟨plainFor_of_name pn_fr, ok_fr_put, hm, Or.inr (Or.inr (Or.inl ⟨rfl, rfl⟩)), rfl, fun i c k t hg => gall_spec F_fr i _ hg, gall_spec C_fr, fun i k rc rt f hg => gall_spec (P := gCl l Z "GraftTrees$Forest" ⟨0, 0, 0, 0⟩) (xs := (e_fr_put m).2.2.2.1) trivial i _ hg⟩) q1467 q229 mh_fr ds_35 q1466 qs45
theorem gm_fr_constant {l : Launch} {Z : gZ} {m : Nat} (hi : gInj Z) (hm : m ≤ zN Z) : gCee l Z yX3_constant (ws_ yX3_constant cX3_constant 5 (Option.none : Option Jvm.ClassFile.FieldType)) 1 23 5 4 11 5 (.inl (fn_fr_constant m)) :=
  gCee.vi (k := 3) (by decide) (gmetF hi ⟨plainFor_of_name pn_fr, ok_fr_constant, hm, Or.inr (Or.inr (Or.inr (Or.inr (Or.inr (Or.inr ⟨rfl, rfl⟩))))), rfl, fun i c k t hg => gall_spec F_fr i _ hg, gall_spec C_fr, fun i k rc rt f hg => gall_spec (P := gCl l Z "GraftTrees$Forest" ⟨1, 0, 0, 23⟩) (xs := (e_fr_constant m).2.2.2.1) ⟨(gm_fr_put hi hm).cal (by omega) (by omega) q1464,
    trivial⟩ i _ hg⟩) q1519 q229 mh_fr ds_39 q1518 qs50
theorem gm_fr_number {l : Launch} {Z : gZ} {m : Nat} (hi : gInj Z) (hm : m ≤ zN Z) : gCee l Z yX3_number (ws_ yX3_number cX3_number 4 (Option.none : Option Jvm.ClassFile.FieldType)) 3 71 4 3 11 5 (.inl (fn_fr_number m)) :=
  gCee.vi (k := 2) (by decide) (gmetF hi ⟨plainFor_of_name pn_fr, ok_fr_number, hm, Or.inr (Or.inr (Or.inr (Or.inr (Or.inr (Or.inr ⟨rfl, rfl⟩))))), rfl, fun i c k t hg => gall_spec F_fr i _ hg, gall_spec C_fr, fun i k rc rt f hg => gall_spec (P := gCl l Z "GraftTrees$Forest" ⟨3, 0, 0, 71⟩) (xs := (e_fr_number m).2.2.2.1) ⟨(gm_wl_of hi hm).cal (by omega) (by omega) q1480,
    (gm_wl_more hi hm).cal (by omega) (by omega) q1491,
    (gm_wl_isLong hi hm).cal (by omega) (by omega) q1500,
    (gm_fr_constant hi hm).cal (by omega) (by omega) q1516,
    (gm_hp_whole hi hm).cal (by omega) (by omega) q1520,
    trivial⟩ i _ hg⟩) q1479 q229 mh_fr ds_6 q1478 qs48
theorem gm_rec_fr_property {l : Launch} {Z : gZ} {m : Nat} (hi : gInj Z) (hm : m ≤ zN Z) : ∀ d : Nat, gCee l Z yX3_property (ws_ yX3_property cX3_property 3 (Option.none : Option Jvm.ClassFile.FieldType)) (4 + d) (169 + d * 23) 3 3 11 5 (.inl (rec_fr_property m d 0)) ∧
  gCee l Z yX3_work (ws_ yX3_work cX3_work 3 (Option.none : Option Jvm.ClassFile.FieldType)) (4 + d) (169 + d * 23) 3 2 11 5 (.inl (rec_fr_property m d 1)) ∧
  gCee l Z yX3_work_2 (ws_ yX3_work_2 cX3_work_2 4 (Option.none : Option Jvm.ClassFile.FieldType)) (4 + d) (169 + d * 23) 4 3 11 5 (.inl (rec_fr_property m d 2))
  | 0 => ⟨gCee.vi (k := 2) (by decide) (gMet_none) q1527 q229 mh_fr ds_6 q1526 qs51,
    gCee.vi (k := 1) (by decide) (gMet_none) q1471 q229 mh_fr ds_19 q1470 qs46,
    gCee.vi (k := 2) (by decide) (gMet_none) q1475 q229 mh_fr ds_6 q1474 qs47⟩
  | d + 1 => by
    have h := gm_rec_fr_property (l := l) hi hm d
    exact ⟨gCee.vi (k := 2) (by decide) (gmetF hi ⟨plainFor_of_name pn_fr, ok_fr_property, hm, Or.inr (Or.inr (Or.inr (Or.inr (Or.inr (Or.inr ⟨rfl, rfl⟩))))), rfl, fun i c k t hg => gall_spec F_fr i _ hg, gall_spec C_fr, fun i k rc rt f hg => gall_spec (P := gCl l Z "GraftTrees$Forest" ⟨(4 + (d + 1)), 0, 0, (169 + (d + 1) * 23)⟩) (xs := (e_fr_property m (rec_fr_property m d)).2.2.2.1) ⟨h.2.1.cal (by omega) (by omega) q1468,
    (gm_hp_string hi hm).cal (by omega) (by omega) q443,
    (gm_fr_put hi hm).cal (by omega) (by omega) q1464,
    trivial⟩ i _ hg⟩) q1527 q229 mh_fr ds_6 q1526 qs51,
    gCee.vi (k := 1) (by decide) (gmetF hi ⟨plainFor_of_name pn_fr, ok_fr_work, hm, Or.inr (Or.inr (Or.inr (Or.inr (Or.inr (Or.inr ⟨rfl, rfl⟩))))), rfl, fun i c k t hg => gall_spec F_fr i _ hg, gall_spec C_fr, fun i k rc rt f hg => gall_spec (P := gCl l Z "GraftTrees$Forest" ⟨(4 + (d + 1)), 0, 0, (169 + (d + 1) * 23)⟩) (xs := (e_fr_work m (rec_fr_property m d)).2.2.2.1) ⟨(gm_fr_node hi hm).cal (by omega) (by omega) q1452,
    h.2.2.cal (by omega) (by omega) q1472,
    trivial⟩ i _ hg⟩) q1471 q229 mh_fr ds_19 q1470 qs46,
    gCee.vi (k := 2) (by decide) (gmetF hi ⟨plainFor_of_name pn_fr, ok_fr_work_2, hm, Or.inr (Or.inr (Or.inr (Or.inr (Or.inr (Or.inr ⟨rfl, rfl⟩))))), rfl, fun i c k t hg => gall_spec F_fr i _ hg, gall_spec C_fr, fun i k rc rt f hg => gall_spec (P := gCl l Z "GraftTrees$Forest" ⟨(4 + (d + 1)), 0, 0, (169 + (d + 1) * 23)⟩) (xs := (e_fr_work_2 m (rec_fr_property m d)).2.2.2.1) ⟨(gm_fr_number hi hm).cal (by omega) (by omega) q1476,
    (gm_hp_string hi hm).cal (by omega) (by omega) q443,
    (gm_fr_constant hi hm).cal (by omega) (by omega) q1516,
    (gm_fr_function hi hm).cal (by omega) (by omega) q439,
    (gm_fr_put hi hm).cal (by omega) (by omega) q1464,
    h.2.1.cal (by omega) (by omega) q1468,
    h.1.cal (by omega) (by omega) q1524,
    trivial⟩ i _ hg⟩) q1475 q229 mh_fr ds_6 q1474 qs47⟩
theorem gm_fr_land {l : Launch} {Z : gZ} {m : Nat} (hi : gInj Z) (hm : m ≤ zN Z) : gCee l Z yX3_land (ws_ yX3_land cX3_land 4 (Option.none : Option Jvm.ClassFile.FieldType)) 0 0 4 2 11 5 (.inl (fn_fr_land m)) :=
  gCee.vi (k := 1) (by decide) (gmetF hi ⟨plainFor_of_name pn_fr, ok_fr_land, hm, Or.inr (Or.inr (Or.inr (Or.inr (Or.inr (Or.inr ⟨rfl, rfl⟩))))), rfl, fun i c k t hg => gall_spec F_fr i _ hg, gall_spec C_fr, fun i k rc rt f hg => gall_spec (P := gCl l Z "GraftTrees$Forest" ⟨0, 0, 0, 0⟩) (xs := (e_fr_land m).2.2.2.1) trivial i _ hg⟩) q1535 q229 mh_fr ds_19 q1534 qs53
theorem gm_rec_fr_loop {l : Launch} {Z : gZ} {m : Nat} (hi : gInj Z) (hm : m ≤ zN Z) : ∀ d : Nat, gCee l Z yX3_loop (ws_ yX3_loop cX3_loop 7 (Option.none : Option Jvm.ClassFile.FieldType)) (1005 + d) (23191 + d * 26) 7 3 11 5 (.inl (rec_fr_loop m d 0)) ∧
  gCee l Z yX3_statement (ws_ yX3_statement cX3_statement 6 (Option.none : Option Jvm.ClassFile.FieldType)) (1005 + d) (23191 + d * 26) 6 2 11 5 (.inl (rec_fr_loop m d 1)) ∧
  gCee l Z yX3_statements (ws_ yX3_statements cX3_statements 3 (Option.none : Option Jvm.ClassFile.FieldType)) (1005 + d) (23191 + d * 26) 3 2 11 5 (.inl (rec_fr_loop m d 2))
  | 0 => ⟨gCee.vi (k := 2) (by decide) (gMet_none) q1531 q229 mh_fr ds_6 q1530 qs52,
    gCee.vi (k := 1) (by decide) (gMet_none) q1463 q229 mh_fr ds_19 q1462 qs44,
    gCee.vi (k := 1) (by decide) (gMet_none) q1459 q229 mh_fr ds_19 q1458 qs43⟩
  | d + 1 => by
    have h := gm_rec_fr_loop (l := l) hi hm d
    exact ⟨gCee.vi (k := 2) (by decide) (gmetF hi ⟨plainFor_of_name pn_fr, ok_fr_loop, hm, Or.inr (Or.inr (Or.inr (Or.inr (Or.inr (Or.inr ⟨rfl, rfl⟩))))), rfl, fun i c k t hg => gall_spec F_fr i _ hg, gall_spec C_fr, fun i k rc rt f hg => gall_spec (P := gCl l Z "GraftTrees$Forest" ⟨(1005 + (d + 1)), 0, 0, (23191 + (d + 1) * 26)⟩) (xs := (e_fr_loop m (rec_fr_loop m d)).2.2.2.1) ⟨(gm_rec_fr_property hi hm 1000).2.1.cal (by omega) (by omega) q1468,
    (gm_fr_put hi hm).cal (by omega) (by omega) q1464,
    h.2.2.cal (by omega) (by omega) q1456,
    (gm_fr_land hi hm).cal (by omega) (by omega) q1532,
    trivial⟩ i _ hg⟩) q1531 q229 mh_fr ds_6 q1530 qs52,
    gCee.vi (k := 1) (by decide) (gmetF hi ⟨plainFor_of_name pn_fr, ok_fr_statement, hm, Or.inr (Or.inr (Or.inr (Or.inr (Or.inr (Or.inr ⟨rfl, rfl⟩))))), rfl, fun i c k t hg => gall_spec F_fr i _ hg, gall_spec C_fr, fun i k rc rt f hg => gall_spec (P := gCl l Z "GraftTrees$Forest" ⟨(1005 + (d + 1)), 0, 0, (23191 + (d + 1) * 26)⟩) (xs := (e_fr_statement m (rec_fr_loop m d)).2.2.2.1) ⟨(gm_fr_put hi hm).cal (by omega) (by omega) q1464,
    (gm_fr_node hi hm).cal (by omega) (by omega) q1452,
    (gm_rec_fr_property hi hm 1000).2.1.cal (by omega) (by omega) q1468,
    h.2.2.cal (by omega) (by omega) q1456,
    h.1.cal (by omega) (by omega) q1528,
    trivial⟩ i _ hg⟩) q1463 q229 mh_fr ds_19 q1462 qs44,
    gCee.vi (k := 1) (by decide) (gmetF hi ⟨plainFor_of_name pn_fr, ok_fr_statements, hm, Or.inr (Or.inr (Or.inr (Or.inr (Or.inr (Or.inr ⟨rfl, rfl⟩))))), rfl, fun i c k t hg => gall_spec F_fr i _ hg, gall_spec C_fr, fun i k rc rt f hg => gall_spec (P := gCl l Z "GraftTrees$Forest" ⟨(1005 + (d + 1)), 0, 0, (23191 + (d + 1) * 26)⟩) (xs := (e_fr_statements m (rec_fr_loop m d)).2.2.2.1) ⟨h.2.1.cal (by omega) (by omega) q1460,
    trivial⟩ i _ hg⟩) q1459 q229 mh_fr ds_19 q1458 qs43⟩
theorem gm_fr_plant_2 {l : Launch} {Z : gZ} {m : Nat} (hi : gInj Z) (hm : m ≤ zN Z) : gCee l Z yX3_plant_2 (ws_ yX3_plant_2 cX3_plant_2 6 (Option.some Jvm.ClassFile.FieldType.int)) 1126 26333 6 5 11 0 (.inl (fn_fr_plant_2 m)) :=
  gCee.vi (k := 4) (by decide) (gmetF hi ⟨plainFor_of_name pn_fr, ok_fr_plant_2, hm, Or.inr (Or.inr (Or.inl ⟨rfl, rfl⟩)), rfl, fun i c k t hg => gall_spec F_fr i _ hg, gall_spec C_fr, fun i k rc rt f hg => gall_spec (P := gCl l Z "GraftTrees$Forest" ⟨1126, 0, 0, 26333⟩) (xs := (e_fr_plant_2 m).2.2.2.1) ⟨(gm_fr_function hi hm).cal (by omega) (by omega) q439,
    (gm_fr_rootOf hi hm).cal (by omega) (by omega) q454,
    (gm_fr_node hi hm).cal (by omega) (by omega) q1452,
    (gm_rec_fr_loop hi hm 120).2.2.cal (by omega) (by omega) q1456,
    (gm_fr_put hi hm).cal (by omega) (by omega) q1464,
    trivial⟩ i _ hg⟩) q1451 q229 mh_fr ds_40 q1449 q1450
theorem gm_fr_named {l : Launch} {Z : gZ} {m : Nat} (hi : gInj Z) (hm : m ≤ zN Z) : gCee l Z yX3_named (ws_ yX3_named cX3_named 6 (Option.some Jvm.ClassFile.FieldType.int)) 4 85 6 2 11 0 (.inl (fn_fr_named m)) :=
  gCee.vi (k := 1) (by decide) (gmetF hi ⟨plainFor_of_name pn_fr, ok_fr_named, hm, Or.inr (Or.inr (Or.inl ⟨rfl, rfl⟩)), rfl, fun i c k t hg => gall_spec F_fr i _ hg, gall_spec C_fr, fun i k rc rt f hg => gall_spec (P := gCl l Z "GraftTrees$Forest" ⟨4, 0, 0, 85⟩) (xs := (e_fr_named m).2.2.2.1) ⟨(gm_st_length hi (Nat.zero_le _)).cal (by omega) (by omega) q391,
    (gm_st_charAt hi (Nat.zero_le _)).cal (by omega) (by omega) q401,
    trivial⟩ i _ hg⟩) q1548 q229 mh_fr ds_17 q1546 q1547
theorem gm_fr_isNewest {l : Launch} {Z : gZ} {m : Nat} (hi : gInj Z) (hm : m ≤ zN Z) : gCee l Z yX3_isNewest (ws_ yX3_isNewest cX3_isNewest 2 (Option.some Jvm.ClassFile.FieldType.boolean)) 0 0 2 2 11 0 (.inl (fn_fr_isNewest m)) :=
  gCee.vi (k := 1) (by decide) (gmetF hi ⟨plainFor_of_name pn_fr, ok_fr_isNewest, hm, Or.inr (Or.inr (Or.inr (Or.inl ⟨rfl, rfl⟩))), rfl, fun i c k t hg => gall_spec F_fr i _ hg, gall_spec C_fr, fun i k rc rt f hg => gall_spec (P := gCl l Z "GraftTrees$Forest" ⟨0, 0, 0, 0⟩) (xs := (e_fr_isNewest m).2.2.2.1) trivial i _ hg⟩) q1583 q229 mh_fr ds_8 q1581 q1582
theorem gm_fr_sort {l : Launch} {Z : gZ} {m : Nat} (hi : gInj Z) (hm : m ≤ zN Z) : gCee l Z yX3_sort (ws_ yX3_sort cX3_sort 3 (Option.some Jvm.ClassFile.FieldType.int)) 0 0 3 3 11 0 (.inl (fn_fr_sort m)) :=
  gCee.vi (k := 2) (by decide) (gmetF hi ⟨plainFor_of_name pn_fr, ok_fr_sort, hm, Or.inr (Or.inr (Or.inl ⟨rfl, rfl⟩)), rfl, fun i c k t hg => gall_spec F_fr i _ hg, gall_spec C_fr, fun i k rc rt f hg => gall_spec (P := gCl l Z "GraftTrees$Forest" ⟨0, 0, 0, 0⟩) (xs := (e_fr_sort m).2.2.2.1) trivial i _ hg⟩) q1961 q229 mh_fr ds_0 q1959 q1960
theorem F_sp : gall (gFl "GraftTrees$Shapes") f_sp := ⟨Or.inl ⟨RX5, TX5, 13, 1, by decide, by decide, rfl, rfl, by decide, rfl, Or.inl q661⟩,
  Or.inl ⟨RX5, TX5, 13, 2, by decide, by decide, rfl, rfl, by decide, rfl, Or.inl q663⟩,
  Or.inl ⟨RX5, TX5, 13, 3, by decide, by decide, rfl, rfl, by decide, rfl, Or.inl q665⟩,
  Or.inl ⟨RX5, TX5, 13, 4, by decide, by decide, rfl, rfl, by decide, rfl, Or.inl q667⟩,
  Or.inl ⟨RX5, TX5, 13, 5, by decide, by decide, rfl, rfl, by decide, rfl, Or.inl q670⟩,
  Or.inl ⟨RX5, TX5, 13, 7, by decide, by decide, rfl, rfl, by decide, rfl, Or.inl q675⟩,
  Or.inl ⟨RX5, TX5, 13, 8, by decide, by decide, rfl, rfl, by decide, rfl, Or.inl q677⟩,
  Or.inl ⟨RX5, TX5, 13, 9, by decide, by decide, rfl, rfl, by decide, rfl, Or.inl q679⟩,
  Or.inl ⟨RX5, TX5, 13, 12, by decide, by decide, rfl, rfl, by decide, rfl, Or.inl q683⟩,
  Or.inl ⟨RX5, TX5, 13, 0, by decide, by decide, rfl, rfl, by decide, rfl, Or.inl q660⟩,
  Or.inl ⟨RX5, TX5, 13, 6, by decide, by decide, rfl, rfl, by decide, rfl, Or.inl q673⟩,
  Or.inl ⟨RX5, TX5, 13, 10, by decide, by decide, rfl, rfl, by decide, rfl, Or.inl q681⟩,
  Or.inl ⟨RX5, TX5, 13, 11, by decide, by decide, rfl, rfl, by decide, rfl, Or.inl q682⟩,
  Or.inl ⟨RX2, TX2, 15, 4, by decide, by decide, rfl, rfl, by decide, rfl, Or.inr ⟨_, q285⟩⟩,
  Or.inl ⟨RX2, TX2, 15, 3, by decide, by decide, rfl, rfl, by decide, rfl, Or.inr ⟨_, q283⟩⟩,
  Or.inl ⟨RX2, TX2, 15, 2, by decide, by decide, rfl, rfl, by decide, rfl, Or.inr ⟨_, q278⟩⟩,
  Or.inl ⟨RX2, TX2, 15, 0, by decide, by decide, rfl, rfl, by decide, rfl, Or.inr ⟨_, q268⟩⟩,
  Or.inl ⟨RX2, TX2, 15, 1, by decide, by decide, rfl, rfl, by decide, rfl, Or.inr ⟨_, q273⟩⟩,
  trivial⟩
theorem C_sp : gall (gCst "GraftTrees$Shapes") c_sp := trivial
theorem pn_sp : plainName "GraftTrees$Shapes" = true := by decide +kernel
theorem mh_sp : "GraftTrees$Shapes" ≠ "java/lang/invoke/MethodHandle" ∧ "GraftTrees$Shapes" ≠ "java/lang/invoke/VarHandle" := by decide
theorem gm_sp_clear {l : Launch} {Z : gZ} {m : Nat} (hi : gInj Z) (hm : m ≤ zN Z) : gCee l Z yX5_clear (ws_ yX5_clear cX5_clear 1 (Option.none : Option Jvm.ClassFile.FieldType)) 0 0 1 1 13 5 (.inl (fn_sp_clear m)) :=
  gCee.vi (k := 0) (by decide) (gmetF hi ⟨plainFor_of_name pn_sp, ok_sp_clear, hm, Or.inr (Or.inr (Or.inr (Or.inr (Or.inr (Or.inr ⟨rfl, rfl⟩))))), rfl, fun i c k t hg => gall_spec F_sp i _ hg, gall_spec C_sp, fun i k rc rt f hg => gall_spec (P := gCl l Z "GraftTrees$Shapes" ⟨0, 0, 0, 0⟩) (xs := (e_sp_clear m).2.2.2.1) trivial i _ hg⟩) q659 q236 mh_sp ds_26 q657 q658
theorem gm_sp_nameOf {l : Launch} {Z : gZ} {m : Nat} (hi : gInj Z) (hm : m ≤ zN Z) : gCee l Z yX5_nameOf (ws_ yX5_nameOf cX5_nameOf 3 (Option.some Jvm.ClassFile.FieldType.int)) 1 25 3 2 13 0 (.inl (fn_sp_nameOf m)) :=
  gCee.vi (k := 1) (by decide) (gmetF hi ⟨plainFor_of_name pn_sp, ok_sp_nameOf, hm, Or.inr (Or.inr (Or.inl ⟨rfl, rfl⟩)), rfl, fun i c k t hg => gall_spec F_sp i _ hg, gall_spec C_sp, fun i k rc rt f hg => gall_spec (P := gCl l Z "GraftTrees$Shapes" ⟨1, 0, 0, 25⟩) (xs := (e_sp_nameOf m).2.2.2.1) ⟨(gm_hp_is hi hm).cal (by omega) (by omega) q1801,
    trivial⟩ i _ hg⟩) q1800 q236 mh_sp ds_16 q1798 q1799
theorem gm_sp_place {l : Launch} {Z : gZ} {m : Nat} (hi : gInj Z) (hm : m ≤ zN Z) : gCee l Z yX5_place (ws_ yX5_place cX5_place 4 (Option.some Jvm.ClassFile.FieldType.int)) 0 0 4 3 13 0 (.inl (fn_sp_place m)) :=
  gCee.vi (k := 2) (by decide) (gmetF hi ⟨plainFor_of_name pn_sp, ok_sp_place, hm, Or.inr (Or.inr (Or.inl ⟨rfl, rfl⟩)), rfl, fun i c k t hg => gall_spec F_sp i _ hg, gall_spec C_sp, fun i k rc rt f hg => gall_spec (P := gCl l Z "GraftTrees$Shapes" ⟨0, 0, 0, 0⟩) (xs := (e_sp_place m).2.2.2.1) trivial i _ hg⟩) q1805 q236 mh_sp ds_0 q1803 q1804
theorem gm_sp_last {l : Launch} {Z : gZ} {m : Nat} (hi : gInj Z) (hm : m ≤ zN Z) : gCee l Z yX5_last (ws_ yX5_last cX5_last 3 (Option.some Jvm.ClassFile.FieldType.int)) 0 0 3 2 13 0 (.inl (fn_sp_last m)) :=
  gCee.vi (k := 1) (by decide) (gmetF hi ⟨plainFor_of_name pn_sp, ok_sp_last, hm, Or.inr (Or.inr (Or.inl ⟨rfl, rfl⟩)), rfl, fun i c k t hg => gall_spec F_sp i _ hg, gall_spec C_sp, fun i k rc rt f hg => gall_spec (P := gCl l Z "GraftTrees$Shapes" ⟨0, 0, 0, 0⟩) (xs := (e_sp_last m).2.2.2.1) trivial i _ hg⟩) q1826 q236 mh_sp ds_16 q1824 q1825
theorem gm_sp_sortAt {l : Launch} {Z : gZ} {m : Nat} (hi : gInj Z) (hm : m ≤ zN Z) : gCee l Z yX5_sortAt (ws_ yX5_sortAt cX5_sortAt 4 (Option.some Jvm.ClassFile.FieldType.int)) 0 0 4 3 13 0 (.inl (fn_sp_sortAt m)) :=
  gCee.vi (k := 2) (by decide) (gmetF hi ⟨plainFor_of_name pn_sp, ok_sp_sortAt, hm, Or.inr (Or.inr (Or.inl ⟨rfl, rfl⟩)), rfl, fun i c k t hg => gall_spec F_sp i _ hg, gall_spec C_sp, fun i k rc rt f hg => gall_spec (P := gCl l Z "GraftTrees$Shapes" ⟨0, 0, 0, 0⟩) (xs := (e_sp_sortAt m).2.2.2.1) trivial i _ hg⟩) q1830 q236 mh_sp ds_0 q1828 q1829
theorem gm_sp_child {l : Launch} {Z : gZ} {m : Nat} (hi : gInj Z) (hm : m ≤ zN Z) : gCee l Z yX5_child (ws_ yX5_child cX5_child 5 (Option.some Jvm.ClassFile.FieldType.int)) 0 0 5 4 13 0 (.inl (fn_sp_child m)) :=
  gCee.vi (k := 3) (by decide) (gmetF hi ⟨plainFor_of_name pn_sp, ok_sp_child, hm, Or.inr (Or.inr (Or.inl ⟨rfl, rfl⟩)), rfl, fun i c k t hg => gall_spec F_sp i _ hg, gall_spec C_sp, fun i k rc rt f hg => gall_spec (P := gCl l Z "GraftTrees$Shapes" ⟨0, 0, 0, 0⟩) (xs := (e_sp_child m).2.2.2.1) trivial i _ hg⟩) q1839 q236 mh_sp ds_35 q1837 q1838
theorem gm_sp_newName {l : Launch} {Z : gZ} {m : Nat} (hi : gInj Z) (hm : m ≤ zN Z) : gCee l Z yX5_newName (ws_ yX5_newName cX5_newName 2 (Option.some Jvm.ClassFile.FieldType.int)) 1 120 2 2 13 0 (.inl (fn_sp_newName m)) :=
  gCee.vi (k := 1) (by decide) (gmetF hi ⟨plainFor_of_name pn_sp, ok_sp_newName, hm, Or.inr (Or.inr (Or.inl ⟨rfl, rfl⟩)), rfl, fun i c k t hg => gall_spec F_sp i _ hg, gall_spec C_sp, fun i k rc rt f hg => gall_spec (P := gCl l Z "GraftTrees$Shapes" ⟨1, 0, 0, 120⟩) (xs := (e_sp_newName m).2.2.2.1) ⟨gcpy hm (by omega) (by omega) q1844 q453 q452 q235,
    trivial⟩ i _ hg⟩) q1843 q236 mh_sp ds_16 q1842 qs93
theorem gm_sp_add {l : Launch} {Z : gZ} {m : Nat} (hi : gInj Z) (hm : m ≤ zN Z) : gCee l Z yX5_add (ws_ yX5_add cX5_add 5 (Option.some Jvm.ClassFile.FieldType.int)) 0 0 5 4 13 0 (.inl (fn_sp_add m)) :=
  gCee.vi (k := 3) (by decide) (gmetF hi ⟨plainFor_of_name pn_sp, ok_sp_add, hm, Or.inr (Or.inr (Or.inl ⟨rfl, rfl⟩)), rfl, fun i c k t hg => gall_spec F_sp i _ hg, gall_spec C_sp, fun i k rc rt f hg => gall_spec (P := gCl l Z "GraftTrees$Shapes" ⟨0, 0, 0, 0⟩) (xs := (e_sp_add m).2.2.2.1) trivial i _ hg⟩) q1848 q236 mh_sp ds_35 q1847 qs94
theorem gm_sp_childFor {l : Launch} {Z : gZ} {m : Nat} (hi : gInj Z) (hm : m ≤ zN Z) : gCee l Z yX5_childFor (ws_ yX5_childFor cX5_childFor 6 (Option.some Jvm.ClassFile.FieldType.int)) 2 141 6 4 13 0 (.inl (fn_sp_childFor m)) :=
  gCee.vi (k := 3) (by decide) (gmetF hi ⟨plainFor_of_name pn_sp, ok_sp_childFor, hm, Or.inr (Or.inr (Or.inl ⟨rfl, rfl⟩)), rfl, fun i c k t hg => gall_spec F_sp i _ hg, gall_spec C_sp, fun i k rc rt f hg => gall_spec (P := gCl l Z "GraftTrees$Shapes" ⟨2, 0, 0, 141⟩) (xs := (e_sp_childFor m).2.2.2.1) ⟨(gm_sp_nameOf hi hm).cal (by omega) (by omega) q1835,
    (gm_sp_child hi hm).cal (by omega) (by omega) q1836,
    (gm_sp_newName hi hm).cal (by omega) (by omega) q1840,
    (gm_sp_add hi hm).cal (by omega) (by omega) q1845,
    trivial⟩ i _ hg⟩) q1834 q236 mh_sp ds_35 q1832 q1833
theorem gm_sp_wider {l : Launch} {Z : gZ} {m : Nat} (hi : gInj Z) (hm : m ≤ zN Z) : gCee l Z yX5_wider (ws_ yX5_wider cX5_wider 8 (Option.some Jvm.ClassFile.FieldType.int)) 1 24 8 3 13 0 (.inl (fn_sp_wider m)) :=
  gCee.vi (k := 2) (by decide) (gmetF hi ⟨plainFor_of_name pn_sp, ok_sp_wider, hm, Or.inr (Or.inr (Or.inl ⟨rfl, rfl⟩)), rfl, fun i c k t hg => gall_spec F_sp i _ hg, gall_spec C_sp, fun i k rc rt f hg => gall_spec (P := gCl l Z "GraftTrees$Shapes" ⟨1, 0, 0, 24⟩) (xs := (e_sp_wider m).2.2.2.1) ⟨(gm_sp_child hi hm).cal (by omega) (by omega) q1836,
    (gm_sp_add hi hm).cal (by omega) (by omega) q1845,
    trivial⟩ i _ hg⟩) q1852 q236 mh_sp ds_0 q1850 q1851
theorem F_cd : gall (gFl "GraftTrees$Codes") f_cd := ⟨Or.inl ⟨RX6, TX6, 20, 1, by decide, by decide, rfl, rfl, by decide, rfl, Or.inl q719⟩,
  Or.inl ⟨RX6, TX6, 20, 2, by decide, by decide, rfl, rfl, by decide, rfl, Or.inl q721⟩,
  Or.inl ⟨RX6, TX6, 20, 3, by decide, by decide, rfl, rfl, by decide, rfl, Or.inl q723⟩,
  Or.inl ⟨RX6, TX6, 20, 4, by decide, by decide, rfl, rfl, by decide, rfl, Or.inl q725⟩,
  Or.inl ⟨RX6, TX6, 20, 5, by decide, by decide, rfl, rfl, by decide, rfl, Or.inl q727⟩,
  Or.inl ⟨RX6, TX6, 20, 6, by decide, by decide, rfl, rfl, by decide, rfl, Or.inl q729⟩,
  Or.inl ⟨RX6, TX6, 20, 7, by decide, by decide, rfl, rfl, by decide, rfl, Or.inl q732⟩,
  Or.inl ⟨RX6, TX6, 20, 8, by decide, by decide, rfl, rfl, by decide, rfl, Or.inl q735⟩,
  Or.inl ⟨RX6, TX6, 20, 9, by decide, by decide, rfl, rfl, by decide, rfl, Or.inl q738⟩,
  Or.inl ⟨RX6, TX6, 20, 13, by decide, by decide, rfl, rfl, by decide, rfl, Or.inl q745⟩,
  Or.inl ⟨RX6, TX6, 20, 14, by decide, by decide, rfl, rfl, by decide, rfl, Or.inl q747⟩,
  Or.inl ⟨RX6, TX6, 20, 15, by decide, by decide, rfl, rfl, by decide, rfl, Or.inl q748⟩,
  Or.inl ⟨RX6, TX6, 20, 16, by decide, by decide, rfl, rfl, by decide, rfl, Or.inl q749⟩,
  Or.inl ⟨RX6, TX6, 20, 17, by decide, by decide, rfl, rfl, by decide, rfl, Or.inl q750⟩,
  Or.inl ⟨RX6, TX6, 20, 18, by decide, by decide, rfl, rfl, by decide, rfl, Or.inl q752⟩,
  Or.inl ⟨RX6, TX6, 20, 0, by decide, by decide, rfl, rfl, by decide, rfl, Or.inl q718⟩,
  Or.inl ⟨RX6, TX6, 20, 10, by decide, by decide, rfl, rfl, by decide, rfl, Or.inl q741⟩,
  Or.inl ⟨RX6, TX6, 20, 11, by decide, by decide, rfl, rfl, by decide, rfl, Or.inl q743⟩,
  Or.inl ⟨RX6, TX6, 20, 12, by decide, by decide, rfl, rfl, by decide, rfl, Or.inl q744⟩,
  Or.inl ⟨RX6, TX6, 20, 19, by decide, by decide, rfl, rfl, by decide, rfl, Or.inl q753⟩,
  Or.inl ⟨RX3, TX3, 42, 27, by decide, by decide, rfl, rfl, by decide, rfl, Or.inr ⟨_, q539⟩⟩,
  Or.inl ⟨RX3, TX3, 42, 29, by decide, by decide, rfl, rfl, by decide, rfl, Or.inr ⟨_, q545⟩⟩,
  Or.inl ⟨RX3, TX3, 42, 28, by decide, by decide, rfl, rfl, by decide, rfl, Or.inr ⟨_, q542⟩⟩,
  Or.inl ⟨RX3, TX3, 42, 22, by decide, by decide, rfl, rfl, by decide, rfl, Or.inr ⟨_, q526⟩⟩,
  Or.inl ⟨RX3, TX3, 42, 21, by decide, by decide, rfl, rfl, by decide, rfl, Or.inr ⟨_, q523⟩⟩,
  Or.inl ⟨RX3, TX3, 42, 1, by decide, by decide, rfl, rfl, by decide, rfl, Or.inr ⟨_, q467⟩⟩,
  Or.inl ⟨RX3, TX3, 42, 10, by decide, by decide, rfl, rfl, by decide, rfl, Or.inr ⟨_, q492⟩⟩,
  Or.inl ⟨RX3, TX3, 42, 11, by decide, by decide, rfl, rfl, by decide, rfl, Or.inr ⟨_, q496⟩⟩,
  Or.inl ⟨RX3, TX3, 42, 24, by decide, by decide, rfl, rfl, by decide, rfl, Or.inr ⟨_, q532⟩⟩,
  Or.inl ⟨RX3, TX3, 42, 23, by decide, by decide, rfl, rfl, by decide, rfl, Or.inr ⟨_, q529⟩⟩,
  Or.inl ⟨RX3, TX3, 42, 13, by decide, by decide, rfl, rfl, by decide, rfl, Or.inr ⟨_, q502⟩⟩,
  Or.inl ⟨RX3, TX3, 42, 15, by decide, by decide, rfl, rfl, by decide, rfl, Or.inr ⟨_, q508⟩⟩,
  Or.inl ⟨RX3, TX3, 42, 3, by decide, by decide, rfl, rfl, by decide, rfl, Or.inr ⟨_, q474⟩⟩,
  Or.inl ⟨RX3, TX3, 42, 14, by decide, by decide, rfl, rfl, by decide, rfl, Or.inr ⟨_, q505⟩⟩,
  Or.inl ⟨RX3, TX3, 42, 8, by decide, by decide, rfl, rfl, by decide, rfl, Or.inr ⟨_, q488⟩⟩,
  Or.inl ⟨RX3, TX3, 42, 7, by decide, by decide, rfl, rfl, by decide, rfl, Or.inr ⟨_, q485⟩⟩,
  Or.inl ⟨RX3, TX3, 42, 20, by decide, by decide, rfl, rfl, by decide, rfl, Or.inr ⟨_, q520⟩⟩,
  trivial⟩
theorem C_cd : gall (gCst "GraftTrees$Codes") c_cd := ⟨Or.inl ⟨1000000000, rfl, q1560, by unfold i32; omega⟩,
  Or.inl ⟨64000, rfl, q1944, by unfold i32; omega⟩,
  trivial⟩
theorem pn_cd : plainName "GraftTrees$Codes" = true := by decide +kernel
theorem mh_cd : "GraftTrees$Codes" ≠ "java/lang/invoke/MethodHandle" ∧ "GraftTrees$Codes" ≠ "java/lang/invoke/VarHandle" := by decide
theorem gm_cd_clear {l : Launch} {Z : gZ} {m : Nat} (hi : gInj Z) (hm : m ≤ zN Z) : gCee l Z yX6_clear (ws_ yX6_clear cX6_clear 1 (Option.none : Option Jvm.ClassFile.FieldType)) 0 0 1 1 14 5 (.inl (fn_cd_clear m)) :=
  gCee.vi (k := 0) (by decide) (gmetF hi ⟨plainFor_of_name pn_cd, ok_cd_clear, hm, Or.inr (Or.inr (Or.inr (Or.inr (Or.inr (Or.inr ⟨rfl, rfl⟩))))), rfl, fun i c k t hg => gall_spec F_cd i _ hg, gall_spec C_cd, fun i k rc rt f hg => gall_spec (P := gCl l Z "GraftTrees$Codes" ⟨0, 0, 0, 0⟩) (xs := (e_cd_clear m).2.2.2.1) trivial i _ hg⟩) q1447 q237 mh_cd ds_26 q1445 q1446
theorem gm_cd_more {l : Launch} {Z : gZ} {m : Nat} (hi : gInj Z) (hm : m ≤ zN Z) : gCee l Z yX6_more (ws_ yX6_more cX6_more 1 (Option.some Jvm.ClassFile.FieldType.int)) 1 21 1 1 0 0 (.inl (fn_cd_more m)) :=
  gCee.st (k := 1) (gmetF hi ⟨plainFor_of_name pn_cd, ok_cd_more, hm, Or.inr (Or.inr (Or.inl ⟨rfl, rfl⟩)), rfl, fun i c k t hg => gall_spec F_cd i _ hg, gall_spec C_cd, fun i k rc rt f hg => gall_spec (P := gCl l Z "GraftTrees$Codes" ⟨1, 0, 0, 21⟩) (xs := (e_cd_more m).2.2.2.1) ⟨(gm_jm_min hi (Nat.zero_le _)).cal (by omega) (by omega) q1561,
    trivial⟩ i _ hg⟩) q1559 q237 mh_cd ds_16 q1558
theorem gm_cd_start {l : Launch} {Z : gZ} {m : Nat} (hi : gInj Z) (hm : m ≤ zN Z) : gCee l Z yX6_start (ws_ yX6_start cX6_start 3 (Option.some Jvm.ClassFile.FieldType.int)) 0 0 3 3 14 0 (.inl (fn_cd_start m)) :=
  gCee.vi (k := 2) (by decide) (gmetF hi ⟨plainFor_of_name pn_cd, ok_cd_start, hm, Or.inr (Or.inr (Or.inl ⟨rfl, rfl⟩)), rfl, fun i c k t hg => gall_spec F_cd i _ hg, gall_spec C_cd, fun i k rc rt f hg => gall_spec (P := gCl l Z "GraftTrees$Codes" ⟨0, 0, 0, 0⟩) (xs := (e_cd_start m).2.2.2.1) trivial i _ hg⟩) q1570 q237 mh_cd ds_0 q1568 q1569
theorem gm_cd_place {l : Launch} {Z : gZ} {m : Nat} (hi : gInj Z) (hm : m ≤ zN Z) : gCee l Z yX6_place (ws_ yX6_place cX6_place 3 (Option.some Jvm.ClassFile.FieldType.int)) 0 0 3 2 14 0 (.inl (fn_cd_place m)) :=
  gCee.vi (k := 1) (by decide) (gmetF hi ⟨plainFor_of_name pn_cd, ok_cd_place, hm, Or.inr (Or.inr (Or.inl ⟨rfl, rfl⟩)), rfl, fun i c k t hg => gall_spec F_cd i _ hg, gall_spec C_cd, fun i k rc rt f hg => gall_spec (P := gCl l Z "GraftTrees$Codes" ⟨0, 0, 0, 0⟩) (xs := (e_cd_place m).2.2.2.1) trivial i _ hg⟩) q1579 q237 mh_cd ds_16 q1577 q1578
theorem gm_cd_heats {l : Launch} {Z : gZ} {m : Nat} (hi : gInj Z) (hm : m ≤ zN Z) : gCee l Z yX6_heats (ws_ yX6_heats cX6_heats 3 (Option.none : Option Jvm.ClassFile.FieldType)) 2 41 3 3 14 5 (.inl (fn_cd_heats m)) :=
  gCee.vi (k := 2) (by decide) (gmetF hi ⟨plainFor_of_name pn_cd, ok_cd_heats, hm, Or.inr (Or.inr (Or.inr (Or.inr (Or.inr (Or.inr ⟨rfl, rfl⟩))))), rfl, fun i c k t hg => gall_spec F_cd i _ hg, gall_spec C_cd, fun i k rc rt f hg => gall_spec (P := gCl l Z "GraftTrees$Codes" ⟨2, 0, 0, 41⟩) (xs := (e_cd_heats m).2.2.2.1) ⟨(gm_cd_more hi hm).cal (by omega) (by omega) q1575,
    (gm_cd_place hi hm).cal (by omega) (by omega) q1576,
    (gm_fr_isNewest hi hm).cal (by omega) (by omega) q1580,
    trivial⟩ i _ hg⟩) q1574 q237 mh_cd ds_6 q1572 q1573
theorem gm_cd_ends {l : Launch} {Z : gZ} {m : Nat} (hi : gInj Z) (hm : m ≤ zN Z) : gCee l Z yX6_ends (ws_ yX6_ends cX6_ends 2 (Option.none : Option Jvm.ClassFile.FieldType)) 0 0 2 2 14 5 (.inl (fn_cd_ends m)) :=
  gCee.vi (k := 1) (by decide) (gmetF hi ⟨plainFor_of_name pn_cd, ok_cd_ends, hm, Or.inr (Or.inr (Or.inr (Or.inr (Or.inr (Or.inr ⟨rfl, rfl⟩))))), rfl, fun i c k t hg => gall_spec F_cd i _ hg, gall_spec C_cd, fun i k rc rt f hg => gall_spec (P := gCl l Z "GraftTrees$Codes" ⟨0, 0, 0, 0⟩) (xs := (e_cd_ends m).2.2.2.1) trivial i _ hg⟩) q1612 q237 mh_cd ds_19 q1611 qs61
theorem gm_cd_changed {l : Launch} {Z : gZ} {m : Nat} (hi : gInj Z) (hm : m ≤ zN Z) : gCee l Z yX6_changed (ws_ yX6_changed cX6_changed 5 (Option.none : Option Jvm.ClassFile.FieldType)) 1 21 5 2 14 5 (.inl (fn_cd_changed m)) :=
  gCee.vi (k := 1) (by decide) (gmetF hi ⟨plainFor_of_name pn_cd, ok_cd_changed, hm, Or.inr (Or.inr (Or.inr (Or.inr (Or.inr (Or.inr ⟨rfl, rfl⟩))))), rfl, fun i c k t hg => gall_spec F_cd i _ hg, gall_spec C_cd, fun i k rc rt f hg => gall_spec (P := gCl l Z "GraftTrees$Codes" ⟨1, 0, 0, 21⟩) (xs := (e_cd_changed m).2.2.2.1) ⟨(gm_cd_ends hi hm).cal (by omega) (by omega) q1609,
    trivial⟩ i _ hg⟩) q1608 q237 mh_cd ds_19 q1606 q1607
theorem gm_cd_has {l : Launch} {Z : gZ} {m : Nat} (hi : gInj Z) (hm : m ≤ zN Z) : gCee l Z yX6_has (ws_ yX6_has cX6_has 5 (Option.some Jvm.ClassFile.FieldType.boolean)) 0 0 5 3 14 0 (.inl (fn_cd_has m)) :=
  gCee.vi (k := 2) (by decide) (gmetF hi ⟨plainFor_of_name pn_cd, ok_cd_has, hm, Or.inr (Or.inr (Or.inr (Or.inl ⟨rfl, rfl⟩))), rfl, fun i c k t hg => gall_spec F_cd i _ hg, gall_spec C_cd, fun i k rc rt f hg => gall_spec (P := gCl l Z "GraftTrees$Codes" ⟨0, 0, 0, 0⟩) (xs := (e_cd_has m).2.2.2.1) trivial i _ hg⟩) q1860 q237 mh_cd ds_31 q1859 qs95
theorem gm_cd_obsolete {l : Launch} {Z : gZ} {m : Nat} (hi : gInj Z) (hm : m ≤ zN Z) : gCee l Z yX6_obsolete (ws_ yX6_obsolete cX6_obsolete 5 (Option.none : Option Jvm.ClassFile.FieldType)) 1 24 5 2 14 5 (.inl (fn_cd_obsolete m)) :=
  gCee.vi (k := 1) (by decide) (gmetF hi ⟨plainFor_of_name pn_cd, ok_cd_obsolete, hm, Or.inr (Or.inr (Or.inr (Or.inr (Or.inr (Or.inr ⟨rfl, rfl⟩))))), rfl, fun i c k t hg => gall_spec F_cd i _ hg, gall_spec C_cd, fun i k rc rt f hg => gall_spec (P := gCl l Z "GraftTrees$Codes" ⟨1, 0, 0, 24⟩) (xs := (e_cd_obsolete m).2.2.2.1) ⟨(gm_cd_has hi hm).cal (by omega) (by omega) q1857,
    (gm_cd_ends hi hm).cal (by omega) (by omega) q1609,
    trivial⟩ i _ hg⟩) q1856 q237 mh_cd ds_19 q1854 q1855
theorem gm_cd_calls {l : Launch} {Z : gZ} {m : Nat} (hi : gInj Z) (hm : m ≤ zN Z) : gCee l Z yX6_calls (ws_ yX6_calls cX6_calls 5 (Option.some Jvm.ClassFile.FieldType.boolean)) 0 0 5 3 14 0 (.inl (fn_cd_calls m)) :=
  gCee.vi (k := 2) (by decide) (gmetF hi ⟨plainFor_of_name pn_cd, ok_cd_calls, hm, Or.inr (Or.inr (Or.inr (Or.inl ⟨rfl, rfl⟩))), rfl, fun i c k t hg => gall_spec F_cd i _ hg, gall_spec C_cd, fun i k rc rt f hg => gall_spec (P := gCl l Z "GraftTrees$Codes" ⟨0, 0, 0, 0⟩) (xs := (e_cd_calls m).2.2.2.1) trivial i _ hg⟩) q1886 q237 mh_cd ds_31 q1885 qs100
theorem gm_cd_defined {l : Launch} {Z : gZ} {m : Nat} (hi : gInj Z) (hm : m ≤ zN Z) : gCee l Z yX6_defined (ws_ yX6_defined cX6_defined 5 (Option.none : Option Jvm.ClassFile.FieldType)) 1 24 5 2 14 5 (.inl (fn_cd_defined m)) :=
  gCee.vi (k := 1) (by decide) (gmetF hi ⟨plainFor_of_name pn_cd, ok_cd_defined, hm, Or.inr (Or.inr (Or.inr (Or.inr (Or.inr (Or.inr ⟨rfl, rfl⟩))))), rfl, fun i c k t hg => gall_spec F_cd i _ hg, gall_spec C_cd, fun i k rc rt f hg => gall_spec (P := gCl l Z "GraftTrees$Codes" ⟨1, 0, 0, 24⟩) (xs := (e_cd_defined m).2.2.2.1) ⟨(gm_cd_calls hi hm).cal (by omega) (by omega) q1883,
    (gm_cd_ends hi hm).cal (by omega) (by omega) q1609,
    trivial⟩ i _ hg⟩) q1882 q237 mh_cd ds_19 q1880 q1881
theorem gm_cd_unit {l : Launch} {Z : gZ} {m : Nat} (hi : gInj Z) (hm : m ≤ zN Z) : gCee l Z yX6_unit (ws_ yX6_unit cX6_unit 6 (Option.some Jvm.ClassFile.FieldType.int)) 0 0 6 5 14 0 (.inl (fn_cd_unit m)) :=
  gCee.vi (k := 4) (by decide) (gmetF hi ⟨plainFor_of_name pn_cd, ok_cd_unit, hm, Or.inr (Or.inr (Or.inl ⟨rfl, rfl⟩)), rfl, fun i c k t hg => gall_spec F_cd i _ hg, gall_spec C_cd, fun i k rc rt f hg => gall_spec (P := gCl l Z "GraftTrees$Codes" ⟨0, 0, 0, 0⟩) (xs := (e_cd_unit m).2.2.2.1) trivial i _ hg⟩) q1890 q237 mh_cd ds_41 q1888 q1889
theorem gm_cd_adds {l : Launch} {Z : gZ} {m : Nat} (hi : gInj Z) (hm : m ≤ zN Z) : gCee l Z yX6_adds (ws_ yX6_adds cX6_adds 5 (Option.none : Option Jvm.ClassFile.FieldType)) 0 0 5 5 14 5 (.inl (fn_cd_adds m)) :=
  gCee.vi (k := 4) (by decide) (gmetF hi ⟨plainFor_of_name pn_cd, ok_cd_adds, hm, Or.inr (Or.inr (Or.inr (Or.inr (Or.inr (Or.inr ⟨rfl, rfl⟩))))), rfl, fun i c k t hg => gall_spec F_cd i _ hg, gall_spec C_cd, fun i k rc rt f hg => gall_spec (P := gCl l Z "GraftTrees$Codes" ⟨0, 0, 0, 0⟩) (xs := (e_cd_adds m).2.2.2.1) trivial i _ hg⟩) q1935 q237 mh_cd ds_42 q1934 qs104
theorem gm_cd_inlines {l : Launch} {Z : gZ} {m : Nat} (hi : gInj Z) (hm : m ≤ zN Z) : gCee l Z yX6_inlines (ws_ yX6_inlines cX6_inlines 9 (Option.none : Option Jvm.ClassFile.FieldType)) 1 24 9 3 14 5 (.inl (fn_cd_inlines m)) :=
  gCee.vi (k := 2) (by decide) (gmetF hi ⟨plainFor_of_name pn_cd, ok_cd_inlines, hm, Or.inr (Or.inr (Or.inr (Or.inr (Or.inr (Or.inr ⟨rfl, rfl⟩))))), rfl, fun i c k t hg => gall_spec F_cd i _ hg, gall_spec C_cd, fun i k rc rt f hg => gall_spec (P := gCl l Z "GraftTrees$Codes" ⟨1, 0, 0, 24⟩) (xs := (e_cd_inlines m).2.2.2.1) ⟨(gm_fr_isNewest hi hm).cal (by omega) (by omega) q1580,
    (gm_cd_adds hi hm).cal (by omega) (by omega) q1932,
    trivial⟩ i _ hg⟩) q1939 q237 mh_cd ds_6 q1938 qs105
theorem gm_cd_lays {l : Launch} {Z : gZ} {m : Nat} (hi : gInj Z) (hm : m ≤ zN Z) : gCee l Z yX6_lays (ws_ yX6_lays cX6_lays 9 (Option.none : Option Jvm.ClassFile.FieldType)) 0 0 9 2 14 5 (.inl (fn_cd_lays m)) :=
  gCee.vi (k := 1) (by decide) (gmetF hi ⟨plainFor_of_name pn_cd, ok_cd_lays, hm, Or.inr (Or.inr (Or.inr (Or.inr (Or.inr (Or.inr ⟨rfl, rfl⟩))))), rfl, fun i c k t hg => gall_spec F_cd i _ hg, gall_spec C_cd, fun i k rc rt f hg => gall_spec (P := gCl l Z "GraftTrees$Codes" ⟨0, 0, 0, 0⟩) (xs := (e_cd_lays m).2.2.2.1) trivial i _ hg⟩) q1943 q237 mh_cd ds_19 q1942 qs106
theorem gm_cd_isSure {l : Launch} {Z : gZ} {m : Nat} (hi : gInj Z) (hm : m ≤ zN Z) : gCee l Z yX6_isSure (ws_ yX6_isSure cX6_isSure 3 (Option.some Jvm.ClassFile.FieldType.boolean)) 0 0 3 2 14 0 (.inl (fn_cd_isSure m)) :=
  gCee.vi (k := 1) (by decide) (gmetF hi ⟨plainFor_of_name pn_cd, ok_cd_isSure, hm, Or.inr (Or.inr (Or.inr (Or.inl ⟨rfl, rfl⟩))), rfl, fun i c k t hg => gall_spec F_cd i _ hg, gall_spec C_cd, fun i k rc rt f hg => gall_spec (P := gCl l Z "GraftTrees$Codes" ⟨0, 0, 0, 0⟩) (xs := (e_cd_isSure m).2.2.2.1) trivial i _ hg⟩) q1952 q237 mh_cd ds_8 q1951 qs108
theorem gm_cd_guardsOf {l : Launch} {Z : gZ} {m : Nat} (hi : gInj Z) (hm : m ≤ zN Z) : gCee l Z yX6_guardsOf (ws_ yX6_guardsOf cX6_guardsOf 3 (Option.some Jvm.ClassFile.FieldType.int)) 1 22 3 2 14 0 (.inl (fn_cd_guardsOf m)) :=
  gCee.vi (k := 1) (by decide) (gmetF hi ⟨plainFor_of_name pn_cd, ok_cd_guardsOf, hm, Or.inr (Or.inr (Or.inl ⟨rfl, rfl⟩)), rfl, fun i c k t hg => gall_spec F_cd i _ hg, gall_spec C_cd, fun i k rc rt f hg => gall_spec (P := gCl l Z "GraftTrees$Codes" ⟨1, 0, 0, 22⟩) (xs := (e_cd_guardsOf m).2.2.2.1) ⟨(gm_cd_isSure hi hm).cal (by omega) (by omega) q1949,
    (gm_jm_max hi (Nat.zero_le _)).cal (by omega) (by omega) q1953,
    trivial⟩ i _ hg⟩) q1948 q237 mh_cd ds_16 q1947 qs107
theorem gm_cd_make {l : Launch} {Z : gZ} {m : Nat} (hi : gInj Z) (hm : m ≤ zN Z) : gCee l Z yX6_make (ws_ yX6_make cX6_make 5 (Option.none : Option Jvm.ClassFile.FieldType)) 2 52 5 2 14 5 (.inl (fn_cd_make m)) :=
  gCee.vi (k := 1) (by decide) (gmetF hi ⟨plainFor_of_name pn_cd, ok_cd_make, hm, Or.inr (Or.inr (Or.inr (Or.inr (Or.inr (Or.inr ⟨rfl, rfl⟩))))), rfl, fun i c k t hg => gall_spec F_cd i _ hg, gall_spec C_cd, fun i k rc rt f hg => gall_spec (P := gCl l Z "GraftTrees$Codes" ⟨2, 0, 0, 52⟩) (xs := (e_cd_make m).2.2.2.1) ⟨(gm_cd_adds hi hm).cal (by omega) (by omega) q1932,
    (gm_cd_inlines hi hm).cal (by omega) (by omega) q1936,
    (gm_cd_lays hi hm).cal (by omega) (by omega) q1940,
    (gm_cd_guardsOf hi hm).cal (by omega) (by omega) q1945,
    trivial⟩ i _ hg⟩) q1931 q237 mh_cd ds_19 q1930 qs103
theorem gm_cd_compile {l : Launch} {Z : gZ} {m : Nat} (hi : gInj Z) (hm : m ≤ zN Z) : gCee l Z yX6_compile (ws_ yX6_compile cX6_compile 3 (Option.some Jvm.ClassFile.FieldType.int)) 3 76 3 1 14 0 (.inl (fn_cd_compile m)) :=
  gCee.vi (k := 0) (by decide) (gmetF hi ⟨plainFor_of_name pn_cd, ok_cd_compile, hm, Or.inr (Or.inr (Or.inl ⟨rfl, rfl⟩)), rfl, fun i c k t hg => gall_spec F_cd i _ hg, gall_spec C_cd, fun i k rc rt f hg => gall_spec (P := gCl l Z "GraftTrees$Codes" ⟨3, 0, 0, 76⟩) (xs := (e_cd_compile m).2.2.2.1) ⟨(gm_fr_isNewest hi hm).cal (by omega) (by omega) q1580,
    (gm_cd_make hi hm).cal (by omega) (by omega) q1928,
    trivial⟩ i _ hg⟩) q1927 q237 mh_cd ds_13 q1925 q1926
