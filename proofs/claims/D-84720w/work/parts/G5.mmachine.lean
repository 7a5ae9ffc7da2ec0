set_option maxRecDepth 100000
theorem F_mc : gall (gFl "GraftTrees$Machine") f_mc := ⟨Or.inl ⟨RX9, TX9, 48, 6, by decide, by decide, rfl, rfl, by decide, rfl, Or.inl q953⟩,
  Or.inl ⟨RX9, TX9, 48, 7, by decide, by decide, rfl, rfl, by decide, rfl, Or.inl q954⟩,
  Or.inl ⟨RX9, TX9, 48, 9, by decide, by decide, rfl, rfl, by decide, rfl, Or.inl q956⟩,
  Or.inl ⟨RX9, TX9, 48, 10, by decide, by decide, rfl, rfl, by decide, rfl, Or.inl q958⟩,
  Or.inl ⟨RX9, TX9, 48, 11, by decide, by decide, rfl, rfl, by decide, rfl, Or.inl q959⟩,
  Or.inl ⟨RX9, TX9, 48, 12, by decide, by decide, rfl, rfl, by decide, rfl, Or.inl q960⟩,
  Or.inl ⟨RX9, TX9, 48, 13, by decide, by decide, rfl, rfl, by decide, rfl, Or.inl q962⟩,
  Or.inl ⟨RX9, TX9, 48, 14, by decide, by decide, rfl, rfl, by decide, rfl, Or.inl q964⟩,
  Or.inl ⟨RX9, TX9, 48, 15, by decide, by decide, rfl, rfl, by decide, rfl, Or.inl q965⟩,
  Or.inl ⟨RX9, TX9, 48, 16, by decide, by decide, rfl, rfl, by decide, rfl, Or.inl q967⟩,
  Or.inl ⟨RX9, TX9, 48, 17, by decide, by decide, rfl, rfl, by decide, rfl, Or.inl q968⟩,
  Or.inl ⟨RX9, TX9, 48, 18, by decide, by decide, rfl, rfl, by decide, rfl, Or.inl q970⟩,
  Or.inl ⟨RX9, TX9, 48, 28, by decide, by decide, rfl, rfl, by decide, rfl, Or.inl q987⟩,
  Or.inl ⟨RX9, TX9, 48, 29, by decide, by decide, rfl, rfl, by decide, rfl, Or.inl q988⟩,
  Or.inl ⟨RX9, TX9, 48, 30, by decide, by decide, rfl, rfl, by decide, rfl, Or.inl q989⟩,
  Or.inl ⟨RX9, TX9, 48, 32, by decide, by decide, rfl, rfl, by decide, rfl, Or.inl q992⟩,
  Or.inl ⟨RX9, TX9, 48, 33, by decide, by decide, rfl, rfl, by decide, rfl, Or.inl q994⟩,
  Or.inl ⟨RX9, TX9, 48, 43, by decide, by decide, rfl, rfl, by decide, rfl, Or.inl q1014⟩,
  Or.inl ⟨RX9, TX9, 48, 44, by decide, by decide, rfl, rfl, by decide, rfl, Or.inl q1015⟩,
  Or.inl ⟨RX9, TX9, 48, 45, by decide, by decide, rfl, rfl, by decide, rfl, Or.inl q1016⟩,
  Or.inl ⟨RX9, TX9, 48, 46, by decide, by decide, rfl, rfl, by decide, rfl, Or.inl q1017⟩,
  Or.inl ⟨RX9, TX9, 48, 0, by decide, by decide, rfl, rfl, by decide, rfl, Or.inl q947⟩,
  Or.inl ⟨RX9, TX9, 48, 1, by decide, by decide, rfl, rfl, by decide, rfl, Or.inl q948⟩,
  Or.inl ⟨RX9, TX9, 48, 2, by decide, by decide, rfl, rfl, by decide, rfl, Or.inl q949⟩,
  Or.inl ⟨RX9, TX9, 48, 3, by decide, by decide, rfl, rfl, by decide, rfl, Or.inl q950⟩,
  Or.inl ⟨RX9, TX9, 48, 4, by decide, by decide, rfl, rfl, by decide, rfl, Or.inl q951⟩,
  Or.inl ⟨RX9, TX9, 48, 5, by decide, by decide, rfl, rfl, by decide, rfl, Or.inl q952⟩,
  Or.inl ⟨RX9, TX9, 48, 36, by decide, by decide, rfl, rfl, by decide, rfl, Or.inl q1000⟩,
  Or.inl ⟨RX9, TX9, 48, 37, by decide, by decide, rfl, rfl, by decide, rfl, Or.inl q1002⟩,
  Or.inl ⟨RX9, TX9, 48, 38, by decide, by decide, rfl, rfl, by decide, rfl, Or.inl q1004⟩,
  Or.inl ⟨RX9, TX9, 48, 39, by decide, by decide, rfl, rfl, by decide, rfl, Or.inl q1006⟩,
  Or.inl ⟨RX9, TX9, 48, 40, by decide, by decide, rfl, rfl, by decide, rfl, Or.inl q1008⟩,
  Or.inl ⟨RX9, TX9, 48, 41, by decide, by decide, rfl, rfl, by decide, rfl, Or.inl q1010⟩,
  Or.inl ⟨RX9, TX9, 48, 42, by decide, by decide, rfl, rfl, by decide, rfl, Or.inl q1012⟩,
  Or.inl ⟨RX9, TX9, 48, 23, by decide, by decide, rfl, rfl, by decide, rfl, Or.inl q977⟩,
  Or.inl ⟨RX9, TX9, 48, 19, by decide, by decide, rfl, rfl, by decide, rfl, Or.inl q971⟩,
  Or.inl ⟨RX9, TX9, 48, 20, by decide, by decide, rfl, rfl, by decide, rfl, Or.inl q973⟩,
  Or.inl ⟨RX9, TX9, 48, 24, by decide, by decide, rfl, rfl, by decide, rfl, Or.inl q979⟩,
  Or.inl ⟨RX9, TX9, 48, 31, by decide, by decide, rfl, rfl, by decide, rfl, Or.inl q990⟩,
  Or.inl ⟨RX9, TX9, 48, 34, by decide, by decide, rfl, rfl, by decide, rfl, Or.inl q996⟩,
  Or.inl ⟨RX9, TX9, 48, 25, by decide, by decide, rfl, rfl, by decide, rfl, Or.inl q981⟩,
  Or.inl ⟨RX9, TX9, 48, 35, by decide, by decide, rfl, rfl, by decide, rfl, Or.inl q998⟩,
  Or.inl ⟨RX9, TX9, 48, 8, by decide, by decide, rfl, rfl, by decide, rfl, Or.inl q955⟩,
  Or.inl ⟨RX3, TX3, 42, 20, by decide, by decide, rfl, rfl, by decide, rfl, Or.inr ⟨_, q518⟩⟩,
  Or.inl ⟨RX3, TX3, 42, 13, by decide, by decide, rfl, rfl, by decide, rfl, Or.inr ⟨_, q501⟩⟩,
  Or.inl ⟨RX9, TX9, 48, 22, by decide, by decide, rfl, rfl, by decide, rfl, Or.inl q976⟩,
  Or.inl ⟨RX3, TX3, 42, 15, by decide, by decide, rfl, rfl, by decide, rfl, Or.inr ⟨_, q507⟩⟩,
  Or.inl ⟨RX9, TX9, 48, 21, by decide, by decide, rfl, rfl, by decide, rfl, Or.inl q975⟩,
  Or.inl ⟨RX9, TX9, 48, 26, by decide, by decide, rfl, rfl, by decide, rfl, Or.inl q983⟩,
  Or.inl ⟨RX3, TX3, 42, 21, by decide, by decide, rfl, rfl, by decide, rfl, Or.inr ⟨_, q522⟩⟩,
  Or.inl ⟨RX9, TX9, 48, 27, by decide, by decide, rfl, rfl, by decide, rfl, Or.inl q985⟩,
  Or.inl ⟨RX3, TX3, 42, 8, by decide, by decide, rfl, rfl, by decide, rfl, Or.inr ⟨_, q487⟩⟩,
  Or.inl ⟨RX3, TX3, 42, 9, by decide, by decide, rfl, rfl, by decide, rfl, Or.inr ⟨_, q490⟩⟩,
  Or.inl ⟨RX3, TX3, 42, 14, by decide, by decide, rfl, rfl, by decide, rfl, Or.inr ⟨_, q504⟩⟩,
  Or.inl ⟨RX3, TX3, 42, 3, by decide, by decide, rfl, rfl, by decide, rfl, Or.inr ⟨_, q473⟩⟩,
  Or.inl ⟨RX6, TX6, 20, 7, by decide, by decide, rfl, rfl, by decide, rfl, Or.inr ⟨_, q733⟩⟩,
  Or.inl ⟨RX3, TX3, 42, 4, by decide, by decide, rfl, rfl, by decide, rfl, Or.inr ⟨_, q477⟩⟩,
  Or.inl ⟨RX6, TX6, 20, 17, by decide, by decide, rfl, rfl, by decide, rfl, Or.inr ⟨_, q751⟩⟩,
  Or.inl ⟨RX6, TX6, 20, 9, by decide, by decide, rfl, rfl, by decide, rfl, Or.inr ⟨_, q739⟩⟩,
  Or.inl ⟨RX6, TX6, 20, 8, by decide, by decide, rfl, rfl, by decide, rfl, Or.inr ⟨_, q736⟩⟩,
  Or.inl ⟨RX6, TX6, 20, 6, by decide, by decide, rfl, rfl, by decide, rfl, Or.inr ⟨_, q730⟩⟩,
  Or.inl ⟨RX3, TX3, 42, 29, by decide, by decide, rfl, rfl, by decide, rfl, Or.inr ⟨_, q547⟩⟩,
  Or.inl ⟨RX3, TX3, 42, 23, by decide, by decide, rfl, rfl, by decide, rfl, Or.inr ⟨_, q530⟩⟩,
  Or.inl ⟨RX3, TX3, 42, 1, by decide, by decide, rfl, rfl, by decide, rfl, Or.inr ⟨_, q469⟩⟩,
  Or.inl ⟨RX3, TX3, 42, 5, by decide, by decide, rfl, rfl, by decide, rfl, Or.inr ⟨_, q481⟩⟩,
  Or.inl ⟨RX3, TX3, 42, 30, by decide, by decide, rfl, rfl, by decide, rfl, Or.inr ⟨_, q549⟩⟩,
  Or.inl ⟨RX3, TX3, 42, 6, by decide, by decide, rfl, rfl, by decide, rfl, Or.inr ⟨_, q483⟩⟩,
  Or.inl ⟨RX3, TX3, 42, 18, by decide, by decide, rfl, rfl, by decide, rfl, Or.inr ⟨_, q515⟩⟩,
  Or.inl ⟨RX3, TX3, 42, 10, by decide, by decide, rfl, rfl, by decide, rfl, Or.inr ⟨_, q494⟩⟩,
  Or.inl ⟨RX3, TX3, 42, 11, by decide, by decide, rfl, rfl, by decide, rfl, Or.inr ⟨_, q498⟩⟩,
  Or.inl ⟨RX5, TX5, 13, 4, by decide, by decide, rfl, rfl, by decide, rfl, Or.inr ⟨_, q669⟩⟩,
  Or.inl ⟨RX3, TX3, 42, 26, by decide, by decide, rfl, rfl, by decide, rfl, Or.inr ⟨_, q537⟩⟩,
  Or.inl ⟨RX3, TX3, 42, 25, by decide, by decide, rfl, rfl, by decide, rfl, Or.inr ⟨_, q534⟩⟩,
  Or.inl ⟨RX2, TX2, 15, 0, by decide, by decide, rfl, rfl, by decide, rfl, Or.inr ⟨_, q271⟩⟩,
  Or.inl ⟨RX2, TX2, 15, 11, by decide, by decide, rfl, rfl, by decide, rfl, Or.inr ⟨_, q293⟩⟩,
  Or.inl ⟨RX3, TX3, 42, 40, by decide, by decide, rfl, rfl, by decide, rfl, Or.inr ⟨_, q562⟩⟩,
  Or.inl ⟨RX2, TX2, 15, 1, by decide, by decide, rfl, rfl, by decide, rfl, Or.inr ⟨_, q276⟩⟩,
  Or.inl ⟨RX2, TX2, 15, 2, by decide, by decide, rfl, rfl, by decide, rfl, Or.inr ⟨_, q281⟩⟩,
  Or.inl ⟨RX3, TX3, 42, 31, by decide, by decide, rfl, rfl, by decide, rfl, Or.inr ⟨_, q552⟩⟩,
  Or.inl ⟨RX7, TX7, 23, 19, by decide, by decide, rfl, rfl, by decide, rfl, Or.inr ⟨_, q882⟩⟩,
  Or.inl ⟨RX3, TX3, 42, 17, by decide, by decide, rfl, rfl, by decide, rfl, Or.inr ⟨_, q512⟩⟩,
  Or.inl ⟨RX4, TX4, 4, 0, by decide, by decide, rfl, rfl, by decide, rfl, Or.inr ⟨_, q347⟩⟩,
  Or.inl ⟨RX5, TX5, 13, 5, by decide, by decide, rfl, rfl, by decide, rfl, Or.inr ⟨_, q672⟩⟩,
  Or.inl ⟨RX9, TX9, 48, 47, by decide, by decide, rfl, rfl, by decide, rfl, Or.inl q1018⟩,
  trivial⟩
theorem C_mc : gall (gCst "GraftTrees$Machine") c_mc := ⟨Or.inl ⟨64000, rfl, q1604, by unfold i32; omega⟩,
  Or.inr (Or.inr ⟨11, "true", rfl, List.mem_of_getElem? (i := 38) rfl⟩),
  Or.inr (Or.inr ⟨12, "false", rfl, List.mem_of_getElem? (i := 39) rfl⟩),
  Or.inr (Or.inr ⟨5, "null", rfl, List.mem_of_getElem? (i := 40) rfl⟩),
  Or.inr (Or.inr ⟨22, "{}", rfl, List.mem_of_getElem? (i := 41) rfl⟩),
  Or.inr (Or.inl ⟨-9223372036854775808, rfl, q1660, by unfold i64; omega⟩),
  Or.inr (Or.inl ⟨-1, rfl, q1661, by unfold i64; omega⟩),
  trivial⟩
theorem pn_mc : plainName "GraftTrees$Machine" = true := by decide +kernel
theorem mh_mc : "GraftTrees$Machine" ≠ "java/lang/invoke/MethodHandle" ∧ "GraftTrees$Machine" ≠ "java/lang/invoke/VarHandle" := by decide
theorem gm_mc_none {l : Launch} {Z : gZ} {m : Nat} (hi : gInj Z) (hm : m ≤ zN Z) : gCee l Z yX9_none (ws_ yX9_none cX9_none 1 (Option.none : Option Jvm.ClassFile.FieldType)) 1 20 1 1 17 5 (.inl (fn_mc_none m)) :=
  gCee.vi (k := 0) (by decide) (gmetF hi ⟨plainFor_of_name pn_mc, ok_mc_none, hm, Or.inr (Or.inr (Or.inr (Or.inr (Or.inr (Or.inr ⟨rfl, rfl⟩))))), rfl, fun i c k t hg => gall_spec F_mc i _ hg, gall_spec C_mc, fun i k rc rt f hg => gall_spec (P := gCl l Z "GraftTrees$Machine" ⟨1, 0, 0, 20⟩) (xs := (e_mc_none m).2.2.2.1) ⟨(gm_hp_begin hi hm).cal (by omega) (by omega) q1124,
    trivial⟩ i _ hg⟩) q1123 q240 mh_mc ds_26 q1121 q1122
theorem gm_mc_clear {l : Launch} {Z : gZ} {m : Nat} (hi : gInj Z) (hm : m ≤ zN Z) : gCee l Z yX9_clear (ws_ yX9_clear cX9_clear 1 (Option.none : Option Jvm.ClassFile.FieldType)) 2 40 1 1 17 5 (.inl (fn_mc_clear m)) :=
  gCee.vi (k := 0) (by decide) (gmetF hi ⟨plainFor_of_name pn_mc, ok_mc_clear, hm, Or.inr (Or.inr (Or.inr (Or.inr (Or.inr (Or.inr ⟨rfl, rfl⟩))))), rfl, fun i c k t hg => gall_spec F_mc i _ hg, gall_spec C_mc, fun i k rc rt f hg => gall_spec (P := gCl l Z "GraftTrees$Machine" ⟨2, 0, 0, 40⟩) (xs := (e_mc_clear m).2.2.2.1) ⟨(gm_mc_none hi hm).cal (by omega) (by omega) q1120,
    trivial⟩ i _ hg⟩) q1119 q240 mh_mc ds_26 q1117 q1118
theorem gm_mc_push {l : Launch} {Z : gZ} {m : Nat} (hi : gInj Z) (hm : m ≤ zN Z) : gCee l Z yX9_push (ws_ yX9_push cX9_push 4 (Option.none : Option Jvm.ClassFile.FieldType)) 0 0 4 3 17 5 (.inl (fn_mc_push m)) :=
  gCee.vi (k := 2) (by decide) (gmetF hi ⟨plainFor_of_name pn_mc, ok_mc_push, hm, Or.inr (Or.inr (Or.inr (Or.inr (Or.inr (Or.inr ⟨rfl, rfl⟩))))), rfl, fun i c k t hg => gall_spec F_mc i _ hg, gall_spec C_mc, fun i k rc rt f hg => gall_spec (P := gCl l Z "GraftTrees$Machine" ⟨0, 0, 0, 0⟩) (xs := (e_mc_push m).2.2.2.1) trivial i _ hg⟩) q1556 q240 mh_mc ds_43 q1555 qs54
theorem gm_mc_enters {l : Launch} {Z : gZ} {m : Nat} (hi : gInj Z) (hm : m ≤ zN Z) : gCee l Z yX9_enters (ws_ yX9_enters cX9_enters 2 (Option.none : Option Jvm.ClassFile.FieldType)) 2 41 2 2 17 5 (.inl (fn_mc_enters m)) :=
  gCee.vi (k := 1) (by decide) (gmetF hi ⟨plainFor_of_name pn_mc, ok_mc_enters, hm, Or.inr (Or.inr (Or.inr (Or.inr (Or.inr (Or.inr ⟨rfl, rfl⟩))))), rfl, fun i c k t hg => gall_spec F_mc i _ hg, gall_spec C_mc, fun i k rc rt f hg => gall_spec (P := gCl l Z "GraftTrees$Machine" ⟨2, 0, 0, 41⟩) (xs := (e_mc_enters m).2.2.2.1) ⟨(gm_cd_more hi hm).cal (by omega) (by omega) q1557,
    trivial⟩ i _ hg⟩) q1587 q240 mh_mc ds_19 q1586 qs56
theorem gm_mc_leaves {l : Launch} {Z : gZ} {m : Nat} (hi : gInj Z) (hm : m ≤ zN Z) : gCee l Z yX9_leaves (ws_ yX9_leaves cX9_leaves 3 (Option.none : Option Jvm.ClassFile.FieldType)) 0 0 3 1 17 5 (.inl (fn_mc_leaves m)) :=
  gCee.vi (k := 0) (by decide) (gmetF hi ⟨plainFor_of_name pn_mc, ok_mc_leaves, hm, Or.inr (Or.inr (Or.inr (Or.inr (Or.inr (Or.inr ⟨rfl, rfl⟩))))), rfl, fun i c k t hg => gall_spec F_mc i _ hg, gall_spec C_mc, fun i k rc rt f hg => gall_spec (P := gCl l Z "GraftTrees$Machine" ⟨0, 0, 0, 0⟩) (xs := (e_mc_leaves m).2.2.2.1) trivial i _ hg⟩) q1603 q240 mh_mc ds_26 q1602 qs60
theorem gm_mc_changed {l : Launch} {Z : gZ} {m : Nat} (hi : gInj Z) (hm : m ≤ zN Z) : gCee l Z yX9_changed (ws_ yX9_changed cX9_changed 2 (Option.none : Option Jvm.ClassFile.FieldType)) 2 45 2 2 17 5 (.inl (fn_mc_changed m)) :=
  gCee.vi (k := 1) (by decide) (gmetF hi ⟨plainFor_of_name pn_mc, ok_mc_changed, hm, Or.inr (Or.inr (Or.inr (Or.inr (Or.inr (Or.inr ⟨rfl, rfl⟩))))), rfl, fun i c k t hg => gall_spec F_mc i _ hg, gall_spec C_mc, fun i k rc rt f hg => gall_spec (P := gCl l Z "GraftTrees$Machine" ⟨2, 0, 0, 45⟩) (xs := (e_mc_changed m).2.2.2.1) ⟨(gm_mc_leaves hi hm).cal (by omega) (by omega) q1600,
    (gm_cd_changed hi hm).cal (by omega) (by omega) q1605,
    trivial⟩ i _ hg⟩) q1599 q240 mh_mc ds_19 q1598 qs59
theorem gm_mc_changes {l : Launch} {Z : gZ} {m : Nat} (hi : gInj Z) (hm : m ≤ zN Z) : gCee l Z yX9_changes (ws_ yX9_changes cX9_changes 3 (Option.none : Option Jvm.ClassFile.FieldType)) 3 66 3 3 17 5 (.inl (fn_mc_changes m)) :=
  gCee.vi (k := 2) (by decide) (gmetF hi ⟨plainFor_of_name pn_mc, ok_mc_changes, hm, Or.inr (Or.inr (Or.inr (Or.inr (Or.inr (Or.inr ⟨rfl, rfl⟩))))), rfl, fun i c k t hg => gall_spec F_mc i _ hg, gall_spec C_mc, fun i k rc rt f hg => gall_spec (P := gCl l Z "GraftTrees$Machine" ⟨3, 0, 0, 66⟩) (xs := (e_mc_changes m).2.2.2.1) ⟨(gm_mc_changed hi hm).cal (by omega) (by omega) q1596,
    trivial⟩ i _ hg⟩) q1595 q240 mh_mc ds_6 q1594 qs58
theorem gm_mc_write {l : Launch} {Z : gZ} {m : Nat} (hi : gInj Z) (hm : m ≤ zN Z) : gCee l Z yX9_write (ws_ yX9_write cX9_write 10 (Option.none : Option Jvm.ClassFile.FieldType)) 4 88 10 4 17 5 (.inl (fn_mc_write m)) :=
  gCee.vi (k := 3) (by decide) (gmetF hi ⟨plainFor_of_name pn_mc, ok_mc_write, hm, Or.inr (Or.inr (Or.inr (Or.inr (Or.inr (Or.inr ⟨rfl, rfl⟩))))), rfl, fun i c k t hg => gall_spec F_mc i _ hg, gall_spec C_mc, fun i k rc rt f hg => gall_spec (P := gCl l Z "GraftTrees$Machine" ⟨4, 0, 0, 88⟩) (xs := (e_mc_write m).2.2.2.1) ⟨(gm_mc_changes hi hm).cal (by omega) (by omega) q1592,
    trivial⟩ i _ hg⟩) q1591 q240 mh_mc ds_39 q1590 qs57
theorem gm_mc_activate {l : Launch} {Z : gZ} {m : Nat} (hi : gInj Z) (hm : m ≤ zN Z) : gCee l Z yX9_activate (ws_ yX9_activate cX9_activate 8 (Option.none : Option Jvm.ClassFile.FieldType)) 5 117 8 5 17 5 (.inl (fn_mc_activate m)) :=
  gCee.vi (k := 4) (by decide) (gmetF hi ⟨plainFor_of_name pn_mc, ok_mc_activate, hm, Or.inr (Or.inr (Or.inr (Or.inr (Or.inr (Or.inr ⟨rfl, rfl⟩))))), rfl, fun i c k t hg => gall_spec F_mc i _ hg, gall_spec C_mc, fun i k rc rt f hg => gall_spec (P := gCl l Z "GraftTrees$Machine" ⟨5, 0, 0, 117⟩) (xs := (e_mc_activate m).2.2.2.1) ⟨(gm_jm_max hi (Nat.zero_le _)).cal (by omega) (by omega) q1566,
    (gm_cd_more hi hm).cal (by omega) (by omega) q1557,
    (gm_cd_start hi hm).cal (by omega) (by omega) q1567,
    (gm_cd_heats hi hm).cal (by omega) (by omega) q1571,
    (gm_mc_enters hi hm).cal (by omega) (by omega) q1584,
    (gm_mc_write hi hm).cal (by omega) (by omega) q1588,
    trivial⟩ i _ hg⟩) q1565 q240 mh_mc ds_42 q1564 qs55
theorem gm_mc_fails {l : Launch} {Z : gZ} {m : Nat} (hi : gInj Z) (hm : m ≤ zN Z) : gCee l Z yX9_fails (ws_ yX9_fails cX9_fails 3 (Option.some Jvm.ClassFile.FieldType.boolean)) 0 0 3 3 17 0 (.inl (fn_mc_fails m)) :=
  gCee.vi (k := 2) (by decide) (gmetF hi ⟨plainFor_of_name pn_mc, ok_mc_fails, hm, Or.inr (Or.inr (Or.inr (Or.inl ⟨rfl, rfl⟩))), rfl, fun i c k t hg => gall_spec F_mc i _ hg, gall_spec C_mc, fun i k rc rt f hg => gall_spec (P := gCl l Z "GraftTrees$Machine" ⟨0, 0, 0, 0⟩) (xs := (e_mc_fails m).2.2.2.1) trivial i _ hg⟩) q1620 q240 mh_mc ds_31 q1619 qs62
theorem gm_mc_falls {l : Launch} {Z : gZ} {m : Nat} (hi : gInj Z) (hm : m ≤ zN Z) : gCee l Z yX9_falls (ws_ yX9_falls cX9_falls 1 (Option.none : Option Jvm.ClassFile.FieldType)) 1 22 1 1 17 5 (.inl (fn_mc_falls m)) :=
  gCee.vi (k := 0) (by decide) (gmetF hi ⟨plainFor_of_name pn_mc, ok_mc_falls, hm, Or.inr (Or.inr (Or.inr (Or.inr (Or.inr (Or.inr ⟨rfl, rfl⟩))))), rfl, fun i c k t hg => gall_spec F_mc i _ hg, gall_spec C_mc, fun i k rc rt f hg => gall_spec (P := gCl l Z "GraftTrees$Machine" ⟨1, 0, 0, 22⟩) (xs := (e_mc_falls m).2.2.2.1) ⟨(gm_mc_leaves hi hm).cal (by omega) (by omega) q1600,
    trivial⟩ i _ hg⟩) q1624 q240 mh_mc ds_26 q1623 qs63
theorem gm_mc_again {l : Launch} {Z : gZ} {m : Nat} (hi : gInj Z) (hm : m ≤ zN Z) : gCee l Z yX9_again (ws_ yX9_again cX9_again 3 (Option.none : Option Jvm.ClassFile.FieldType)) 3 63 3 1 17 5 (.inl (fn_mc_again m)) :=
  gCee.vi (k := 0) (by decide) (gmetF hi ⟨plainFor_of_name pn_mc, ok_mc_again, hm, Or.inr (Or.inr (Or.inr (Or.inr (Or.inr (Or.inr ⟨rfl, rfl⟩))))), rfl, fun i c k t hg => gall_spec F_mc i _ hg, gall_spec C_mc, fun i k rc rt f hg => gall_spec (P := gCl l Z "GraftTrees$Machine" ⟨3, 0, 0, 63⟩) (xs := (e_mc_again m).2.2.2.1) ⟨(gm_cd_heats hi hm).cal (by omega) (by omega) q1571,
    (gm_mc_enters hi hm).cal (by omega) (by omega) q1584,
    (gm_cd_start hi hm).cal (by omega) (by omega) q1567,
    trivial⟩ i _ hg⟩) q1628 q240 mh_mc ds_26 q1627 qs64
theorem gm_mc_read {l : Launch} {Z : gZ} {m : Nat} (hi : gInj Z) (hm : m ≤ zN Z) : gCee l Z yX9_read (ws_ yX9_read cX9_read 5 (Option.none : Option Jvm.ClassFile.FieldType)) 4 88 5 2 17 5 (.inl (fn_mc_read m)) :=
  gCee.vi (k := 1) (by decide) (gmetF hi ⟨plainFor_of_name pn_mc, ok_mc_read, hm, Or.inr (Or.inr (Or.inr (Or.inr (Or.inr (Or.inr ⟨rfl, rfl⟩))))), rfl, fun i c k t hg => gall_spec F_mc i _ hg, gall_spec C_mc, fun i k rc rt f hg => gall_spec (P := gCl l Z "GraftTrees$Machine" ⟨4, 0, 0, 88⟩) (xs := (e_mc_read m).2.2.2.1) ⟨(gm_mc_changes hi hm).cal (by omega) (by omega) q1592,
    (gm_mc_push hi hm).cal (by omega) (by omega) q1553,
    trivial⟩ i _ hg⟩) q1636 q240 mh_mc ds_19 q1635 qs66
theorem gm_mc_areLongs {l : Launch} {Z : gZ} {m : Nat} (hi : gInj Z) (hm : m ≤ zN Z) : gCee l Z yX9_areLongs (ws_ yX9_areLongs cX9_areLongs 1 (Option.some Jvm.ClassFile.FieldType.boolean)) 0 0 1 1 17 0 (.inl (fn_mc_areLongs m)) :=
  gCee.vi (k := 0) (by decide) (gmetF hi ⟨plainFor_of_name pn_mc, ok_mc_areLongs, hm, Or.inr (Or.inr (Or.inr (Or.inl ⟨rfl, rfl⟩))), rfl, fun i c k t hg => gall_spec F_mc i _ hg, gall_spec C_mc, fun i k rc rt f hg => gall_spec (P := gCl l Z "GraftTrees$Machine" ⟨0, 0, 0, 0⟩) (xs := (e_mc_areLongs m).2.2.2.1) trivial i _ hg⟩) q1644 q240 mh_mc ds_14 q1643 qs68
theorem gm_mc_holds {l : Launch} {Z : gZ} {m : Nat} (hi : gInj Z) (hm : m ≤ zN Z) : gCee l Z yX9_holds (ws_ yX9_holds cX9_holds 2 (Option.some Jvm.ClassFile.FieldType.boolean)) 0 0 2 2 0 0 (.inl (fn_mc_holds m)) :=
  gCee.st (k := 2) (gmetF hi ⟨plainFor_of_name pn_mc, ok_mc_holds, hm, Or.inr (Or.inr (Or.inr (Or.inl ⟨rfl, rfl⟩))), rfl, fun i c k t hg => gall_spec F_mc i _ hg, gall_spec C_mc, fun i k rc rt f hg => gall_spec (P := gCl l Z "GraftTrees$Machine" ⟨0, 0, 0, 0⟩) (xs := (e_mc_holds m).2.2.2.1) trivial i _ hg⟩) q1650 q240 mh_mc ds_31 q1649
theorem gm_mc_settle {l : Launch} {Z : gZ} {m : Nat} (hi : gInj Z) (hm : m ≤ zN Z) : gCee l Z yX9_settle (ws_ yX9_settle cX9_settle 4 (Option.none : Option Jvm.ClassFile.FieldType)) 1 23 4 3 17 5 (.inl (fn_mc_settle m)) :=
  gCee.vi (k := 2) (by decide) (gmetF hi ⟨plainFor_of_name pn_mc, ok_mc_settle, hm, Or.inr (Or.inr (Or.inr (Or.inr (Or.inr (Or.inr ⟨rfl, rfl⟩))))), rfl, fun i c k t hg => gall_spec F_mc i _ hg, gall_spec C_mc, fun i k rc rt f hg => gall_spec (P := gCl l Z "GraftTrees$Machine" ⟨1, 0, 0, 23⟩) (xs := (e_mc_settle m).2.2.2.1) ⟨(gm_mc_push hi hm).cal (by omega) (by omega) q1553,
    trivial⟩ i _ hg⟩) q1654 q240 mh_mc ds_43 q1653 qs69
theorem gm_mc_fits {l : Launch} {Z : gZ} {m : Nat} (hi : gInj Z) (hm : m ≤ zN Z) : gCee l Z yX9_fits (ws_ yX9_fits cX9_fits 6 (Option.some Jvm.ClassFile.FieldType.boolean)) 1 39 6 4 17 0 (.inl (fn_mc_fits m)) :=
  gCee.vi (k := 3) (by decide) (gmetF hi ⟨plainFor_of_name pn_mc, ok_mc_fits, hm, Or.inr (Or.inr (Or.inr (Or.inl ⟨rfl, rfl⟩))), rfl, fun i c k t hg => gall_spec F_mc i _ hg, gall_spec C_mc, fun i k rc rt f hg => gall_spec (P := gCl l Z "GraftTrees$Machine" ⟨1, 0, 0, 39⟩) (xs := (e_mc_fits m).2.2.2.1) ⟨(gm_jm_multiplyHigh hi (Nat.zero_le _)).cal (by omega) (by omega) q1659,
    trivial⟩ i _ hg⟩) q1658 q240 mh_mc ds_44 q1657 qs70
theorem gm_mc_longs {l : Launch} {Z : gZ} {m : Nat} (hi : gInj Z) (hm : m ≤ zN Z) : gCee l Z yX9_longs (ws_ yX9_longs cX9_longs 7 (Option.some Jvm.ClassFile.FieldType.boolean)) 2 64 7 2 17 0 (.inl (fn_mc_longs m)) :=
  gCee.vi (k := 1) (by decide) (gmetF hi ⟨plainFor_of_name pn_mc, ok_mc_longs, hm, Or.inr (Or.inr (Or.inr (Or.inl ⟨rfl, rfl⟩))), rfl, fun i c k t hg => gall_spec F_mc i _ hg, gall_spec C_mc, fun i k rc rt f hg => gall_spec (P := gCl l Z "GraftTrees$Machine" ⟨2, 0, 0, 64⟩) (xs := (e_mc_longs m).2.2.2.1) ⟨(gm_mc_areLongs hi hm).cal (by omega) (by omega) q1641,
    (gm_jl_compare hi (Nat.zero_le _)).cal (by omega) (by omega) q1645,
    (gm_mc_holds hi hm).cal (by omega) (by omega) q1648,
    (gm_mc_settle hi hm).cal (by omega) (by omega) q1651,
    (gm_mc_fits hi hm).cal (by omega) (by omega) q1655,
    trivial⟩ i _ hg⟩) q1640 q240 mh_mc ds_8 q1639 qs67
theorem gm_mc_isNumber {l : Launch} {Z : gZ} {m : Nat} (hi : gInj Z) (hm : m ≤ zN Z) : gCee l Z yX9_isNumber (ws_ yX9_isNumber cX9_isNumber 2 (Option.some Jvm.ClassFile.FieldType.boolean)) 0 0 2 2 17 0 (.inl (fn_mc_isNumber m)) :=
  gCee.vi (k := 1) (by decide) (gmetF hi ⟨plainFor_of_name pn_mc, ok_mc_isNumber, hm, Or.inr (Or.inr (Or.inr (Or.inl ⟨rfl, rfl⟩))), rfl, fun i c k t hg => gall_spec F_mc i _ hg, gall_spec C_mc, fun i k rc rt f hg => gall_spec (P := gCl l Z "GraftTrees$Machine" ⟨0, 0, 0, 0⟩) (xs := (e_mc_isNumber m).2.2.2.1) trivial i _ hg⟩) q1673 q240 mh_mc ds_8 q1672 qs73
theorem gm_mc_whole {l : Launch} {Z : gZ} {m : Nat} (hi : gInj Z) (hm : m ≤ zN Z) : gCee l Z yX9_whole (ws_ yX9_whole cX9_whole 3 (Option.none : Option Jvm.ClassFile.FieldType)) 2 46 3 3 17 5 (.inl (fn_mc_whole m)) :=
  gCee.vi (k := 2) (by decide) (gmetF hi ⟨plainFor_of_name pn_mc, ok_mc_whole, hm, Or.inr (Or.inr (Or.inr (Or.inr (Or.inr (Or.inr ⟨rfl, rfl⟩))))), rfl, fun i c k t hg => gall_spec F_mc i _ hg, gall_spec C_mc, fun i k rc rt f hg => gall_spec (P := gCl l Z "GraftTrees$Machine" ⟨2, 0, 0, 46⟩) (xs := (e_mc_whole m).2.2.2.1) ⟨(gm_wl_of hi hm).cal (by omega) (by omega) q1682,
    (gm_hp_get hi hm).cal (by omega) (by omega) q1683,
    trivial⟩ i _ hg⟩) q1681 q240 mh_mc ds_30 q1680 qs75
theorem gm_mc_order {l : Launch} {Z : gZ} {m : Nat} (hi : gInj Z) (hm : m ≤ zN Z) : gCee l Z yX9_order (ws_ yX9_order cX9_order 1 (Option.some Jvm.ClassFile.FieldType.int)) 3 68 1 1 17 0 (.inl (fn_mc_order m)) :=
  gCee.vi (k := 0) (by decide) (gmetF hi ⟨plainFor_of_name pn_mc, ok_mc_order, hm, Or.inr (Or.inr (Or.inl ⟨rfl, rfl⟩)), rfl, fun i c k t hg => gall_spec F_mc i _ hg, gall_spec C_mc, fun i k rc rt f hg => gall_spec (P := gCl l Z "GraftTrees$Machine" ⟨3, 0, 0, 68⟩) (xs := (e_mc_order m).2.2.2.1) ⟨(gm_mc_areLongs hi hm).cal (by omega) (by omega) q1641,
    (gm_jl_compare hi (Nat.zero_le _)).cal (by omega) (by omega) q1645,
    (gm_mc_whole hi hm).cal (by omega) (by omega) q1678,
    (gm_wl_compare hi hm).cal (by omega) (by omega) q1687,
    trivial⟩ i _ hg⟩) q1677 q240 mh_mc ds_13 q1676 qs74
theorem gm_mc_needs {l : Launch} {Z : gZ} {m : Nat} (hi : gInj Z) (hm : m ≤ zN Z) : gCee l Z yX9_needs (ws_ yX9_needs cX9_needs 5 (Option.none : Option Jvm.ClassFile.FieldType)) 4 88 5 4 17 5 (.inl (fn_mc_needs m)) :=
  gCee.vi (k := 3) (by decide) (gmetF hi ⟨plainFor_of_name pn_mc, ok_mc_needs, hm, Or.inr (Or.inr (Or.inr (Or.inr (Or.inr (Or.inr ⟨rfl, rfl⟩))))), rfl, fun i c k t hg => gall_spec F_mc i _ hg, gall_spec C_mc, fun i k rc rt f hg => gall_spec (P := gCl l Z "GraftTrees$Machine" ⟨4, 0, 0, 88⟩) (xs := (e_mc_needs m).2.2.2.1) ⟨(gm_mc_changes hi hm).cal (by omega) (by omega) q1592,
    trivial⟩ i _ hg⟩) q1700 q240 mh_mc ds_45 q1699 qs76
theorem gm_mc_alike {l : Launch} {Z : gZ} {m : Nat} (hi : gInj Z) (hm : m ≤ zN Z) : gCee l Z yX9_alike (ws_ yX9_alike cX9_alike 7 (Option.some Jvm.ClassFile.FieldType.boolean)) 5 112 7 3 17 0 (.inl (fn_mc_alike m)) :=
  gCee.vi (k := 2) (by decide) (gmetF hi ⟨plainFor_of_name pn_mc, ok_mc_alike, hm, Or.inr (Or.inr (Or.inr (Or.inl ⟨rfl, rfl⟩))), rfl, fun i c k t hg => gall_spec F_mc i _ hg, gall_spec C_mc, fun i k rc rt f hg => gall_spec (P := gCl l Z "GraftTrees$Machine" ⟨5, 0, 0, 112⟩) (xs := (e_mc_alike m).2.2.2.1) ⟨(gm_mc_isNumber hi hm).cal (by omega) (by omega) q1670,
    (gm_mc_order hi hm).cal (by omega) (by omega) q1674,
    (gm_hp_isSame hi hm).cal (by omega) (by omega) q1693,
    (gm_mc_needs hi hm).cal (by omega) (by omega) q1697,
    (gm_mc_settle hi hm).cal (by omega) (by omega) q1651,
    trivial⟩ i _ hg⟩) q1669 q240 mh_mc ds_31 q1668 qs72
theorem gm_mc_digits {l : Launch} {Z : gZ} {m : Nat} (hi : gInj Z) (hm : m ≤ zN Z) : gCee l Z yX9_digits (ws_ yX9_digits cX9_digits 3 (Option.none : Option Jvm.ClassFile.FieldType)) 2 45 3 2 17 5 (.inl (fn_mc_digits m)) :=
  gCee.vi (k := 1) (by decide) (gmetF hi ⟨plainFor_of_name pn_mc, ok_mc_digits, hm, Or.inr (Or.inr (Or.inr (Or.inr (Or.inr (Or.inr ⟨rfl, rfl⟩))))), rfl, fun i c k t hg => gall_spec F_mc i _ hg, gall_spec C_mc, fun i k rc rt f hg => gall_spec (P := gCl l Z "GraftTrees$Machine" ⟨2, 0, 0, 45⟩) (xs := (e_mc_digits m).2.2.2.1) ⟨(gm_hp_put hi hm).cal (by omega) (by omega) q1717,
    (gm_wl_digits hi hm).cal (by omega) (by omega) q1721,
    (gm_wl_digit hi hm).cal (by omega) (by omega) q1722,
    trivial⟩ i _ hg⟩) q1716 q240 mh_mc ds_21 q1715 qs79
theorem gm_mc_letters {l : Launch} {Z : gZ} {m : Nat} (hi : gInj Z) (hm : m ≤ zN Z) : gCee l Z yX9_letters (ws_ yX9_letters cX9_letters 3 (Option.none : Option Jvm.ClassFile.FieldType)) 1 21 3 2 17 5 (.inl (fn_mc_letters m)) :=
  gCee.vi (k := 1) (by decide) (gmetF hi ⟨plainFor_of_name pn_mc, ok_mc_letters, hm, Or.inr (Or.inr (Or.inr (Or.inr (Or.inr (Or.inr ⟨rfl, rfl⟩))))), rfl, fun i c k t hg => gall_spec F_mc i _ hg, gall_spec C_mc, fun i k rc rt f hg => gall_spec (P := gCl l Z "GraftTrees$Machine" ⟨1, 0, 0, 21⟩) (xs := (e_mc_letters m).2.2.2.1) ⟨(gm_hp_put hi hm).cal (by omega) (by omega) q1717,
    trivial⟩ i _ hg⟩) q1726 q240 mh_mc ds_19 q1725 qs80
theorem gm_mc_says {l : Launch} {Z : gZ} {m : Nat} (hi : gInj Z) (hm : m ≤ zN Z) : gCee l Z yX9_says (ws_ yX9_says cX9_says 3 (Option.none : Option Jvm.ClassFile.FieldType)) 4 85 3 2 17 5 (.inl (fn_mc_says m)) :=
  gCee.vi (k := 1) (by decide) (gmetF hi ⟨plainFor_of_name pn_mc, ok_mc_says, hm, Or.inr (Or.inr (Or.inr (Or.inr (Or.inr (Or.inr ⟨rfl, rfl⟩))))), rfl, fun i c k t hg => gall_spec F_mc i _ hg, gall_spec C_mc, fun i k rc rt f hg => gall_spec (P := gCl l Z "GraftTrees$Machine" ⟨4, 0, 0, 85⟩) (xs := (e_mc_says m).2.2.2.1) ⟨(gm_st_length hi (Nat.zero_le _)).cal (by omega) (by omega) q1733,
    (gm_st_charAt hi (Nat.zero_le _)).cal (by omega) (by omega) q1734,
    (gm_hp_put hi hm).cal (by omega) (by omega) q1717,
    trivial⟩ i _ hg⟩) q1732 q240 mh_mc ds_38 q1731 qs81
theorem gm_mc_shows {l : Launch} {Z : gZ} {m : Nat} (hi : gInj Z) (hm : m ≤ zN Z) : gCee l Z yX9_shows (ws_ yX9_shows cX9_shows 4 (Option.none : Option Jvm.ClassFile.FieldType)) 5 107 4 3 17 5 (.inl (fn_mc_shows m)) :=
  gCee.vi (k := 2) (by decide) (gmetF hi ⟨plainFor_of_name pn_mc, ok_mc_shows, hm, Or.inr (Or.inr (Or.inr (Or.inr (Or.inr (Or.inr ⟨rfl, rfl⟩))))), rfl, fun i c k t hg => gall_spec F_mc i _ hg, gall_spec C_mc, fun i k rc rt f hg => gall_spec (P := gCl l Z "GraftTrees$Machine" ⟨5, 0, 0, 107⟩) (xs := (e_mc_shows m).2.2.2.1) ⟨(gm_wl_of hi hm).cal (by omega) (by omega) q1682,
    (gm_mc_digits hi hm).cal (by omega) (by omega) q1713,
    (gm_hp_get hi hm).cal (by omega) (by omega) q1683,
    (gm_mc_letters hi hm).cal (by omega) (by omega) q1723,
    (gm_mc_says hi hm).cal (by omega) (by omega) q1729,
    trivial⟩ i _ hg⟩) q1712 q240 mh_mc ds_43 q1711 qs78
theorem gm_mc_joins {l : Launch} {Z : gZ} {m : Nat} (hi : gInj Z) (hm : m ≤ zN Z) : gCee l Z yX9_joins (ws_ yX9_joins cX9_joins 4 (Option.some Jvm.ClassFile.FieldType.boolean)) 6 130 4 2 17 0 (.inl (fn_mc_joins m)) :=
  gCee.vi (k := 1) (by decide) (gmetF hi ⟨plainFor_of_name pn_mc, ok_mc_joins, hm, Or.inr (Or.inr (Or.inr (Or.inl ⟨rfl, rfl⟩))), rfl, fun i c k t hg => gall_spec F_mc i _ hg, gall_spec C_mc, fun i k rc rt f hg => gall_spec (P := gCl l Z "GraftTrees$Machine" ⟨6, 0, 0, 130⟩) (xs := (e_mc_joins m).2.2.2.1) ⟨(gm_mc_fails hi hm).cal (by omega) (by omega) q1617,
    (gm_hp_lay hi hm).cal (by omega) (by omega) q1705,
    (gm_mc_shows hi hm).cal (by omega) (by omega) q1709,
    (gm_hp_laidLetters hi hm).cal (by omega) (by omega) q1737,
    (gm_hp_makes hi hm).cal (by omega) (by omega) q1741,
    (gm_mc_needs hi hm).cal (by omega) (by omega) q1697,
    (gm_hp_laidString hi hm).cal (by omega) (by omega) q1746,
    (gm_mc_settle hi hm).cal (by omega) (by omega) q1651,
    trivial⟩ i _ hg⟩) q1704 q240 mh_mc ds_8 q1703 qs77
theorem gm_mc_compares {l : Launch} {Z : gZ} {m : Nat} (hi : gInj Z) (hm : m ≤ zN Z) : gCee l Z yX9_compares (ws_ yX9_compares cX9_compares 4 (Option.some Jvm.ClassFile.FieldType.boolean)) 5 112 4 4 17 0 (.inl (fn_mc_compares m)) :=
  gCee.vi (k := 3) (by decide) (gmetF hi ⟨plainFor_of_name pn_mc, ok_mc_compares, hm, Or.inr (Or.inr (Or.inr (Or.inl ⟨rfl, rfl⟩))), rfl, fun i c k t hg => gall_spec F_mc i _ hg, gall_spec C_mc, fun i k rc rt f hg => gall_spec (P := gCl l Z "GraftTrees$Machine" ⟨5, 0, 0, 112⟩) (xs := (e_mc_compares m).2.2.2.1) ⟨(gm_mc_needs hi hm).cal (by omega) (by omega) q1697,
    (gm_mc_order hi hm).cal (by omega) (by omega) q1674,
    (gm_mc_holds hi hm).cal (by omega) (by omega) q1648,
    (gm_mc_settle hi hm).cal (by omega) (by omega) q1651,
    trivial⟩ i _ hg⟩) q1753 q240 mh_mc ds_46 q1752 qs82
theorem gm_mc_two {l : Launch} {Z : gZ} {m : Nat} (hi : gInj Z) (hm : m ≤ zN Z) : gCee l Z yX9_two (ws_ yX9_two cX9_two 5 (Option.some Jvm.ClassFile.FieldType.boolean)) 7 153 5 2 17 0 (.inl (fn_mc_two m)) :=
  gCee.vi (k := 1) (by decide) (gmetF hi ⟨plainFor_of_name pn_mc, ok_mc_two, hm, Or.inr (Or.inr (Or.inr (Or.inl ⟨rfl, rfl⟩))), rfl, fun i c k t hg => gall_spec F_mc i _ hg, gall_spec C_mc, fun i k rc rt f hg => gall_spec (P := gCl l Z "GraftTrees$Machine" ⟨7, 0, 0, 153⟩) (xs := (e_mc_two m).2.2.2.1) ⟨(gm_mc_alike hi hm).cal (by omega) (by omega) q1666,
    (gm_mc_isNumber hi hm).cal (by omega) (by omega) q1670,
    (gm_mc_joins hi hm).cal (by omega) (by omega) q1701,
    (gm_mc_fails hi hm).cal (by omega) (by omega) q1617,
    (gm_mc_areLongs hi hm).cal (by omega) (by omega) q1641,
    (gm_mc_compares hi hm).cal (by omega) (by omega) q1750,
    (gm_mc_fits hi hm).cal (by omega) (by omega) q1655,
    (gm_mc_needs hi hm).cal (by omega) (by omega) q1697,
    (gm_mc_settle hi hm).cal (by omega) (by omega) q1651,
    (gm_mc_whole hi hm).cal (by omega) (by omega) q1678,
    (gm_wl_sum hi hm).cal (by omega) (by omega) q1754,
    (gm_wl_product hi hm).cal (by omega) (by omega) q1766,
    (gm_wl_quotient hi hm).cal (by omega) (by omega) q1770,
    (gm_hp_makes hi hm).cal (by omega) (by omega) q1741,
    (gm_hp_whole hi hm).cal (by omega) (by omega) q1776,
    trivial⟩ i _ hg⟩) q1665 q240 mh_mc ds_8 q1664 qs71
theorem gm_mc_isTruth {l : Launch} {Z : gZ} {m : Nat} (hi : gInj Z) (hm : m ≤ zN Z) : gCee l Z yX9_isTruth (ws_ yX9_isTruth cX9_isTruth 2 (Option.some Jvm.ClassFile.FieldType.boolean)) 1 22 2 2 17 0 (.inl (fn_mc_isTruth m)) :=
  gCee.vi (k := 1) (by decide) (gmetF hi ⟨plainFor_of_name pn_mc, ok_mc_isTruth, hm, Or.inr (Or.inr (Or.inr (Or.inl ⟨rfl, rfl⟩))), rfl, fun i c k t hg => gall_spec F_mc i _ hg, gall_spec C_mc, fun i k rc rt f hg => gall_spec (P := gCl l Z "GraftTrees$Machine" ⟨1, 0, 0, 22⟩) (xs := (e_mc_isTruth m).2.2.2.1) ⟨(gm_mc_fails hi hm).cal (by omega) (by omega) q1617,
    trivial⟩ i _ hg⟩) q1784 q240 mh_mc ds_8 q1783 qs85
theorem gm_mc_took {l : Launch} {Z : gZ} {m : Nat} (hi : gInj Z) (hm : m ≤ zN Z) : gCee l Z yX9_took (ws_ yX9_took cX9_took 3 (Option.none : Option Jvm.ClassFile.FieldType)) 4 88 3 3 17 5 (.inl (fn_mc_took m)) :=
  gCee.vi (k := 2) (by decide) (gmetF hi ⟨plainFor_of_name pn_mc, ok_mc_took, hm, Or.inr (Or.inr (Or.inr (Or.inr (Or.inr (Or.inr ⟨rfl, rfl⟩))))), rfl, fun i c k t hg => gall_spec F_mc i _ hg, gall_spec C_mc, fun i k rc rt f hg => gall_spec (P := gCl l Z "GraftTrees$Machine" ⟨4, 0, 0, 88⟩) (xs := (e_mc_took m).2.2.2.1) ⟨(gm_mc_changes hi hm).cal (by omega) (by omega) q1592,
    trivial⟩ i _ hg⟩) q1788 q240 mh_mc ds_6 q1787 qs86
theorem gm_mc_left {l : Launch} {Z : gZ} {m : Nat} (hi : gInj Z) (hm : m ≤ zN Z) : gCee l Z yX9_left (ws_ yX9_left cX9_left 3 (Option.none : Option Jvm.ClassFile.FieldType)) 5 110 3 2 17 5 (.inl (fn_mc_left m)) :=
  gCee.vi (k := 1) (by decide) (gmetF hi ⟨plainFor_of_name pn_mc, ok_mc_left, hm, Or.inr (Or.inr (Or.inr (Or.inr (Or.inr (Or.inr ⟨rfl, rfl⟩))))), rfl, fun i c k t hg => gall_spec F_mc i _ hg, gall_spec C_mc, fun i k rc rt f hg => gall_spec (P := gCl l Z "GraftTrees$Machine" ⟨5, 0, 0, 110⟩) (xs := (e_mc_left m).2.2.2.1) ⟨(gm_mc_isTruth hi hm).cal (by omega) (by omega) q1781,
    (gm_mc_took hi hm).cal (by omega) (by omega) q1785,
    trivial⟩ i _ hg⟩) q1780 q240 mh_mc ds_19 q1779 qs84
theorem gm_mc_nameAt {l : Launch} {Z : gZ} {m : Nat} (hi : gInj Z) (hm : m ≤ zN Z) : gCee l Z yX9_nameAt (ws_ yX9_nameAt cX9_nameAt 3 (Option.some Jvm.ClassFile.FieldType.int)) 0 0 3 3 17 0 (.inl (fn_mc_nameAt m)) :=
  gCee.vi (k := 2) (by decide) (gmetF hi ⟨plainFor_of_name pn_mc, ok_mc_nameAt, hm, Or.inr (Or.inr (Or.inl ⟨rfl, rfl⟩)), rfl, fun i c k t hg => gall_spec F_mc i _ hg, gall_spec C_mc, fun i k rc rt f hg => gall_spec (P := gCl l Z "GraftTrees$Machine" ⟨0, 0, 0, 0⟩) (xs := (e_mc_nameAt m).2.2.2.1) trivial i _ hg⟩) q1796 q240 mh_mc ds_0 q1795 qs88
theorem gm_mc_moves {l : Launch} {Z : gZ} {m : Nat} (hi : gInj Z) (hm : m ≤ zN Z) : gCee l Z yX9_moves (ws_ yX9_moves cX9_moves 2 (Option.none : Option Jvm.ClassFile.FieldType)) 0 0 2 2 17 5 (.inl (fn_mc_moves m)) :=
  gCee.vi (k := 1) (by decide) (gmetF hi ⟨plainFor_of_name pn_mc, ok_mc_moves, hm, Or.inr (Or.inr (Or.inr (Or.inr (Or.inr (Or.inr ⟨rfl, rfl⟩))))), rfl, fun i c k t hg => gall_spec F_mc i _ hg, gall_spec C_mc, fun i k rc rt f hg => gall_spec (P := gCl l Z "GraftTrees$Machine" ⟨0, 0, 0, 0⟩) (xs := (e_mc_moves m).2.2.2.1) trivial i _ hg⟩) q1809 q240 mh_mc ds_19 q1808 qs89
theorem gm_mc_isStale {l : Launch} {Z : gZ} {m : Nat} (hi : gInj Z) (hm : m ≤ zN Z) : gCee l Z yX9_isStale (ws_ yX9_isStale cX9_isStale 3 (Option.some Jvm.ClassFile.FieldType.boolean)) 1 21 3 3 17 0 (.inl (fn_mc_isStale m)) :=
  gCee.vi (k := 2) (by decide) (gmetF hi ⟨plainFor_of_name pn_mc, ok_mc_isStale, hm, Or.inr (Or.inr (Or.inr (Or.inl ⟨rfl, rfl⟩))), rfl, fun i c k t hg => gall_spec F_mc i _ hg, gall_spec C_mc, fun i k rc rt f hg => gall_spec (P := gCl l Z "GraftTrees$Machine" ⟨1, 0, 0, 21⟩) (xs := (e_mc_isStale m).2.2.2.1) ⟨(gm_fr_isNewest hi hm).cal (by omega) (by omega) q1818,
    trivial⟩ i _ hg⟩) q1817 q240 mh_mc ds_31 q1816 qs91
theorem gm_mc_settles {l : Launch} {Z : gZ} {m : Nat} (hi : gInj Z) (hm : m ≤ zN Z) : gCee l Z yX9_settles (ws_ yX9_settles cX9_settles 13 (Option.none : Option Jvm.ClassFile.FieldType)) 3 66 13 6 17 5 (.inl (fn_mc_settles m)) :=
  gCee.vi (k := 5) (by decide) (gmetF hi ⟨plainFor_of_name pn_mc, ok_mc_settles, hm, Or.inr (Or.inr (Or.inr (Or.inr (Or.inr (Or.inr ⟨rfl, rfl⟩))))), rfl, fun i c k t hg => gall_spec F_mc i _ hg, gall_spec C_mc, fun i k rc rt f hg => gall_spec (P := gCl l Z "GraftTrees$Machine" ⟨3, 0, 0, 66⟩) (xs := (e_mc_settles m).2.2.2.1) ⟨(gm_mc_isStale hi hm).cal (by omega) (by omega) q1814,
    (gm_mc_changed hi hm).cal (by omega) (by omega) q1596,
    trivial⟩ i _ hg⟩) q1813 q240 mh_mc ds_47 q1812 qs90
theorem gm_mc_get {l : Launch} {Z : gZ} {m : Nat} (hi : gInj Z) (hm : m ≤ zN Z) : gCee l Z yX9_get (ws_ yX9_get cX9_get 7 (Option.some Jvm.ClassFile.FieldType.boolean)) 4 98 7 2 17 0 (.inl (fn_mc_get m)) :=
  gCee.vi (k := 1) (by decide) (gmetF hi ⟨plainFor_of_name pn_mc, ok_mc_get, hm, Or.inr (Or.inr (Or.inr (Or.inl ⟨rfl, rfl⟩))), rfl, fun i c k t hg => gall_spec F_mc i _ hg, gall_spec C_mc, fun i k rc rt f hg => gall_spec (P := gCl l Z "GraftTrees$Machine" ⟨4, 0, 0, 98⟩) (xs := (e_mc_get m).2.2.2.1) ⟨(gm_mc_fails hi hm).cal (by omega) (by omega) q1617,
    (gm_mc_nameAt hi hm).cal (by omega) (by omega) q1793,
    (gm_sp_nameOf hi hm).cal (by omega) (by omega) q1797,
    (gm_sp_place hi hm).cal (by omega) (by omega) q1802,
    (gm_mc_moves hi hm).cal (by omega) (by omega) q1806,
    (gm_mc_settles hi hm).cal (by omega) (by omega) q1810,
    (gm_mc_push hi hm).cal (by omega) (by omega) q1553,
    trivial⟩ i _ hg⟩) q1792 q240 mh_mc ds_8 q1791 qs87
theorem gm_mc_put {l : Launch} {Z : gZ} {m : Nat} (hi : gInj Z) (hm : m ≤ zN Z) : gCee l Z yX9_put (ws_ yX9_put cX9_put 13 (Option.some Jvm.ClassFile.FieldType.boolean)) 4 166 13 2 17 0 (.inl (fn_mc_put m)) :=
  gCee.vi (k := 1) (by decide) (gmetF hi ⟨plainFor_of_name pn_mc, ok_mc_put, hm, Or.inr (Or.inr (Or.inr (Or.inl ⟨rfl, rfl⟩))), rfl, fun i c k t hg => gall_spec F_mc i _ hg, gall_spec C_mc, fun i k rc rt f hg => gall_spec (P := gCl l Z "GraftTrees$Machine" ⟨4, 0, 0, 166⟩) (xs := (e_mc_put m).2.2.2.1) ⟨(gm_mc_fails hi hm).cal (by omega) (by omega) q1617,
    (gm_mc_nameAt hi hm).cal (by omega) (by omega) q1793,
    (gm_sp_nameOf hi hm).cal (by omega) (by omega) q1797,
    (gm_sp_last hi hm).cal (by omega) (by omega) q1823,
    (gm_sp_place hi hm).cal (by omega) (by omega) q1802,
    (gm_sp_sortAt hi hm).cal (by omega) (by omega) q1827,
    (gm_sp_childFor hi hm).cal (by omega) (by omega) q1831,
    (gm_sp_wider hi hm).cal (by omega) (by omega) q1849,
    (gm_mc_moves hi hm).cal (by omega) (by omega) q1806,
    (gm_cd_obsolete hi hm).cal (by omega) (by omega) q1853,
    (gm_mc_settles hi hm).cal (by omega) (by omega) q1810,
    (gm_mc_push hi hm).cal (by omega) (by omega) q1553,
    trivial⟩ i _ hg⟩) q1822 q240 mh_mc ds_8 q1821 qs92
theorem gm_mc_print {l : Launch} {Z : gZ} {m : Nat} (hi : gInj Z) (hm : m ≤ zN Z) : gCee l Z yX9_print (ws_ yX9_print cX9_print 6 (Option.none : Option Jvm.ClassFile.FieldType)) 6 130 6 3 17 5 (.inl (fn_mc_print m)) :=
  gCee.vi (k := 2) (by decide) (gmetF hi ⟨plainFor_of_name pn_mc, ok_mc_print, hm, Or.inr (Or.inr (Or.inr (Or.inr (Or.inr (Or.inr ⟨rfl, rfl⟩))))), rfl, fun i c k t hg => gall_spec F_mc i _ hg, gall_spec C_mc, fun i k rc rt f hg => gall_spec (P := gCl l Z "GraftTrees$Machine" ⟨6, 0, 0, 130⟩) (xs := (e_mc_print m).2.2.2.1) ⟨(gm_hp_lay hi hm).cal (by omega) (by omega) q1705,
    (gm_mc_shows hi hm).cal (by omega) (by omega) q1709,
    (gm_hp_put hi hm).cal (by omega) (by omega) q1717,
    (gm_hp_laidLetters hi hm).cal (by omega) (by omega) q1737,
    trivial⟩ i _ hg⟩) q1872 q240 mh_mc ds_43 q1871 qs98
theorem gm_mc_define {l : Launch} {Z : gZ} {m : Nat} (hi : gInj Z) (hm : m ≤ zN Z) : gCee l Z yX9_define (ws_ yX9_define cX9_define 7 (Option.some Jvm.ClassFile.FieldType.boolean)) 1127 26358 7 4 17 0 (.inl (fn_mc_define m)) :=
  gCee.vi (k := 3) (by decide) (gmetF hi ⟨plainFor_of_name pn_mc, ok_mc_define, hm, Or.inr (Or.inr (Or.inr (Or.inl ⟨rfl, rfl⟩))), rfl, fun i c k t hg => gall_spec F_mc i _ hg, gall_spec C_mc, fun i k rc rt f hg => gall_spec (P := gCl l Z "GraftTrees$Machine" ⟨1127, 0, 0, 26358⟩) (xs := (e_mc_define m).2.2.2.1) ⟨(gm_mc_fails hi hm).cal (by omega) (by omega) q1617,
    (gm_ps_read hi hm).cal (by omega) (by omega) q1877,
    (gm_fr_plant_2 hi hm).cal (by omega) (by omega) q1878,
    (gm_cd_defined hi hm).cal (by omega) (by omega) q1879,
    trivial⟩ i _ hg⟩) q1876 q240 mh_mc ds_48 q1875 qs99
theorem gm_mc_there {l : Launch} {Z : gZ} {m : Nat} (hi : gInj Z) (hm : m ≤ zN Z) : gCee l Z yX9_there (ws_ yX9_there cX9_there 11 (Option.none : Option Jvm.ClassFile.FieldType)) 1128 26384 11 5 17 5 (.inl (fn_mc_there m)) :=
  gCee.vi (k := 4) (by decide) (gmetF hi ⟨plainFor_of_name pn_mc, ok_mc_there, hm, Or.inr (Or.inr (Or.inr (Or.inr (Or.inr (Or.inr ⟨rfl, rfl⟩))))), rfl, fun i c k t hg => gall_spec F_mc i _ hg, gall_spec C_mc, fun i k rc rt f hg => gall_spec (P := gCl l Z "GraftTrees$Machine" ⟨1128, 0, 0, 26384⟩) (xs := (e_mc_there m).2.2.2.1) ⟨(gm_mc_print hi hm).cal (by omega) (by omega) q1869,
    (gm_mc_fails hi hm).cal (by omega) (by omega) q1617,
    (gm_mc_define hi hm).cal (by omega) (by omega) q1873,
    (gm_mc_push hi hm).cal (by omega) (by omega) q1553,
    (gm_mc_falls hi hm).cal (by omega) (by omega) q1621,
    trivial⟩ i _ hg⟩) q1868 q240 mh_mc ds_42 q1867 qs97
theorem gm_mc_call {l : Launch} {Z : gZ} {m : Nat} (hi : gInj Z) (hm : m ≤ zN Z) : gCee l Z yX9_call (ws_ yX9_call cX9_call 6 (Option.none : Option Jvm.ClassFile.FieldType)) 1129 26414 6 2 17 5 (.inl (fn_mc_call m)) :=
  gCee.vi (k := 1) (by decide) (gmetF hi ⟨plainFor_of_name pn_mc, ok_mc_call, hm, Or.inr (Or.inr (Or.inr (Or.inr (Or.inr (Or.inr ⟨rfl, rfl⟩))))), rfl, fun i c k t hg => gall_spec F_mc i _ hg, gall_spec C_mc, fun i k rc rt f hg => gall_spec (P := gCl l Z "GraftTrees$Machine" ⟨1129, 0, 0, 26414⟩) (xs := (e_mc_call m).2.2.2.1) ⟨(gm_mc_fails hi hm).cal (by omega) (by omega) q1617,
    (gm_mc_settles hi hm).cal (by omega) (by omega) q1810,
    (gm_cd_more hi hm).cal (by omega) (by omega) q1557,
    (gm_mc_there hi hm).cal (by omega) (by omega) q1865,
    (gm_cd_unit hi hm).cal (by omega) (by omega) q1887,
    (gm_mc_activate hi hm).cal (by omega) (by omega) q1562,
    trivial⟩ i _ hg⟩) q1864 q240 mh_mc ds_19 q1863 qs96
theorem gm_mc_test {l : Launch} {Z : gZ} {m : Nat} (hi : gInj Z) (hm : m ≤ zN Z) : gCee l Z yX9_test (ws_ yX9_test cX9_test 3 (Option.none : Option Jvm.ClassFile.FieldType)) 5 110 3 2 17 5 (.inl (fn_mc_test m)) :=
  gCee.vi (k := 1) (by decide) (gmetF hi ⟨plainFor_of_name pn_mc, ok_mc_test, hm, Or.inr (Or.inr (Or.inr (Or.inr (Or.inr (Or.inr ⟨rfl, rfl⟩))))), rfl, fun i c k t hg => gall_spec F_mc i _ hg, gall_spec C_mc, fun i k rc rt f hg => gall_spec (P := gCl l Z "GraftTrees$Machine" ⟨5, 0, 0, 110⟩) (xs := (e_mc_test m).2.2.2.1) ⟨(gm_mc_isTruth hi hm).cal (by omega) (by omega) q1781,
    (gm_mc_took hi hm).cal (by omega) (by omega) q1785,
    trivial⟩ i _ hg⟩) q1894 q240 mh_mc ds_19 q1893 qs101
theorem gm_mc_comesBack {l : Launch} {Z : gZ} {m : Nat} (hi : gInj Z) (hm : m ≤ zN Z) : gCee l Z yX9_comesBack (ws_ yX9_comesBack cX9_comesBack 6 (Option.none : Option Jvm.ClassFile.FieldType)) 6 130 6 1 17 5 (.inl (fn_mc_comesBack m)) :=
  gCee.vi (k := 0) (by decide) (gmetF hi ⟨plainFor_of_name pn_mc, ok_mc_comesBack, hm, Or.inr (Or.inr (Or.inr (Or.inr (Or.inr (Or.inr ⟨rfl, rfl⟩))))), rfl, fun i c k t hg => gall_spec F_mc i _ hg, gall_spec C_mc, fun i k rc rt f hg => gall_spec (P := gCl l Z "GraftTrees$Machine" ⟨6, 0, 0, 130⟩) (xs := (e_mc_comesBack m).2.2.2.1) ⟨(gm_mc_push hi hm).cal (by omega) (by omega) q1553,
    (gm_hp_lay hi hm).cal (by omega) (by omega) q1705,
    (gm_mc_shows hi hm).cal (by omega) (by omega) q1709,
    (gm_hp_laidLetters hi hm).cal (by omega) (by omega) q1737,
    (gm_mc_falls hi hm).cal (by omega) (by omega) q1621,
    trivial⟩ i _ hg⟩) q1898 q240 mh_mc ds_26 q1897 qs102
theorem gm_mc_work {l : Launch} {Z : gZ} {m : Nat} (hi : gInj Z) (hm : m ≤ zN Z) : gCee l Z yX9_work (ws_ yX9_work cX9_work 3 (Option.none : Option Jvm.ClassFile.FieldType)) 1130 26439 3 3 17 5 (.inl (fn_mc_work m)) :=
  gCee.vi (k := 2) (by decide) (gmetF hi ⟨plainFor_of_name pn_mc, ok_mc_work, hm, Or.inr (Or.inr (Or.inr (Or.inr (Or.inr (Or.inr ⟨rfl, rfl⟩))))), rfl, fun i c k t hg => gall_spec F_mc i _ hg, gall_spec C_mc, fun i k rc rt f hg => gall_spec (P := gCl l Z "GraftTrees$Machine" ⟨1130, 0, 0, 26439⟩) (xs := (e_mc_work m).2.2.2.1) ⟨(gm_mc_push hi hm).cal (by omega) (by omega) q1553,
    (gm_mc_read hi hm).cal (by omega) (by omega) q1633,
    (gm_mc_write hi hm).cal (by omega) (by omega) q1588,
    (gm_mc_longs hi hm).cal (by omega) (by omega) q1637,
    (gm_mc_two hi hm).cal (by omega) (by omega) q1662,
    (gm_mc_left hi hm).cal (by omega) (by omega) q1777,
    (gm_mc_isTruth hi hm).cal (by omega) (by omega) q1781,
    (gm_mc_get hi hm).cal (by omega) (by omega) q1789,
    (gm_mc_put hi hm).cal (by omega) (by omega) q1819,
    (gm_mc_call hi hm).cal (by omega) (by omega) q1861,
    (gm_mc_test hi hm).cal (by omega) (by omega) q1891,
    (gm_mc_comesBack hi hm).cal (by omega) (by omega) q1895,
    trivial⟩ i _ hg⟩) q1632 q240 mh_mc ds_6 q1631 qs65
theorem gm_mc_go {l : Launch} {Z : gZ} {m : Nat} (hi : gInj Z) (hm : m ≤ zN Z) : gCee l Z yX9_go (ws_ yX9_go cX9_go 4 (Option.some Jvm.ClassFile.FieldType.int)) 1131 26461 4 2 17 0 (.inl (fn_mc_go m)) :=
  gCee.vi (k := 1) (by decide) (gmetF hi ⟨plainFor_of_name pn_mc, ok_mc_go, hm, Or.inr (Or.inr (Or.inl ⟨rfl, rfl⟩)), rfl, fun i c k t hg => gall_spec F_mc i _ hg, gall_spec C_mc, fun i k rc rt f hg => gall_spec (P := gCl l Z "GraftTrees$Machine" ⟨1131, 0, 0, 26461⟩) (xs := (e_mc_go m).2.2.2.1) ⟨(gm_mc_fails hi hm).cal (by omega) (by omega) q1617,
    (gm_mc_falls hi hm).cal (by omega) (by omega) q1621,
    (gm_mc_again hi hm).cal (by omega) (by omega) q1625,
    (gm_mc_work hi hm).cal (by omega) (by omega) q1629,
    trivial⟩ i _ hg⟩) q1616 q240 mh_mc ds_16 q1614 q1615
theorem gm_mc_start {l : Launch} {Z : gZ} {m : Nat} (hi : gInj Z) (hm : m ≤ zN Z) : gCee l Z yX9_start (ws_ yX9_start cX9_start 6 (Option.none : Option Jvm.ClassFile.FieldType)) 1132 26484 6 4 17 5 (.inl (fn_mc_start m)) :=
  gCee.vi (k := 3) (by decide) (gmetF hi ⟨plainFor_of_name pn_mc, ok_mc_start, hm, Or.inr (Or.inr (Or.inr (Or.inr (Or.inr (Or.inr ⟨rfl, rfl⟩))))), rfl, fun i c k t hg => gall_spec F_mc i _ hg, gall_spec C_mc, fun i k rc rt f hg => gall_spec (P := gCl l Z "GraftTrees$Machine" ⟨1132, 0, 0, 26484⟩) (xs := (e_mc_start m).2.2.2.1) ⟨(gm_mc_none hi hm).cal (by omega) (by omega) q1120,
    (gm_mc_push hi hm).cal (by omega) (by omega) q1553,
    (gm_cd_more hi hm).cal (by omega) (by omega) q1557,
    (gm_mc_activate hi hm).cal (by omega) (by omega) q1562,
    (gm_mc_go hi hm).cal (by omega) (by omega) q1613,
    trivial⟩ i _ hg⟩) q1552 q240 mh_mc ds_49 q1550 q1551
theorem F_gt : gall (gFl "GraftTrees") f_gt := ⟨Or.inl ⟨RX1, TX1, 10, 0, by decide, by decide, rfl, rfl, by decide, rfl, Or.inl q1125⟩,
  Or.inl ⟨RX1, TX1, 10, 1, by decide, by decide, rfl, rfl, by decide, rfl, Or.inl q1126⟩,
  Or.inl ⟨RX1, TX1, 10, 2, by decide, by decide, rfl, rfl, by decide, rfl, Or.inl q1127⟩,
  Or.inl ⟨RX1, TX1, 10, 3, by decide, by decide, rfl, rfl, by decide, rfl, Or.inl q1128⟩,
  Or.inl ⟨RX1, TX1, 10, 4, by decide, by decide, rfl, rfl, by decide, rfl, Or.inl q1129⟩,
  Or.inl ⟨RX1, TX1, 10, 6, by decide, by decide, rfl, rfl, by decide, rfl, Or.inl q1131⟩,
  Or.inl ⟨RX1, TX1, 10, 9, by decide, by decide, rfl, rfl, by decide, rfl, Or.inl q1134⟩,
  Or.inl ⟨RX1, TX1, 10, 5, by decide, by decide, rfl, rfl, by decide, rfl, Or.inl q1130⟩,
  Or.inl ⟨RX1, TX1, 10, 7, by decide, by decide, rfl, rfl, by decide, rfl, Or.inl q1132⟩,
  Or.inl ⟨RX7, TX7, 23, 0, by decide, by decide, rfl, rfl, by decide, rfl, Or.inr ⟨_, q847⟩⟩,
  Or.inl ⟨RX8, TX8, 10, 8, by decide, by decide, rfl, rfl, by decide, rfl, Or.inr ⟨_, q822⟩⟩,
  Or.inl ⟨RX1, TX1, 10, 8, by decide, by decide, rfl, rfl, by decide, rfl, Or.inl q1133⟩,
  Or.inl ⟨RX8, TX8, 10, 9, by decide, by decide, rfl, rfl, by decide, rfl, Or.inr ⟨_, q823⟩⟩,
  Or.inl ⟨RX7, TX7, 23, 19, by decide, by decide, rfl, rfl, by decide, rfl, Or.inr ⟨_, q881⟩⟩,
  Or.inl ⟨RX3, TX3, 42, 31, by decide, by decide, rfl, rfl, by decide, rfl, Or.inr ⟨_, q551⟩⟩,
  Or.inl ⟨RX3, TX3, 42, 18, by decide, by decide, rfl, rfl, by decide, rfl, Or.inr ⟨_, q514⟩⟩,
  Or.inl ⟨RX9, TX9, 48, 23, by decide, by decide, rfl, rfl, by decide, rfl, Or.inr ⟨_, q978⟩⟩,
  Or.inl ⟨RX9, TX9, 48, 25, by decide, by decide, rfl, rfl, by decide, rfl, Or.inr ⟨_, q982⟩⟩,
  Or.inl ⟨RX9, TX9, 48, 26, by decide, by decide, rfl, rfl, by decide, rfl, Or.inr ⟨_, q984⟩⟩,
  Or.inl ⟨RX9, TX9, 48, 27, by decide, by decide, rfl, rfl, by decide, rfl, Or.inr ⟨_, q986⟩⟩,
  Or.inl ⟨RX9, TX9, 48, 35, by decide, by decide, rfl, rfl, by decide, rfl, Or.inr ⟨_, q999⟩⟩,
  Or.inl ⟨RX9, TX9, 48, 33, by decide, by decide, rfl, rfl, by decide, rfl, Or.inr ⟨_, q995⟩⟩,
  Or.inl ⟨RX9, TX9, 48, 34, by decide, by decide, rfl, rfl, by decide, rfl, Or.inr ⟨_, q997⟩⟩,
  Or.inl ⟨RX9, TX9, 48, 32, by decide, by decide, rfl, rfl, by decide, rfl, Or.inr ⟨_, q993⟩⟩,
  Or.inl ⟨RX3, TX3, 42, 17, by decide, by decide, rfl, rfl, by decide, rfl, Or.inr ⟨_, q511⟩⟩,
  Or.inl ⟨RX3, TX3, 42, 20, by decide, by decide, rfl, rfl, by decide, rfl, Or.inr ⟨_, q519⟩⟩,
  Or.inl ⟨RX3, TX3, 42, 26, by decide, by decide, rfl, rfl, by decide, rfl, Or.inr ⟨_, q536⟩⟩,
  Or.inl ⟨RX2, TX2, 15, 2, by decide, by decide, rfl, rfl, by decide, rfl, Or.inr ⟨_, q280⟩⟩,
  Or.inl ⟨RX2, TX2, 15, 0, by decide, by decide, rfl, rfl, by decide, rfl, Or.inr ⟨_, q270⟩⟩,
  Or.inl ⟨RX2, TX2, 15, 1, by decide, by decide, rfl, rfl, by decide, rfl, Or.inr ⟨_, q275⟩⟩,
  Or.inl ⟨RX3, TX3, 42, 22, by decide, by decide, rfl, rfl, by decide, rfl, Or.inr ⟨_, q527⟩⟩,
  Or.inl ⟨RX3, TX3, 42, 27, by decide, by decide, rfl, rfl, by decide, rfl, Or.inr ⟨_, q540⟩⟩,
  Or.inl ⟨RX3, TX3, 42, 29, by decide, by decide, rfl, rfl, by decide, rfl, Or.inr ⟨_, q546⟩⟩,
  Or.inl ⟨RX3, TX3, 42, 28, by decide, by decide, rfl, rfl, by decide, rfl, Or.inr ⟨_, q543⟩⟩,
  Or.inl ⟨RX3, TX3, 42, 4, by decide, by decide, rfl, rfl, by decide, rfl, Or.inr ⟨_, q478⟩⟩,
  Or.inl ⟨RX3, TX3, 42, 21, by decide, by decide, rfl, rfl, by decide, rfl, Or.inr ⟨_, q524⟩⟩,
  Or.inl ⟨RX3, TX3, 42, 1, by decide, by decide, rfl, rfl, by decide, rfl, Or.inr ⟨_, q468⟩⟩,
  Or.inl ⟨RX3, TX3, 42, 10, by decide, by decide, rfl, rfl, by decide, rfl, Or.inr ⟨_, q493⟩⟩,
  Or.inl ⟨RX3, TX3, 42, 2, by decide, by decide, rfl, rfl, by decide, rfl, Or.inr ⟨_, q471⟩⟩,
  Or.inl ⟨RX3, TX3, 42, 3, by decide, by decide, rfl, rfl, by decide, rfl, Or.inr ⟨_, q475⟩⟩,
  Or.inl ⟨RX3, TX3, 42, 11, by decide, by decide, rfl, rfl, by decide, rfl, Or.inr ⟨_, q497⟩⟩,
  Or.inl ⟨RX3, TX3, 42, 5, by decide, by decide, rfl, rfl, by decide, rfl, Or.inr ⟨_, q480⟩⟩,
  Or.inl ⟨RX5, TX5, 13, 6, by decide, by decide, rfl, rfl, by decide, rfl, Or.inr ⟨_, q674⟩⟩,
  Or.inl ⟨RX5, TX5, 13, 2, by decide, by decide, rfl, rfl, by decide, rfl, Or.inr ⟨_, q664⟩⟩,
  Or.inl ⟨RX5, TX5, 13, 9, by decide, by decide, rfl, rfl, by decide, rfl, Or.inr ⟨_, q680⟩⟩,
  Or.inl ⟨RX5, TX5, 13, 7, by decide, by decide, rfl, rfl, by decide, rfl, Or.inr ⟨_, q676⟩⟩,
  Or.inl ⟨RX5, TX5, 13, 8, by decide, by decide, rfl, rfl, by decide, rfl, Or.inr ⟨_, q678⟩⟩,
  Or.inl ⟨RX5, TX5, 13, 1, by decide, by decide, rfl, rfl, by decide, rfl, Or.inr ⟨_, q662⟩⟩,
  Or.inl ⟨RX5, TX5, 13, 3, by decide, by decide, rfl, rfl, by decide, rfl, Or.inr ⟨_, q666⟩⟩,
  Or.inl ⟨RX5, TX5, 13, 4, by decide, by decide, rfl, rfl, by decide, rfl, Or.inr ⟨_, q668⟩⟩,
  Or.inl ⟨RX5, TX5, 13, 5, by decide, by decide, rfl, rfl, by decide, rfl, Or.inr ⟨_, q671⟩⟩,
  Or.inl ⟨RX6, TX6, 20, 10, by decide, by decide, rfl, rfl, by decide, rfl, Or.inr ⟨_, q742⟩⟩,
  Or.inl ⟨RX6, TX6, 20, 3, by decide, by decide, rfl, rfl, by decide, rfl, Or.inr ⟨_, q724⟩⟩,
  Or.inl ⟨RX6, TX6, 20, 13, by decide, by decide, rfl, rfl, by decide, rfl, Or.inr ⟨_, q746⟩⟩,
  Or.inl ⟨RX6, TX6, 20, 2, by decide, by decide, rfl, rfl, by decide, rfl, Or.inr ⟨_, q722⟩⟩,
  Or.inl ⟨RX6, TX6, 20, 1, by decide, by decide, rfl, rfl, by decide, rfl, Or.inr ⟨_, q720⟩⟩,
  Or.inl ⟨RX6, TX6, 20, 9, by decide, by decide, rfl, rfl, by decide, rfl, Or.inr ⟨_, q740⟩⟩,
  Or.inl ⟨RX6, TX6, 20, 4, by decide, by decide, rfl, rfl, by decide, rfl, Or.inr ⟨_, q726⟩⟩,
  Or.inl ⟨RX6, TX6, 20, 5, by decide, by decide, rfl, rfl, by decide, rfl, Or.inr ⟨_, q728⟩⟩,
  Or.inl ⟨RX6, TX6, 20, 6, by decide, by decide, rfl, rfl, by decide, rfl, Or.inr ⟨_, q731⟩⟩,
  Or.inl ⟨RX6, TX6, 20, 7, by decide, by decide, rfl, rfl, by decide, rfl, Or.inr ⟨_, q734⟩⟩,
  Or.inl ⟨RX6, TX6, 20, 8, by decide, by decide, rfl, rfl, by decide, rfl, Or.inr ⟨_, q737⟩⟩,
  Or.inl ⟨RX9, TX9, 48, 19, by decide, by decide, rfl, rfl, by decide, rfl, Or.inr ⟨_, q972⟩⟩,
  Or.inl ⟨RX9, TX9, 48, 9, by decide, by decide, rfl, rfl, by decide, rfl, Or.inr ⟨_, q957⟩⟩,
  Or.inl ⟨RX9, TX9, 48, 17, by decide, by decide, rfl, rfl, by decide, rfl, Or.inr ⟨_, q969⟩⟩,
  Or.inl ⟨RX9, TX9, 48, 12, by decide, by decide, rfl, rfl, by decide, rfl, Or.inr ⟨_, q961⟩⟩,
  Or.inl ⟨RX9, TX9, 48, 13, by decide, by decide, rfl, rfl, by decide, rfl, Or.inr ⟨_, q963⟩⟩,
  Or.inl ⟨RX9, TX9, 48, 15, by decide, by decide, rfl, rfl, by decide, rfl, Or.inr ⟨_, q966⟩⟩,
  Or.inl ⟨RX9, TX9, 48, 24, by decide, by decide, rfl, rfl, by decide, rfl, Or.inr ⟨_, q980⟩⟩,
  Or.inl ⟨RX9, TX9, 48, 20, by decide, by decide, rfl, rfl, by decide, rfl, Or.inr ⟨_, q974⟩⟩,
  Or.inl ⟨RX9, TX9, 48, 31, by decide, by decide, rfl, rfl, by decide, rfl, Or.inr ⟨_, q991⟩⟩,
  Or.inl ⟨RX6, TX6, 20, 19, by decide, by decide, rfl, rfl, by decide, rfl, Or.inr ⟨_, q754⟩⟩,
  Or.inl ⟨RX9, TX9, 48, 36, by decide, by decide, rfl, rfl, by decide, rfl, Or.inr ⟨_, q1001⟩⟩,
  Or.inl ⟨RX9, TX9, 48, 37, by decide, by decide, rfl, rfl, by decide, rfl, Or.inr ⟨_, q1003⟩⟩,
  Or.inl ⟨RX9, TX9, 48, 38, by decide, by decide, rfl, rfl, by decide, rfl, Or.inr ⟨_, q1005⟩⟩,
  Or.inl ⟨RX9, TX9, 48, 39, by decide, by decide, rfl, rfl, by decide, rfl, Or.inr ⟨_, q1007⟩⟩,
  Or.inl ⟨RX9, TX9, 48, 40, by decide, by decide, rfl, rfl, by decide, rfl, Or.inr ⟨_, q1009⟩⟩,
  Or.inl ⟨RX9, TX9, 48, 41, by decide, by decide, rfl, rfl, by decide, rfl, Or.inr ⟨_, q1011⟩⟩,
  Or.inl ⟨RX9, TX9, 48, 42, by decide, by decide, rfl, rfl, by decide, rfl, Or.inr ⟨_, q1013⟩⟩,
  trivial⟩
theorem C_gt : gall (gCst "GraftTrees") c_gt := ⟨Or.inr (Or.inr ⟨0, "main", rfl, List.mem_of_getElem? (i := 0) rfl⟩),
  trivial⟩
theorem pn_gt : plainName "GraftTrees" = true := by decide +kernel
theorem mh_gt : "GraftTrees" ≠ "java/lang/invoke/MethodHandle" ∧ "GraftTrees" ≠ "java/lang/invoke/VarHandle" := by decide
theorem gm_gt_four {l : Launch} {Z : gZ} {m : Nat} (hi : gInj Z) (hm : m ≤ zN Z) : gCee l Z yX1_four (ws_ yX1_four cX1_four 3 (Option.none : Option Jvm.ClassFile.FieldType)) 0 0 3 2 18 5 (.inl (fn_gt_four m)) :=
  gCee.vi (k := 1) (by decide) (gmetF hi ⟨plainFor_of_name pn_gt, ok_gt_four, hm, Or.inr (Or.inr (Or.inr (Or.inr (Or.inr (Or.inr ⟨rfl, rfl⟩))))), rfl, fun i c k t hg => gall_spec F_gt i _ hg, gall_spec C_gt, fun i k rc rt f hg => gall_spec (P := gCl l Z "GraftTrees" ⟨0, 0, 0, 0⟩) (xs := (e_gt_four m).2.2.2.1) trivial i _ hg⟩) q1163 q227 mh_gt ds_19 q1162 qs5
theorem gm_gt_feed {l : Launch} {Z : gZ} {m : Nat} (hi : gInj Z) (hm : m ≤ zN Z) : gCee l Z yX1_feed (ws_ yX1_feed cX1_feed 6 (Option.some Jvm.ClassFile.FieldType.int)) 1 22 6 6 18 0 (.inl (fn_gt_feed m)) :=
  gCee.vi (k := 5) (by decide) (gmetF hi ⟨plainFor_of_name pn_gt, ok_gt_feed, hm, Or.inr (Or.inr (Or.inl ⟨rfl, rfl⟩)), rfl, fun i c k t hg => gall_spec F_gt i _ hg, gall_spec C_gt, fun i k rc rt f hg => gall_spec (P := gCl l Z "GraftTrees" ⟨1, 0, 0, 22⟩) (xs := (e_gt_feed m).2.2.2.1) ⟨(gm_gt_four hi hm).cal (by omega) (by omega) q1160,
    trivial⟩ i _ hg⟩) q1159 q227 mh_gt ds_50 q1157 q1158
theorem gm_gt_load {l : Launch} {Z : gZ} {m : Nat} (hi : gInj Z) (hm : m ≤ zN Z) : gCee l Z yX1_load (ws_ yX1_load cX1_load 4 (Option.some Jvm.ClassFile.FieldType.int)) 1127 26358 4 2 18 0 (.inl (fn_gt_load m)) :=
  gCee.vi (k := 1) (by decide) (gmetF hi ⟨plainFor_of_name pn_gt, ok_gt_load, hm, Or.inr (Or.inr (Or.inl ⟨rfl, rfl⟩)), rfl, fun i c k t hg => gall_spec F_gt i _ hg, gall_spec C_gt, fun i k rc rt f hg => gall_spec (P := gCl l Z "GraftTrees" ⟨1127, 0, 0, 26358⟩) (xs := (e_gt_load m).2.2.2.1) ⟨(gm_ps_read hi hm).cal (by omega) (by omega) q1168,
    (gm_mc_none hi hm).cal (by omega) (by omega) q1441,
    (gm_fr_clear hi hm).cal (by omega) (by omega) q1442,
    (gm_sp_clear hi hm).cal (by omega) (by omega) q1443,
    (gm_cd_clear hi hm).cal (by omega) (by omega) q1444,
    (gm_mc_clear hi hm).cal (by omega) (by omega) q1116,
    (gm_fr_plant_2 hi hm).cal (by omega) (by omega) q1448,
    trivial⟩ i _ hg⟩) q1167 q227 mh_gt ds_16 q1165 q1166
theorem gm_gt_fault {l : Launch} {Z : gZ} {m : Nat} (hi : gInj Z) (hm : m ≤ zN Z) : gCee l Z yX1_fault (ws_ yX1_fault cX1_fault 2 (Option.some Jvm.ClassFile.FieldType.int)) 0 0 2 2 18 0 (.inl (fn_gt_fault m)) :=
  gCee.vi (k := 1) (by decide) (gmetF hi ⟨plainFor_of_name pn_gt, ok_gt_fault, hm, Or.inr (Or.inr (Or.inl ⟨rfl, rfl⟩)), rfl, fun i c k t hg => gall_spec F_gt i _ hg, gall_spec C_gt, fun i k rc rt f hg => gall_spec (P := gCl l Z "GraftTrees" ⟨0, 0, 0, 0⟩) (xs := (e_gt_fault m).2.2.2.1) trivial i _ hg⟩) q1539 q227 mh_gt ds_16 q1537 q1538
theorem gm_gt_start {l : Launch} {Z : gZ} {m : Nat} (hi : gInj Z) (hm : m ≤ zN Z) : gCee l Z yX1_start (ws_ yX1_start cX1_start 6 (Option.some Jvm.ClassFile.FieldType.boolean)) 1133 26509 6 3 18 0 (.inl (fn_gt_start m)) :=
  gCee.vi (k := 2) (by decide) (gmetF hi ⟨plainFor_of_name pn_gt, ok_gt_start, hm, Or.inr (Or.inr (Or.inr (Or.inl ⟨rfl, rfl⟩))), rfl, fun i c k t hg => gall_spec F_gt i _ hg, gall_spec C_gt, fun i k rc rt f hg => gall_spec (P := gCl l Z "GraftTrees" ⟨1133, 0, 0, 26509⟩) (xs := (e_gt_start m).2.2.2.1) ⟨(gm_fr_named hi hm).cal (by omega) (by omega) q1545,
    (gm_mc_start hi hm).cal (by omega) (by omega) q1549,
    trivial⟩ i _ hg⟩) q1543 q227 mh_gt ds_51 q1541 q1542
theorem gm_gt_run {l : Launch} {Z : gZ} {m : Nat} (hi : gInj Z) (hm : m ≤ zN Z) : gCee l Z yX1_run (ws_ yX1_run cX1_run 2 (Option.some Jvm.ClassFile.FieldType.int)) 1132 26484 2 2 18 0 (.inl (fn_gt_run m)) :=
  gCee.vi (k := 1) (by decide) (gmetF hi ⟨plainFor_of_name pn_gt, ok_gt_run, hm, Or.inr (Or.inr (Or.inl ⟨rfl, rfl⟩)), rfl, fun i c k t hg => gall_spec F_gt i _ hg, gall_spec C_gt, fun i k rc rt f hg => gall_spec (P := gCl l Z "GraftTrees" ⟨1132, 0, 0, 26484⟩) (xs := (e_gt_run m).2.2.2.1) ⟨(gm_mc_go hi hm).cal (by omega) (by omega) q1903,
    trivial⟩ i _ hg⟩) q1902 q227 mh_gt ds_16 q1900 q1901
theorem gm_gt_state {l : Launch} {Z : gZ} {m : Nat} (hi : gInj Z) (hm : m ≤ zN Z) : gCee l Z yX1_state (ws_ yX1_state cX1_state 1 (Option.some Jvm.ClassFile.FieldType.int)) 0 0 1 1 18 0 (.inl (fn_gt_state m)) :=
  gCee.vi (k := 0) (by decide) (gmetF hi ⟨plainFor_of_name pn_gt, ok_gt_state, hm, Or.inr (Or.inr (Or.inl ⟨rfl, rfl⟩)), rfl, fun i c k t hg => gall_spec F_gt i _ hg, gall_spec C_gt, fun i k rc rt f hg => gall_spec (P := gCl l Z "GraftTrees" ⟨0, 0, 0, 0⟩) (xs := (e_gt_state m).2.2.2.1) trivial i _ hg⟩) q1907 q227 mh_gt ds_13 q1905 q1906
theorem gm_gt_error {l : Launch} {Z : gZ} {m : Nat} (hi : gInj Z) (hm : m ≤ zN Z) : gCee l Z yX1_error (ws_ yX1_error cX1_error 2 (Option.some Jvm.ClassFile.FieldType.int)) 0 0 2 2 18 0 (.inl (fn_gt_error m)) :=
  gCee.vi (k := 1) (by decide) (gmetF hi ⟨plainFor_of_name pn_gt, ok_gt_error, hm, Or.inr (Or.inr (Or.inl ⟨rfl, rfl⟩)), rfl, fun i c k t hg => gall_spec F_gt i _ hg, gall_spec C_gt, fun i k rc rt f hg => gall_spec (P := gCl l Z "GraftTrees" ⟨0, 0, 0, 0⟩) (xs := (e_gt_error m).2.2.2.1) trivial i _ hg⟩) q1911 q227 mh_gt ds_16 q1909 q1910
theorem gm_gt_result {l : Launch} {Z : gZ} {m : Nat} (hi : gInj Z) (hm : m ≤ zN Z) : gCee l Z yX1_result (ws_ yX1_result cX1_result 2 (Option.some Jvm.ClassFile.FieldType.int)) 0 0 2 2 18 0 (.inl (fn_gt_result m)) :=
  gCee.vi (k := 1) (by decide) (gmetF hi ⟨plainFor_of_name pn_gt, ok_gt_result, hm, Or.inr (Or.inr (Or.inl ⟨rfl, rfl⟩)), rfl, fun i c k t hg => gall_spec F_gt i _ hg, gall_spec C_gt, fun i k rc rt f hg => gall_spec (P := gCl l Z "GraftTrees" ⟨0, 0, 0, 0⟩) (xs := (e_gt_result m).2.2.2.1) trivial i _ hg⟩) q1915 q227 mh_gt ds_16 q1913 q1914
theorem gm_gt_out {l : Launch} {Z : gZ} {m : Nat} (hi : gInj Z) (hm : m ≤ zN Z) : gCee l Z yX1_out (ws_ yX1_out cX1_out 2 (Option.some Jvm.ClassFile.FieldType.int)) 1 21 2 2 18 0 (.inl (fn_gt_out m)) :=
  gCee.vi (k := 1) (by decide) (gmetF hi ⟨plainFor_of_name pn_gt, ok_gt_out, hm, Or.inr (Or.inr (Or.inl ⟨rfl, rfl⟩)), rfl, fun i c k t hg => gall_spec F_gt i _ hg, gall_spec C_gt, fun i k rc rt f hg => gall_spec (P := gCl l Z "GraftTrees" ⟨1, 0, 0, 21⟩) (xs := (e_gt_out m).2.2.2.1) ⟨(gm_jm_min hi (Nat.zero_le _)).cal (by omega) (by omega) q935,
    trivial⟩ i _ hg⟩) q1919 q227 mh_gt ds_16 q1917 q1918
theorem gm_gt_compile {l : Launch} {Z : gZ} {m : Nat} (hi : gInj Z) (hm : m ≤ zN Z) : gCee l Z yX1_compile (ws_ yX1_compile cX1_compile 1 (Option.some Jvm.ClassFile.FieldType.int)) 4 98 1 1 18 0 (.inl (fn_gt_compile m)) :=
  gCee.vi (k := 0) (by decide) (gmetF hi ⟨plainFor_of_name pn_gt, ok_gt_compile, hm, Or.inr (Or.inr (Or.inl ⟨rfl, rfl⟩)), rfl, fun i c k t hg => gall_spec F_gt i _ hg, gall_spec C_gt, fun i k rc rt f hg => gall_spec (P := gCl l Z "GraftTrees" ⟨4, 0, 0, 98⟩) (xs := (e_gt_compile m).2.2.2.1) ⟨(gm_cd_compile hi hm).cal (by omega) (by omega) q1924,
    trivial⟩ i _ hg⟩) q1923 q227 mh_gt ds_13 q1921 q1922
theorem gm_gt_root {l : Launch} {Z : gZ} {m : Nat} (hi : gInj Z) (hm : m ≤ zN Z) : gCee l Z yX1_root (ws_ yX1_root cX1_root 6 (Option.some Jvm.ClassFile.FieldType.int)) 1 22 6 3 18 0 (.inl (fn_gt_root m)) :=
  gCee.vi (k := 2) (by decide) (gmetF hi ⟨plainFor_of_name pn_gt, ok_gt_root, hm, Or.inr (Or.inr (Or.inl ⟨rfl, rfl⟩)), rfl, fun i c k t hg => gall_spec F_gt i _ hg, gall_spec C_gt, fun i k rc rt f hg => gall_spec (P := gCl l Z "GraftTrees" ⟨1, 0, 0, 22⟩) (xs := (e_gt_root m).2.2.2.1) ⟨(gm_fr_sort hi hm).cal (by omega) (by omega) q1958,
    (gm_cd_place hi hm).cal (by omega) (by omega) q1962,
    (gm_fr_isNewest hi hm).cal (by omega) (by omega) q1963,
    trivial⟩ i _ hg⟩) q1957 q227 mh_gt ds_0 q1955 q1956
theorem gm_gt_node {l : Launch} {Z : gZ} {m : Nat} (hi : gInj Z) (hm : m ≤ zN Z) : gCee l Z yX1_node (ws_ yX1_node cX1_node 9 (Option.some Jvm.ClassFile.FieldType.int)) 0 0 9 4 18 0 (.inl (fn_gt_node m)) :=
  gCee.vi (k := 3) (by decide) (gmetF hi ⟨plainFor_of_name pn_gt, ok_gt_node, hm, Or.inr (Or.inr (Or.inl ⟨rfl, rfl⟩)), rfl, fun i c k t hg => gall_spec F_gt i _ hg, gall_spec C_gt, fun i k rc rt f hg => gall_spec (P := gCl l Z "GraftTrees" ⟨0, 0, 0, 0⟩) (xs := (e_gt_node m).2.2.2.1) trivial i _ hg⟩) q1967 q227 mh_gt ds_35 q1965 q1966
theorem gm_gt_shape {l : Launch} {Z : gZ} {m : Nat} (hi : gInj Z) (hm : m ≤ zN Z) : gCee l Z yX1_shape (ws_ yX1_shape cX1_shape 4 (Option.some Jvm.ClassFile.FieldType.int)) 0 0 4 3 18 0 (.inl (fn_gt_shape m)) :=
  gCee.vi (k := 2) (by decide) (gmetF hi ⟨plainFor_of_name pn_gt, ok_gt_shape, hm, Or.inr (Or.inr (Or.inl ⟨rfl, rfl⟩)), rfl, fun i c k t hg => gall_spec F_gt i _ hg, gall_spec C_gt, fun i k rc rt f hg => gall_spec (P := gCl l Z "GraftTrees" ⟨0, 0, 0, 0⟩) (xs := (e_gt_shape m).2.2.2.1) trivial i _ hg⟩) q1971 q227 mh_gt ds_0 q1969 q1970
theorem gm_gt_code {l : Launch} {Z : gZ} {m : Nat} (hi : gInj Z) (hm : m ≤ zN Z) : gCee l Z yX1_code (ws_ yX1_code cX1_code 3 (Option.some Jvm.ClassFile.FieldType.int)) 0 0 3 3 18 0 (.inl (fn_gt_code m)) :=
  gCee.vi (k := 2) (by decide) (gmetF hi ⟨plainFor_of_name pn_gt, ok_gt_code, hm, Or.inr (Or.inr (Or.inl ⟨rfl, rfl⟩)), rfl, fun i c k t hg => gall_spec F_gt i _ hg, gall_spec C_gt, fun i k rc rt f hg => gall_spec (P := gCl l Z "GraftTrees" ⟨0, 0, 0, 0⟩) (xs := (e_gt_code m).2.2.2.1) trivial i _ hg⟩) q1975 q227 mh_gt ds_0 q1973 q1974
theorem gm_gt_frame {l : Launch} {Z : gZ} {m : Nat} (hi : gInj Z) (hm : m ≤ zN Z) : gCee l Z yX1_frame (ws_ yX1_frame cX1_frame 4 (Option.some Jvm.ClassFile.FieldType.int)) 0 0 4 3 18 0 (.inl (fn_gt_frame m)) :=
  gCee.vi (k := 2) (by decide) (gmetF hi ⟨plainFor_of_name pn_gt, ok_gt_frame, hm, Or.inr (Or.inr (Or.inl ⟨rfl, rfl⟩)), rfl, fun i c k t hg => gall_spec F_gt i _ hg, gall_spec C_gt, fun i k rc rt f hg => gall_spec (P := gCl l Z "GraftTrees" ⟨0, 0, 0, 0⟩) (xs := (e_gt_frame m).2.2.2.1) trivial i _ hg⟩) q1979 q227 mh_gt ds_0 q1977 q1978
theorem gm_gt_total {l : Launch} {Z : gZ} {m : Nat} (hi : gInj Z) (hm : m ≤ zN Z) : gCee l Z yX1_total (ws_ yX1_total cX1_total 2 (Option.some Jvm.ClassFile.FieldType.int)) 0 0 2 2 18 0 (.inl (fn_gt_total m)) :=
  gCee.vi (k := 1) (by decide) (gmetF hi ⟨plainFor_of_name pn_gt, ok_gt_total, hm, Or.inr (Or.inr (Or.inl ⟨rfl, rfl⟩)), rfl, fun i c k t hg => gall_spec F_gt i _ hg, gall_spec C_gt, fun i k rc rt f hg => gall_spec (P := gCl l Z "GraftTrees" ⟨0, 0, 0, 0⟩) (xs := (e_gt_total m).2.2.2.1) trivial i _ hg⟩) q1983 q227 mh_gt ds_16 q1981 q1982
