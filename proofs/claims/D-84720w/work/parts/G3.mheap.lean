set_option maxRecDepth 100000
theorem F_jm : gall (gFl "java/lang/Math") f_jm := trivial
theorem C_jm : gall (gCst "java/lang/Math") c_jm := ⟨Or.inr (Or.inl ⟨4294967295, rfl, q1515, by unfold i64; omega⟩),
  trivial⟩
theorem mh_jm : "java/lang/Math" ≠ "java/lang/invoke/MethodHandle" ∧ "java/lang/Math" ≠ "java/lang/invoke/VarHandle" := by decide
theorem pf_jm_min : plainFor yJ4_min = true := by decide +kernel
theorem gm_jm_min {l : Launch} {Z : gZ} {m : Nat} (hi : gInj Z) (hm : m ≤ zN Z) : gCee l Z yJ4_min (ws_ yJ4_min cJ4_min 2 (Option.some Jvm.ClassFile.FieldType.int)) 0 0 2 2 0 0 (.inl (fn_jm_min m)) :=
  gCee.st (k := 2) (gmetF hi ⟨pf_jm_min, ok_jm_min, hm, Or.inr (Or.inr (Or.inl ⟨rfl, rfl⟩)), rfl, fun i c k t hg => gall_spec F_jm i _ hg, gall_spec C_jm, fun i k rc rt f hg => gall_spec (P := gCl l Z "java/lang/Math" ⟨0, 0, 0, 0⟩) (xs := (e_jm_min m).2.2.2.1) trivial i _ hg⟩) q937 q241 mh_jm ds_0 q936
theorem pf_jm_max : plainFor yJ4_max = true := by decide +kernel
theorem gm_jm_max {l : Launch} {Z : gZ} {m : Nat} (hi : gInj Z) (hm : m ≤ zN Z) : gCee l Z yJ4_max (ws_ yJ4_max cJ4_max 2 (Option.some Jvm.ClassFile.FieldType.int)) 0 0 2 2 0 0 (.inl (fn_jm_max m)) :=
  gCee.st (k := 2) (gmetF hi ⟨pf_jm_max, ok_jm_max, hm, Or.inr (Or.inr (Or.inl ⟨rfl, rfl⟩)), rfl, fun i c k t hg => gall_spec F_jm i _ hg, gall_spec C_jm, fun i k rc rt f hg => gall_spec (P := gCl l Z "java/lang/Math" ⟨0, 0, 0, 0⟩) (xs := (e_jm_max m).2.2.2.1) trivial i _ hg⟩) q940 q241 mh_jm ds_0 q939
theorem pf_jm_abs : plainFor yJ4_abs = true := by decide +kernel
theorem gm_jm_abs {l : Launch} {Z : gZ} {m : Nat} (hi : gInj Z) (hm : m ≤ zN Z) : gCee l Z yJ4_abs (ws_ yJ4_abs cJ4_abs 2 (Option.some Jvm.ClassFile.FieldType.long)) 0 0 2 1 0 1 (.inl (fn_jm_abs m)) :=
  gCee.st (k := 1) (gmetF hi ⟨pf_jm_abs, ok_jm_abs, hm, Or.inr (Or.inr (Or.inr (Or.inr (Or.inl ⟨rfl, rfl⟩)))), rfl, fun i c k t hg => gall_spec F_jm i _ hg, gall_spec C_jm, fun i k rc rt f hg => gall_spec (P := gCl l Z "java/lang/Math" ⟨0, 0, 0, 0⟩) (xs := (e_jm_abs m).2.2.2.1) trivial i _ hg⟩) q1490 q241 mh_jm ds_1 q1489
theorem pf_jm_multiplyHigh : plainFor yJ4_multiplyHigh = true := by decide +kernel
theorem gm_jm_multiplyHigh {l : Launch} {Z : gZ} {m : Nat} (hi : gInj Z) (hm : m ≤ zN Z) : gCee l Z yJ4_multiplyHigh (ws_ yJ4_multiplyHigh cJ4_multiplyHigh 20 (Option.some Jvm.ClassFile.FieldType.long)) 0 0 20 2 0 1 (.inl (fn_jm_multiplyHigh m)) :=
  gCee.st (k := 2) (gmetF hi ⟨pf_jm_multiplyHigh, ok_jm_multiplyHigh, hm, Or.inr (Or.inr (Or.inr (Or.inr (Or.inl ⟨rfl, rfl⟩)))), rfl, fun i c k t hg => gall_spec F_jm i _ hg, gall_spec C_jm, fun i k rc rt f hg => gall_spec (P := gCl l Z "java/lang/Math" ⟨0, 0, 0, 0⟩) (xs := (e_jm_multiplyHigh m).2.2.2.1) trivial i _ hg⟩) q1514 q241 mh_jm ds_2 q1513
theorem F_jl : gall (gFl "java/lang/Long") f_jl := trivial
theorem C_jl : gall (gCst "java/lang/Long") c_jl := trivial
theorem mh_jl : "java/lang/Long" ≠ "java/lang/invoke/MethodHandle" ∧ "java/lang/Long" ≠ "java/lang/invoke/VarHandle" := by decide
theorem pf_jl_signum : plainFor yJ9_signum = true := by decide +kernel
theorem gm_jl_signum {l : Launch} {Z : gZ} {m : Nat} (hi : gInj Z) (hm : m ≤ zN Z) : gCee l Z yJ9_signum (ws_ yJ9_signum cJ9_signum 2 (Option.some Jvm.ClassFile.FieldType.int)) 0 0 2 1 0 0 (.inl (fn_jl_signum m)) :=
  gCee.st (k := 1) (gmetF hi ⟨pf_jl_signum, ok_jl_signum, hm, Or.inr (Or.inr (Or.inl ⟨rfl, rfl⟩)), rfl, fun i c k t hg => gall_spec F_jl i _ hg, gall_spec C_jl, fun i k rc rt f hg => gall_spec (P := gCl l Z "java/lang/Long" ⟨0, 0, 0, 0⟩) (xs := (e_jl_signum m).2.2.2.1) trivial i _ hg⟩) q1486 q248 mh_jl ds_3 q1485
theorem pf_jl_compare : plainFor yJ9_compare = true := by decide +kernel
theorem gm_jl_compare {l : Launch} {Z : gZ} {m : Nat} (hi : gInj Z) (hm : m ≤ zN Z) : gCee l Z yJ9_compare (ws_ yJ9_compare cJ9_compare 4 (Option.some Jvm.ClassFile.FieldType.int)) 0 0 4 2 0 0 (.inl (fn_jl_compare m)) :=
  gCee.st (k := 2) (gmetF hi ⟨pf_jl_compare, ok_jl_compare, hm, Or.inr (Or.inr (Or.inl ⟨rfl, rfl⟩)), rfl, fun i c k t hg => gall_spec F_jl i _ hg, gall_spec C_jl, fun i k rc rt f hg => gall_spec (P := gCl l Z "java/lang/Long" ⟨0, 0, 0, 0⟩) (xs := (e_jl_compare m).2.2.2.1) trivial i _ hg⟩) q1647 q248 mh_jl ds_4 q1646
theorem F_pc : gall (gFl "jdk/internal/util/Preconditions") f_pc := trivial
theorem C_pc : gall (gCst "jdk/internal/util/Preconditions") c_pc := trivial
theorem mh_pc : "jdk/internal/util/Preconditions" ≠ "java/lang/invoke/MethodHandle" ∧ "jdk/internal/util/Preconditions" ≠ "java/lang/invoke/VarHandle" := by decide
theorem pf_pc_checkIndex : plainFor yJ2_checkIndex = true := by decide +kernel
theorem gm_pc_checkIndex {l : Launch} {Z : gZ} {m : Nat} (hi : gInj Z) (hm : m ≤ zN Z) : gCee l Z yJ2_checkIndex (ws_ yJ2_checkIndex cJ2_checkIndex 3 (Option.some Jvm.ClassFile.FieldType.int)) 0 0 3 3 0 0 (.inl (fn_pc_checkIndex m)) :=
  gCee.st (k := 3) (gmetF hi ⟨pf_pc_checkIndex, ok_pc_checkIndex, hm, Or.inr (Or.inr (Or.inl ⟨rfl, rfl⟩)), rfl, fun i c k t hg => gall_spec F_pc i _ hg, gall_spec C_pc, fun i k rc rt f hg => gall_spec (P := gCl l Z "jdk/internal/util/Preconditions" ⟨0, 0, 0, 0⟩) (xs := (e_pc_checkIndex m).2.2.2.1) trivial i _ hg⟩) q419 q233 mh_pc ds_5 q418
theorem F_st : gall (gFl "java/lang/String") f_st := ⟨Or.inr (Or.inl ⟨rfl, Or.inl ⟨rfl, q3107⟩⟩),
  Or.inr (Or.inl ⟨rfl, Or.inr ⟨rfl, q3108⟩⟩),
  Or.inr (Or.inr ⟨rfl, Or.inl ⟨rfl, rfl, q399⟩⟩),
  Or.inr (Or.inr ⟨rfl, Or.inr ⟨rfl, rfl, q415⟩⟩),
  trivial⟩
theorem C_st : gall (gCst "java/lang/String") c_st := trivial
theorem mh_st : "java/lang/String" ≠ "java/lang/invoke/MethodHandle" ∧ "java/lang/String" ≠ "java/lang/invoke/VarHandle" := by decide
theorem pf_st_checkIndex : plainFor yJ0_checkIndex = true := by decide +kernel
theorem gm_st_checkIndex {l : Launch} {Z : gZ} {m : Nat} (hi : gInj Z) (hm : m ≤ zN Z) : gCee l Z yJ0_checkIndex (ws_ yJ0_checkIndex cJ0_checkIndex 2 (Option.none : Option Jvm.ClassFile.FieldType)) 1 22 2 2 0 5 (.inl (fn_st_checkIndex m)) :=
  gCee.st (k := 2) (gmetF hi ⟨pf_st_checkIndex, ok_st_checkIndex, hm, Or.inr (Or.inr (Or.inr (Or.inr (Or.inr (Or.inr ⟨rfl, rfl⟩))))), rfl, fun i c k t hg => gall_spec F_st i _ hg, gall_spec C_st, fun i k rc rt f hg => gall_spec (P := gCl l Z "java/lang/String" ⟨1, 0, 0, 22⟩) (xs := (e_st_checkIndex m).2.2.2.1) ⟨(gm_pc_checkIndex hi (Nat.zero_le _)).cal (by omega) (by omega) q417,
    trivial⟩ i _ hg⟩) q414 q231 mh_st ds_6 q413
theorem F_sl : gall (gFl "java/lang/StringLatin1") f_sl := trivial
theorem C_sl : gall (gCst "java/lang/StringLatin1") c_sl := trivial
theorem mh_sl : "java/lang/StringLatin1" ≠ "java/lang/invoke/MethodHandle" ∧ "java/lang/StringLatin1" ≠ "java/lang/invoke/VarHandle" := by decide
theorem pf_sl_charAt : plainFor yJ1_charAt = true := by decide +kernel
theorem gm_sl_charAt {l : Launch} {Z : gZ} {m : Nat} (hi : gInj Z) (hm : m ≤ zN Z) : gCee l Z yJ1_charAt (ws_ yJ1_charAt cJ1_charAt 2 (Option.some Jvm.ClassFile.FieldType.char)) 2 43 2 2 0 0 (.inl (fn_sl_charAt m)) :=
  gCee.st (k := 2) (gmetF hi ⟨pf_sl_charAt, ok_sl_charAt, hm, Or.inl ⟨rfl, rfl⟩, rfl, fun i c k t hg => gall_spec F_sl i _ hg, gall_spec C_sl, fun i k rc rt f hg => gall_spec (P := gCl l Z "java/lang/StringLatin1" ⟨2, 0, 0, 43⟩) (xs := (e_sl_charAt m).2.2.2.1) ⟨(gm_st_checkIndex hi (Nat.zero_le _)).cal (by omega) (by omega) q412,
    trivial⟩ i _ hg⟩) q411 q232 mh_sl ds_7 q410
theorem pf_sl_canEncode : plainFor yJ1_canEncode = true := by decide +kernel
theorem gm_sl_canEncode {l : Launch} {Z : gZ} {m : Nat} (hi : gInj Z) (hm : m ≤ zN Z) : gCee l Z yJ1_canEncode (ws_ yJ1_canEncode cJ1_canEncode 1 (Option.some Jvm.ClassFile.FieldType.boolean)) 0 0 1 1 0 0 (.inl (fn_sl_canEncode m)) :=
  gCee.st (k := 1) (gmetF hi ⟨pf_sl_canEncode, ok_sl_canEncode, hm, Or.inr (Or.inr (Or.inr (Or.inl ⟨rfl, rfl⟩))), rfl, fun i c k t hg => gall_spec F_sl i _ hg, gall_spec C_sl, fun i k rc rt f hg => gall_spec (P := gCl l Z "java/lang/StringLatin1" ⟨0, 0, 0, 0⟩) (xs := (e_sl_canEncode m).2.2.2.1) trivial i _ hg⟩) q1214 q232 mh_sl ds_8 q1213
theorem pf_sl_indexOfChar : plainFor yJ1_indexOfChar = true := by decide +kernel
theorem gm_sl_indexOfChar {l : Launch} {Z : gZ} {m : Nat} (hi : gInj Z) (hm : m ≤ zN Z) : gCee l Z yJ1_indexOfChar (ws_ yJ1_indexOfChar cJ1_indexOfChar 6 (Option.some Jvm.ClassFile.FieldType.int)) 0 0 6 4 0 0 (.inl (fn_sl_indexOfChar m)) :=
  gCee.st (k := 4) (gmetF hi ⟨pf_sl_indexOfChar, ok_sl_indexOfChar, hm, Or.inr (Or.inr (Or.inl ⟨rfl, rfl⟩)), rfl, fun i c k t hg => gall_spec F_sl i _ hg, gall_spec C_sl, fun i k rc rt f hg => gall_spec (P := gCl l Z "java/lang/StringLatin1" ⟨0, 0, 0, 0⟩) (xs := (e_sl_indexOfChar m).2.2.2.1) trivial i _ hg⟩) q1219 q232 mh_sl ds_9 q1218
theorem pf_sl_indexOf : plainFor yJ1_indexOf = true := by decide +kernel
theorem gm_sl_indexOf {l : Launch} {Z : gZ} {m : Nat} (hi : gInj Z) (hm : m ≤ zN Z) : gCee l Z yJ1_indexOf (ws_ yJ1_indexOf cJ1_indexOf 4 (Option.some Jvm.ClassFile.FieldType.int)) 1 25 4 4 0 0 (.inl (fn_sl_indexOf m)) :=
  gCee.st (k := 4) (gmetF hi ⟨pf_sl_indexOf, ok_sl_indexOf, hm, Or.inr (Or.inr (Or.inl ⟨rfl, rfl⟩)), rfl, fun i c k t hg => gall_spec F_sl i _ hg, gall_spec C_sl, fun i k rc rt f hg => gall_spec (P := gCl l Z "java/lang/StringLatin1" ⟨1, 0, 0, 25⟩) (xs := (e_sl_indexOf m).2.2.2.1) ⟨(gm_sl_canEncode hi (Nat.zero_le _)).cal (by omega) (by omega) q1212,
    (gm_jm_max hi (Nat.zero_le _)).cal (by omega) (by omega) q1215,
    (gm_jm_min hi (Nat.zero_le _)).cal (by omega) (by omega) q1216,
    (gm_sl_indexOfChar hi (Nat.zero_le _)).cal (by omega) (by omega) q1217,
    trivial⟩ i _ hg⟩) q1211 q232 mh_sl ds_9 q1210
theorem pf_sl_indexOf_3 : plainFor yJ1_indexOf_3 = true := by decide +kernel
theorem gm_sl_indexOf_3 {l : Launch} {Z : gZ} {m : Nat} (hi : gInj Z) (hm : m ≤ zN Z) : gCee l Z yJ1_indexOf_3 (ws_ yJ1_indexOf_3 cJ1_indexOf_3 11 (Option.some Jvm.ClassFile.FieldType.int)) 0 0 11 5 0 0 (.inl (fn_sl_indexOf_3 m)) :=
  gCee.st (k := 5) (gmetF hi ⟨pf_sl_indexOf_3, ok_sl_indexOf_3, hm, Or.inr (Or.inr (Or.inl ⟨rfl, rfl⟩)), rfl, fun i c k t hg => gall_spec F_sl i _ hg, gall_spec C_sl, fun i k rc rt f hg => gall_spec (P := gCl l Z "java/lang/StringLatin1" ⟨0, 0, 0, 0⟩) (xs := (e_sl_indexOf_3 m).2.2.2.1) trivial i _ hg⟩) q1296 q232 mh_sl ds_10 q1295
theorem pf_sl_indexOf_2 : plainFor yJ1_indexOf_2 = true := by decide +kernel
theorem gm_sl_indexOf_2 {l : Launch} {Z : gZ} {m : Nat} (hi : gInj Z) (hm : m ≤ zN Z) : gCee l Z yJ1_indexOf_2 (ws_ yJ1_indexOf_2 cJ1_indexOf_2 2 (Option.some Jvm.ClassFile.FieldType.int)) 1 30 2 2 0 0 (.inl (fn_sl_indexOf_2 m)) :=
  gCee.st (k := 2) (gmetF hi ⟨pf_sl_indexOf_2, ok_sl_indexOf_2, hm, Or.inr (Or.inr (Or.inl ⟨rfl, rfl⟩)), rfl, fun i c k t hg => gall_spec F_sl i _ hg, gall_spec C_sl, fun i k rc rt f hg => gall_spec (P := gCl l Z "java/lang/StringLatin1" ⟨1, 0, 0, 30⟩) (xs := (e_sl_indexOf_2 m).2.2.2.1) ⟨(gm_sl_indexOf_3 hi (Nat.zero_le _)).cal (by omega) (by omega) q1294,
    trivial⟩ i _ hg⟩) q1293 q232 mh_sl ds_11 q1292
theorem pf_st_coder : plainFor yJ0_coder = true := by decide +kernel
theorem gm_st_coder {l : Launch} {Z : gZ} {m : Nat} (hi : gInj Z) (hm : m ≤ zN Z) : gCee l Z yJ0_coder (ws_ yJ0_coder cJ0_coder 1 (Option.some Jvm.ClassFile.FieldType.byte)) 0 0 1 1 100 0 (.inl (fn_st_coder m)) :=
  gCee.vi (k := 0) (by decide) (gmetF hi ⟨pf_st_coder, ok_st_coder, hm, Or.inr (Or.inl ⟨rfl, rfl⟩), rfl, fun i c k t hg => gall_spec F_st i _ hg, gall_spec C_st, fun i k rc rt f hg => gall_spec (P := gCl l Z "java/lang/String" ⟨0, 0, 0, 0⟩) (xs := (e_st_coder m).2.2.2.1) trivial i _ hg⟩) q398 q231 mh_st ds_12 q396 q397
theorem pf_st_length : plainFor yJ0_length = true := by decide +kernel
theorem gm_st_length {l : Launch} {Z : gZ} {m : Nat} (hi : gInj Z) (hm : m ≤ zN Z) : gCee l Z yJ0_length (ws_ yJ0_length cJ0_length 1 (Option.some Jvm.ClassFile.FieldType.int)) 1 20 1 1 100 0 (.inl (fn_st_length m)) :=
  gCee.vi (k := 0) (by decide) (gmetF hi ⟨pf_st_length, ok_st_length, hm, Or.inr (Or.inr (Or.inl ⟨rfl, rfl⟩)), rfl, fun i c k t hg => gall_spec F_st i _ hg, gall_spec C_st, fun i k rc rt f hg => gall_spec (P := gCl l Z "java/lang/String" ⟨1, 0, 0, 20⟩) (xs := (e_st_length m).2.2.2.1) ⟨(gm_st_coder hi (Nat.zero_le _)).cal (by omega) (by omega) q395,
    trivial⟩ i _ hg⟩) q394 q231 mh_st ds_13 q392 q393
theorem pf_st_isLatin1 : plainFor yJ0_isLatin1 = true := by decide +kernel
theorem gm_st_isLatin1 {l : Launch} {Z : gZ} {m : Nat} (hi : gInj Z) (hm : m ≤ zN Z) : gCee l Z yJ0_isLatin1 (ws_ yJ0_isLatin1 cJ0_isLatin1 1 (Option.some Jvm.ClassFile.FieldType.boolean)) 0 0 1 1 100 0 (.inl (fn_st_isLatin1 m)) :=
  gCee.vi (k := 0) (by decide) (gmetF hi ⟨pf_st_isLatin1, ok_st_isLatin1, hm, Or.inr (Or.inr (Or.inr (Or.inl ⟨rfl, rfl⟩))), rfl, fun i c k t hg => gall_spec F_st i _ hg, gall_spec C_st, fun i k rc rt f hg => gall_spec (P := gCl l Z "java/lang/String" ⟨0, 0, 0, 0⟩) (xs := (e_st_isLatin1 m).2.2.2.1) trivial i _ hg⟩) q408 q231 mh_st ds_14 q406 q407
theorem pf_st_charAt : plainFor yJ0_charAt = true := by decide +kernel
theorem gm_st_charAt {l : Launch} {Z : gZ} {m : Nat} (hi : gInj Z) (hm : m ≤ zN Z) : gCee l Z yJ0_charAt (ws_ yJ0_charAt cJ0_charAt 2 (Option.some Jvm.ClassFile.FieldType.char)) 3 64 2 2 100 0 (.inl (fn_st_charAt m)) :=
  gCee.vi (k := 1) (by decide) (gmetF hi ⟨pf_st_charAt, ok_st_charAt, hm, Or.inl ⟨rfl, rfl⟩, rfl, fun i c k t hg => gall_spec F_st i _ hg, gall_spec C_st, fun i k rc rt f hg => gall_spec (P := gCl l Z "java/lang/String" ⟨3, 0, 0, 64⟩) (xs := (e_st_charAt m).2.2.2.1) ⟨(gm_st_isLatin1 hi (Nat.zero_le _)).cal (by omega) (by omega) q405,
    (gm_sl_charAt hi (Nat.zero_le _)).cal (by omega) (by omega) q409,
    trivial⟩ i _ hg⟩) q404 q231 mh_st ds_15 q402 q403
theorem pf_st_indexOf : plainFor yJ0_indexOf = true := by decide +kernel
theorem gm_st_indexOf {l : Launch} {Z : gZ} {m : Nat} (hi : gInj Z) (hm : m ≤ zN Z) : gCee l Z yJ0_indexOf (ws_ yJ0_indexOf cJ0_indexOf 3 (Option.some Jvm.ClassFile.FieldType.int)) 2 48 3 3 100 0 (.inl (fn_st_indexOf m)) :=
  gCee.vi (k := 2) (by decide) (gmetF hi ⟨pf_st_indexOf, ok_st_indexOf, hm, Or.inr (Or.inr (Or.inl ⟨rfl, rfl⟩)), rfl, fun i c k t hg => gall_spec F_st i _ hg, gall_spec C_st, fun i k rc rt f hg => gall_spec (P := gCl l Z "java/lang/String" ⟨2, 0, 0, 48⟩) (xs := (e_st_indexOf m).2.2.2.1) ⟨(gm_st_isLatin1 hi (Nat.zero_le _)).cal (by omega) (by omega) q405,
    (gm_st_length hi (Nat.zero_le _)).cal (by omega) (by omega) q1208,
    (gm_sl_indexOf hi (Nat.zero_le _)).cal (by omega) (by omega) q1209,
    trivial⟩ i _ hg⟩) q1207 q231 mh_st ds_0 q1205 q1206
theorem pf_st_indexOf_2 : plainFor yJ0_indexOf_2 = true := by decide +kernel
theorem gm_st_indexOf_2 {l : Launch} {Z : gZ} {m : Nat} (hi : gInj Z) (hm : m ≤ zN Z) : gCee l Z yJ0_indexOf_2 (ws_ yJ0_indexOf_2 cJ0_indexOf_2 2 (Option.some Jvm.ClassFile.FieldType.int)) 3 70 2 2 100 0 (.inl (fn_st_indexOf_2 m)) :=
  gCee.vi (k := 1) (by decide) (gmetF hi ⟨pf_st_indexOf_2, ok_st_indexOf_2, hm, Or.inr (Or.inr (Or.inl ⟨rfl, rfl⟩)), rfl, fun i c k t hg => gall_spec F_st i _ hg, gall_spec C_st, fun i k rc rt f hg => gall_spec (P := gCl l Z "java/lang/String" ⟨3, 0, 0, 70⟩) (xs := (e_st_indexOf_2 m).2.2.2.1) ⟨(gm_st_indexOf hi (Nat.zero_le _)).cal (by omega) (by omega) q1273,
    trivial⟩ i _ hg⟩) q1272 q231 mh_st ds_16 q1270 q1271
theorem pf_st_indexOf_3 : plainFor yJ0_indexOf_3 = true := by decide +kernel
theorem gm_st_indexOf_3 {l : Launch} {Z : gZ} {m : Nat} (hi : gInj Z) (hm : m ≤ zN Z) : gCee l Z yJ0_indexOf_3 (ws_ yJ0_indexOf_3 cJ0_indexOf_3 3 (Option.some Jvm.ClassFile.FieldType.int)) 2 51 3 2 100 0 (.inl (fn_st_indexOf_3 m)) :=
  gCee.vi (k := 1) (by decide) (gmetF hi ⟨pf_st_indexOf_3, ok_st_indexOf_3, hm, Or.inr (Or.inr (Or.inl ⟨rfl, rfl⟩)), rfl, fun i c k t hg => gall_spec F_st i _ hg, gall_spec C_st, fun i k rc rt f hg => gall_spec (P := gCl l Z "java/lang/String" ⟨2, 0, 0, 51⟩) (xs := (e_st_indexOf_3 m).2.2.2.1) ⟨(gm_st_coder hi (Nat.zero_le _)).cal (by omega) (by omega) q395,
    (gm_st_isLatin1 hi (Nat.zero_le _)).cal (by omega) (by omega) q405,
    (gm_sl_indexOf_2 hi (Nat.zero_le _)).cal (by omega) (by omega) q1291,
    trivial⟩ i _ hg⟩) q1290 q231 mh_st ds_17 q1288 q1289
theorem F_wl : gall (gFl "GraftTrees$Whole") f_wl := ⟨Or.inl ⟨RX4, TX4, 4, 1, by decide, by decide, rfl, rfl, by decide, rfl, Or.inl q348⟩,
  Or.inl ⟨RX4, TX4, 4, 2, by decide, by decide, rfl, rfl, by decide, rfl, Or.inl q350⟩,
  Or.inl ⟨RX4, TX4, 4, 0, by decide, by decide, rfl, rfl, by decide, rfl, Or.inl q345⟩,
  Or.inl ⟨RX4, TX4, 4, 3, by decide, by decide, rfl, rfl, by decide, rfl, Or.inl q351⟩,
  trivial⟩
theorem C_wl : gall (gCst "GraftTrees$Whole") c_wl := ⟨Or.inr (Or.inl ⟨1000000000, rfl, q1487, by unfold i64; omega⟩),
  Or.inr (Or.inl ⟨10, rfl, q1495, by unfold i64; omega⟩),
  trivial⟩
theorem pn_wl : plainName "GraftTrees$Whole" = true := by decide +kernel
theorem mh_wl : "GraftTrees$Whole" ≠ "java/lang/invoke/MethodHandle" ∧ "GraftTrees$Whole" ≠ "java/lang/invoke/VarHandle" := by decide
theorem gm_wl_of {l : Launch} {Z : gZ} {m : Nat} (hi : gInj Z) (hm : m ≤ zN Z) : gCee l Z yX4_of (ws_ yX4_of cX4_of 6 (Option.none : Option Jvm.ClassFile.FieldType)) 1 21 6 2 12 5 (.inl (fn_wl_of m)) :=
  gCee.vi (k := 1) (by decide) (gmetF hi ⟨plainFor_of_name pn_wl, ok_wl_of, hm, Or.inr (Or.inr (Or.inr (Or.inr (Or.inr (Or.inr ⟨rfl, rfl⟩))))), rfl, fun i c k t hg => gall_spec F_wl i _ hg, gall_spec C_wl, fun i k rc rt f hg => gall_spec (P := gCl l Z "GraftTrees$Whole" ⟨1, 0, 0, 21⟩) (xs := (e_wl_of m).2.2.2.1) ⟨(gm_jl_signum hi (Nat.zero_le _)).cal (by omega) (by omega) q1484,
    (gm_jm_abs hi (Nat.zero_le _)).cal (by omega) (by omega) q1488,
    trivial⟩ i _ hg⟩) q1483 q230 mh_wl ds_18 q1481 q1482
theorem gm_wl_settle {l : Launch} {Z : gZ} {m : Nat} (hi : gInj Z) (hm : m ≤ zN Z) : gCee l Z yX4_settle (ws_ yX4_settle cX4_settle 4 (Option.none : Option Jvm.ClassFile.FieldType)) 0 0 4 2 12 5 (.inl (fn_wl_settle m)) :=
  gCee.vi (k := 1) (by decide) (gmetF hi ⟨plainFor_of_name pn_wl, ok_wl_settle, hm, Or.inr (Or.inr (Or.inr (Or.inr (Or.inr (Or.inr ⟨rfl, rfl⟩))))), rfl, fun i c k t hg => gall_spec F_wl i _ hg, gall_spec C_wl, fun i k rc rt f hg => gall_spec (P := gCl l Z "GraftTrees$Whole" ⟨0, 0, 0, 0⟩) (xs := (e_wl_settle m).2.2.2.1) trivial i _ hg⟩) q1499 q230 mh_wl ds_19 q1498 qs49
theorem gm_wl_more {l : Launch} {Z : gZ} {m : Nat} (hi : gInj Z) (hm : m ≤ zN Z) : gCee l Z yX4_more (ws_ yX4_more cX4_more 7 (Option.some Jvm.ClassFile.FieldType.boolean)) 1 23 7 2 12 0 (.inl (fn_wl_more m)) :=
  gCee.vi (k := 1) (by decide) (gmetF hi ⟨plainFor_of_name pn_wl, ok_wl_more, hm, Or.inr (Or.inr (Or.inr (Or.inl ⟨rfl, rfl⟩))), rfl, fun i c k t hg => gall_spec F_wl i _ hg, gall_spec C_wl, fun i k rc rt f hg => gall_spec (P := gCl l Z "GraftTrees$Whole" ⟨1, 0, 0, 23⟩) (xs := (e_wl_more m).2.2.2.1) ⟨(gm_wl_settle hi hm).cal (by omega) (by omega) q1496,
    trivial⟩ i _ hg⟩) q1494 q230 mh_wl ds_8 q1492 q1493
theorem gm_wl_digit {l : Launch} {Z : gZ} {m : Nat} (hi : gInj Z) (hm : m ≤ zN Z) : gCee l Z yX4_digit (ws_ yX4_digit cX4_digit 5 (Option.some Jvm.ClassFile.FieldType.int)) 0 0 5 2 12 0 (.inl (fn_wl_digit m)) :=
  gCee.vi (k := 1) (by decide) (gmetF hi ⟨plainFor_of_name pn_wl, ok_wl_digit, hm, Or.inr (Or.inr (Or.inl ⟨rfl, rfl⟩)), rfl, fun i c k t hg => gall_spec F_wl i _ hg, gall_spec C_wl, fun i k rc rt f hg => gall_spec (P := gCl l Z "GraftTrees$Whole" ⟨0, 0, 0, 0⟩) (xs := (e_wl_digit m).2.2.2.1) trivial i _ hg⟩) q1511 q230 mh_wl ds_16 q1509 q1510
theorem gm_wl_digits {l : Launch} {Z : gZ} {m : Nat} (hi : gInj Z) (hm : m ≤ zN Z) : gCee l Z yX4_digits (ws_ yX4_digits cX4_digits 2 (Option.some Jvm.ClassFile.FieldType.int)) 1 24 2 1 12 0 (.inl (fn_wl_digits m)) :=
  gCee.vi (k := 0) (by decide) (gmetF hi ⟨plainFor_of_name pn_wl, ok_wl_digits, hm, Or.inr (Or.inr (Or.inl ⟨rfl, rfl⟩)), rfl, fun i c k t hg => gall_spec F_wl i _ hg, gall_spec C_wl, fun i k rc rt f hg => gall_spec (P := gCl l Z "GraftTrees$Whole" ⟨1, 0, 0, 24⟩) (xs := (e_wl_digits m).2.2.2.1) ⟨(gm_wl_digit hi hm).cal (by omega) (by omega) q1508,
    trivial⟩ i _ hg⟩) q1507 q230 mh_wl ds_13 q1505 q1506
theorem gm_wl_isLong {l : Launch} {Z : gZ} {m : Nat} (hi : gInj Z) (hm : m ≤ zN Z) : gCee l Z yX4_isLong (ws_ yX4_isLong cX4_isLong 7 (Option.some Jvm.ClassFile.FieldType.boolean)) 2 45 7 1 12 0 (.inl (fn_wl_isLong m)) :=
  gCee.vi (k := 0) (by decide) (gmetF hi ⟨plainFor_of_name pn_wl, ok_wl_isLong, hm, Or.inr (Or.inr (Or.inr (Or.inl ⟨rfl, rfl⟩))), rfl, fun i c k t hg => gall_spec F_wl i _ hg, gall_spec C_wl, fun i k rc rt f hg => gall_spec (P := gCl l Z "GraftTrees$Whole" ⟨2, 0, 0, 45⟩) (xs := (e_wl_isLong m).2.2.2.1) ⟨(gm_wl_digits hi hm).cal (by omega) (by omega) q1504,
    (gm_wl_digit hi hm).cal (by omega) (by omega) q1508,
    (gm_jm_multiplyHigh hi (Nat.zero_le _)).cal (by omega) (by omega) q1512,
    trivial⟩ i _ hg⟩) q1503 q230 mh_wl ds_14 q1501 q1502
theorem gm_wl_size {l : Launch} {Z : gZ} {m : Nat} (hi : gInj Z) (hm : m ≤ zN Z) : gCee l Z yX4_size (ws_ yX4_size cX4_size 3 (Option.some Jvm.ClassFile.FieldType.int)) 0 0 3 2 0 0 (.inl (fn_wl_size m)) :=
  gCee.st (k := 2) (gmetF hi ⟨plainFor_of_name pn_wl, ok_wl_size, hm, Or.inr (Or.inr (Or.inl ⟨rfl, rfl⟩)), rfl, fun i c k t hg => gall_spec F_wl i _ hg, gall_spec C_wl, fun i k rc rt f hg => gall_spec (P := gCl l Z "GraftTrees$Whole" ⟨0, 0, 0, 0⟩) (xs := (e_wl_size m).2.2.2.1) trivial i _ hg⟩) q1692 q230 mh_wl ds_20 q1691
theorem gm_wl_compare {l : Launch} {Z : gZ} {m : Nat} (hi : gInj Z) (hm : m ≤ zN Z) : gCee l Z yX4_compare (ws_ yX4_compare cX4_compare 2 (Option.some Jvm.ClassFile.FieldType.int)) 1 22 2 2 0 0 (.inl (fn_wl_compare m)) :=
  gCee.st (k := 2) (gmetF hi ⟨plainFor_of_name pn_wl, ok_wl_compare, hm, Or.inr (Or.inr (Or.inl ⟨rfl, rfl⟩)), rfl, fun i c k t hg => gall_spec F_wl i _ hg, gall_spec C_wl, fun i k rc rt f hg => gall_spec (P := gCl l Z "GraftTrees$Whole" ⟨1, 0, 0, 22⟩) (xs := (e_wl_compare m).2.2.2.1) ⟨(gm_wl_size hi hm).cal (by omega) (by omega) q1690,
    trivial⟩ i _ hg⟩) q1689 q230 mh_wl ds_20 q1688
theorem gm_wl_of_2 {l : Launch} {Z : gZ} {m : Nat} (hi : gInj Z) (hm : m ≤ zN Z) : gCee l Z yX4_of_2 (ws_ yX4_of_2 cX4_of_2 3 (Option.none : Option Jvm.ClassFile.FieldType)) 0 0 3 2 12 5 (.inl (fn_wl_of_2 m)) :=
  gCee.vi (k := 1) (by decide) (gmetF hi ⟨plainFor_of_name pn_wl, ok_wl_of_2, hm, Or.inr (Or.inr (Or.inr (Or.inr (Or.inr (Or.inr ⟨rfl, rfl⟩))))), rfl, fun i c k t hg => gall_spec F_wl i _ hg, gall_spec C_wl, fun i k rc rt f hg => gall_spec (P := gCl l Z "GraftTrees$Whole" ⟨0, 0, 0, 0⟩) (xs := (e_wl_of_2 m).2.2.2.1) trivial i _ hg⟩) q1761 q230 mh_wl ds_21 q1759 q1760
theorem gm_wl_less {l : Launch} {Z : gZ} {m : Nat} (hi : gInj Z) (hm : m ≤ zN Z) : gCee l Z yX4_less (ws_ yX4_less cX4_less 8 (Option.none : Option Jvm.ClassFile.FieldType)) 0 0 8 3 12 5 (.inl (fn_wl_less m)) :=
  gCee.vi (k := 2) (by decide) (gmetF hi ⟨plainFor_of_name pn_wl, ok_wl_less, hm, Or.inr (Or.inr (Or.inr (Or.inr (Or.inr (Or.inr ⟨rfl, rfl⟩))))), rfl, fun i c k t hg => gall_spec F_wl i _ hg, gall_spec C_wl, fun i k rc rt f hg => gall_spec (P := gCl l Z "GraftTrees$Whole" ⟨0, 0, 0, 0⟩) (xs := (e_wl_less m).2.2.2.1) trivial i _ hg⟩) q1765 q230 mh_wl ds_22 q1764 qs83
theorem gm_wl_sum {l : Launch} {Z : gZ} {m : Nat} (hi : gInj Z) (hm : m ≤ zN Z) : gCee l Z yX4_sum (ws_ yX4_sum cX4_sum 10 (Option.some Jvm.ClassFile.FieldType.boolean)) 1 27 10 4 12 0 (.inl (fn_wl_sum m)) :=
  gCee.vi (k := 3) (by decide) (gmetF hi ⟨plainFor_of_name pn_wl, ok_wl_sum, hm, Or.inr (Or.inr (Or.inr (Or.inl ⟨rfl, rfl⟩))), rfl, fun i c k t hg => gall_spec F_wl i _ hg, gall_spec C_wl, fun i k rc rt f hg => gall_spec (P := gCl l Z "GraftTrees$Whole" ⟨1, 0, 0, 27⟩) (xs := (e_wl_sum m).2.2.2.1) ⟨(gm_wl_of_2 hi hm).cal (by omega) (by omega) q1758,
    (gm_wl_settle hi hm).cal (by omega) (by omega) q1496,
    (gm_wl_size hi hm).cal (by omega) (by omega) q1690,
    (gm_wl_less hi hm).cal (by omega) (by omega) q1762,
    trivial⟩ i _ hg⟩) q1757 q230 mh_wl ds_23 q1755 q1756
theorem gm_wl_product {l : Launch} {Z : gZ} {m : Nat} (hi : gInj Z) (hm : m ≤ zN Z) : gCee l Z yX4_product (ws_ yX4_product cX4_product 9 (Option.some Jvm.ClassFile.FieldType.boolean)) 1 23 9 3 12 0 (.inl (fn_wl_product m)) :=
  gCee.vi (k := 2) (by decide) (gmetF hi ⟨plainFor_of_name pn_wl, ok_wl_product, hm, Or.inr (Or.inr (Or.inr (Or.inl ⟨rfl, rfl⟩))), rfl, fun i c k t hg => gall_spec F_wl i _ hg, gall_spec C_wl, fun i k rc rt f hg => gall_spec (P := gCl l Z "GraftTrees$Whole" ⟨1, 0, 0, 23⟩) (xs := (e_wl_product m).2.2.2.1) ⟨(gm_wl_settle hi hm).cal (by omega) (by omega) q1496,
    trivial⟩ i _ hg⟩) q1769 q230 mh_wl ds_24 q1767 q1768
theorem gm_wl_quotient {l : Launch} {Z : gZ} {m : Nat} (hi : gInj Z) (hm : m ≤ zN Z) : gCee l Z yX4_quotient (ws_ yX4_quotient cX4_quotient 6 (Option.none : Option Jvm.ClassFile.FieldType)) 2 49 6 4 12 5 (.inl (fn_wl_quotient m)) :=
  gCee.vi (k := 3) (by decide) (gmetF hi ⟨plainFor_of_name pn_wl, ok_wl_quotient, hm, Or.inr (Or.inr (Or.inr (Or.inr (Or.inr (Or.inr ⟨rfl, rfl⟩))))), rfl, fun i c k t hg => gall_spec F_wl i _ hg, gall_spec C_wl, fun i k rc rt f hg => gall_spec (P := gCl l Z "GraftTrees$Whole" ⟨2, 0, 0, 49⟩) (xs := (e_wl_quotient m).2.2.2.1) ⟨(gm_wl_of hi hm).cal (by omega) (by omega) q1774,
    (gm_wl_digit hi hm).cal (by omega) (by omega) q1508,
    (gm_wl_more hi hm).cal (by omega) (by omega) q1775,
    (gm_wl_size hi hm).cal (by omega) (by omega) q1690,
    (gm_wl_less hi hm).cal (by omega) (by omega) q1762,
    (gm_wl_settle hi hm).cal (by omega) (by omega) q1496,
    trivial⟩ i _ hg⟩) q1773 q230 mh_wl ds_25 q1771 q1772
theorem F_hp : gall (gFl "GraftTrees$Heap") f_hp := ⟨Or.inl ⟨RX2, TX2, 15, 0, by decide, by decide, rfl, rfl, by decide, rfl, Or.inl q267⟩,
  Or.inl ⟨RX2, TX2, 15, 1, by decide, by decide, rfl, rfl, by decide, rfl, Or.inl q272⟩,
  Or.inl ⟨RX2, TX2, 15, 2, by decide, by decide, rfl, rfl, by decide, rfl, Or.inl q277⟩,
  Or.inl ⟨RX2, TX2, 15, 3, by decide, by decide, rfl, rfl, by decide, rfl, Or.inl q282⟩,
  Or.inl ⟨RX2, TX2, 15, 4, by decide, by decide, rfl, rfl, by decide, rfl, Or.inl q284⟩,
  Or.inl ⟨RX2, TX2, 15, 5, by decide, by decide, rfl, rfl, by decide, rfl, Or.inl q286⟩,
  Or.inl ⟨RX2, TX2, 15, 6, by decide, by decide, rfl, rfl, by decide, rfl, Or.inl q287⟩,
  Or.inl ⟨RX2, TX2, 15, 7, by decide, by decide, rfl, rfl, by decide, rfl, Or.inl q288⟩,
  Or.inl ⟨RX2, TX2, 15, 8, by decide, by decide, rfl, rfl, by decide, rfl, Or.inl q289⟩,
  Or.inl ⟨RX2, TX2, 15, 9, by decide, by decide, rfl, rfl, by decide, rfl, Or.inl q290⟩,
  Or.inl ⟨RX2, TX2, 15, 10, by decide, by decide, rfl, rfl, by decide, rfl, Or.inl q291⟩,
  Or.inl ⟨RX2, TX2, 15, 11, by decide, by decide, rfl, rfl, by decide, rfl, Or.inl q292⟩,
  Or.inl ⟨RX2, TX2, 15, 12, by decide, by decide, rfl, rfl, by decide, rfl, Or.inl q294⟩,
  Or.inl ⟨RX2, TX2, 15, 13, by decide, by decide, rfl, rfl, by decide, rfl, Or.inl q295⟩,
  Or.inl ⟨RX4, TX4, 4, 0, by decide, by decide, rfl, rfl, by decide, rfl, Or.inr ⟨_, q346⟩⟩,
  Or.inl ⟨RX4, TX4, 4, 1, by decide, by decide, rfl, rfl, by decide, rfl, Or.inr ⟨_, q349⟩⟩,
  Or.inl ⟨RX2, TX2, 15, 14, by decide, by decide, rfl, rfl, by decide, rfl, Or.inl q296⟩,
  trivial⟩
theorem C_hp : gall (gCst "GraftTrees$Heap") c_hp := ⟨Or.inl ⟨100000, rfl, q1745, by unfold i32; omega⟩,
  trivial⟩
theorem pn_hp : plainName "GraftTrees$Heap" = true := by decide +kernel
theorem mh_hp : "GraftTrees$Heap" ≠ "java/lang/invoke/MethodHandle" ∧ "GraftTrees$Heap" ≠ "java/lang/invoke/VarHandle" := by decide
theorem gm_hp_begin {l : Launch} {Z : gZ} {m : Nat} (hi : gInj Z) (hm : m ≤ zN Z) : gCee l Z yX2_begin (ws_ yX2_begin cX2_begin 1 (Option.none : Option Jvm.ClassFile.FieldType)) 0 0 1 1 10 5 (.inl (fn_hp_begin m)) :=
  gCee.vi (k := 0) (by decide) (gmetF hi ⟨plainFor_of_name pn_hp, ok_hp_begin, hm, Or.inr (Or.inr (Or.inr (Or.inr (Or.inr (Or.inr ⟨rfl, rfl⟩))))), rfl, fun i c k t hg => gall_spec F_hp i _ hg, gall_spec C_hp, fun i k rc rt f hg => gall_spec (P := gCl l Z "GraftTrees$Heap" ⟨0, 0, 0, 0⟩) (xs := (e_hp_begin m).2.2.2.1) trivial i _ hg⟩) q381 q228 mh_hp ds_26 q379 q380
theorem gm_hp_clear {l : Launch} {Z : gZ} {m : Nat} (hi : gInj Z) (hm : m ≤ zN Z) : gCee l Z yX2_clear (ws_ yX2_clear cX2_clear 1 (Option.none : Option Jvm.ClassFile.FieldType)) 1 20 1 1 10 5 (.inl (fn_hp_clear m)) :=
  gCee.vi (k := 0) (by decide) (gmetF hi ⟨plainFor_of_name pn_hp, ok_hp_clear, hm, Or.inr (Or.inr (Or.inr (Or.inr (Or.inr (Or.inr ⟨rfl, rfl⟩))))), rfl, fun i c k t hg => gall_spec F_hp i _ hg, gall_spec C_hp, fun i k rc rt f hg => gall_spec (P := gCl l Z "GraftTrees$Heap" ⟨1, 0, 0, 20⟩) (xs := (e_hp_clear m).2.2.2.1) ⟨(gm_hp_begin hi hm).cal (by omega) (by omega) q378,
    trivial⟩ i _ hg⟩) q377 q228 mh_hp ds_26 q375 q376
theorem gm_hp_is {l : Launch} {Z : gZ} {m : Nat} (hi : gInj Z) (hm : m ≤ zN Z) : gCee l Z yX2_is (ws_ yX2_is cX2_is 6 (Option.some Jvm.ClassFile.FieldType.boolean)) 0 0 6 5 10 0 (.inl (fn_hp_is m)) :=
  gCee.vi (k := 4) (by decide) (gmetF hi ⟨plainFor_of_name pn_hp, ok_hp_is, hm, Or.inr (Or.inr (Or.inr (Or.inl ⟨rfl, rfl⟩))), rfl, fun i c k t hg => gall_spec F_hp i _ hg, gall_spec C_hp, fun i k rc rt f hg => gall_spec (P := gCl l Z "GraftTrees$Heap" ⟨0, 0, 0, 0⟩) (xs := (e_hp_is m).2.2.2.1) trivial i _ hg⟩) q450 q228 mh_hp ds_27 q448 q449
theorem gm_hp_string {l : Launch} {Z : gZ} {m : Nat} (hi : gInj Z) (hm : m ≤ zN Z) : gCee l Z yX2_string (ws_ yX2_string cX2_string 5 (Option.some Jvm.ClassFile.FieldType.int)) 1 120 5 4 10 0 (.inl (fn_hp_string m)) :=
  gCee.vi (k := 3) (by decide) (gmetF hi ⟨plainFor_of_name pn_hp, ok_hp_string, hm, Or.inr (Or.inr (Or.inl ⟨rfl, rfl⟩)), rfl, fun i c k t hg => gall_spec F_hp i _ hg, gall_spec C_hp, fun i k rc rt f hg => gall_spec (P := gCl l Z "GraftTrees$Heap" ⟨1, 0, 0, 120⟩) (xs := (e_hp_string m).2.2.2.1) ⟨(gm_hp_is hi hm).cal (by omega) (by omega) q447,
    gcpy hm (by omega) (by omega) q451 q453 q452 q235,
    trivial⟩ i _ hg⟩) q446 q228 mh_hp ds_28 q444 q445
theorem gm_hp_whole {l : Launch} {Z : gZ} {m : Nat} (hi : gInj Z) (hm : m ≤ zN Z) : gCee l Z yX2_whole (ws_ yX2_whole cX2_whole 5 (Option.some Jvm.ClassFile.FieldType.int)) 0 0 5 3 10 0 (.inl (fn_hp_whole m)) :=
  gCee.vi (k := 2) (by decide) (gmetF hi ⟨plainFor_of_name pn_hp, ok_hp_whole, hm, Or.inr (Or.inr (Or.inl ⟨rfl, rfl⟩)), rfl, fun i c k t hg => gall_spec F_hp i _ hg, gall_spec C_hp, fun i k rc rt f hg => gall_spec (P := gCl l Z "GraftTrees$Heap" ⟨0, 0, 0, 0⟩) (xs := (e_hp_whole m).2.2.2.1) trivial i _ hg⟩) q1523 q228 mh_hp ds_29 q1521 q1522
theorem gm_hp_get {l : Launch} {Z : gZ} {m : Nat} (hi : gInj Z) (hm : m ≤ zN Z) : gCee l Z yX2_get (ws_ yX2_get cX2_get 4 (Option.none : Option Jvm.ClassFile.FieldType)) 0 0 4 3 10 5 (.inl (fn_hp_get m)) :=
  gCee.vi (k := 2) (by decide) (gmetF hi ⟨plainFor_of_name pn_hp, ok_hp_get, hm, Or.inr (Or.inr (Or.inr (Or.inr (Or.inr (Or.inr ⟨rfl, rfl⟩))))), rfl, fun i c k t hg => gall_spec F_hp i _ hg, gall_spec C_hp, fun i k rc rt f hg => gall_spec (P := gCl l Z "GraftTrees$Heap" ⟨0, 0, 0, 0⟩) (xs := (e_hp_get m).2.2.2.1) trivial i _ hg⟩) q1686 q228 mh_hp ds_30 q1684 q1685
theorem gm_hp_isSame {l : Launch} {Z : gZ} {m : Nat} (hi : gInj Z) (hm : m ≤ zN Z) : gCee l Z yX2_isSame (ws_ yX2_isSame cX2_isSame 3 (Option.some Jvm.ClassFile.FieldType.boolean)) 1 25 3 3 10 0 (.inl (fn_hp_isSame m)) :=
  gCee.vi (k := 2) (by decide) (gmetF hi ⟨plainFor_of_name pn_hp, ok_hp_isSame, hm, Or.inr (Or.inr (Or.inr (Or.inl ⟨rfl, rfl⟩))), rfl, fun i c k t hg => gall_spec F_hp i _ hg, gall_spec C_hp, fun i k rc rt f hg => gall_spec (P := gCl l Z "GraftTrees$Heap" ⟨1, 0, 0, 25⟩) (xs := (e_hp_isSame m).2.2.2.1) ⟨(gm_hp_is hi hm).cal (by omega) (by omega) q447,
    trivial⟩ i _ hg⟩) q1696 q228 mh_hp ds_31 q1694 q1695
theorem gm_hp_lay {l : Launch} {Z : gZ} {m : Nat} (hi : gInj Z) (hm : m ≤ zN Z) : gCee l Z yX2_lay (ws_ yX2_lay cX2_lay 1 (Option.none : Option Jvm.ClassFile.FieldType)) 0 0 1 1 10 5 (.inl (fn_hp_lay m)) :=
  gCee.vi (k := 0) (by decide) (gmetF hi ⟨plainFor_of_name pn_hp, ok_hp_lay, hm, Or.inr (Or.inr (Or.inr (Or.inr (Or.inr (Or.inr ⟨rfl, rfl⟩))))), rfl, fun i c k t hg => gall_spec F_hp i _ hg, gall_spec C_hp, fun i k rc rt f hg => gall_spec (P := gCl l Z "GraftTrees$Heap" ⟨0, 0, 0, 0⟩) (xs := (e_hp_lay m).2.2.2.1) trivial i _ hg⟩) q1708 q228 mh_hp ds_26 q1706 q1707
theorem gm_hp_put {l : Launch} {Z : gZ} {m : Nat} (hi : gInj Z) (hm : m ≤ zN Z) : gCee l Z yX2_put (ws_ yX2_put cX2_put 2 (Option.none : Option Jvm.ClassFile.FieldType)) 0 0 2 2 10 5 (.inl (fn_hp_put m)) :=
  gCee.vi (k := 1) (by decide) (gmetF hi ⟨plainFor_of_name pn_hp, ok_hp_put, hm, Or.inr (Or.inr (Or.inr (Or.inr (Or.inr (Or.inr ⟨rfl, rfl⟩))))), rfl, fun i c k t hg => gall_spec F_hp i _ hg, gall_spec C_hp, fun i k rc rt f hg => gall_spec (P := gCl l Z "GraftTrees$Heap" ⟨0, 0, 0, 0⟩) (xs := (e_hp_put m).2.2.2.1) trivial i _ hg⟩) q1720 q228 mh_hp ds_19 q1718 q1719
theorem gm_hp_laidLetters {l : Launch} {Z : gZ} {m : Nat} (hi : gInj Z) (hm : m ≤ zN Z) : gCee l Z yX2_laidLetters (ws_ yX2_laidLetters cX2_laidLetters 1 (Option.some Jvm.ClassFile.FieldType.int)) 0 0 1 1 10 0 (.inl (fn_hp_laidLetters m)) :=
  gCee.vi (k := 0) (by decide) (gmetF hi ⟨plainFor_of_name pn_hp, ok_hp_laidLetters, hm, Or.inr (Or.inr (Or.inl ⟨rfl, rfl⟩)), rfl, fun i c k t hg => gall_spec F_hp i _ hg, gall_spec C_hp, fun i k rc rt f hg => gall_spec (P := gCl l Z "GraftTrees$Heap" ⟨0, 0, 0, 0⟩) (xs := (e_hp_laidLetters m).2.2.2.1) trivial i _ hg⟩) q1740 q228 mh_hp ds_13 q1738 q1739
theorem gm_hp_makes {l : Launch} {Z : gZ} {m : Nat} (hi : gInj Z) (hm : m ≤ zN Z) : gCee l Z yX2_makes (ws_ yX2_makes cX2_makes 2 (Option.some Jvm.ClassFile.FieldType.boolean)) 0 0 2 2 10 0 (.inl (fn_hp_makes m)) :=
  gCee.vi (k := 1) (by decide) (gmetF hi ⟨plainFor_of_name pn_hp, ok_hp_makes, hm, Or.inr (Or.inr (Or.inr (Or.inl ⟨rfl, rfl⟩))), rfl, fun i c k t hg => gall_spec F_hp i _ hg, gall_spec C_hp, fun i k rc rt f hg => gall_spec (P := gCl l Z "GraftTrees$Heap" ⟨0, 0, 0, 0⟩) (xs := (e_hp_makes m).2.2.2.1) trivial i _ hg⟩) q1744 q228 mh_hp ds_8 q1742 q1743
theorem gm_hp_laidString {l : Launch} {Z : gZ} {m : Nat} (hi : gInj Z) (hm : m ≤ zN Z) : gCee l Z yX2_laidString (ws_ yX2_laidString cX2_laidString 1 (Option.some Jvm.ClassFile.FieldType.int)) 0 0 1 1 10 0 (.inl (fn_hp_laidString m)) :=
  gCee.vi (k := 0) (by decide) (gmetF hi ⟨plainFor_of_name pn_hp, ok_hp_laidString, hm, Or.inr (Or.inr (Or.inl ⟨rfl, rfl⟩)), rfl, fun i c k t hg => gall_spec F_hp i _ hg, gall_spec C_hp, fun i k rc rt f hg => gall_spec (P := gCl l Z "GraftTrees$Heap" ⟨0, 0, 0, 0⟩) (xs := (e_hp_laidString m).2.2.2.1) trivial i _ hg⟩) q1749 q228 mh_hp ds_13 q1747 q1748
theorem F_tk : gall (gFl "GraftTrees$Tokens") f_tk := ⟨Or.inl ⟨RX8, TX8, 10, 0, by decide, by decide, rfl, rfl, by decide, rfl, Or.inl q809⟩,
  Or.inl ⟨RX8, TX8, 10, 1, by decide, by decide, rfl, rfl, by decide, rfl, Or.inl q810⟩,
  Or.inl ⟨RX8, TX8, 10, 2, by decide, by decide, rfl, rfl, by decide, rfl, Or.inl q811⟩,
  Or.inl ⟨RX8, TX8, 10, 3, by decide, by decide, rfl, rfl, by decide, rfl, Or.inl q812⟩,
  Or.inl ⟨RX8, TX8, 10, 8, by decide, by decide, rfl, rfl, by decide, rfl, Or.inl q820⟩,
  Or.inl ⟨RX8, TX8, 10, 9, by decide, by decide, rfl, rfl, by decide, rfl, Or.inl q824⟩,
  Or.inl ⟨RX8, TX8, 10, 5, by decide, by decide, rfl, rfl, by decide, rfl, Or.inl q816⟩,
  Or.inl ⟨RX8, TX8, 10, 6, by decide, by decide, rfl, rfl, by decide, rfl, Or.inl q817⟩,
  Or.inl ⟨RX8, TX8, 10, 7, by decide, by decide, rfl, rfl, by decide, rfl, Or.inl q819⟩,
  Or.inl ⟨RX8, TX8, 10, 4, by decide, by decide, rfl, rfl, by decide, rfl, Or.inl q814⟩,
  trivial⟩
theorem C_tk : gall (gCst "GraftTrees$Tokens") c_tk := ⟨Or.inr (Or.inr ⟨21, "(){}[],;.=!<>+-*/", rfl, List.mem_of_getElem? (i := 37) rfl⟩),
  Or.inr (Or.inr ⟨13, "function if else while return break continue true false null ", rfl, List.mem_of_getElem? (i := 36) rfl⟩),
  trivial⟩
theorem pn_tk : plainName "GraftTrees$Tokens" = true := by decide +kernel
theorem mh_tk : "GraftTrees$Tokens" ≠ "java/lang/invoke/MethodHandle" ∧ "GraftTrees$Tokens" ≠ "java/lang/invoke/VarHandle" := by decide
theorem gm_tk_byteAt {l : Launch} {Z : gZ} {m : Nat} (hi : gInj Z) (hm : m ≤ zN Z) : gCee l Z yX8_byteAt (ws_ yX8_byteAt cX8_byteAt 2 (Option.some Jvm.ClassFile.FieldType.int)) 0 0 2 2 16 0 (.inl (fn_tk_byteAt m)) :=
  gCee.vi (k := 1) (by decide) (gmetF hi ⟨plainFor_of_name pn_tk, ok_tk_byteAt, hm, Or.inr (Or.inr (Or.inl ⟨rfl, rfl⟩)), rfl, fun i c k t hg => gall_spec F_tk i _ hg, gall_spec C_tk, fun i k rc rt f hg => gall_spec (P := gCl l Z "GraftTrees$Tokens" ⟨0, 0, 0, 0⟩) (xs := (e_tk_byteAt m).2.2.2.1) trivial i _ hg⟩) q1187 q239 mh_tk ds_16 q1186 qs7
theorem gm_tk_skip {l : Launch} {Z : gZ} {m : Nat} (hi : gInj Z) (hm : m ≤ zN Z) : gCee l Z yX8_skip (ws_ yX8_skip cX8_skip 3 (Option.none : Option Jvm.ClassFile.FieldType)) 1 21 3 1 16 5 (.inl (fn_tk_skip m)) :=
  gCee.vi (k := 0) (by decide) (gmetF hi ⟨plainFor_of_name pn_tk, ok_tk_skip, hm, Or.inr (Or.inr (Or.inr (Or.inr (Or.inr (Or.inr ⟨rfl, rfl⟩))))), rfl, fun i c k t hg => gall_spec F_tk i _ hg, gall_spec C_tk, fun i k rc rt f hg => gall_spec (P := gCl l Z "GraftTrees$Tokens" ⟨1, 0, 0, 21⟩) (xs := (e_tk_skip m).2.2.2.1) ⟨(gm_tk_byteAt hi hm).cal (by omega) (by omega) q1184,
    trivial⟩ i _ hg⟩) q1183 q239 mh_tk ds_26 q1182 qs6
theorem gm_tk_isLetter {l : Launch} {Z : gZ} {m : Nat} (hi : gInj Z) (hm : m ≤ zN Z) : gCee l Z yX8_isLetter (ws_ yX8_isLetter cX8_isLetter 1 (Option.some Jvm.ClassFile.FieldType.boolean)) 0 0 1 1 0 0 (.inl (fn_tk_isLetter m)) :=
  gCee.st (k := 1) (gmetF hi ⟨plainFor_of_name pn_tk, ok_tk_isLetter, hm, Or.inr (Or.inr (Or.inr (Or.inl ⟨rfl, rfl⟩))), rfl, fun i c k t hg => gall_spec F_tk i _ hg, gall_spec C_tk, fun i k rc rt f hg => gall_spec (P := gCl l Z "GraftTrees$Tokens" ⟨0, 0, 0, 0⟩) (xs := (e_tk_isLetter m).2.2.2.1) trivial i _ hg⟩) q1190 q239 mh_tk ds_8 q1189
theorem gm_tk_isDigit {l : Launch} {Z : gZ} {m : Nat} (hi : gInj Z) (hm : m ≤ zN Z) : gCee l Z yX8_isDigit (ws_ yX8_isDigit cX8_isDigit 1 (Option.some Jvm.ClassFile.FieldType.boolean)) 0 0 1 1 0 0 (.inl (fn_tk_isDigit m)) :=
  gCee.st (k := 1) (gmetF hi ⟨plainFor_of_name pn_tk, ok_tk_isDigit, hm, Or.inr (Or.inr (Or.inr (Or.inl ⟨rfl, rfl⟩))), rfl, fun i c k t hg => gall_spec F_tk i _ hg, gall_spec C_tk, fun i k rc rt f hg => gall_spec (P := gCl l Z "GraftTrees$Tokens" ⟨0, 0, 0, 0⟩) (xs := (e_tk_isDigit m).2.2.2.1) trivial i _ hg⟩) q1193 q239 mh_tk ds_8 q1192
theorem gm_tk_word {l : Launch} {Z : gZ} {m : Nat} (hi : gInj Z) (hm : m ≤ zN Z) : gCee l Z yX8_word (ws_ yX8_word cX8_word 5 (Option.some Jvm.ClassFile.FieldType.int)) 4 85 5 1 16 0 (.inl (fn_tk_word m)) :=
  gCee.vi (k := 0) (by decide) (gmetF hi ⟨plainFor_of_name pn_tk, ok_tk_word, hm, Or.inr (Or.inr (Or.inl ⟨rfl, rfl⟩)), rfl, fun i c k t hg => gall_spec F_tk i _ hg, gall_spec C_tk, fun i k rc rt f hg => gall_spec (P := gCl l Z "GraftTrees$Tokens" ⟨4, 0, 0, 85⟩) (xs := (e_tk_word m).2.2.2.1) ⟨(gm_st_length hi (Nat.zero_le _)).cal (by omega) (by omega) q1203,
    (gm_st_indexOf hi (Nat.zero_le _)).cal (by omega) (by omega) q1204,
    (gm_st_charAt hi (Nat.zero_le _)).cal (by omega) (by omega) q1255,
    (gm_tk_byteAt hi hm).cal (by omega) (by omega) q1184,
    trivial⟩ i _ hg⟩) q1201 q239 mh_tk ds_13 q1199 q1200
theorem gm_tk_isWord {l : Launch} {Z : gZ} {m : Nat} (hi : gInj Z) (hm : m ≤ zN Z) : gCee l Z yX8_isWord (ws_ yX8_isWord cX8_isWord 1 (Option.some Jvm.ClassFile.FieldType.boolean)) 5 109 1 1 16 0 (.inl (fn_tk_isWord m)) :=
  gCee.vi (k := 0) (by decide) (gmetF hi ⟨plainFor_of_name pn_tk, ok_tk_isWord, hm, Or.inr (Or.inr (Or.inr (Or.inl ⟨rfl, rfl⟩))), rfl, fun i c k t hg => gall_spec F_tk i _ hg, gall_spec C_tk, fun i k rc rt f hg => gall_spec (P := gCl l Z "GraftTrees$Tokens" ⟨5, 0, 0, 109⟩) (xs := (e_tk_isWord m).2.2.2.1) ⟨(gm_tk_word hi hm).cal (by omega) (by omega) q1198,
    trivial⟩ i _ hg⟩) q1197 q239 mh_tk ds_14 q1196 qs8
theorem gm_tk_fails {l : Launch} {Z : gZ} {m : Nat} (hi : gInj Z) (hm : m ≤ zN Z) : gCee l Z yX8_fails (ws_ yX8_fails cX8_fails 3 (Option.some Jvm.ClassFile.FieldType.boolean)) 0 0 3 3 16 0 (.inl (fn_tk_fails m)) :=
  gCee.vi (k := 2) (by decide) (gmetF hi ⟨plainFor_of_name pn_tk, ok_tk_fails, hm, Or.inr (Or.inr (Or.inr (Or.inl ⟨rfl, rfl⟩))), rfl, fun i c k t hg => gall_spec F_tk i _ hg, gall_spec C_tk, fun i k rc rt f hg => gall_spec (P := gCl l Z "GraftTrees$Tokens" ⟨0, 0, 0, 0⟩) (xs := (e_tk_fails m).2.2.2.1) trivial i _ hg⟩) q1259 q239 mh_tk ds_31 q1257 q1258
theorem gm_tk_string {l : Launch} {Z : gZ} {m : Nat} (hi : gInj Z) (hm : m ≤ zN Z) : gCee l Z yX8_string (ws_ yX8_string cX8_string 2 (Option.none : Option Jvm.ClassFile.FieldType)) 1 22 2 1 16 5 (.inl (fn_tk_string m)) :=
  gCee.vi (k := 0) (by decide) (gmetF hi ⟨plainFor_of_name pn_tk, ok_tk_string, hm, Or.inr (Or.inr (Or.inr (Or.inr (Or.inr (Or.inr ⟨rfl, rfl⟩))))), rfl, fun i c k t hg => gall_spec F_tk i _ hg, gall_spec C_tk, fun i k rc rt f hg => gall_spec (P := gCl l Z "GraftTrees$Tokens" ⟨1, 0, 0, 22⟩) (xs := (e_tk_string m).2.2.2.1) ⟨(gm_tk_byteAt hi hm).cal (by omega) (by omega) q1184,
    (gm_tk_fails hi hm).cal (by omega) (by omega) q1256,
    trivial⟩ i _ hg⟩) q1263 q239 mh_tk ds_26 q1262 qs9
theorem gm_tk_signs {l : Launch} {Z : gZ} {m : Nat} (hi : gInj Z) (hm : m ≤ zN Z) : gCee l Z yX8_signs (ws_ yX8_signs cX8_signs 3 (Option.none : Option Jvm.ClassFile.FieldType)) 4 91 3 2 16 5 (.inl (fn_tk_signs m)) :=
  gCee.vi (k := 1) (by decide) (gmetF hi ⟨plainFor_of_name pn_tk, ok_tk_signs, hm, Or.inr (Or.inr (Or.inr (Or.inr (Or.inr (Or.inr ⟨rfl, rfl⟩))))), rfl, fun i c k t hg => gall_spec F_tk i _ hg, gall_spec C_tk, fun i k rc rt f hg => gall_spec (P := gCl l Z "GraftTrees$Tokens" ⟨4, 0, 0, 91⟩) (xs := (e_tk_signs m).2.2.2.1) ⟨(gm_tk_byteAt hi hm).cal (by omega) (by omega) q1184,
    (gm_tk_fails hi hm).cal (by omega) (by omega) q1256,
    (gm_st_indexOf_2 hi (Nat.zero_le _)).cal (by omega) (by omega) q1269,
    trivial⟩ i _ hg⟩) q1267 q239 mh_tk ds_19 q1266 qs10
theorem gm_tk_read {l : Launch} {Z : gZ} {m : Nat} (hi : gInj Z) (hm : m ≤ zN Z) : gCee l Z yX8_read (ws_ yX8_read cX8_read 2 (Option.none : Option Jvm.ClassFile.FieldType)) 6 129 2 1 16 5 (.inl (fn_tk_read m)) :=
  gCee.vi (k := 0) (by decide) (gmetF hi ⟨plainFor_of_name pn_tk, ok_tk_read, hm, Or.inr (Or.inr (Or.inr (Or.inr (Or.inr (Or.inr ⟨rfl, rfl⟩))))), rfl, fun i c k t hg => gall_spec F_tk i _ hg, gall_spec C_tk, fun i k rc rt f hg => gall_spec (P := gCl l Z "GraftTrees$Tokens" ⟨6, 0, 0, 129⟩) (xs := (e_tk_read m).2.2.2.1) ⟨(gm_tk_skip hi hm).cal (by omega) (by omega) q1180,
    (gm_tk_byteAt hi hm).cal (by omega) (by omega) q1184,
    (gm_tk_isLetter hi hm).cal (by omega) (by omega) q1188,
    (gm_tk_isDigit hi hm).cal (by omega) (by omega) q1191,
    (gm_tk_isWord hi hm).cal (by omega) (by omega) q1194,
    (gm_tk_fails hi hm).cal (by omega) (by omega) q1256,
    (gm_tk_string hi hm).cal (by omega) (by omega) q1260,
    (gm_tk_signs hi hm).cal (by omega) (by omega) q1264,
    trivial⟩ i _ hg⟩) q1179 q239 mh_tk ds_26 q1177 q1178
theorem gm_tk_begin {l : Launch} {Z : gZ} {m : Nat} (hi : gInj Z) (hm : m ≤ zN Z) : gCee l Z yX8_begin (ws_ yX8_begin cX8_begin 4 (Option.none : Option Jvm.ClassFile.FieldType)) 7 150 4 4 16 5 (.inl (fn_tk_begin m)) :=
  gCee.vi (k := 3) (by decide) (gmetF hi ⟨plainFor_of_name pn_tk, ok_tk_begin, hm, Or.inr (Or.inr (Or.inr (Or.inr (Or.inr (Or.inr ⟨rfl, rfl⟩))))), rfl, fun i c k t hg => gall_spec F_tk i _ hg, gall_spec C_tk, fun i k rc rt f hg => gall_spec (P := gCl l Z "GraftTrees$Tokens" ⟨7, 0, 0, 150⟩) (xs := (e_tk_begin m).2.2.2.1) ⟨(gm_tk_read hi hm).cal (by omega) (by omega) q1176,
    trivial⟩ i _ hg⟩) q1175 q239 mh_tk ds_32 q1173 q1174
theorem gm_tk_isWord_2 {l : Launch} {Z : gZ} {m : Nat} (hi : gInj Z) (hm : m ≤ zN Z) : gCee l Z yX8_isWord_2 (ws_ yX8_isWord_2 cX8_isWord_2 2 (Option.some Jvm.ClassFile.FieldType.boolean)) 5 109 2 2 16 0 (.inl (fn_tk_isWord_2 m)) :=
  gCee.vi (k := 1) (by decide) (gmetF hi ⟨plainFor_of_name pn_tk, ok_tk_isWord_2, hm, Or.inr (Or.inr (Or.inr (Or.inl ⟨rfl, rfl⟩))), rfl, fun i c k t hg => gall_spec F_tk i _ hg, gall_spec C_tk, fun i k rc rt f hg => gall_spec (P := gCl l Z "GraftTrees$Tokens" ⟨5, 0, 0, 109⟩) (xs := (e_tk_isWord_2 m).2.2.2.1) ⟨(gm_tk_word hi hm).cal (by omega) (by omega) q1198,
    (gm_st_indexOf_3 hi (Nat.zero_le _)).cal (by omega) (by omega) q1287,
    trivial⟩ i _ hg⟩) q1286 q239 mh_tk ds_33 q1284 q1285
theorem gm_tk_is {l : Launch} {Z : gZ} {m : Nat} (hi : gInj Z) (hm : m ≤ zN Z) : gCee l Z yX8_is (ws_ yX8_is cX8_is 2 (Option.some Jvm.ClassFile.FieldType.boolean)) 0 0 2 2 16 0 (.inl (fn_tk_is m)) :=
  gCee.vi (k := 1) (by decide) (gmetF hi ⟨plainFor_of_name pn_tk, ok_tk_is, hm, Or.inr (Or.inr (Or.inr (Or.inl ⟨rfl, rfl⟩))), rfl, fun i c k t hg => gall_spec F_tk i _ hg, gall_spec C_tk, fun i k rc rt f hg => gall_spec (P := gCl l Z "GraftTrees$Tokens" ⟨0, 0, 0, 0⟩) (xs := (e_tk_is m).2.2.2.1) trivial i _ hg⟩) q1323 q239 mh_tk ds_8 q1321 q1322
theorem F_ps : gall (gFl "GraftTrees$Parser") f_ps := ⟨Or.inl ⟨RX7, TX7, 23, 0, by decide, by decide, rfl, rfl, by decide, rfl, Or.inl q846⟩,
  Or.inl ⟨RX7, TX7, 23, 1, by decide, by decide, rfl, rfl, by decide, rfl, Or.inl q848⟩,
  Or.inl ⟨RX7, TX7, 23, 2, by decide, by decide, rfl, rfl, by decide, rfl, Or.inl q850⟩,
  Or.inl ⟨RX7, TX7, 23, 3, by decide, by decide, rfl, rfl, by decide, rfl, Or.inl q852⟩,
  Or.inl ⟨RX7, TX7, 23, 4, by decide, by decide, rfl, rfl, by decide, rfl, Or.inl q854⟩,
  Or.inl ⟨RX7, TX7, 23, 5, by decide, by decide, rfl, rfl, by decide, rfl, Or.inl q856⟩,
  Or.inl ⟨RX7, TX7, 23, 6, by decide, by decide, rfl, rfl, by decide, rfl, Or.inl q858⟩,
  Or.inl ⟨RX7, TX7, 23, 7, by decide, by decide, rfl, rfl, by decide, rfl, Or.inl q860⟩,
  Or.inl ⟨RX7, TX7, 23, 8, by decide, by decide, rfl, rfl, by decide, rfl, Or.inl q862⟩,
  Or.inl ⟨RX7, TX7, 23, 9, by decide, by decide, rfl, rfl, by decide, rfl, Or.inl q864⟩,
  Or.inl ⟨RX7, TX7, 23, 11, by decide, by decide, rfl, rfl, by decide, rfl, Or.inl q866⟩,
  Or.inl ⟨RX7, TX7, 23, 12, by decide, by decide, rfl, rfl, by decide, rfl, Or.inl q868⟩,
  Or.inl ⟨RX7, TX7, 23, 13, by decide, by decide, rfl, rfl, by decide, rfl, Or.inl q870⟩,
  Or.inl ⟨RX7, TX7, 23, 14, by decide, by decide, rfl, rfl, by decide, rfl, Or.inl q872⟩,
  Or.inl ⟨RX7, TX7, 23, 15, by decide, by decide, rfl, rfl, by decide, rfl, Or.inl q874⟩,
  Or.inl ⟨RX7, TX7, 23, 16, by decide, by decide, rfl, rfl, by decide, rfl, Or.inl q876⟩,
  Or.inl ⟨RX7, TX7, 23, 17, by decide, by decide, rfl, rfl, by decide, rfl, Or.inl q878⟩,
  Or.inl ⟨RX7, TX7, 23, 18, by decide, by decide, rfl, rfl, by decide, rfl, Or.inl q879⟩,
  Or.inl ⟨RX7, TX7, 23, 10, by decide, by decide, rfl, rfl, by decide, rfl, Or.inl q865⟩,
  Or.inl ⟨RX7, TX7, 23, 19, by decide, by decide, rfl, rfl, by decide, rfl, Or.inl q880⟩,
  Or.inl ⟨RX8, TX8, 10, 4, by decide, by decide, rfl, rfl, by decide, rfl, Or.inr ⟨_, q813⟩⟩,
  Or.inl ⟨RX8, TX8, 10, 8, by decide, by decide, rfl, rfl, by decide, rfl, Or.inr ⟨_, q821⟩⟩,
  Or.inl ⟨RX8, TX8, 10, 5, by decide, by decide, rfl, rfl, by decide, rfl, Or.inr ⟨_, q815⟩⟩,
  Or.inl ⟨RX7, TX7, 23, 21, by decide, by decide, rfl, rfl, by decide, rfl, Or.inl q884⟩,
  Or.inl ⟨RX7, TX7, 23, 20, by decide, by decide, rfl, rfl, by decide, rfl, Or.inl q883⟩,
  Or.inl ⟨RX8, TX8, 10, 6, by decide, by decide, rfl, rfl, by decide, rfl, Or.inr ⟨_, q818⟩⟩,
  Or.inl ⟨RX7, TX7, 23, 22, by decide, by decide, rfl, rfl, by decide, rfl, Or.inl q885⟩,
  trivial⟩
theorem C_ps : gall (gCst "GraftTrees$Parser") c_ps := ⟨Or.inr (Or.inr ⟨9, "function", rfl, List.mem_of_getElem? (i := 26) rfl⟩),
  Or.inr (Or.inr ⟨15, "if", rfl, List.mem_of_getElem? (i := 27) rfl⟩),
  Or.inr (Or.inr ⟨16, "else", rfl, List.mem_of_getElem? (i := 31) rfl⟩),
  Or.inr (Or.inr ⟨17, "while", rfl, List.mem_of_getElem? (i := 32) rfl⟩),
  Or.inr (Or.inr ⟨18, "return", rfl, List.mem_of_getElem? (i := 33) rfl⟩),
  Or.inr (Or.inr ⟨19, "break", rfl, List.mem_of_getElem? (i := 34) rfl⟩),
  Or.inr (Or.inr ⟨20, "continue", rfl, List.mem_of_getElem? (i := 35) rfl⟩),
  Or.inr (Or.inr ⟨11, "true", rfl, List.mem_of_getElem? (i := 28) rfl⟩),
  Or.inr (Or.inr ⟨12, "false", rfl, List.mem_of_getElem? (i := 29) rfl⟩),
  Or.inr (Or.inr ⟨5, "null", rfl, List.mem_of_getElem? (i := 30) rfl⟩),
  trivial⟩
theorem pn_ps : plainName "GraftTrees$Parser" = true := by decide +kernel
theorem mh_ps : "GraftTrees$Parser" ≠ "java/lang/invoke/MethodHandle" ∧ "GraftTrees$Parser" ≠ "java/lang/invoke/VarHandle" := by decide
theorem gm_ps_good {l : Launch} {Z : gZ} {m : Nat} (hi : gInj Z) (hm : m ≤ zN Z) : gCee l Z yX7_good (ws_ yX7_good cX7_good 1 (Option.some Jvm.ClassFile.FieldType.boolean)) 0 0 1 1 15 0 (.inl (fn_ps_good m)) :=
  gCee.vi (k := 0) (by decide) (gmetF hi ⟨plainFor_of_name pn_ps, ok_ps_good, hm, Or.inr (Or.inr (Or.inr (Or.inl ⟨rfl, rfl⟩))), rfl, fun i c k t hg => gall_spec F_ps i _ hg, gall_spec C_ps, fun i k rc rt f hg => gall_spec (P := gCl l Z "GraftTrees$Parser" ⟨0, 0, 0, 0⟩) (xs := (e_ps_good m).2.2.2.1) trivial i _ hg⟩) q1277 q238 mh_ps ds_14 q1276 qs11
theorem gm_ps_isSame {l : Launch} {Z : gZ} {m : Nat} (hi : gInj Z) (hm : m ≤ zN Z) : gCee l Z yX7_isSame (ws_ yX7_isSame cX7_isSame 6 (Option.some Jvm.ClassFile.FieldType.boolean)) 1 21 6 5 15 0 (.inl (fn_ps_isSame m)) :=
  gCee.vi (k := 4) (by decide) (gmetF hi ⟨plainFor_of_name pn_ps, ok_ps_isSame, hm, Or.inr (Or.inr (Or.inr (Or.inl ⟨rfl, rfl⟩))), rfl, fun i c k t hg => gall_spec F_ps i _ hg, gall_spec C_ps, fun i k rc rt f hg => gall_spec (P := gCl l Z "GraftTrees$Parser" ⟨1, 0, 0, 21⟩) (xs := (e_ps_isSame m).2.2.2.1) ⟨(gm_tk_byteAt hi hm).caln (by decide) (by omega) (by omega) q1315,
    trivial⟩ i _ hg⟩) q1314 q238 mh_ps ds_34 q1313 qs13
theorem gm_ps_open {l : Launch} {Z : gZ} {m : Nat} (hi : gInj Z) (hm : m ≤ zN Z) : gCee l Z yX7_open (ws_ yX7_open cX7_open 1 (Option.none : Option Jvm.ClassFile.FieldType)) 7 150 1 1 15 5 (.inl (fn_ps_open m)) :=
  gCee.vi (k := 0) (by decide) (gmetF hi ⟨plainFor_of_name pn_ps, ok_ps_open, hm, Or.inr (Or.inr (Or.inr (Or.inr (Or.inr (Or.inr ⟨rfl, rfl⟩))))), rfl, fun i c k t hg => gall_spec F_ps i _ hg, gall_spec C_ps, fun i k rc rt f hg => gall_spec (P := gCl l Z "GraftTrees$Parser" ⟨7, 0, 0, 150⟩) (xs := (e_ps_open m).2.2.2.1) ⟨(gm_ps_good hi hm).cal (by omega) (by omega) q1274,
    (gm_tk_fails hi hm).cal (by omega) (by omega) q1309,
    (gm_tk_read hi hm).cal (by omega) (by omega) q1310,
    trivial⟩ i _ hg⟩) q1327 q238 mh_ps ds_26 q1326 qs15
theorem gm_ps_opens {l : Launch} {Z : gZ} {m : Nat} (hi : gInj Z) (hm : m ≤ zN Z) : gCee l Z yX7_opens (ws_ yX7_opens cX7_opens 2 (Option.none : Option Jvm.ClassFile.FieldType)) 8 170 2 2 15 5 (.inl (fn_ps_opens m)) :=
  gCee.vi (k := 1) (by decide) (gmetF hi ⟨plainFor_of_name pn_ps, ok_ps_opens, hm, Or.inr (Or.inr (Or.inr (Or.inr (Or.inr (Or.inr ⟨rfl, rfl⟩))))), rfl, fun i c k t hg => gall_spec F_ps i _ hg, gall_spec C_ps, fun i k rc rt f hg => gall_spec (P := gCl l Z "GraftTrees$Parser" ⟨8, 0, 0, 170⟩) (xs := (e_ps_opens m).2.2.2.1) ⟨(gm_ps_good hi hm).cal (by omega) (by omega) q1274,
    (gm_tk_is hi hm).cal (by omega) (by omega) q1320,
    (gm_tk_fails hi hm).cal (by omega) (by omega) q1309,
    (gm_ps_open hi hm).cal (by omega) (by omega) q1324,
    trivial⟩ i _ hg⟩) q1319 q238 mh_ps ds_19 q1318 qs14
theorem gm_ps_local {l : Launch} {Z : gZ} {m : Nat} (hi : gInj Z) (hm : m ≤ zN Z) : gCee l Z yX7_local (ws_ yX7_local cX7_local 5 (Option.some Jvm.ClassFile.FieldType.int)) 2 46 5 4 15 0 (.inl (fn_ps_local m)) :=
  gCee.vi (k := 3) (by decide) (gmetF hi ⟨plainFor_of_name pn_ps, ok_ps_local, hm, Or.inr (Or.inr (Or.inl ⟨rfl, rfl⟩)), rfl, fun i c k t hg => gall_spec F_ps i _ hg, gall_spec C_ps, fun i k rc rt f hg => gall_spec (P := gCl l Z "GraftTrees$Parser" ⟨2, 0, 0, 46⟩) (xs := (e_ps_local m).2.2.2.1) ⟨(gm_ps_isSame hi hm).cal (by omega) (by omega) q1311,
    trivial⟩ i _ hg⟩) q1335 q238 mh_ps ds_35 q1334 qs17
theorem gm_ps_blank {l : Launch} {Z : gZ} {m : Nat} (hi : gInj Z) (hm : m ≤ zN Z) : gCee l Z yX7_blank (ws_ yX7_blank cX7_blank 3 (Option.some Jvm.ClassFile.FieldType.int)) 0 0 3 3 15 0 (.inl (fn_ps_blank m)) :=
  gCee.vi (k := 2) (by decide) (gmetF hi ⟨plainFor_of_name pn_ps, ok_ps_blank, hm, Or.inr (Or.inr (Or.inl ⟨rfl, rfl⟩)), rfl, fun i c k t hg => gall_spec F_ps i _ hg, gall_spec C_ps, fun i k rc rt f hg => gall_spec (P := gCl l Z "GraftTrees$Parser" ⟨0, 0, 0, 0⟩) (xs := (e_ps_blank m).2.2.2.1) trivial i _ hg⟩) q1343 q238 mh_ps ds_0 q1342 qs19
theorem gm_ps_node {l : Launch} {Z : gZ} {m : Nat} (hi : gInj Z) (hm : m ≤ zN Z) : gCee l Z yX7_node (ws_ yX7_node cX7_node 3 (Option.some Jvm.ClassFile.FieldType.int)) 1 22 3 2 15 0 (.inl (fn_ps_node m)) :=
  gCee.vi (k := 1) (by decide) (gmetF hi ⟨plainFor_of_name pn_ps, ok_ps_node, hm, Or.inr (Or.inr (Or.inl ⟨rfl, rfl⟩)), rfl, fun i c k t hg => gall_spec F_ps i _ hg, gall_spec C_ps, fun i k rc rt f hg => gall_spec (P := gCl l Z "GraftTrees$Parser" ⟨1, 0, 0, 22⟩) (xs := (e_ps_node m).2.2.2.1) ⟨(gm_tk_fails hi hm).cal (by omega) (by omega) q1309,
    (gm_ps_blank hi hm).cal (by omega) (by omega) q1340,
    trivial⟩ i _ hg⟩) q1339 q238 mh_ps ds_16 q1338 qs18
theorem gm_ps_adds {l : Launch} {Z : gZ} {m : Nat} (hi : gInj Z) (hm : m ≤ zN Z) : gCee l Z yX7_adds (ws_ yX7_adds cX7_adds 4 (Option.none : Option Jvm.ClassFile.FieldType)) 0 0 4 4 15 5 (.inl (fn_ps_adds m)) :=
  gCee.vi (k := 3) (by decide) (gmetF hi ⟨plainFor_of_name pn_ps, ok_ps_adds, hm, Or.inr (Or.inr (Or.inr (Or.inr (Or.inr (Or.inr ⟨rfl, rfl⟩))))), rfl, fun i c k t hg => gall_spec F_ps i _ hg, gall_spec C_ps, fun i k rc rt f hg => gall_spec (P := gCl l Z "GraftTrees$Parser" ⟨0, 0, 0, 0⟩) (xs := (e_ps_adds m).2.2.2.1) trivial i _ hg⟩) q1347 q238 mh_ps ds_36 q1346 qs20
theorem gm_ps_param {l : Launch} {Z : gZ} {m : Nat} (hi : gInj Z) (hm : m ≤ zN Z) : gCee l Z yX7_param (ws_ yX7_param cX7_param 3 (Option.none : Option Jvm.ClassFile.FieldType)) 7 150 3 2 15 5 (.inl (fn_ps_param m)) :=
  gCee.vi (k := 1) (by decide) (gmetF hi ⟨plainFor_of_name pn_ps, ok_ps_param, hm, Or.inr (Or.inr (Or.inr (Or.inr (Or.inr (Or.inr ⟨rfl, rfl⟩))))), rfl, fun i c k t hg => gall_spec F_ps i _ hg, gall_spec C_ps, fun i k rc rt f hg => gall_spec (P := gCl l Z "GraftTrees$Parser" ⟨7, 0, 0, 150⟩) (xs := (e_ps_param m).2.2.2.1) ⟨(gm_ps_good hi hm).cal (by omega) (by omega) q1274,
    (gm_tk_fails hi hm).cal (by omega) (by omega) q1309,
    (gm_ps_local hi hm).cal (by omega) (by omega) q1332,
    (gm_ps_node hi hm).cal (by omega) (by omega) q1336,
    (gm_ps_adds hi hm).cal (by omega) (by omega) q1344,
    (gm_tk_read hi hm).cal (by omega) (by omega) q1310,
    trivial⟩ i _ hg⟩) q1331 q238 mh_ps ds_19 q1330 qs16
theorem gm_ps_takes {l : Launch} {Z : gZ} {m : Nat} (hi : gInj Z) (hm : m ≤ zN Z) : gCee l Z yX7_takes (ws_ yX7_takes cX7_takes 2 (Option.some Jvm.ClassFile.FieldType.boolean)) 7 150 2 2 15 0 (.inl (fn_ps_takes m)) :=
  gCee.vi (k := 1) (by decide) (gmetF hi ⟨plainFor_of_name pn_ps, ok_ps_takes, hm, Or.inr (Or.inr (Or.inr (Or.inl ⟨rfl, rfl⟩))), rfl, fun i c k t hg => gall_spec F_ps i _ hg, gall_spec C_ps, fun i k rc rt f hg => gall_spec (P := gCl l Z "GraftTrees$Parser" ⟨7, 0, 0, 150⟩) (xs := (e_ps_takes m).2.2.2.1) ⟨(gm_tk_is hi hm).cal (by omega) (by omega) q1320,
    (gm_tk_read hi hm).cal (by omega) (by omega) q1310,
    trivial⟩ i _ hg⟩) q1359 q238 mh_ps ds_8 q1358 qs23
theorem gm_ps_must {l : Launch} {Z : gZ} {m : Nat} (hi : gInj Z) (hm : m ≤ zN Z) : gCee l Z yX7_must (ws_ yX7_must cX7_must 2 (Option.none : Option Jvm.ClassFile.FieldType)) 8 171 2 2 15 5 (.inl (fn_ps_must m)) :=
  gCee.vi (k := 1) (by decide) (gmetF hi ⟨plainFor_of_name pn_ps, ok_ps_must, hm, Or.inr (Or.inr (Or.inr (Or.inr (Or.inr (Or.inr ⟨rfl, rfl⟩))))), rfl, fun i c k t hg => gall_spec F_ps i _ hg, gall_spec C_ps, fun i k rc rt f hg => gall_spec (P := gCl l Z "GraftTrees$Parser" ⟨8, 0, 0, 171⟩) (xs := (e_ps_must m).2.2.2.1) ⟨(gm_ps_good hi hm).cal (by omega) (by omega) q1274,
    (gm_ps_takes hi hm).cal (by omega) (by omega) q1356,
    (gm_tk_fails hi hm).cal (by omega) (by omega) q1309,
    trivial⟩ i _ hg⟩) q1355 q238 mh_ps ds_19 q1354 qs22
theorem gm_ps_closes {l : Launch} {Z : gZ} {m : Nat} (hi : gInj Z) (hm : m ≤ zN Z) : gCee l Z yX7_closes (ws_ yX7_closes cX7_closes 2 (Option.none : Option Jvm.ClassFile.FieldType)) 9 192 2 2 15 5 (.inl (fn_ps_closes m)) :=
  gCee.vi (k := 1) (by decide) (gmetF hi ⟨plainFor_of_name pn_ps, ok_ps_closes, hm, Or.inr (Or.inr (Or.inr (Or.inr (Or.inr (Or.inr ⟨rfl, rfl⟩))))), rfl, fun i c k t hg => gall_spec F_ps i _ hg, gall_spec C_ps, fun i k rc rt f hg => gall_spec (P := gCl l Z "GraftTrees$Parser" ⟨9, 0, 0, 192⟩) (xs := (e_ps_closes m).2.2.2.1) ⟨(gm_ps_must hi hm).cal (by omega) (by omega) q1352,
    trivial⟩ i _ hg⟩) q1351 q238 mh_ps ds_19 q1350 qs21
theorem gm_ps_begins {l : Launch} {Z : gZ} {m : Nat} (hi : gInj Z) (hm : m ≤ zN Z) : gCee l Z yX7_begins (ws_ yX7_begins cX7_begins 1 (Option.some Jvm.ClassFile.FieldType.boolean)) 6 130 1 1 15 0 (.inl (fn_ps_begins m)) :=
  gCee.vi (k := 0) (by decide) (gmetF hi ⟨plainFor_of_name pn_ps, ok_ps_begins, hm, Or.inr (Or.inr (Or.inr (Or.inl ⟨rfl, rfl⟩))), rfl, fun i c k t hg => gall_spec F_ps i _ hg, gall_spec C_ps, fun i k rc rt f hg => gall_spec (P := gCl l Z "GraftTrees$Parser" ⟨6, 0, 0, 130⟩) (xs := (e_ps_begins m).2.2.2.1) ⟨(gm_tk_is hi hm).cal (by omega) (by omega) q1320,
    (gm_tk_isWord_2 hi hm).cal (by omega) (by omega) q1283,
    trivial⟩ i _ hg⟩) q1423 q238 mh_ps ds_14 q1422 qs38
theorem gm_ps_two {l : Launch} {Z : gZ} {m : Nat} (hi : gInj Z) (hm : m ≤ zN Z) : gCee l Z yX7_two (ws_ yX7_two cX7_two 4 (Option.some Jvm.ClassFile.FieldType.int)) 7 150 4 3 15 0 (.inl (fn_ps_two m)) :=
  gCee.vi (k := 2) (by decide) (gmetF hi ⟨plainFor_of_name pn_ps, ok_ps_two, hm, Or.inr (Or.inr (Or.inl ⟨rfl, rfl⟩)), rfl, fun i c k t hg => gall_spec F_ps i _ hg, gall_spec C_ps, fun i k rc rt f hg => gall_spec (P := gCl l Z "GraftTrees$Parser" ⟨7, 0, 0, 150⟩) (xs := (e_ps_two m).2.2.2.1) ⟨(gm_ps_node hi hm).cal (by omega) (by omega) q1336,
    (gm_ps_good hi hm).cal (by omega) (by omega) q1274,
    (gm_tk_read hi hm).cal (by omega) (by omega) q1310,
    trivial⟩ i _ hg⟩) q1427 q238 mh_ps ds_0 q1426 qs39
theorem gm_ps_sets {l : Launch} {Z : gZ} {m : Nat} (hi : gInj Z) (hm : m ≤ zN Z) : gCee l Z yX7_sets (ws_ yX7_sets cX7_sets 4 (Option.none : Option Jvm.ClassFile.FieldType)) 3 70 4 2 15 5 (.inl (fn_ps_sets m)) :=
  gCee.vi (k := 1) (by decide) (gmetF hi ⟨plainFor_of_name pn_ps, ok_ps_sets, hm, Or.inr (Or.inr (Or.inr (Or.inr (Or.inr (Or.inr ⟨rfl, rfl⟩))))), rfl, fun i c k t hg => gall_spec F_ps i _ hg, gall_spec C_ps, fun i k rc rt f hg => gall_spec (P := gCl l Z "GraftTrees$Parser" ⟨3, 0, 0, 70⟩) (xs := (e_ps_sets m).2.2.2.1) ⟨(gm_ps_local hi hm).cal (by omega) (by omega) q1332,
    (gm_tk_fails hi hm).cal (by omega) (by omega) q1309,
    (gm_ps_adds hi hm).cal (by omega) (by omega) q1344,
    trivial⟩ i _ hg⟩) q1431 q238 mh_ps ds_19 q1430 qs40
theorem gm_rec_ps_and {l : Launch} {Z : gZ} {m : Nat} (hi : gInj Z) (hm : m ≤ zN Z) : ∀ d : Nat, gCee l Z yX7_and (ws_ yX7_and cX7_and 2 (Option.some Jvm.ClassFile.FieldType.int)) (10 + d) (213 + d * 26) 2 1 15 0 (.inl (rec_ps_and m d 0)) ∧
  gCee l Z yX7_atom (ws_ yX7_atom cX7_atom 2 (Option.some Jvm.ClassFile.FieldType.int)) (10 + d) (213 + d * 26) 2 1 15 0 (.inl (rec_ps_and m d 1)) ∧
  gCee l Z yX7_behind (ws_ yX7_behind cX7_behind 4 (Option.some Jvm.ClassFile.FieldType.int)) (10 + d) (213 + d * 26) 4 2 15 0 (.inl (rec_ps_and m d 2)) ∧
  gCee l Z yX7_call (ws_ yX7_call cX7_call 7 (Option.some Jvm.ClassFile.FieldType.int)) (10 + d) (213 + d * 26) 7 2 15 0 (.inl (rec_ps_and m d 3)) ∧
  gCee l Z yX7_e (ws_ yX7_e cX7_e 2 (Option.some Jvm.ClassFile.FieldType.int)) (10 + d) (213 + d * 26) 2 1 15 0 (.inl (rec_ps_and m d 4)) ∧
  gCee l Z yX7_equal (ws_ yX7_equal cX7_equal 3 (Option.some Jvm.ClassFile.FieldType.int)) (10 + d) (213 + d * 26) 3 1 15 0 (.inl (rec_ps_and m d 5)) ∧
  gCee l Z yX7_less (ws_ yX7_less cX7_less 3 (Option.some Jvm.ClassFile.FieldType.int)) (10 + d) (213 + d * 26) 3 1 15 0 (.inl (rec_ps_and m d 6)) ∧
  gCee l Z yX7_or (ws_ yX7_or cX7_or 2 (Option.some Jvm.ClassFile.FieldType.int)) (10 + d) (213 + d * 26) 2 1 15 0 (.inl (rec_ps_and m d 7)) ∧
  gCee l Z yX7_product (ws_ yX7_product cX7_product 2 (Option.some Jvm.ClassFile.FieldType.int)) (10 + d) (213 + d * 26) 2 1 15 0 (.inl (rec_ps_and m d 8)) ∧
  gCee l Z yX7_sum (ws_ yX7_sum cX7_sum 2 (Option.some Jvm.ClassFile.FieldType.int)) (10 + d) (213 + d * 26) 2 1 15 0 (.inl (rec_ps_and m d 9)) ∧
  gCee l Z yX7_unary (ws_ yX7_unary cX7_unary 2 (Option.some Jvm.ClassFile.FieldType.int)) (10 + d) (213 + d * 26) 2 1 15 0 (.inl (rec_ps_and m d 10))
  | 0 => ⟨gCee.vi (k := 0) (by decide) (gMet_none) q1384 q238 mh_ps ds_13 q1383 qs29,
    gCee.vi (k := 0) (by decide) (gMet_none) q1408 q238 mh_ps ds_13 q1407 qs35,
    gCee.vi (k := 1) (by decide) (gMet_none) q1415 q238 mh_ps ds_16 q1414 qs36,
    gCee.vi (k := 1) (by decide) (gMet_none) q1419 q238 mh_ps ds_16 q1418 qs37,
    gCee.vi (k := 0) (by decide) (gMet_none) q1376 q238 mh_ps ds_13 q1375 qs27,
    gCee.vi (k := 0) (by decide) (gMet_none) q1388 q238 mh_ps ds_13 q1387 qs30,
    gCee.vi (k := 0) (by decide) (gMet_none) q1392 q238 mh_ps ds_13 q1391 qs31,
    gCee.vi (k := 0) (by decide) (gMet_none) q1380 q238 mh_ps ds_13 q1379 qs28,
    gCee.vi (k := 0) (by decide) (gMet_none) q1400 q238 mh_ps ds_13 q1399 qs33,
    gCee.vi (k := 0) (by decide) (gMet_none) q1396 q238 mh_ps ds_13 q1395 qs32,
    gCee.vi (k := 0) (by decide) (gMet_none) q1404 q238 mh_ps ds_13 q1403 qs34⟩
  | d + 1 => by
    have h := gm_rec_ps_and (l := l) hi hm d
    exact ⟨gCee.vi (k := 0) (by decide) (gmetF hi ⟨plainFor_of_name pn_ps, ok_ps_and, hm, Or.inr (Or.inr (Or.inl ⟨rfl, rfl⟩)), rfl, fun i c k t hg => gall_spec F_ps i _ hg, gall_spec C_ps, fun i k rc rt f hg => gall_spec (P := gCl l Z "GraftTrees$Parser" ⟨(10 + (d + 1)), 0, 0, (213 + (d + 1) * 26)⟩) (xs := (e_ps_and m (rec_ps_and m d)).2.2.2.1) ⟨h.2.2.2.2.2.1.cal (by omega) (by omega) q1385,
    (gm_ps_good hi hm).cal (by omega) (by omega) q1274,
    (gm_tk_is hi hm).cal (by omega) (by omega) q1320,
    (gm_ps_two hi hm).cal (by omega) (by omega) q1424,
    trivial⟩ i _ hg⟩) q1384 q238 mh_ps ds_13 q1383 qs29,
    gCee.vi (k := 0) (by decide) (gmetF hi ⟨plainFor_of_name pn_ps, ok_ps_atom, hm, Or.inr (Or.inr (Or.inl ⟨rfl, rfl⟩)), rfl, fun i c k t hg => gall_spec F_ps i _ hg, gall_spec C_ps, fun i k rc rt f hg => gall_spec (P := gCl l Z "GraftTrees$Parser" ⟨(10 + (d + 1)), 0, 0, (213 + (d + 1) * 26)⟩) (xs := (e_ps_atom m (rec_ps_and m d)).2.2.2.1) ⟨(gm_ps_good hi hm).cal (by omega) (by omega) q1274,
    (gm_ps_blank hi hm).cal (by omega) (by omega) q1340,
    (gm_ps_node hi hm).cal (by omega) (by omega) q1336,
    (gm_tk_isWord_2 hi hm).cal (by omega) (by omega) q1283,
    (gm_ps_opens hi hm).cal (by omega) (by omega) q1316,
    h.2.2.2.2.1.cal (by omega) (by omega) q1373,
    (gm_ps_closes hi hm).cal (by omega) (by omega) q1348,
    (gm_tk_read hi hm).cal (by omega) (by omega) q1310,
    trivial⟩ i _ hg⟩) q1408 q238 mh_ps ds_13 q1407 qs35,
    gCee.vi (k := 1) (by decide) (gmetF hi ⟨plainFor_of_name pn_ps, ok_ps_behind, hm, Or.inr (Or.inr (Or.inl ⟨rfl, rfl⟩)), rfl, fun i c k t hg => gall_spec F_ps i _ hg, gall_spec C_ps, fun i k rc rt f hg => gall_spec (P := gCl l Z "GraftTrees$Parser" ⟨(10 + (d + 1)), 0, 0, (213 + (d + 1) * 26)⟩) (xs := (e_ps_behind m (rec_ps_and m d)).2.2.2.1) ⟨(gm_tk_is hi hm).cal (by omega) (by omega) q1320,
    h.2.2.2.1.cal (by omega) (by omega) q1416,
    (gm_tk_fails hi hm).cal (by omega) (by omega) q1309,
    (gm_ps_node hi hm).cal (by omega) (by omega) q1336,
    (gm_ps_good hi hm).cal (by omega) (by omega) q1274,
    (gm_tk_read hi hm).cal (by omega) (by omega) q1310,
    (gm_ps_open hi hm).cal (by omega) (by omega) q1324,
    h.2.2.2.2.1.cal (by omega) (by omega) q1373,
    (gm_ps_closes hi hm).cal (by omega) (by omega) q1348,
    trivial⟩ i _ hg⟩) q1415 q238 mh_ps ds_16 q1414 qs36,
    gCee.vi (k := 1) (by decide) (gmetF hi ⟨plainFor_of_name pn_ps, ok_ps_call, hm, Or.inr (Or.inr (Or.inl ⟨rfl, rfl⟩)), rfl, fun i c k t hg => gall_spec F_ps i _ hg, gall_spec C_ps, fun i k rc rt f hg => gall_spec (P := gCl l Z "GraftTrees$Parser" ⟨(10 + (d + 1)), 0, 0, (213 + (d + 1) * 26)⟩) (xs := (e_ps_call m (rec_ps_and m d)).2.2.2.1) ⟨(gm_tk_fails hi hm).cal (by omega) (by omega) q1309,
    (gm_ps_node hi hm).cal (by omega) (by omega) q1336,
    (gm_ps_open hi hm).cal (by omega) (by omega) q1324,
    (gm_ps_good hi hm).cal (by omega) (by omega) q1274,
    (gm_tk_is hi hm).cal (by omega) (by omega) q1320,
    (gm_ps_begins hi hm).cal (by omega) (by omega) q1420,
    h.2.2.2.2.1.cal (by omega) (by omega) q1373,
    (gm_tk_read hi hm).cal (by omega) (by omega) q1310,
    (gm_ps_closes hi hm).cal (by omega) (by omega) q1348,
    trivial⟩ i _ hg⟩) q1419 q238 mh_ps ds_16 q1418 qs37,
    gCee.vi (k := 0) (by decide) (gmetF hi ⟨plainFor_of_name pn_ps, ok_ps_e, hm, Or.inr (Or.inr (Or.inl ⟨rfl, rfl⟩)), rfl, fun i c k t hg => gall_spec F_ps i _ hg, gall_spec C_ps, fun i k rc rt f hg => gall_spec (P := gCl l Z "GraftTrees$Parser" ⟨(10 + (d + 1)), 0, 0, (213 + (d + 1) * 26)⟩) (xs := (e_ps_e m (rec_ps_and m d)).2.2.2.1) ⟨h.2.2.2.2.2.2.2.1.cal (by omega) (by omega) q1377,
    (gm_ps_good hi hm).cal (by omega) (by omega) q1274,
    (gm_tk_is hi hm).cal (by omega) (by omega) q1320,
    (gm_tk_fails hi hm).cal (by omega) (by omega) q1309,
    (gm_ps_sets hi hm).cal (by omega) (by omega) q1428,
    (gm_ps_open hi hm).cal (by omega) (by omega) q1324,
    h.2.2.2.2.1.cal (by omega) (by omega) q1373,
    trivial⟩ i _ hg⟩) q1376 q238 mh_ps ds_13 q1375 qs27,
    gCee.vi (k := 0) (by decide) (gmetF hi ⟨plainFor_of_name pn_ps, ok_ps_equal, hm, Or.inr (Or.inr (Or.inl ⟨rfl, rfl⟩)), rfl, fun i c k t hg => gall_spec F_ps i _ hg, gall_spec C_ps, fun i k rc rt f hg => gall_spec (P := gCl l Z "GraftTrees$Parser" ⟨(10 + (d + 1)), 0, 0, (213 + (d + 1) * 26)⟩) (xs := (e_ps_equal m (rec_ps_and m d)).2.2.2.1) ⟨h.2.2.2.2.2.2.1.cal (by omega) (by omega) q1389,
    (gm_tk_is hi hm).cal (by omega) (by omega) q1320,
    (gm_ps_good hi hm).cal (by omega) (by omega) q1274,
    (gm_ps_two hi hm).cal (by omega) (by omega) q1424,
    trivial⟩ i _ hg⟩) q1388 q238 mh_ps ds_13 q1387 qs30,
    gCee.vi (k := 0) (by decide) (gmetF hi ⟨plainFor_of_name pn_ps, ok_ps_less, hm, Or.inr (Or.inr (Or.inl ⟨rfl, rfl⟩)), rfl, fun i c k t hg => gall_spec F_ps i _ hg, gall_spec C_ps, fun i k rc rt f hg => gall_spec (P := gCl l Z "GraftTrees$Parser" ⟨(10 + (d + 1)), 0, 0, (213 + (d + 1) * 26)⟩) (xs := (e_ps_less m (rec_ps_and m d)).2.2.2.1) ⟨h.2.2.2.2.2.2.2.2.2.1.cal (by omega) (by omega) q1393,
    (gm_ps_good hi hm).cal (by omega) (by omega) q1274,
    (gm_tk_is hi hm).cal (by omega) (by omega) q1320,
    (gm_ps_two hi hm).cal (by omega) (by omega) q1424,
    trivial⟩ i _ hg⟩) q1392 q238 mh_ps ds_13 q1391 qs31,
    gCee.vi (k := 0) (by decide) (gmetF hi ⟨plainFor_of_name pn_ps, ok_ps_or, hm, Or.inr (Or.inr (Or.inl ⟨rfl, rfl⟩)), rfl, fun i c k t hg => gall_spec F_ps i _ hg, gall_spec C_ps, fun i k rc rt f hg => gall_spec (P := gCl l Z "GraftTrees$Parser" ⟨(10 + (d + 1)), 0, 0, (213 + (d + 1) * 26)⟩) (xs := (e_ps_or m (rec_ps_and m d)).2.2.2.1) ⟨h.1.cal (by omega) (by omega) q1381,
    (gm_ps_good hi hm).cal (by omega) (by omega) q1274,
    (gm_tk_is hi hm).cal (by omega) (by omega) q1320,
    (gm_ps_two hi hm).cal (by omega) (by omega) q1424,
    trivial⟩ i _ hg⟩) q1380 q238 mh_ps ds_13 q1379 qs28,
    gCee.vi (k := 0) (by decide) (gmetF hi ⟨plainFor_of_name pn_ps, ok_ps_product, hm, Or.inr (Or.inr (Or.inl ⟨rfl, rfl⟩)), rfl, fun i c k t hg => gall_spec F_ps i _ hg, gall_spec C_ps, fun i k rc rt f hg => gall_spec (P := gCl l Z "GraftTrees$Parser" ⟨(10 + (d + 1)), 0, 0, (213 + (d + 1) * 26)⟩) (xs := (e_ps_product m (rec_ps_and m d)).2.2.2.1) ⟨h.2.2.2.2.2.2.2.2.2.2.cal (by omega) (by omega) q1401,
    (gm_ps_good hi hm).cal (by omega) (by omega) q1274,
    (gm_tk_is hi hm).cal (by omega) (by omega) q1320,
    (gm_ps_two hi hm).cal (by omega) (by omega) q1424,
    trivial⟩ i _ hg⟩) q1400 q238 mh_ps ds_13 q1399 qs33,
    gCee.vi (k := 0) (by decide) (gmetF hi ⟨plainFor_of_name pn_ps, ok_ps_sum, hm, Or.inr (Or.inr (Or.inl ⟨rfl, rfl⟩)), rfl, fun i c k t hg => gall_spec F_ps i _ hg, gall_spec C_ps, fun i k rc rt f hg => gall_spec (P := gCl l Z "GraftTrees$Parser" ⟨(10 + (d + 1)), 0, 0, (213 + (d + 1) * 26)⟩) (xs := (e_ps_sum m (rec_ps_and m d)).2.2.2.1) ⟨h.2.2.2.2.2.2.2.2.1.cal (by omega) (by omega) q1397,
    (gm_ps_good hi hm).cal (by omega) (by omega) q1274,
    (gm_tk_is hi hm).cal (by omega) (by omega) q1320,
    (gm_ps_two hi hm).cal (by omega) (by omega) q1424,
    trivial⟩ i _ hg⟩) q1396 q238 mh_ps ds_13 q1395 qs32,
    gCee.vi (k := 0) (by decide) (gmetF hi ⟨plainFor_of_name pn_ps, ok_ps_unary, hm, Or.inr (Or.inr (Or.inl ⟨rfl, rfl⟩)), rfl, fun i c k t hg => gall_spec F_ps i _ hg, gall_spec C_ps, fun i k rc rt f hg => gall_spec (P := gCl l Z "GraftTrees$Parser" ⟨(10 + (d + 1)), 0, 0, (213 + (d + 1) * 26)⟩) (xs := (e_ps_unary m (rec_ps_and m d)).2.2.2.1) ⟨(gm_tk_is hi hm).cal (by omega) (by omega) q1320,
    (gm_tk_fails hi hm).cal (by omega) (by omega) q1309,
    (gm_ps_node hi hm).cal (by omega) (by omega) q1336,
    (gm_ps_open hi hm).cal (by omega) (by omega) q1324,
    h.2.2.2.2.2.2.2.2.2.2.cal (by omega) (by omega) q1401,
    h.2.1.cal (by omega) (by omega) q1405,
    (gm_ps_good hi hm).cal (by omega) (by omega) q1274,
    h.2.2.1.cal (by omega) (by omega) q1412,
    trivial⟩ i _ hg⟩) q1404 q238 mh_ps ds_13 q1403 qs34⟩
theorem gm_ps_condition {l : Launch} {Z : gZ} {m : Nat} (hi : gInj Z) (hm : m ≤ zN Z) : gCee l Z yX7_condition (ws_ yX7_condition cX7_condition 2 (Option.none : Option Jvm.ClassFile.FieldType)) 311 8034 2 2 15 5 (.inl (fn_ps_condition m)) :=
  gCee.vi (k := 1) (by decide) (gmetF hi ⟨plainFor_of_name pn_ps, ok_ps_condition, hm, Or.inr (Or.inr (Or.inr (Or.inr (Or.inr (Or.inr ⟨rfl, rfl⟩))))), rfl, fun i c k t hg => gall_spec F_ps i _ hg, gall_spec C_ps, fun i k rc rt f hg => gall_spec (P := gCl l Z "GraftTrees$Parser" ⟨311, 0, 0, 8034⟩) (xs := (e_ps_condition m).2.2.2.1) ⟨(gm_ps_good hi hm).cal (by omega) (by omega) q1274,
    (gm_tk_read hi hm).cal (by omega) (by omega) q1310,
    (gm_ps_opens hi hm).cal (by omega) (by omega) q1316,
    (gm_rec_ps_and hi hm 300).2.2.2.2.1.cal (by omega) (by omega) q1373,
    (gm_ps_closes hi hm).cal (by omega) (by omega) q1348,
    trivial⟩ i _ hg⟩) q1372 q238 mh_ps ds_19 q1371 qs26
theorem gm_rec_ps_block {l : Launch} {Z : gZ} {m : Nat} (hi : gInj Z) (hm : m ≤ zN Z) : ∀ d : Nat, gCee l Z yX7_block (ws_ yX7_block cX7_block 4 (Option.some Jvm.ClassFile.FieldType.int)) (312 + d) (8055 + d * 23) 4 1 15 0 (.inl (rec_ps_block m d 0)) ∧
  gCee l Z yX7_statement (ws_ yX7_statement cX7_statement 2 (Option.some Jvm.ClassFile.FieldType.int)) (312 + d) (8055 + d * 23) 2 1 15 0 (.inl (rec_ps_block m d 1))
  | 0 => ⟨gCee.vi (k := 0) (by decide) (gMet_none) q1363 q238 mh_ps ds_13 q1362 qs24,
    gCee.vi (k := 0) (by decide) (gMet_none) q1367 q238 mh_ps ds_13 q1366 qs25⟩
  | d + 1 => by
    have h := gm_rec_ps_block (l := l) hi hm d
    exact ⟨gCee.vi (k := 0) (by decide) (gmetF hi ⟨plainFor_of_name pn_ps, ok_ps_block, hm, Or.inr (Or.inr (Or.inl ⟨rfl, rfl⟩)), rfl, fun i c k t hg => gall_spec F_ps i _ hg, gall_spec C_ps, fun i k rc rt f hg => gall_spec (P := gCl l Z "GraftTrees$Parser" ⟨(312 + (d + 1)), 0, 0, (8055 + (d + 1) * 23)⟩) (xs := (e_ps_block m (rec_ps_block m d)).2.2.2.1) ⟨(gm_ps_opens hi hm).cal (by omega) (by omega) q1316,
    (gm_ps_good hi hm).cal (by omega) (by omega) q1274,
    (gm_tk_is hi hm).cal (by omega) (by omega) q1320,
    h.2.cal (by omega) (by omega) q1364,
    (gm_ps_closes hi hm).cal (by omega) (by omega) q1348,
    trivial⟩ i _ hg⟩) q1363 q238 mh_ps ds_13 q1362 qs24,
    gCee.vi (k := 0) (by decide) (gmetF hi ⟨plainFor_of_name pn_ps, ok_ps_statement, hm, Or.inr (Or.inr (Or.inl ⟨rfl, rfl⟩)), rfl, fun i c k t hg => gall_spec F_ps i _ hg, gall_spec C_ps, fun i k rc rt f hg => gall_spec (P := gCl l Z "GraftTrees$Parser" ⟨(312 + (d + 1)), 0, 0, (8055 + (d + 1) * 23)⟩) (xs := (e_ps_statement m (rec_ps_block m d)).2.2.2.1) ⟨(gm_tk_isWord_2 hi hm).cal (by omega) (by omega) q1283,
    (gm_ps_node hi hm).cal (by omega) (by omega) q1336,
    (gm_ps_condition hi hm).cal (by omega) (by omega) q1369,
    h.1.cal (by omega) (by omega) q1360,
    (gm_ps_good hi hm).cal (by omega) (by omega) q1274,
    (gm_tk_read hi hm).cal (by omega) (by omega) q1310,
    (gm_tk_is hi hm).cal (by omega) (by omega) q1320,
    (gm_rec_ps_and hi hm 300).2.2.2.2.1.cal (by omega) (by omega) q1373,
    (gm_ps_must hi hm).cal (by omega) (by omega) q1352,
    (gm_tk_fails hi hm).cal (by omega) (by omega) q1309,
    (gm_ps_blank hi hm).cal (by omega) (by omega) q1340,
    trivial⟩ i _ hg⟩) q1367 q238 mh_ps ds_13 q1366 qs25⟩
theorem gm_ps_resolve {l : Launch} {Z : gZ} {m : Nat} (hi : gInj Z) (hm : m ≤ zN Z) : gCee l Z yX7_resolve (ws_ yX7_resolve cX7_resolve 4 (Option.none : Option Jvm.ClassFile.FieldType)) 3 70 4 3 15 5 (.inl (fn_ps_resolve m)) :=
  gCee.vi (k := 2) (by decide) (gmetF hi ⟨plainFor_of_name pn_ps, ok_ps_resolve, hm, Or.inr (Or.inr (Or.inr (Or.inr (Or.inr (Or.inr ⟨rfl, rfl⟩))))), rfl, fun i c k t hg => gall_spec F_ps i _ hg, gall_spec C_ps, fun i k rc rt f hg => gall_spec (P := gCl l Z "GraftTrees$Parser" ⟨3, 0, 0, 70⟩) (xs := (e_ps_resolve m).2.2.2.1) ⟨(gm_ps_local hi hm).cal (by omega) (by omega) q1332,
    trivial⟩ i _ hg⟩) q1440 q238 mh_ps ds_6 q1439 qs41
theorem gm_ps_function {l : Launch} {Z : gZ} {m : Nat} (hi : gInj Z) (hm : m ≤ zN Z) : gCee l Z yX7_function (ws_ yX7_function cX7_function 4 (Option.none : Option Jvm.ClassFile.FieldType)) 373 9458 4 1 15 5 (.inl (fn_ps_function m)) :=
  gCee.vi (k := 0) (by decide) (gmetF hi ⟨plainFor_of_name pn_ps, ok_ps_function, hm, Or.inr (Or.inr (Or.inr (Or.inr (Or.inr (Or.inr ⟨rfl, rfl⟩))))), rfl, fun i c k t hg => gall_spec F_ps i _ hg, gall_spec C_ps, fun i k rc rt f hg => gall_spec (P := gCl l Z "GraftTrees$Parser" ⟨373, 0, 0, 9458⟩) (xs := (e_ps_function m).2.2.2.1) ⟨(gm_tk_isWord_2 hi hm).cal (by omega) (by omega) q1283,
    (gm_tk_fails hi hm).cal (by omega) (by omega) q1309,
    (gm_ps_good hi hm).cal (by omega) (by omega) q1274,
    (gm_tk_read hi hm).cal (by omega) (by omega) q1310,
    (gm_ps_isSame hi hm).cal (by omega) (by omega) q1311,
    (gm_ps_opens hi hm).cal (by omega) (by omega) q1316,
    (gm_tk_is hi hm).cal (by omega) (by omega) q1320,
    (gm_ps_param hi hm).cal (by omega) (by omega) q1328,
    (gm_ps_closes hi hm).cal (by omega) (by omega) q1348,
    (gm_rec_ps_block hi hm 60).1.cal (by omega) (by omega) q1360,
    (gm_ps_resolve hi hm).cal (by omega) (by omega) q1437,
    trivial⟩ i _ hg⟩) q1281 q238 mh_ps ds_26 q1280 qs12
theorem gm_ps_read {l : Launch} {Z : gZ} {m : Nat} (hi : gInj Z) (hm : m ≤ zN Z) : gCee l Z yX7_read (ws_ yX7_read cX7_read 5 (Option.some Jvm.ClassFile.FieldType.boolean)) 374 9481 5 4 15 0 (.inl (fn_ps_read m)) :=
  gCee.vi (k := 3) (by decide) (gmetF hi ⟨plainFor_of_name pn_ps, ok_ps_read, hm, Or.inr (Or.inr (Or.inr (Or.inl ⟨rfl, rfl⟩))), rfl, fun i c k t hg => gall_spec F_ps i _ hg, gall_spec C_ps, fun i k rc rt f hg => gall_spec (P := gCl l Z "GraftTrees$Parser" ⟨374, 0, 0, 9481⟩) (xs := (e_ps_read m).2.2.2.1) ⟨(gm_tk_begin hi hm).cal (by omega) (by omega) q1172,
    (gm_ps_good hi hm).cal (by omega) (by omega) q1274,
    (gm_ps_function hi hm).cal (by omega) (by omega) q1278,
    trivial⟩ i _ hg⟩) q1171 q238 mh_ps ds_37 q1169 q1170
